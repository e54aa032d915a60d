/-! WindowExchange$State -/
set_option maxRecDepth 100000
def RX2 : String := "WindowExchange$State"
def TX2 : u_T := fun k => match k with
  | 0 => ("WindowExchange$State", "nextOrder", "I", false)
  | 1 => ("WindowExchange$State", "day", "I", false)
  | 2 => ("WindowExchange$State", "lastPrice", "I", false)
  | 3 => ("WindowExchange$State", "tradedUnits", "I", false)
  | 4 => ("WindowExchange$State", "turnover", "I", false)
  | 5 => ("WindowExchange$State", "settled", "I", false)
  | 6 => ("WindowExchange$State", "defaults", "I", false)
  | 7 => ("WindowExchange$State", "till", "I", false)
  | 8 => ("WindowExchange$State", "givenCash", "I", false)
  | 9 => ("WindowExchange$State", "givenWindows", "I", false)
  | 10 => ("WindowExchange$State", "holders", "[I", true)
  | 11 => ("WindowExchange$State", "traders", "Ljava/util/ArrayList;", true)
  | 12 => ("WindowExchange$State", "orders", "Ljava/util/ArrayList;", true)
  | 13 => ("WindowExchange$State", "contracts", "Ljava/util/ArrayList;", true)
  | _ => ("WindowExchange$State", "auction", "LWindowExchange$Auction;", false)
def tyX2 : Nat → FieldType := fun k => match k with
  | 0 => .int
  | 1 => .int
  | 2 => .int
  | 3 => .int
  | 4 => .int
  | 5 => .int
  | 6 => .int
  | 7 => .int
  | 8 => .int
  | 9 => .int
  | 10 => .array .int
  | 11 => .object "java/util/ArrayList"
  | 12 => .object "java/util/ArrayList"
  | 13 => .object "java/util/ArrayList"
  | _ => .object "WindowExchange$Auction"
abbrev wsX20 : List Cond := u_ws RX2 TX2 15
set_option maxRecDepth 100000 in
theorem nmX2 : ∀ a, a < 15 → ∀ b, b < 15 → a ≠ b → (TX2 a).2.1 ≠ (TX2 b).2.1 := by decide +kernel
set_option maxRecDepth 100000 in
theorem tyX2_ok : ∀ k, k < 15 → parseFieldDescriptor (TX2 k).2.2.1 = some (tyX2 k) := by decide +kernel
abbrev cX2_init : ByteArray := prog_11_method_1_code
def yX2_init : MethodName := ⟨RX2, "<init>", "()V"⟩
def dkwX2_init_2 : List UInt8 := [183, 0, 21, 181, 0, 26, 42, 187, 0, 19, 89, 183, 0, 21, 181, 0, 29, 177]
abbrev dktX2_init_2 : List UInt8 := dkwX2_init_2 ++ []
def dkwX2_init_1 : List UInt8 := [79, 89, 6, 2, 79, 181, 0, 15, 42, 187, 0, 19, 89, 183, 0, 21, 181, 0, 22, 42, 187, 0, 19, 89]
abbrev dktX2_init_1 : List UInt8 := dkwX2_init_1 ++ dktX2_init_2
def dkwX2_init_0 : List UInt8 := [42, 183, 0, 3, 42, 2, 181, 0, 9, 42, 7, 188, 10, 89, 3, 2, 79, 89, 4, 2, 79, 89, 5, 2]
abbrev dktX2_init_0 : List UInt8 := dkwX2_init_0 ++ dktX2_init_1
theorem dksX2_init_0 : cX2_init.data.toList.drop 0 = dktX2_init_0 := by decide +kernel
theorem dksX2_init_1 : cX2_init.data.toList.drop 24 = dktX2_init_1 := dk_seg dksX2_init_0 24 rfl rfl
theorem dksX2_init_2 : cX2_init.data.toList.drop 48 = dktX2_init_2 := dk_seg dksX2_init_1 24 rfl rfl
theorem dX2_init_0 : decode cX2_init 0 = .ok (.aload_n 0, 1) := dk_42 (dk_at dksX2_init_0 0 rfl rfl)
theorem dX2_init_1 : decode cX2_init 1 = .ok (.invokespecial 3, 3) := dk_183 0 3 (dk_at dksX2_init_0 1 rfl rfl)
theorem dX2_init_4 : decode cX2_init 4 = .ok (.aload_n 0, 1) := dk_42 (dk_at dksX2_init_0 4 rfl rfl)
theorem dX2_init_5 : decode cX2_init 5 = .ok (.iconst (-1), 1) := dk_2 (dk_at dksX2_init_0 5 rfl rfl)
theorem dX2_init_6 : decode cX2_init 6 = .ok (.putfield 9, 3) := dk_181 0 9 (dk_at dksX2_init_0 6 rfl rfl)
theorem dX2_init_9 : decode cX2_init 9 = .ok (.aload_n 0, 1) := dk_42 (dk_at dksX2_init_0 9 rfl rfl)
theorem dX2_init_10 : decode cX2_init 10 = .ok (.iconst 4, 1) := dk_7 (dk_at dksX2_init_0 10 rfl rfl)
theorem dX2_init_11 : decode cX2_init 11 = .ok (.newarray .int, 2) := dk_188_10 (dk_at dksX2_init_0 11 rfl rfl)
theorem dX2_init_13 : decode cX2_init 13 = .ok (.dup, 1) := dk_89 (dk_at dksX2_init_0 13 rfl rfl)
theorem dX2_init_14 : decode cX2_init 14 = .ok (.iconst 0, 1) := dk_3 (dk_at dksX2_init_0 14 rfl rfl)
theorem dX2_init_15 : decode cX2_init 15 = .ok (.iconst (-1), 1) := dk_2 (dk_at dksX2_init_0 15 rfl rfl)
theorem dX2_init_16 : decode cX2_init 16 = .ok (.iastore, 1) := dk_79 (dk_at dksX2_init_0 16 rfl rfl)
theorem dX2_init_17 : decode cX2_init 17 = .ok (.dup, 1) := dk_89 (dk_at dksX2_init_0 17 rfl rfl)
theorem dX2_init_18 : decode cX2_init 18 = .ok (.iconst 1, 1) := dk_4 (dk_at dksX2_init_0 18 rfl rfl)
theorem dX2_init_19 : decode cX2_init 19 = .ok (.iconst (-1), 1) := dk_2 (dk_at dksX2_init_0 19 rfl rfl)
theorem dX2_init_20 : decode cX2_init 20 = .ok (.iastore, 1) := dk_79 (dk_at dksX2_init_0 20 rfl rfl)
theorem dX2_init_21 : decode cX2_init 21 = .ok (.dup, 1) := dk_89 (dk_at dksX2_init_0 21 rfl rfl)
theorem dX2_init_22 : decode cX2_init 22 = .ok (.iconst 2, 1) := dk_5 (dk_at dksX2_init_0 22 rfl rfl)
theorem dX2_init_23 : decode cX2_init 23 = .ok (.iconst (-1), 1) := dk_2 (dk_at dksX2_init_0 23 rfl rfl)
theorem dX2_init_24 : decode cX2_init 24 = .ok (.iastore, 1) := dk_79 (dk_at dksX2_init_1 0 rfl rfl)
theorem dX2_init_25 : decode cX2_init 25 = .ok (.dup, 1) := dk_89 (dk_at dksX2_init_1 1 rfl rfl)
theorem dX2_init_26 : decode cX2_init 26 = .ok (.iconst 3, 1) := dk_6 (dk_at dksX2_init_1 2 rfl rfl)
theorem dX2_init_27 : decode cX2_init 27 = .ok (.iconst (-1), 1) := dk_2 (dk_at dksX2_init_1 3 rfl rfl)
theorem dX2_init_28 : decode cX2_init 28 = .ok (.iastore, 1) := dk_79 (dk_at dksX2_init_1 4 rfl rfl)
theorem dX2_init_29 : decode cX2_init 29 = .ok (.putfield 15, 3) := dk_181 0 15 (dk_at dksX2_init_1 5 rfl rfl)
theorem dX2_init_32 : decode cX2_init 32 = .ok (.aload_n 0, 1) := dk_42 (dk_at dksX2_init_1 8 rfl rfl)
theorem dX2_init_33 : decode cX2_init 33 = .ok (.new 19, 3) := dk_187 0 19 (dk_at dksX2_init_1 9 rfl rfl)
theorem dX2_init_36 : decode cX2_init 36 = .ok (.dup, 1) := dk_89 (dk_at dksX2_init_1 12 rfl rfl)
theorem dX2_init_37 : decode cX2_init 37 = .ok (.invokespecial 21, 3) := dk_183 0 21 (dk_at dksX2_init_1 13 rfl rfl)
theorem dX2_init_40 : decode cX2_init 40 = .ok (.putfield 22, 3) := dk_181 0 22 (dk_at dksX2_init_1 16 rfl rfl)
theorem dX2_init_43 : decode cX2_init 43 = .ok (.aload_n 0, 1) := dk_42 (dk_at dksX2_init_1 19 rfl rfl)
theorem dX2_init_44 : decode cX2_init 44 = .ok (.new 19, 3) := dk_187 0 19 (dk_at dksX2_init_1 20 rfl rfl)
theorem dX2_init_47 : decode cX2_init 47 = .ok (.dup, 1) := dk_89 (dk_at dksX2_init_1 23 rfl rfl)
theorem dX2_init_48 : decode cX2_init 48 = .ok (.invokespecial 21, 3) := dk_183 0 21 (dk_at dksX2_init_2 0 rfl rfl)
theorem dX2_init_51 : decode cX2_init 51 = .ok (.putfield 26, 3) := dk_181 0 26 (dk_at dksX2_init_2 3 rfl rfl)
theorem dX2_init_54 : decode cX2_init 54 = .ok (.aload_n 0, 1) := dk_42 (dk_at dksX2_init_2 6 rfl rfl)
theorem dX2_init_55 : decode cX2_init 55 = .ok (.new 19, 3) := dk_187 0 19 (dk_at dksX2_init_2 7 rfl rfl)
theorem dX2_init_58 : decode cX2_init 58 = .ok (.dup, 1) := dk_89 (dk_at dksX2_init_2 10 rfl rfl)
theorem dX2_init_59 : decode cX2_init 59 = .ok (.invokespecial 21, 3) := dk_183 0 21 (dk_at dksX2_init_2 11 rfl rfl)
theorem dX2_init_62 : decode cX2_init 62 = .ok (.putfield 29, 3) := dk_181 0 29 (dk_at dksX2_init_2 14 rfl rfl)
theorem dX2_init_65 : decode cX2_init 65 = .ok (.return_, 1) := dk_177 (dk_at dksX2_init_2 17 rfl rfl)
abbrev cX2_depth : ByteArray := prog_11_method_10_code
def yX2_depth : MethodName := ⟨RX2, "depth", "(ZI)I"⟩
def dkwX2_depth_0 : List UInt8 := [42, 27, 28, 186, 0, 146, 0, 0, 182, 0, 141, 172]
abbrev dktX2_depth_0 : List UInt8 := dkwX2_depth_0 ++ []
theorem dksX2_depth_0 : cX2_depth.data.toList.drop 0 = dktX2_depth_0 := by decide +kernel
theorem dX2_depth_0 : decode cX2_depth 0 = .ok (.aload_n 0, 1) := dk_42 (dk_at dksX2_depth_0 0 rfl rfl)
theorem dX2_depth_1 : decode cX2_depth 1 = .ok (.iload_n 1, 1) := dk_27 (dk_at dksX2_depth_0 1 rfl rfl)
theorem dX2_depth_2 : decode cX2_depth 2 = .ok (.iload_n 2, 1) := dk_28 (dk_at dksX2_depth_0 2 rfl rfl)
theorem dX2_depth_3 : decode cX2_depth 3 = .ok (.invokedynamic 146, 5) := by decide +kernel
theorem dX2_depth_8 : decode cX2_depth 8 = .ok (.invokevirtual 141, 3) := dk_182 0 141 (dk_at dksX2_depth_0 8 rfl rfl)
theorem dX2_depth_11 : decode cX2_depth 11 = .ok (.ireturn, 1) := dk_172 (dk_at dksX2_depth_0 11 rfl rfl)
abbrev cX2_lambda_depth_2 : ByteArray := prog_11_method_39_code
def yX2_lambda_depth_2 : MethodName := ⟨RX2, "lambda$depth$2", "(ZILWindowExchange$Order;)I"⟩
def dkwX2_lambda_depth_2_1 : List UInt8 := [172]
abbrev dktX2_lambda_depth_2_1 : List UInt8 := dkwX2_lambda_depth_2_1 ++ []
def dkwX2_lambda_depth_2_0 : List UInt8 := [44, 180, 0, 158, 26, 160, 0, 18, 44, 180, 0, 182, 27, 160, 0, 10, 44, 180, 0, 173, 167, 0, 4, 3]
abbrev dktX2_lambda_depth_2_0 : List UInt8 := dkwX2_lambda_depth_2_0 ++ dktX2_lambda_depth_2_1
theorem dksX2_lambda_depth_2_0 : cX2_lambda_depth_2.data.toList.drop 0 = dktX2_lambda_depth_2_0 := by decide +kernel
theorem dksX2_lambda_depth_2_1 : cX2_lambda_depth_2.data.toList.drop 24 = dktX2_lambda_depth_2_1 := dk_seg dksX2_lambda_depth_2_0 24 rfl rfl
theorem dX2_lambda_depth_2_0 : decode cX2_lambda_depth_2 0 = .ok (.aload_n 2, 1) := dk_44 (dk_at dksX2_lambda_depth_2_0 0 rfl rfl)
theorem dX2_lambda_depth_2_1 : decode cX2_lambda_depth_2 1 = .ok (.getfield 158, 3) := dk_180 0 158 (dk_at dksX2_lambda_depth_2_0 1 rfl rfl)
theorem dX2_lambda_depth_2_4 : decode cX2_lambda_depth_2 4 = .ok (.iload_n 0, 1) := dk_26 (dk_at dksX2_lambda_depth_2_0 4 rfl rfl)
theorem dX2_lambda_depth_2_5 : decode cX2_lambda_depth_2 5 = .ok (.if_icmp .ne 18, 3) := dk_160 0 18 (dk_at dksX2_lambda_depth_2_0 5 rfl rfl)
theorem dX2_lambda_depth_2_8 : decode cX2_lambda_depth_2 8 = .ok (.aload_n 2, 1) := dk_44 (dk_at dksX2_lambda_depth_2_0 8 rfl rfl)
theorem dX2_lambda_depth_2_9 : decode cX2_lambda_depth_2 9 = .ok (.getfield 182, 3) := dk_180 0 182 (dk_at dksX2_lambda_depth_2_0 9 rfl rfl)
theorem dX2_lambda_depth_2_12 : decode cX2_lambda_depth_2 12 = .ok (.iload_n 1, 1) := dk_27 (dk_at dksX2_lambda_depth_2_0 12 rfl rfl)
theorem dX2_lambda_depth_2_13 : decode cX2_lambda_depth_2 13 = .ok (.if_icmp .ne 10, 3) := dk_160 0 10 (dk_at dksX2_lambda_depth_2_0 13 rfl rfl)
theorem dX2_lambda_depth_2_16 : decode cX2_lambda_depth_2 16 = .ok (.aload_n 2, 1) := dk_44 (dk_at dksX2_lambda_depth_2_0 16 rfl rfl)
theorem dX2_lambda_depth_2_17 : decode cX2_lambda_depth_2 17 = .ok (.getfield 173, 3) := dk_180 0 173 (dk_at dksX2_lambda_depth_2_0 17 rfl rfl)
theorem dX2_lambda_depth_2_20 : decode cX2_lambda_depth_2 20 = .ok (.goto 4, 3) := dk_167 0 4 (dk_at dksX2_lambda_depth_2_0 20 rfl rfl)
theorem dX2_lambda_depth_2_23 : decode cX2_lambda_depth_2 23 = .ok (.iconst 0, 1) := dk_3 (dk_at dksX2_lambda_depth_2_0 23 rfl rfl)
theorem dX2_lambda_depth_2_24 : decode cX2_lambda_depth_2 24 = .ok (.ireturn, 1) := dk_172 (dk_at dksX2_lambda_depth_2_1 0 rfl rfl)
abbrev cX2_sumOrders : ByteArray := prog_11_method_6_code
def yX2_sumOrders : MethodName := ⟨RX2, "sumOrders", "(LWindowExchange$OrderMeasure;)I"⟩
def dkwX2_sumOrders_2 : List UInt8 := [28, 172]
abbrev dktX2_sumOrders_2 : List UInt8 := dkwX2_sumOrders_2 ++ []
def dkwX2_sumOrders_1 : List UInt8 := [185, 0, 75, 1, 0, 192, 0, 88, 58, 4, 28, 43, 25, 4, 185, 0, 127, 2, 0, 96, 61, 167, 255, 225]
abbrev dktX2_sumOrders_1 : List UInt8 := dkwX2_sumOrders_1 ++ dktX2_sumOrders_2
def dkwX2_sumOrders_0 : List UInt8 := [3, 61, 42, 180, 0, 26, 182, 0, 65, 78, 45, 185, 0, 69, 1, 0, 153, 0, 28, 45]
abbrev dktX2_sumOrders_0 : List UInt8 := dkwX2_sumOrders_0 ++ dktX2_sumOrders_1
theorem dksX2_sumOrders_0 : cX2_sumOrders.data.toList.drop 0 = dktX2_sumOrders_0 := by decide +kernel
theorem dksX2_sumOrders_1 : cX2_sumOrders.data.toList.drop 20 = dktX2_sumOrders_1 := dk_seg dksX2_sumOrders_0 20 rfl rfl
theorem dksX2_sumOrders_2 : cX2_sumOrders.data.toList.drop 44 = dktX2_sumOrders_2 := dk_seg dksX2_sumOrders_1 24 rfl rfl
theorem dX2_sumOrders_0 : decode cX2_sumOrders 0 = .ok (.iconst 0, 1) := dk_3 (dk_at dksX2_sumOrders_0 0 rfl rfl)
theorem dX2_sumOrders_1 : decode cX2_sumOrders 1 = .ok (.istore_n 2, 1) := dk_61 (dk_at dksX2_sumOrders_0 1 rfl rfl)
theorem dX2_sumOrders_2 : decode cX2_sumOrders 2 = .ok (.aload_n 0, 1) := dk_42 (dk_at dksX2_sumOrders_0 2 rfl rfl)
theorem dX2_sumOrders_3 : decode cX2_sumOrders 3 = .ok (.getfield 26, 3) := dk_180 0 26 (dk_at dksX2_sumOrders_0 3 rfl rfl)
theorem dX2_sumOrders_6 : decode cX2_sumOrders 6 = .ok (.invokevirtual 65, 3) := dk_182 0 65 (dk_at dksX2_sumOrders_0 6 rfl rfl)
theorem dX2_sumOrders_9 : decode cX2_sumOrders 9 = .ok (.astore_n 3, 1) := dk_78 (dk_at dksX2_sumOrders_0 9 rfl rfl)
theorem dX2_sumOrders_10 : decode cX2_sumOrders 10 = .ok (.aload_n 3, 1) := dk_45 (dk_at dksX2_sumOrders_0 10 rfl rfl)
theorem dX2_sumOrders_11 : decode cX2_sumOrders 11 = .ok (.invokeinterface 69 1, 5) := by decide +kernel
theorem dX2_sumOrders_16 : decode cX2_sumOrders 16 = .ok (.ifCond .eq 28, 3) := dk_153 0 28 (dk_at dksX2_sumOrders_0 16 rfl rfl)
theorem dX2_sumOrders_19 : decode cX2_sumOrders 19 = .ok (.aload_n 3, 1) := dk_45 (dk_at dksX2_sumOrders_0 19 rfl rfl)
theorem dX2_sumOrders_20 : decode cX2_sumOrders 20 = .ok (.invokeinterface 75 1, 5) := by decide +kernel
theorem dX2_sumOrders_25 : decode cX2_sumOrders 25 = .ok (.checkcast 88, 3) := dk_192 0 88 (dk_at dksX2_sumOrders_1 5 rfl rfl)
theorem dX2_sumOrders_28 : decode cX2_sumOrders 28 = .ok (.astore 4, 2) := dk_58 4 (dk_at dksX2_sumOrders_1 8 rfl rfl)
theorem dX2_sumOrders_30 : decode cX2_sumOrders 30 = .ok (.iload_n 2, 1) := dk_28 (dk_at dksX2_sumOrders_1 10 rfl rfl)
theorem dX2_sumOrders_31 : decode cX2_sumOrders 31 = .ok (.aload_n 1, 1) := dk_43 (dk_at dksX2_sumOrders_1 11 rfl rfl)
theorem dX2_sumOrders_32 : decode cX2_sumOrders 32 = .ok (.aload 4, 2) := dk_25 4 (dk_at dksX2_sumOrders_1 12 rfl rfl)
theorem dX2_sumOrders_34 : decode cX2_sumOrders 34 = .ok (.invokeinterface 127 2, 5) := by decide +kernel
theorem dX2_sumOrders_39 : decode cX2_sumOrders 39 = .ok (.iadd, 1) := dk_96 (dk_at dksX2_sumOrders_1 19 rfl rfl)
theorem dX2_sumOrders_40 : decode cX2_sumOrders 40 = .ok (.istore_n 2, 1) := dk_61 (dk_at dksX2_sumOrders_1 20 rfl rfl)
theorem dX2_sumOrders_41 : decode cX2_sumOrders 41 = .ok (.goto (-31), 3) := dk_167 255 225 (dk_at dksX2_sumOrders_1 21 rfl rfl)
theorem dX2_sumOrders_44 : decode cX2_sumOrders 44 = .ok (.iload_n 2, 1) := dk_28 (dk_at dksX2_sumOrders_2 0 rfl rfl)
theorem dX2_sumOrders_45 : decode cX2_sumOrders 45 = .ok (.ireturn, 1) := dk_172 (dk_at dksX2_sumOrders_2 1 rfl rfl)
abbrev cX2_reservedCash : ByteArray := prog_11_method_8_code
def yX2_reservedCash : MethodName := ⟨RX2, "reservedCash", "(I)I"⟩
def dkwX2_reservedCash_0 : List UInt8 := [42, 27, 186, 0, 138, 0, 0, 182, 0, 141, 172]
abbrev dktX2_reservedCash_0 : List UInt8 := dkwX2_reservedCash_0 ++ []
theorem dksX2_reservedCash_0 : cX2_reservedCash.data.toList.drop 0 = dktX2_reservedCash_0 := by decide +kernel
theorem dX2_reservedCash_0 : decode cX2_reservedCash 0 = .ok (.aload_n 0, 1) := dk_42 (dk_at dksX2_reservedCash_0 0 rfl rfl)
theorem dX2_reservedCash_1 : decode cX2_reservedCash 1 = .ok (.iload_n 1, 1) := dk_27 (dk_at dksX2_reservedCash_0 1 rfl rfl)
theorem dX2_reservedCash_2 : decode cX2_reservedCash 2 = .ok (.invokedynamic 138, 5) := by decide +kernel
theorem dX2_reservedCash_7 : decode cX2_reservedCash 7 = .ok (.invokevirtual 141, 3) := dk_182 0 141 (dk_at dksX2_reservedCash_0 7 rfl rfl)
theorem dX2_reservedCash_10 : decode cX2_reservedCash 10 = .ok (.ireturn, 1) := dk_172 (dk_at dksX2_reservedCash_0 10 rfl rfl)
abbrev cX2_lambda_reservedCash_0 : ByteArray := prog_11_method_41_code
def yX2_lambda_reservedCash_0 : MethodName := ⟨RX2, "lambda$reservedCash$0", "(ILWindowExchange$Order;)I"⟩
def dkwX2_lambda_reservedCash_0_1 : List UInt8 := [167, 0, 4, 3, 172]
abbrev dktX2_lambda_reservedCash_0_1 : List UInt8 := dkwX2_lambda_reservedCash_0_1 ++ []
def dkwX2_lambda_reservedCash_0_0 : List UInt8 := [43, 180, 0, 158, 153, 0, 23, 43, 180, 0, 237, 26, 160, 0, 15, 43, 180, 0, 182, 43, 180, 0, 173, 104]
abbrev dktX2_lambda_reservedCash_0_0 : List UInt8 := dkwX2_lambda_reservedCash_0_0 ++ dktX2_lambda_reservedCash_0_1
theorem dksX2_lambda_reservedCash_0_0 : cX2_lambda_reservedCash_0.data.toList.drop 0 = dktX2_lambda_reservedCash_0_0 := by decide +kernel
theorem dksX2_lambda_reservedCash_0_1 : cX2_lambda_reservedCash_0.data.toList.drop 24 = dktX2_lambda_reservedCash_0_1 := dk_seg dksX2_lambda_reservedCash_0_0 24 rfl rfl
theorem dX2_lambda_reservedCash_0_0 : decode cX2_lambda_reservedCash_0 0 = .ok (.aload_n 1, 1) := dk_43 (dk_at dksX2_lambda_reservedCash_0_0 0 rfl rfl)
theorem dX2_lambda_reservedCash_0_1 : decode cX2_lambda_reservedCash_0 1 = .ok (.getfield 158, 3) := dk_180 0 158 (dk_at dksX2_lambda_reservedCash_0_0 1 rfl rfl)
theorem dX2_lambda_reservedCash_0_4 : decode cX2_lambda_reservedCash_0 4 = .ok (.ifCond .eq 23, 3) := dk_153 0 23 (dk_at dksX2_lambda_reservedCash_0_0 4 rfl rfl)
theorem dX2_lambda_reservedCash_0_7 : decode cX2_lambda_reservedCash_0 7 = .ok (.aload_n 1, 1) := dk_43 (dk_at dksX2_lambda_reservedCash_0_0 7 rfl rfl)
theorem dX2_lambda_reservedCash_0_8 : decode cX2_lambda_reservedCash_0 8 = .ok (.getfield 237, 3) := dk_180 0 237 (dk_at dksX2_lambda_reservedCash_0_0 8 rfl rfl)
theorem dX2_lambda_reservedCash_0_11 : decode cX2_lambda_reservedCash_0 11 = .ok (.iload_n 0, 1) := dk_26 (dk_at dksX2_lambda_reservedCash_0_0 11 rfl rfl)
theorem dX2_lambda_reservedCash_0_12 : decode cX2_lambda_reservedCash_0 12 = .ok (.if_icmp .ne 15, 3) := dk_160 0 15 (dk_at dksX2_lambda_reservedCash_0_0 12 rfl rfl)
theorem dX2_lambda_reservedCash_0_15 : decode cX2_lambda_reservedCash_0 15 = .ok (.aload_n 1, 1) := dk_43 (dk_at dksX2_lambda_reservedCash_0_0 15 rfl rfl)
theorem dX2_lambda_reservedCash_0_16 : decode cX2_lambda_reservedCash_0 16 = .ok (.getfield 182, 3) := dk_180 0 182 (dk_at dksX2_lambda_reservedCash_0_0 16 rfl rfl)
theorem dX2_lambda_reservedCash_0_19 : decode cX2_lambda_reservedCash_0 19 = .ok (.aload_n 1, 1) := dk_43 (dk_at dksX2_lambda_reservedCash_0_0 19 rfl rfl)
theorem dX2_lambda_reservedCash_0_20 : decode cX2_lambda_reservedCash_0 20 = .ok (.getfield 173, 3) := dk_180 0 173 (dk_at dksX2_lambda_reservedCash_0_0 20 rfl rfl)
theorem dX2_lambda_reservedCash_0_23 : decode cX2_lambda_reservedCash_0 23 = .ok (.imul, 1) := dk_104 (dk_at dksX2_lambda_reservedCash_0_0 23 rfl rfl)
theorem dX2_lambda_reservedCash_0_24 : decode cX2_lambda_reservedCash_0 24 = .ok (.goto 4, 3) := dk_167 0 4 (dk_at dksX2_lambda_reservedCash_0_1 0 rfl rfl)
theorem dX2_lambda_reservedCash_0_27 : decode cX2_lambda_reservedCash_0 27 = .ok (.iconst 0, 1) := dk_3 (dk_at dksX2_lambda_reservedCash_0_1 3 rfl rfl)
theorem dX2_lambda_reservedCash_0_28 : decode cX2_lambda_reservedCash_0 28 = .ok (.ireturn, 1) := dk_172 (dk_at dksX2_lambda_reservedCash_0_1 4 rfl rfl)
abbrev cX2_reservedWindows : ByteArray := prog_11_method_9_code
def yX2_reservedWindows : MethodName := ⟨RX2, "reservedWindows", "(I)I"⟩
def dkwX2_reservedWindows_0 : List UInt8 := [42, 27, 186, 0, 145, 0, 0, 182, 0, 141, 172]
abbrev dktX2_reservedWindows_0 : List UInt8 := dkwX2_reservedWindows_0 ++ []
theorem dksX2_reservedWindows_0 : cX2_reservedWindows.data.toList.drop 0 = dktX2_reservedWindows_0 := by decide +kernel
theorem dX2_reservedWindows_0 : decode cX2_reservedWindows 0 = .ok (.aload_n 0, 1) := dk_42 (dk_at dksX2_reservedWindows_0 0 rfl rfl)
theorem dX2_reservedWindows_1 : decode cX2_reservedWindows 1 = .ok (.iload_n 1, 1) := dk_27 (dk_at dksX2_reservedWindows_0 1 rfl rfl)
theorem dX2_reservedWindows_2 : decode cX2_reservedWindows 2 = .ok (.invokedynamic 145, 5) := by decide +kernel
theorem dX2_reservedWindows_7 : decode cX2_reservedWindows 7 = .ok (.invokevirtual 141, 3) := dk_182 0 141 (dk_at dksX2_reservedWindows_0 7 rfl rfl)
theorem dX2_reservedWindows_10 : decode cX2_reservedWindows 10 = .ok (.ireturn, 1) := dk_172 (dk_at dksX2_reservedWindows_0 10 rfl rfl)
abbrev cX2_lambda_reservedWindows_1 : ByteArray := prog_11_method_40_code
def yX2_lambda_reservedWindows_1 : MethodName := ⟨RX2, "lambda$reservedWindows$1", "(ILWindowExchange$Order;)I"⟩
def dkwX2_lambda_reservedWindows_1_0 : List UInt8 := [43, 180, 0, 158, 154, 0, 18, 43, 180, 0, 237, 26, 160, 0, 10, 43, 180, 0, 173, 167, 0, 4, 3, 172]
abbrev dktX2_lambda_reservedWindows_1_0 : List UInt8 := dkwX2_lambda_reservedWindows_1_0 ++ []
theorem dksX2_lambda_reservedWindows_1_0 : cX2_lambda_reservedWindows_1.data.toList.drop 0 = dktX2_lambda_reservedWindows_1_0 := by decide +kernel
theorem dX2_lambda_reservedWindows_1_0 : decode cX2_lambda_reservedWindows_1 0 = .ok (.aload_n 1, 1) := dk_43 (dk_at dksX2_lambda_reservedWindows_1_0 0 rfl rfl)
theorem dX2_lambda_reservedWindows_1_1 : decode cX2_lambda_reservedWindows_1 1 = .ok (.getfield 158, 3) := dk_180 0 158 (dk_at dksX2_lambda_reservedWindows_1_0 1 rfl rfl)
theorem dX2_lambda_reservedWindows_1_4 : decode cX2_lambda_reservedWindows_1 4 = .ok (.ifCond .ne 18, 3) := dk_154 0 18 (dk_at dksX2_lambda_reservedWindows_1_0 4 rfl rfl)
theorem dX2_lambda_reservedWindows_1_7 : decode cX2_lambda_reservedWindows_1 7 = .ok (.aload_n 1, 1) := dk_43 (dk_at dksX2_lambda_reservedWindows_1_0 7 rfl rfl)
theorem dX2_lambda_reservedWindows_1_8 : decode cX2_lambda_reservedWindows_1 8 = .ok (.getfield 237, 3) := dk_180 0 237 (dk_at dksX2_lambda_reservedWindows_1_0 8 rfl rfl)
theorem dX2_lambda_reservedWindows_1_11 : decode cX2_lambda_reservedWindows_1 11 = .ok (.iload_n 0, 1) := dk_26 (dk_at dksX2_lambda_reservedWindows_1_0 11 rfl rfl)
theorem dX2_lambda_reservedWindows_1_12 : decode cX2_lambda_reservedWindows_1 12 = .ok (.if_icmp .ne 10, 3) := dk_160 0 10 (dk_at dksX2_lambda_reservedWindows_1_0 12 rfl rfl)
theorem dX2_lambda_reservedWindows_1_15 : decode cX2_lambda_reservedWindows_1 15 = .ok (.aload_n 1, 1) := dk_43 (dk_at dksX2_lambda_reservedWindows_1_0 15 rfl rfl)
theorem dX2_lambda_reservedWindows_1_16 : decode cX2_lambda_reservedWindows_1 16 = .ok (.getfield 173, 3) := dk_180 0 173 (dk_at dksX2_lambda_reservedWindows_1_0 16 rfl rfl)
theorem dX2_lambda_reservedWindows_1_19 : decode cX2_lambda_reservedWindows_1 19 = .ok (.goto 4, 3) := dk_167 0 4 (dk_at dksX2_lambda_reservedWindows_1_0 19 rfl rfl)
theorem dX2_lambda_reservedWindows_1_22 : decode cX2_lambda_reservedWindows_1 22 = .ok (.iconst 0, 1) := dk_3 (dk_at dksX2_lambda_reservedWindows_1_0 22 rfl rfl)
theorem dX2_lambda_reservedWindows_1_23 : decode cX2_lambda_reservedWindows_1 23 = .ok (.ireturn, 1) := dk_172 (dk_at dksX2_lambda_reservedWindows_1_0 23 rfl rfl)
abbrev cX2_side : ByteArray := prog_11_method_11_code
def yX2_side : MethodName := ⟨RX2, "side", "(Z)Ljava/util/PriorityQueue;"⟩
def dkwX2_side_3 : List UInt8 := [167, 255, 210, 44, 176]
abbrev dktX2_side_3 : List UInt8 := dkwX2_side_3 ++ []
def dkwX2_side_2 : List UInt8 := [25, 5, 180, 0, 158, 27, 160, 0, 16, 44, 25, 5, 182, 0, 162, 153, 0, 7, 4, 167, 0, 4, 3, 62]
abbrev dktX2_side_2 : List UInt8 := dkwX2_side_2 ++ dktX2_side_3
def dkwX2_side_1 : List UInt8 := [58, 4, 25, 4, 185, 0, 69, 1, 0, 153, 0, 42, 25, 4, 185, 0, 75, 1, 0, 192, 0, 88, 58, 5]
abbrev dktX2_side_1 : List UInt8 := dkwX2_side_1 ++ dktX2_side_2
def dkwX2_side_0 : List UInt8 := [187, 0, 149, 89, 187, 0, 151, 89, 27, 183, 0, 153, 183, 0, 155, 77, 42, 180, 0, 26, 182, 0, 65]
abbrev dktX2_side_0 : List UInt8 := dkwX2_side_0 ++ dktX2_side_1
theorem dksX2_side_0 : cX2_side.data.toList.drop 0 = dktX2_side_0 := by decide +kernel
theorem dksX2_side_1 : cX2_side.data.toList.drop 23 = dktX2_side_1 := dk_seg dksX2_side_0 23 rfl rfl
theorem dksX2_side_2 : cX2_side.data.toList.drop 47 = dktX2_side_2 := dk_seg dksX2_side_1 24 rfl rfl
theorem dksX2_side_3 : cX2_side.data.toList.drop 71 = dktX2_side_3 := dk_seg dksX2_side_2 24 rfl rfl
theorem dX2_side_0 : decode cX2_side 0 = .ok (.new 149, 3) := dk_187 0 149 (dk_at dksX2_side_0 0 rfl rfl)
theorem dX2_side_3 : decode cX2_side 3 = .ok (.dup, 1) := dk_89 (dk_at dksX2_side_0 3 rfl rfl)
theorem dX2_side_4 : decode cX2_side 4 = .ok (.new 151, 3) := dk_187 0 151 (dk_at dksX2_side_0 4 rfl rfl)
theorem dX2_side_7 : decode cX2_side 7 = .ok (.dup, 1) := dk_89 (dk_at dksX2_side_0 7 rfl rfl)
theorem dX2_side_8 : decode cX2_side 8 = .ok (.iload_n 1, 1) := dk_27 (dk_at dksX2_side_0 8 rfl rfl)
theorem dX2_side_9 : decode cX2_side 9 = .ok (.invokespecial 153, 3) := dk_183 0 153 (dk_at dksX2_side_0 9 rfl rfl)
theorem dX2_side_12 : decode cX2_side 12 = .ok (.invokespecial 155, 3) := dk_183 0 155 (dk_at dksX2_side_0 12 rfl rfl)
theorem dX2_side_15 : decode cX2_side 15 = .ok (.astore_n 2, 1) := dk_77 (dk_at dksX2_side_0 15 rfl rfl)
theorem dX2_side_16 : decode cX2_side 16 = .ok (.aload_n 0, 1) := dk_42 (dk_at dksX2_side_0 16 rfl rfl)
theorem dX2_side_17 : decode cX2_side 17 = .ok (.getfield 26, 3) := dk_180 0 26 (dk_at dksX2_side_0 17 rfl rfl)
theorem dX2_side_20 : decode cX2_side 20 = .ok (.invokevirtual 65, 3) := dk_182 0 65 (dk_at dksX2_side_0 20 rfl rfl)
theorem dX2_side_23 : decode cX2_side 23 = .ok (.astore 4, 2) := dk_58 4 (dk_at dksX2_side_1 0 rfl rfl)
theorem dX2_side_25 : decode cX2_side 25 = .ok (.aload 4, 2) := dk_25 4 (dk_at dksX2_side_1 2 rfl rfl)
theorem dX2_side_27 : decode cX2_side 27 = .ok (.invokeinterface 69 1, 5) := by decide +kernel
theorem dX2_side_32 : decode cX2_side 32 = .ok (.ifCond .eq 42, 3) := dk_153 0 42 (dk_at dksX2_side_1 9 rfl rfl)
theorem dX2_side_35 : decode cX2_side 35 = .ok (.aload 4, 2) := dk_25 4 (dk_at dksX2_side_1 12 rfl rfl)
theorem dX2_side_37 : decode cX2_side 37 = .ok (.invokeinterface 75 1, 5) := by decide +kernel
theorem dX2_side_42 : decode cX2_side 42 = .ok (.checkcast 88, 3) := dk_192 0 88 (dk_at dksX2_side_1 19 rfl rfl)
theorem dX2_side_45 : decode cX2_side 45 = .ok (.astore 5, 2) := dk_58 5 (dk_at dksX2_side_1 22 rfl rfl)
theorem dX2_side_47 : decode cX2_side 47 = .ok (.aload 5, 2) := dk_25 5 (dk_at dksX2_side_2 0 rfl rfl)
theorem dX2_side_49 : decode cX2_side 49 = .ok (.getfield 158, 3) := dk_180 0 158 (dk_at dksX2_side_2 2 rfl rfl)
theorem dX2_side_52 : decode cX2_side 52 = .ok (.iload_n 1, 1) := dk_27 (dk_at dksX2_side_2 5 rfl rfl)
theorem dX2_side_53 : decode cX2_side 53 = .ok (.if_icmp .ne 16, 3) := dk_160 0 16 (dk_at dksX2_side_2 6 rfl rfl)
theorem dX2_side_56 : decode cX2_side 56 = .ok (.aload_n 2, 1) := dk_44 (dk_at dksX2_side_2 9 rfl rfl)
theorem dX2_side_57 : decode cX2_side 57 = .ok (.aload 5, 2) := dk_25 5 (dk_at dksX2_side_2 10 rfl rfl)
theorem dX2_side_59 : decode cX2_side 59 = .ok (.invokevirtual 162, 3) := dk_182 0 162 (dk_at dksX2_side_2 12 rfl rfl)
theorem dX2_side_62 : decode cX2_side 62 = .ok (.ifCond .eq 7, 3) := dk_153 0 7 (dk_at dksX2_side_2 15 rfl rfl)
theorem dX2_side_65 : decode cX2_side 65 = .ok (.iconst 1, 1) := dk_4 (dk_at dksX2_side_2 18 rfl rfl)
theorem dX2_side_66 : decode cX2_side 66 = .ok (.goto 4, 3) := dk_167 0 4 (dk_at dksX2_side_2 19 rfl rfl)
theorem dX2_side_69 : decode cX2_side 69 = .ok (.iconst 0, 1) := dk_3 (dk_at dksX2_side_2 22 rfl rfl)
theorem dX2_side_70 : decode cX2_side 70 = .ok (.istore_n 3, 1) := dk_62 (dk_at dksX2_side_2 23 rfl rfl)
theorem dX2_side_71 : decode cX2_side 71 = .ok (.goto (-46), 3) := dk_167 255 210 (dk_at dksX2_side_3 0 rfl rfl)
theorem dX2_side_74 : decode cX2_side 74 = .ok (.aload_n 2, 1) := dk_44 (dk_at dksX2_side_3 3 rfl rfl)
theorem dX2_side_75 : decode cX2_side 75 = .ok (.areturn, 1) := dk_176 (dk_at dksX2_side_3 4 rfl rfl)
abbrev cX2_costToBuy : ByteArray := prog_11_method_13_code
def yX2_costToBuy : MethodName := ⟨RX2, "costToBuy", "(I)I"⟩
def dkwX2_costToBuy_3 : List UInt8 := [167, 0, 5, 21, 4, 172]
abbrev dktX2_costToBuy_3 : List UInt8 := dkwX2_costToBuy_3 ++ []
def dkwX2_costToBuy_2 : List UInt8 := [25, 5, 180, 0, 182, 104, 96, 54, 4, 29, 21, 6, 100, 62, 167, 255, 207, 29, 158, 0, 7, 2]
abbrev dktX2_costToBuy_2 : List UInt8 := dkwX2_costToBuy_2 ++ dktX2_costToBuy_3
def dkwX2_costToBuy_1 : List UInt8 := [182, 0, 170, 192, 0, 88, 58, 5, 29, 25, 5, 180, 0, 173, 184, 0, 176, 54, 6, 21, 4, 21, 6]
abbrev dktX2_costToBuy_1 : List UInt8 := dkwX2_costToBuy_1 ++ dktX2_costToBuy_2
def dkwX2_costToBuy_0 : List UInt8 := [42, 3, 182, 0, 163, 77, 27, 62, 3, 54, 4, 29, 158, 0, 51, 44, 182, 0, 167, 154, 0, 44, 44]
abbrev dktX2_costToBuy_0 : List UInt8 := dkwX2_costToBuy_0 ++ dktX2_costToBuy_1
theorem dksX2_costToBuy_0 : cX2_costToBuy.data.toList.drop 0 = dktX2_costToBuy_0 := by decide +kernel
theorem dksX2_costToBuy_1 : cX2_costToBuy.data.toList.drop 23 = dktX2_costToBuy_1 := dk_seg dksX2_costToBuy_0 23 rfl rfl
theorem dksX2_costToBuy_2 : cX2_costToBuy.data.toList.drop 46 = dktX2_costToBuy_2 := dk_seg dksX2_costToBuy_1 23 rfl rfl
theorem dksX2_costToBuy_3 : cX2_costToBuy.data.toList.drop 68 = dktX2_costToBuy_3 := dk_seg dksX2_costToBuy_2 22 rfl rfl
theorem dX2_costToBuy_0 : decode cX2_costToBuy 0 = .ok (.aload_n 0, 1) := dk_42 (dk_at dksX2_costToBuy_0 0 rfl rfl)
theorem dX2_costToBuy_1 : decode cX2_costToBuy 1 = .ok (.iconst 0, 1) := dk_3 (dk_at dksX2_costToBuy_0 1 rfl rfl)
theorem dX2_costToBuy_2 : decode cX2_costToBuy 2 = .ok (.invokevirtual 163, 3) := dk_182 0 163 (dk_at dksX2_costToBuy_0 2 rfl rfl)
theorem dX2_costToBuy_5 : decode cX2_costToBuy 5 = .ok (.astore_n 2, 1) := dk_77 (dk_at dksX2_costToBuy_0 5 rfl rfl)
theorem dX2_costToBuy_6 : decode cX2_costToBuy 6 = .ok (.iload_n 1, 1) := dk_27 (dk_at dksX2_costToBuy_0 6 rfl rfl)
theorem dX2_costToBuy_7 : decode cX2_costToBuy 7 = .ok (.istore_n 3, 1) := dk_62 (dk_at dksX2_costToBuy_0 7 rfl rfl)
theorem dX2_costToBuy_8 : decode cX2_costToBuy 8 = .ok (.iconst 0, 1) := dk_3 (dk_at dksX2_costToBuy_0 8 rfl rfl)
theorem dX2_costToBuy_9 : decode cX2_costToBuy 9 = .ok (.istore 4, 2) := dk_54 4 (dk_at dksX2_costToBuy_0 9 rfl rfl)
theorem dX2_costToBuy_11 : decode cX2_costToBuy 11 = .ok (.iload_n 3, 1) := dk_29 (dk_at dksX2_costToBuy_0 11 rfl rfl)
theorem dX2_costToBuy_12 : decode cX2_costToBuy 12 = .ok (.ifCond .le 51, 3) := dk_158 0 51 (dk_at dksX2_costToBuy_0 12 rfl rfl)
theorem dX2_costToBuy_15 : decode cX2_costToBuy 15 = .ok (.aload_n 2, 1) := dk_44 (dk_at dksX2_costToBuy_0 15 rfl rfl)
theorem dX2_costToBuy_16 : decode cX2_costToBuy 16 = .ok (.invokevirtual 167, 3) := dk_182 0 167 (dk_at dksX2_costToBuy_0 16 rfl rfl)
theorem dX2_costToBuy_19 : decode cX2_costToBuy 19 = .ok (.ifCond .ne 44, 3) := dk_154 0 44 (dk_at dksX2_costToBuy_0 19 rfl rfl)
theorem dX2_costToBuy_22 : decode cX2_costToBuy 22 = .ok (.aload_n 2, 1) := dk_44 (dk_at dksX2_costToBuy_0 22 rfl rfl)
theorem dX2_costToBuy_23 : decode cX2_costToBuy 23 = .ok (.invokevirtual 170, 3) := dk_182 0 170 (dk_at dksX2_costToBuy_1 0 rfl rfl)
theorem dX2_costToBuy_26 : decode cX2_costToBuy 26 = .ok (.checkcast 88, 3) := dk_192 0 88 (dk_at dksX2_costToBuy_1 3 rfl rfl)
theorem dX2_costToBuy_29 : decode cX2_costToBuy 29 = .ok (.astore 5, 2) := dk_58 5 (dk_at dksX2_costToBuy_1 6 rfl rfl)
theorem dX2_costToBuy_31 : decode cX2_costToBuy 31 = .ok (.iload_n 3, 1) := dk_29 (dk_at dksX2_costToBuy_1 8 rfl rfl)
theorem dX2_costToBuy_32 : decode cX2_costToBuy 32 = .ok (.aload 5, 2) := dk_25 5 (dk_at dksX2_costToBuy_1 9 rfl rfl)
theorem dX2_costToBuy_34 : decode cX2_costToBuy 34 = .ok (.getfield 173, 3) := dk_180 0 173 (dk_at dksX2_costToBuy_1 11 rfl rfl)
theorem dX2_costToBuy_37 : decode cX2_costToBuy 37 = .ok (.invokestatic 176, 3) := dk_184 0 176 (dk_at dksX2_costToBuy_1 14 rfl rfl)
theorem dX2_costToBuy_40 : decode cX2_costToBuy 40 = .ok (.istore 6, 2) := dk_54 6 (dk_at dksX2_costToBuy_1 17 rfl rfl)
theorem dX2_costToBuy_42 : decode cX2_costToBuy 42 = .ok (.iload 4, 2) := dk_21 4 (dk_at dksX2_costToBuy_1 19 rfl rfl)
theorem dX2_costToBuy_44 : decode cX2_costToBuy 44 = .ok (.iload 6, 2) := dk_21 6 (dk_at dksX2_costToBuy_1 21 rfl rfl)
theorem dX2_costToBuy_46 : decode cX2_costToBuy 46 = .ok (.aload 5, 2) := dk_25 5 (dk_at dksX2_costToBuy_2 0 rfl rfl)
theorem dX2_costToBuy_48 : decode cX2_costToBuy 48 = .ok (.getfield 182, 3) := dk_180 0 182 (dk_at dksX2_costToBuy_2 2 rfl rfl)
theorem dX2_costToBuy_51 : decode cX2_costToBuy 51 = .ok (.imul, 1) := dk_104 (dk_at dksX2_costToBuy_2 5 rfl rfl)
theorem dX2_costToBuy_52 : decode cX2_costToBuy 52 = .ok (.iadd, 1) := dk_96 (dk_at dksX2_costToBuy_2 6 rfl rfl)
theorem dX2_costToBuy_53 : decode cX2_costToBuy 53 = .ok (.istore 4, 2) := dk_54 4 (dk_at dksX2_costToBuy_2 7 rfl rfl)
theorem dX2_costToBuy_55 : decode cX2_costToBuy 55 = .ok (.iload_n 3, 1) := dk_29 (dk_at dksX2_costToBuy_2 9 rfl rfl)
theorem dX2_costToBuy_56 : decode cX2_costToBuy 56 = .ok (.iload 6, 2) := dk_21 6 (dk_at dksX2_costToBuy_2 10 rfl rfl)
theorem dX2_costToBuy_58 : decode cX2_costToBuy 58 = .ok (.isub, 1) := dk_100 (dk_at dksX2_costToBuy_2 12 rfl rfl)
theorem dX2_costToBuy_59 : decode cX2_costToBuy 59 = .ok (.istore_n 3, 1) := dk_62 (dk_at dksX2_costToBuy_2 13 rfl rfl)
theorem dX2_costToBuy_60 : decode cX2_costToBuy 60 = .ok (.goto (-49), 3) := dk_167 255 207 (dk_at dksX2_costToBuy_2 14 rfl rfl)
theorem dX2_costToBuy_63 : decode cX2_costToBuy 63 = .ok (.iload_n 3, 1) := dk_29 (dk_at dksX2_costToBuy_2 17 rfl rfl)
theorem dX2_costToBuy_64 : decode cX2_costToBuy 64 = .ok (.ifCond .le 7, 3) := dk_158 0 7 (dk_at dksX2_costToBuy_2 18 rfl rfl)
theorem dX2_costToBuy_67 : decode cX2_costToBuy 67 = .ok (.iconst (-1), 1) := dk_2 (dk_at dksX2_costToBuy_2 21 rfl rfl)
theorem dX2_costToBuy_68 : decode cX2_costToBuy 68 = .ok (.goto 5, 3) := dk_167 0 5 (dk_at dksX2_costToBuy_3 0 rfl rfl)
theorem dX2_costToBuy_71 : decode cX2_costToBuy 71 = .ok (.iload 4, 2) := dk_21 4 (dk_at dksX2_costToBuy_3 3 rfl rfl)
theorem dX2_costToBuy_73 : decode cX2_costToBuy 73 = .ok (.ireturn, 1) := dk_172 (dk_at dksX2_costToBuy_3 5 rfl rfl)
abbrev cX2_costToBuyByPrices : ByteArray := prog_11_method_14_code
def yX2_costToBuyByPrices : MethodName := ⟨RX2, "costToBuyByPrices", "(I)I"⟩
def dkwX2_costToBuyByPrices_9 : List UInt8 := [21, 4, 172]
abbrev dktX2_costToBuyByPrices_9 : List UInt8 := dkwX2_costToBuyByPrices_9 ++ []
def dkwX2_costToBuyByPrices_8 : List UInt8 := [182, 0, 200, 104, 96, 54, 4, 29, 21, 7, 100, 62, 167, 255, 189, 29, 158, 0, 7, 2, 167, 0, 5]
abbrev dktX2_costToBuyByPrices_8 : List UInt8 := dkwX2_costToBuyByPrices_8 ++ dktX2_costToBuyByPrices_9
def dkwX2_costToBuyByPrices_7 : List UInt8 := [182, 0, 200, 184, 0, 176, 54, 7, 21, 4, 21, 7, 25, 6, 185, 0, 219, 1, 0, 192, 0, 189]
abbrev dktX2_costToBuyByPrices_7 : List UInt8 := dkwX2_costToBuyByPrices_7 ++ dktX2_costToBuyByPrices_8
def dkwX2_costToBuyByPrices_6 : List UInt8 := [25, 5, 185, 0, 75, 1, 0, 192, 0, 214, 58, 6, 29, 25, 6, 185, 0, 216, 1, 0, 192, 0, 189]
abbrev dktX2_costToBuyByPrices_6 : List UInt8 := dkwX2_costToBuyByPrices_6 ++ dktX2_costToBuyByPrices_7
def dkwX2_costToBuyByPrices_5 : List UInt8 := [3, 54, 4, 44, 182, 0, 207, 185, 0, 211, 1, 0, 58, 5, 25, 5, 185, 0, 69, 1, 0, 153, 0, 63]
abbrev dktX2_costToBuyByPrices_5 : List UInt8 := dkwX2_costToBuyByPrices_5 ++ dktX2_costToBuyByPrices_6
def dkwX2_costToBuyByPrices_4 : List UInt8 := [21, 5, 25, 4, 180, 0, 173, 96, 184, 0, 188, 182, 0, 203, 192, 0, 189, 58, 6, 167, 255, 161, 27, 62]
abbrev dktX2_costToBuyByPrices_4 : List UInt8 := dkwX2_costToBuyByPrices_4 ++ dktX2_costToBuyByPrices_5
def dkwX2_costToBuyByPrices_3 : List UInt8 := [182, 0, 197, 192, 0, 189, 182, 0, 200, 167, 0, 4, 3, 54, 5, 44, 25, 4, 180, 0, 182, 184, 0, 188]
abbrev dktX2_costToBuyByPrices_3 : List UInt8 := dkwX2_costToBuyByPrices_3 ++ dktX2_costToBuyByPrices_4
def dkwX2_costToBuyByPrices_2 : List UInt8 := [25, 4, 180, 0, 182, 184, 0, 188, 182, 0, 194, 153, 0, 24, 44, 25, 4, 180, 0, 182, 184, 0, 188]
abbrev dktX2_costToBuyByPrices_2 : List UInt8 := dkwX2_costToBuyByPrices_2 ++ dktX2_costToBuyByPrices_3
def dkwX2_costToBuyByPrices_1 : List UInt8 := [153, 0, 92, 45, 185, 0, 75, 1, 0, 192, 0, 88, 58, 4, 25, 4, 180, 0, 158, 154, 0, 70, 44]
abbrev dktX2_costToBuyByPrices_1 : List UInt8 := dkwX2_costToBuyByPrices_1 ++ dktX2_costToBuyByPrices_2
def dkwX2_costToBuyByPrices_0 : List UInt8 := [187, 0, 185, 89, 183, 0, 187, 77, 42, 180, 0, 26, 182, 0, 65, 78, 45, 185, 0, 69, 1, 0]
abbrev dktX2_costToBuyByPrices_0 : List UInt8 := dkwX2_costToBuyByPrices_0 ++ dktX2_costToBuyByPrices_1
theorem dksX2_costToBuyByPrices_0 : cX2_costToBuyByPrices.data.toList.drop 0 = dktX2_costToBuyByPrices_0 := by decide +kernel
theorem dksX2_costToBuyByPrices_1 : cX2_costToBuyByPrices.data.toList.drop 22 = dktX2_costToBuyByPrices_1 := dk_seg dksX2_costToBuyByPrices_0 22 rfl rfl
theorem dksX2_costToBuyByPrices_2 : cX2_costToBuyByPrices.data.toList.drop 45 = dktX2_costToBuyByPrices_2 := dk_seg dksX2_costToBuyByPrices_1 23 rfl rfl
theorem dksX2_costToBuyByPrices_3 : cX2_costToBuyByPrices.data.toList.drop 68 = dktX2_costToBuyByPrices_3 := dk_seg dksX2_costToBuyByPrices_2 23 rfl rfl
theorem dksX2_costToBuyByPrices_4 : cX2_costToBuyByPrices.data.toList.drop 92 = dktX2_costToBuyByPrices_4 := dk_seg dksX2_costToBuyByPrices_3 24 rfl rfl
theorem dksX2_costToBuyByPrices_5 : cX2_costToBuyByPrices.data.toList.drop 116 = dktX2_costToBuyByPrices_5 := dk_seg dksX2_costToBuyByPrices_4 24 rfl rfl
theorem dksX2_costToBuyByPrices_6 : cX2_costToBuyByPrices.data.toList.drop 140 = dktX2_costToBuyByPrices_6 := dk_seg dksX2_costToBuyByPrices_5 24 rfl rfl
theorem dksX2_costToBuyByPrices_7 : cX2_costToBuyByPrices.data.toList.drop 163 = dktX2_costToBuyByPrices_7 := dk_seg dksX2_costToBuyByPrices_6 23 rfl rfl
theorem dksX2_costToBuyByPrices_8 : cX2_costToBuyByPrices.data.toList.drop 185 = dktX2_costToBuyByPrices_8 := dk_seg dksX2_costToBuyByPrices_7 22 rfl rfl
theorem dksX2_costToBuyByPrices_9 : cX2_costToBuyByPrices.data.toList.drop 208 = dktX2_costToBuyByPrices_9 := dk_seg dksX2_costToBuyByPrices_8 23 rfl rfl
theorem dX2_costToBuyByPrices_0 : decode cX2_costToBuyByPrices 0 = .ok (.new 185, 3) := dk_187 0 185 (dk_at dksX2_costToBuyByPrices_0 0 rfl rfl)
theorem dX2_costToBuyByPrices_3 : decode cX2_costToBuyByPrices 3 = .ok (.dup, 1) := dk_89 (dk_at dksX2_costToBuyByPrices_0 3 rfl rfl)
theorem dX2_costToBuyByPrices_4 : decode cX2_costToBuyByPrices 4 = .ok (.invokespecial 187, 3) := dk_183 0 187 (dk_at dksX2_costToBuyByPrices_0 4 rfl rfl)
theorem dX2_costToBuyByPrices_7 : decode cX2_costToBuyByPrices 7 = .ok (.astore_n 2, 1) := dk_77 (dk_at dksX2_costToBuyByPrices_0 7 rfl rfl)
theorem dX2_costToBuyByPrices_8 : decode cX2_costToBuyByPrices 8 = .ok (.aload_n 0, 1) := dk_42 (dk_at dksX2_costToBuyByPrices_0 8 rfl rfl)
theorem dX2_costToBuyByPrices_9 : decode cX2_costToBuyByPrices 9 = .ok (.getfield 26, 3) := dk_180 0 26 (dk_at dksX2_costToBuyByPrices_0 9 rfl rfl)
theorem dX2_costToBuyByPrices_12 : decode cX2_costToBuyByPrices 12 = .ok (.invokevirtual 65, 3) := dk_182 0 65 (dk_at dksX2_costToBuyByPrices_0 12 rfl rfl)
theorem dX2_costToBuyByPrices_15 : decode cX2_costToBuyByPrices 15 = .ok (.astore_n 3, 1) := dk_78 (dk_at dksX2_costToBuyByPrices_0 15 rfl rfl)
theorem dX2_costToBuyByPrices_16 : decode cX2_costToBuyByPrices 16 = .ok (.aload_n 3, 1) := dk_45 (dk_at dksX2_costToBuyByPrices_0 16 rfl rfl)
theorem dX2_costToBuyByPrices_17 : decode cX2_costToBuyByPrices 17 = .ok (.invokeinterface 69 1, 5) := by decide +kernel
theorem dX2_costToBuyByPrices_22 : decode cX2_costToBuyByPrices 22 = .ok (.ifCond .eq 92, 3) := dk_153 0 92 (dk_at dksX2_costToBuyByPrices_1 0 rfl rfl)
theorem dX2_costToBuyByPrices_25 : decode cX2_costToBuyByPrices 25 = .ok (.aload_n 3, 1) := dk_45 (dk_at dksX2_costToBuyByPrices_1 3 rfl rfl)
theorem dX2_costToBuyByPrices_26 : decode cX2_costToBuyByPrices 26 = .ok (.invokeinterface 75 1, 5) := by decide +kernel
theorem dX2_costToBuyByPrices_31 : decode cX2_costToBuyByPrices 31 = .ok (.checkcast 88, 3) := dk_192 0 88 (dk_at dksX2_costToBuyByPrices_1 9 rfl rfl)
theorem dX2_costToBuyByPrices_34 : decode cX2_costToBuyByPrices 34 = .ok (.astore 4, 2) := dk_58 4 (dk_at dksX2_costToBuyByPrices_1 12 rfl rfl)
theorem dX2_costToBuyByPrices_36 : decode cX2_costToBuyByPrices 36 = .ok (.aload 4, 2) := dk_25 4 (dk_at dksX2_costToBuyByPrices_1 14 rfl rfl)
theorem dX2_costToBuyByPrices_38 : decode cX2_costToBuyByPrices 38 = .ok (.getfield 158, 3) := dk_180 0 158 (dk_at dksX2_costToBuyByPrices_1 16 rfl rfl)
theorem dX2_costToBuyByPrices_41 : decode cX2_costToBuyByPrices 41 = .ok (.ifCond .ne 70, 3) := dk_154 0 70 (dk_at dksX2_costToBuyByPrices_1 19 rfl rfl)
theorem dX2_costToBuyByPrices_44 : decode cX2_costToBuyByPrices 44 = .ok (.aload_n 2, 1) := dk_44 (dk_at dksX2_costToBuyByPrices_1 22 rfl rfl)
theorem dX2_costToBuyByPrices_45 : decode cX2_costToBuyByPrices 45 = .ok (.aload 4, 2) := dk_25 4 (dk_at dksX2_costToBuyByPrices_2 0 rfl rfl)
theorem dX2_costToBuyByPrices_47 : decode cX2_costToBuyByPrices 47 = .ok (.getfield 182, 3) := dk_180 0 182 (dk_at dksX2_costToBuyByPrices_2 2 rfl rfl)
theorem dX2_costToBuyByPrices_50 : decode cX2_costToBuyByPrices 50 = .ok (.invokestatic 188, 3) := dk_184 0 188 (dk_at dksX2_costToBuyByPrices_2 5 rfl rfl)
theorem dX2_costToBuyByPrices_53 : decode cX2_costToBuyByPrices 53 = .ok (.invokevirtual 194, 3) := dk_182 0 194 (dk_at dksX2_costToBuyByPrices_2 8 rfl rfl)
theorem dX2_costToBuyByPrices_56 : decode cX2_costToBuyByPrices 56 = .ok (.ifCond .eq 24, 3) := dk_153 0 24 (dk_at dksX2_costToBuyByPrices_2 11 rfl rfl)
theorem dX2_costToBuyByPrices_59 : decode cX2_costToBuyByPrices 59 = .ok (.aload_n 2, 1) := dk_44 (dk_at dksX2_costToBuyByPrices_2 14 rfl rfl)
theorem dX2_costToBuyByPrices_60 : decode cX2_costToBuyByPrices 60 = .ok (.aload 4, 2) := dk_25 4 (dk_at dksX2_costToBuyByPrices_2 15 rfl rfl)
theorem dX2_costToBuyByPrices_62 : decode cX2_costToBuyByPrices 62 = .ok (.getfield 182, 3) := dk_180 0 182 (dk_at dksX2_costToBuyByPrices_2 17 rfl rfl)
theorem dX2_costToBuyByPrices_65 : decode cX2_costToBuyByPrices 65 = .ok (.invokestatic 188, 3) := dk_184 0 188 (dk_at dksX2_costToBuyByPrices_2 20 rfl rfl)
theorem dX2_costToBuyByPrices_68 : decode cX2_costToBuyByPrices 68 = .ok (.invokevirtual 197, 3) := dk_182 0 197 (dk_at dksX2_costToBuyByPrices_3 0 rfl rfl)
theorem dX2_costToBuyByPrices_71 : decode cX2_costToBuyByPrices 71 = .ok (.checkcast 189, 3) := dk_192 0 189 (dk_at dksX2_costToBuyByPrices_3 3 rfl rfl)
theorem dX2_costToBuyByPrices_74 : decode cX2_costToBuyByPrices 74 = .ok (.invokevirtual 200, 3) := dk_182 0 200 (dk_at dksX2_costToBuyByPrices_3 6 rfl rfl)
theorem dX2_costToBuyByPrices_77 : decode cX2_costToBuyByPrices 77 = .ok (.goto 4, 3) := dk_167 0 4 (dk_at dksX2_costToBuyByPrices_3 9 rfl rfl)
theorem dX2_costToBuyByPrices_80 : decode cX2_costToBuyByPrices 80 = .ok (.iconst 0, 1) := dk_3 (dk_at dksX2_costToBuyByPrices_3 12 rfl rfl)
theorem dX2_costToBuyByPrices_81 : decode cX2_costToBuyByPrices 81 = .ok (.istore 5, 2) := dk_54 5 (dk_at dksX2_costToBuyByPrices_3 13 rfl rfl)
theorem dX2_costToBuyByPrices_83 : decode cX2_costToBuyByPrices 83 = .ok (.aload_n 2, 1) := dk_44 (dk_at dksX2_costToBuyByPrices_3 15 rfl rfl)
theorem dX2_costToBuyByPrices_84 : decode cX2_costToBuyByPrices 84 = .ok (.aload 4, 2) := dk_25 4 (dk_at dksX2_costToBuyByPrices_3 16 rfl rfl)
theorem dX2_costToBuyByPrices_86 : decode cX2_costToBuyByPrices 86 = .ok (.getfield 182, 3) := dk_180 0 182 (dk_at dksX2_costToBuyByPrices_3 18 rfl rfl)
theorem dX2_costToBuyByPrices_89 : decode cX2_costToBuyByPrices 89 = .ok (.invokestatic 188, 3) := dk_184 0 188 (dk_at dksX2_costToBuyByPrices_3 21 rfl rfl)
theorem dX2_costToBuyByPrices_92 : decode cX2_costToBuyByPrices 92 = .ok (.iload 5, 2) := dk_21 5 (dk_at dksX2_costToBuyByPrices_4 0 rfl rfl)
theorem dX2_costToBuyByPrices_94 : decode cX2_costToBuyByPrices 94 = .ok (.aload 4, 2) := dk_25 4 (dk_at dksX2_costToBuyByPrices_4 2 rfl rfl)
theorem dX2_costToBuyByPrices_96 : decode cX2_costToBuyByPrices 96 = .ok (.getfield 173, 3) := dk_180 0 173 (dk_at dksX2_costToBuyByPrices_4 4 rfl rfl)
theorem dX2_costToBuyByPrices_99 : decode cX2_costToBuyByPrices 99 = .ok (.iadd, 1) := dk_96 (dk_at dksX2_costToBuyByPrices_4 7 rfl rfl)
theorem dX2_costToBuyByPrices_100 : decode cX2_costToBuyByPrices 100 = .ok (.invokestatic 188, 3) := dk_184 0 188 (dk_at dksX2_costToBuyByPrices_4 8 rfl rfl)
theorem dX2_costToBuyByPrices_103 : decode cX2_costToBuyByPrices 103 = .ok (.invokevirtual 203, 3) := dk_182 0 203 (dk_at dksX2_costToBuyByPrices_4 11 rfl rfl)
theorem dX2_costToBuyByPrices_106 : decode cX2_costToBuyByPrices 106 = .ok (.checkcast 189, 3) := dk_192 0 189 (dk_at dksX2_costToBuyByPrices_4 14 rfl rfl)
theorem dX2_costToBuyByPrices_109 : decode cX2_costToBuyByPrices 109 = .ok (.astore 6, 2) := dk_58 6 (dk_at dksX2_costToBuyByPrices_4 17 rfl rfl)
theorem dX2_costToBuyByPrices_111 : decode cX2_costToBuyByPrices 111 = .ok (.goto (-95), 3) := dk_167 255 161 (dk_at dksX2_costToBuyByPrices_4 19 rfl rfl)
theorem dX2_costToBuyByPrices_114 : decode cX2_costToBuyByPrices 114 = .ok (.iload_n 1, 1) := dk_27 (dk_at dksX2_costToBuyByPrices_4 22 rfl rfl)
theorem dX2_costToBuyByPrices_115 : decode cX2_costToBuyByPrices 115 = .ok (.istore_n 3, 1) := dk_62 (dk_at dksX2_costToBuyByPrices_4 23 rfl rfl)
theorem dX2_costToBuyByPrices_116 : decode cX2_costToBuyByPrices 116 = .ok (.iconst 0, 1) := dk_3 (dk_at dksX2_costToBuyByPrices_5 0 rfl rfl)
theorem dX2_costToBuyByPrices_117 : decode cX2_costToBuyByPrices 117 = .ok (.istore 4, 2) := dk_54 4 (dk_at dksX2_costToBuyByPrices_5 1 rfl rfl)
theorem dX2_costToBuyByPrices_119 : decode cX2_costToBuyByPrices 119 = .ok (.aload_n 2, 1) := dk_44 (dk_at dksX2_costToBuyByPrices_5 3 rfl rfl)
theorem dX2_costToBuyByPrices_120 : decode cX2_costToBuyByPrices 120 = .ok (.invokevirtual 207, 3) := dk_182 0 207 (dk_at dksX2_costToBuyByPrices_5 4 rfl rfl)
theorem dX2_costToBuyByPrices_123 : decode cX2_costToBuyByPrices 123 = .ok (.invokeinterface 211 1, 5) := by decide +kernel
theorem dX2_costToBuyByPrices_128 : decode cX2_costToBuyByPrices 128 = .ok (.astore 5, 2) := dk_58 5 (dk_at dksX2_costToBuyByPrices_5 12 rfl rfl)
theorem dX2_costToBuyByPrices_130 : decode cX2_costToBuyByPrices 130 = .ok (.aload 5, 2) := dk_25 5 (dk_at dksX2_costToBuyByPrices_5 14 rfl rfl)
theorem dX2_costToBuyByPrices_132 : decode cX2_costToBuyByPrices 132 = .ok (.invokeinterface 69 1, 5) := by decide +kernel
theorem dX2_costToBuyByPrices_137 : decode cX2_costToBuyByPrices 137 = .ok (.ifCond .eq 63, 3) := dk_153 0 63 (dk_at dksX2_costToBuyByPrices_5 21 rfl rfl)
theorem dX2_costToBuyByPrices_140 : decode cX2_costToBuyByPrices 140 = .ok (.aload 5, 2) := dk_25 5 (dk_at dksX2_costToBuyByPrices_6 0 rfl rfl)
theorem dX2_costToBuyByPrices_142 : decode cX2_costToBuyByPrices 142 = .ok (.invokeinterface 75 1, 5) := by decide +kernel
theorem dX2_costToBuyByPrices_147 : decode cX2_costToBuyByPrices 147 = .ok (.checkcast 214, 3) := dk_192 0 214 (dk_at dksX2_costToBuyByPrices_6 7 rfl rfl)
theorem dX2_costToBuyByPrices_150 : decode cX2_costToBuyByPrices 150 = .ok (.astore 6, 2) := dk_58 6 (dk_at dksX2_costToBuyByPrices_6 10 rfl rfl)
theorem dX2_costToBuyByPrices_152 : decode cX2_costToBuyByPrices 152 = .ok (.iload_n 3, 1) := dk_29 (dk_at dksX2_costToBuyByPrices_6 12 rfl rfl)
theorem dX2_costToBuyByPrices_153 : decode cX2_costToBuyByPrices 153 = .ok (.aload 6, 2) := dk_25 6 (dk_at dksX2_costToBuyByPrices_6 13 rfl rfl)
theorem dX2_costToBuyByPrices_155 : decode cX2_costToBuyByPrices 155 = .ok (.invokeinterface 216 1, 5) := by decide +kernel
theorem dX2_costToBuyByPrices_160 : decode cX2_costToBuyByPrices 160 = .ok (.checkcast 189, 3) := dk_192 0 189 (dk_at dksX2_costToBuyByPrices_6 20 rfl rfl)
theorem dX2_costToBuyByPrices_163 : decode cX2_costToBuyByPrices 163 = .ok (.invokevirtual 200, 3) := dk_182 0 200 (dk_at dksX2_costToBuyByPrices_7 0 rfl rfl)
theorem dX2_costToBuyByPrices_166 : decode cX2_costToBuyByPrices 166 = .ok (.invokestatic 176, 3) := dk_184 0 176 (dk_at dksX2_costToBuyByPrices_7 3 rfl rfl)
theorem dX2_costToBuyByPrices_169 : decode cX2_costToBuyByPrices 169 = .ok (.istore 7, 2) := dk_54 7 (dk_at dksX2_costToBuyByPrices_7 6 rfl rfl)
theorem dX2_costToBuyByPrices_171 : decode cX2_costToBuyByPrices 171 = .ok (.iload 4, 2) := dk_21 4 (dk_at dksX2_costToBuyByPrices_7 8 rfl rfl)
theorem dX2_costToBuyByPrices_173 : decode cX2_costToBuyByPrices 173 = .ok (.iload 7, 2) := dk_21 7 (dk_at dksX2_costToBuyByPrices_7 10 rfl rfl)
theorem dX2_costToBuyByPrices_175 : decode cX2_costToBuyByPrices 175 = .ok (.aload 6, 2) := dk_25 6 (dk_at dksX2_costToBuyByPrices_7 12 rfl rfl)
theorem dX2_costToBuyByPrices_177 : decode cX2_costToBuyByPrices 177 = .ok (.invokeinterface 219 1, 5) := by decide +kernel
theorem dX2_costToBuyByPrices_182 : decode cX2_costToBuyByPrices 182 = .ok (.checkcast 189, 3) := dk_192 0 189 (dk_at dksX2_costToBuyByPrices_7 19 rfl rfl)
theorem dX2_costToBuyByPrices_185 : decode cX2_costToBuyByPrices 185 = .ok (.invokevirtual 200, 3) := dk_182 0 200 (dk_at dksX2_costToBuyByPrices_8 0 rfl rfl)
theorem dX2_costToBuyByPrices_188 : decode cX2_costToBuyByPrices 188 = .ok (.imul, 1) := dk_104 (dk_at dksX2_costToBuyByPrices_8 3 rfl rfl)
theorem dX2_costToBuyByPrices_189 : decode cX2_costToBuyByPrices 189 = .ok (.iadd, 1) := dk_96 (dk_at dksX2_costToBuyByPrices_8 4 rfl rfl)
theorem dX2_costToBuyByPrices_190 : decode cX2_costToBuyByPrices 190 = .ok (.istore 4, 2) := dk_54 4 (dk_at dksX2_costToBuyByPrices_8 5 rfl rfl)
theorem dX2_costToBuyByPrices_192 : decode cX2_costToBuyByPrices 192 = .ok (.iload_n 3, 1) := dk_29 (dk_at dksX2_costToBuyByPrices_8 7 rfl rfl)
theorem dX2_costToBuyByPrices_193 : decode cX2_costToBuyByPrices 193 = .ok (.iload 7, 2) := dk_21 7 (dk_at dksX2_costToBuyByPrices_8 8 rfl rfl)
theorem dX2_costToBuyByPrices_195 : decode cX2_costToBuyByPrices 195 = .ok (.isub, 1) := dk_100 (dk_at dksX2_costToBuyByPrices_8 10 rfl rfl)
theorem dX2_costToBuyByPrices_196 : decode cX2_costToBuyByPrices 196 = .ok (.istore_n 3, 1) := dk_62 (dk_at dksX2_costToBuyByPrices_8 11 rfl rfl)
theorem dX2_costToBuyByPrices_197 : decode cX2_costToBuyByPrices 197 = .ok (.goto (-67), 3) := dk_167 255 189 (dk_at dksX2_costToBuyByPrices_8 12 rfl rfl)
theorem dX2_costToBuyByPrices_200 : decode cX2_costToBuyByPrices 200 = .ok (.iload_n 3, 1) := dk_29 (dk_at dksX2_costToBuyByPrices_8 15 rfl rfl)
theorem dX2_costToBuyByPrices_201 : decode cX2_costToBuyByPrices 201 = .ok (.ifCond .le 7, 3) := dk_158 0 7 (dk_at dksX2_costToBuyByPrices_8 16 rfl rfl)
theorem dX2_costToBuyByPrices_204 : decode cX2_costToBuyByPrices 204 = .ok (.iconst (-1), 1) := dk_2 (dk_at dksX2_costToBuyByPrices_8 19 rfl rfl)
theorem dX2_costToBuyByPrices_205 : decode cX2_costToBuyByPrices 205 = .ok (.goto 5, 3) := dk_167 0 5 (dk_at dksX2_costToBuyByPrices_8 20 rfl rfl)
theorem dX2_costToBuyByPrices_208 : decode cX2_costToBuyByPrices 208 = .ok (.iload 4, 2) := dk_21 4 (dk_at dksX2_costToBuyByPrices_9 0 rfl rfl)
theorem dX2_costToBuyByPrices_210 : decode cX2_costToBuyByPrices 210 = .ok (.ireturn, 1) := dk_172 (dk_at dksX2_costToBuyByPrices_9 2 rfl rfl)
abbrev cX2_value : ByteArray := prog_11_method_27_code
def yX2_value : MethodName := ⟨RX2, "value", "(II)I"⟩
def dkwX2_value_2 : List UInt8 := [96, 21, 4, 96, 172]
abbrev dktX2_value_2 : List UInt8 := dkwX2_value_2 ++ []
def dkwX2_value_1 : List UInt8 := [54, 4, 45, 180, 0, 240, 42, 27, 182, 1, 65, 96, 28, 45, 180, 0, 243, 42, 27, 182, 1, 59, 96, 104]
abbrev dktX2_value_1 : List UInt8 := dkwX2_value_1 ++ dktX2_value_2
def dkwX2_value_0 : List UInt8 := [42, 180, 0, 22, 27, 182, 0, 114, 192, 0, 79, 78, 42, 27, 28, 186, 1, 62, 0, 0, 182, 1, 55]
abbrev dktX2_value_0 : List UInt8 := dkwX2_value_0 ++ dktX2_value_1
theorem dksX2_value_0 : cX2_value.data.toList.drop 0 = dktX2_value_0 := by decide +kernel
theorem dksX2_value_1 : cX2_value.data.toList.drop 23 = dktX2_value_1 := dk_seg dksX2_value_0 23 rfl rfl
theorem dksX2_value_2 : cX2_value.data.toList.drop 47 = dktX2_value_2 := dk_seg dksX2_value_1 24 rfl rfl
theorem dX2_value_0 : decode cX2_value 0 = .ok (.aload_n 0, 1) := dk_42 (dk_at dksX2_value_0 0 rfl rfl)
theorem dX2_value_1 : decode cX2_value 1 = .ok (.getfield 22, 3) := dk_180 0 22 (dk_at dksX2_value_0 1 rfl rfl)
theorem dX2_value_4 : decode cX2_value 4 = .ok (.iload_n 1, 1) := dk_27 (dk_at dksX2_value_0 4 rfl rfl)
theorem dX2_value_5 : decode cX2_value 5 = .ok (.invokevirtual 114, 3) := dk_182 0 114 (dk_at dksX2_value_0 5 rfl rfl)
theorem dX2_value_8 : decode cX2_value 8 = .ok (.checkcast 79, 3) := dk_192 0 79 (dk_at dksX2_value_0 8 rfl rfl)
theorem dX2_value_11 : decode cX2_value 11 = .ok (.astore_n 3, 1) := dk_78 (dk_at dksX2_value_0 11 rfl rfl)
theorem dX2_value_12 : decode cX2_value 12 = .ok (.aload_n 0, 1) := dk_42 (dk_at dksX2_value_0 12 rfl rfl)
theorem dX2_value_13 : decode cX2_value 13 = .ok (.iload_n 1, 1) := dk_27 (dk_at dksX2_value_0 13 rfl rfl)
theorem dX2_value_14 : decode cX2_value 14 = .ok (.iload_n 2, 1) := dk_28 (dk_at dksX2_value_0 14 rfl rfl)
theorem dX2_value_15 : decode cX2_value 15 = .ok (.invokedynamic 318, 5) := by decide +kernel
theorem dX2_value_20 : decode cX2_value 20 = .ok (.invokevirtual 311, 3) := dk_182 1 55 (dk_at dksX2_value_0 20 rfl rfl)
theorem dX2_value_23 : decode cX2_value 23 = .ok (.istore 4, 2) := dk_54 4 (dk_at dksX2_value_1 0 rfl rfl)
theorem dX2_value_25 : decode cX2_value 25 = .ok (.aload_n 3, 1) := dk_45 (dk_at dksX2_value_1 2 rfl rfl)
theorem dX2_value_26 : decode cX2_value 26 = .ok (.getfield 240, 3) := dk_180 0 240 (dk_at dksX2_value_1 3 rfl rfl)
theorem dX2_value_29 : decode cX2_value 29 = .ok (.aload_n 0, 1) := dk_42 (dk_at dksX2_value_1 6 rfl rfl)
theorem dX2_value_30 : decode cX2_value 30 = .ok (.iload_n 1, 1) := dk_27 (dk_at dksX2_value_1 7 rfl rfl)
theorem dX2_value_31 : decode cX2_value 31 = .ok (.invokevirtual 321, 3) := dk_182 1 65 (dk_at dksX2_value_1 8 rfl rfl)
theorem dX2_value_34 : decode cX2_value 34 = .ok (.iadd, 1) := dk_96 (dk_at dksX2_value_1 11 rfl rfl)
theorem dX2_value_35 : decode cX2_value 35 = .ok (.iload_n 2, 1) := dk_28 (dk_at dksX2_value_1 12 rfl rfl)
theorem dX2_value_36 : decode cX2_value 36 = .ok (.aload_n 3, 1) := dk_45 (dk_at dksX2_value_1 13 rfl rfl)
theorem dX2_value_37 : decode cX2_value 37 = .ok (.getfield 243, 3) := dk_180 0 243 (dk_at dksX2_value_1 14 rfl rfl)
theorem dX2_value_40 : decode cX2_value 40 = .ok (.aload_n 0, 1) := dk_42 (dk_at dksX2_value_1 17 rfl rfl)
theorem dX2_value_41 : decode cX2_value 41 = .ok (.iload_n 1, 1) := dk_27 (dk_at dksX2_value_1 18 rfl rfl)
theorem dX2_value_42 : decode cX2_value 42 = .ok (.invokevirtual 315, 3) := dk_182 1 59 (dk_at dksX2_value_1 19 rfl rfl)
theorem dX2_value_45 : decode cX2_value 45 = .ok (.iadd, 1) := dk_96 (dk_at dksX2_value_1 22 rfl rfl)
theorem dX2_value_46 : decode cX2_value 46 = .ok (.imul, 1) := dk_104 (dk_at dksX2_value_1 23 rfl rfl)
theorem dX2_value_47 : decode cX2_value 47 = .ok (.iadd, 1) := dk_96 (dk_at dksX2_value_2 0 rfl rfl)
theorem dX2_value_48 : decode cX2_value 48 = .ok (.iload 4, 2) := dk_21 4 (dk_at dksX2_value_2 1 rfl rfl)
theorem dX2_value_50 : decode cX2_value 50 = .ok (.iadd, 1) := dk_96 (dk_at dksX2_value_2 3 rfl rfl)
theorem dX2_value_51 : decode cX2_value 51 = .ok (.ireturn, 1) := dk_172 (dk_at dksX2_value_2 4 rfl rfl)
abbrev cX2_lambda_value_5 : ByteArray := prog_11_method_36_code
def yX2_lambda_value_5 : MethodName := ⟨RX2, "lambda$value$5", "(IILWindowExchange$Contract;)I"⟩
def dkwX2_lambda_value_5_0 : List UInt8 := [44, 26, 182, 1, 103, 44, 27, 182, 1, 29, 104, 172]
abbrev dktX2_lambda_value_5_0 : List UInt8 := dkwX2_lambda_value_5_0 ++ []
theorem dksX2_lambda_value_5_0 : cX2_lambda_value_5.data.toList.drop 0 = dktX2_lambda_value_5_0 := by decide +kernel
theorem dX2_lambda_value_5_0 : decode cX2_lambda_value_5 0 = .ok (.aload_n 2, 1) := dk_44 (dk_at dksX2_lambda_value_5_0 0 rfl rfl)
theorem dX2_lambda_value_5_1 : decode cX2_lambda_value_5 1 = .ok (.iload_n 0, 1) := dk_26 (dk_at dksX2_lambda_value_5_0 1 rfl rfl)
theorem dX2_lambda_value_5_2 : decode cX2_lambda_value_5 2 = .ok (.invokevirtual 359, 3) := dk_182 1 103 (dk_at dksX2_lambda_value_5_0 2 rfl rfl)
theorem dX2_lambda_value_5_5 : decode cX2_lambda_value_5 5 = .ok (.aload_n 2, 1) := dk_44 (dk_at dksX2_lambda_value_5_0 5 rfl rfl)
theorem dX2_lambda_value_5_6 : decode cX2_lambda_value_5 6 = .ok (.iload_n 1, 1) := dk_27 (dk_at dksX2_lambda_value_5_0 6 rfl rfl)
theorem dX2_lambda_value_5_7 : decode cX2_lambda_value_5 7 = .ok (.invokevirtual 285, 3) := dk_182 1 29 (dk_at dksX2_lambda_value_5_0 7 rfl rfl)
theorem dX2_lambda_value_5_10 : decode cX2_lambda_value_5 10 = .ok (.imul, 1) := dk_104 (dk_at dksX2_lambda_value_5_0 10 rfl rfl)
theorem dX2_lambda_value_5_11 : decode cX2_lambda_value_5 11 = .ok (.ireturn, 1) := dk_172 (dk_at dksX2_lambda_value_5_0 11 rfl rfl)
abbrev cX2_sumContracts : ByteArray := prog_11_method_7_code
def yX2_sumContracts : MethodName := ⟨RX2, "sumContracts", "(LWindowExchange$ContractMeasure;)I"⟩
def dkwX2_sumContracts_2 : List UInt8 := [28, 172]
abbrev dktX2_sumContracts_2 : List UInt8 := dkwX2_sumContracts_2 ++ []
def dkwX2_sumContracts_1 : List UInt8 := [185, 0, 75, 1, 0, 192, 0, 118, 58, 4, 28, 43, 25, 4, 185, 0, 133, 2, 0, 96, 61, 167, 255, 225]
abbrev dktX2_sumContracts_1 : List UInt8 := dkwX2_sumContracts_1 ++ dktX2_sumContracts_2
def dkwX2_sumContracts_0 : List UInt8 := [3, 61, 42, 180, 0, 29, 182, 0, 65, 78, 45, 185, 0, 69, 1, 0, 153, 0, 28, 45]
abbrev dktX2_sumContracts_0 : List UInt8 := dkwX2_sumContracts_0 ++ dktX2_sumContracts_1
theorem dksX2_sumContracts_0 : cX2_sumContracts.data.toList.drop 0 = dktX2_sumContracts_0 := by decide +kernel
theorem dksX2_sumContracts_1 : cX2_sumContracts.data.toList.drop 20 = dktX2_sumContracts_1 := dk_seg dksX2_sumContracts_0 20 rfl rfl
theorem dksX2_sumContracts_2 : cX2_sumContracts.data.toList.drop 44 = dktX2_sumContracts_2 := dk_seg dksX2_sumContracts_1 24 rfl rfl
theorem dX2_sumContracts_0 : decode cX2_sumContracts 0 = .ok (.iconst 0, 1) := dk_3 (dk_at dksX2_sumContracts_0 0 rfl rfl)
theorem dX2_sumContracts_1 : decode cX2_sumContracts 1 = .ok (.istore_n 2, 1) := dk_61 (dk_at dksX2_sumContracts_0 1 rfl rfl)
theorem dX2_sumContracts_2 : decode cX2_sumContracts 2 = .ok (.aload_n 0, 1) := dk_42 (dk_at dksX2_sumContracts_0 2 rfl rfl)
theorem dX2_sumContracts_3 : decode cX2_sumContracts 3 = .ok (.getfield 29, 3) := dk_180 0 29 (dk_at dksX2_sumContracts_0 3 rfl rfl)
theorem dX2_sumContracts_6 : decode cX2_sumContracts 6 = .ok (.invokevirtual 65, 3) := dk_182 0 65 (dk_at dksX2_sumContracts_0 6 rfl rfl)
theorem dX2_sumContracts_9 : decode cX2_sumContracts 9 = .ok (.astore_n 3, 1) := dk_78 (dk_at dksX2_sumContracts_0 9 rfl rfl)
theorem dX2_sumContracts_10 : decode cX2_sumContracts 10 = .ok (.aload_n 3, 1) := dk_45 (dk_at dksX2_sumContracts_0 10 rfl rfl)
theorem dX2_sumContracts_11 : decode cX2_sumContracts 11 = .ok (.invokeinterface 69 1, 5) := by decide +kernel
theorem dX2_sumContracts_16 : decode cX2_sumContracts 16 = .ok (.ifCond .eq 28, 3) := dk_153 0 28 (dk_at dksX2_sumContracts_0 16 rfl rfl)
theorem dX2_sumContracts_19 : decode cX2_sumContracts 19 = .ok (.aload_n 3, 1) := dk_45 (dk_at dksX2_sumContracts_0 19 rfl rfl)
theorem dX2_sumContracts_20 : decode cX2_sumContracts 20 = .ok (.invokeinterface 75 1, 5) := by decide +kernel
theorem dX2_sumContracts_25 : decode cX2_sumContracts 25 = .ok (.checkcast 118, 3) := dk_192 0 118 (dk_at dksX2_sumContracts_1 5 rfl rfl)
theorem dX2_sumContracts_28 : decode cX2_sumContracts 28 = .ok (.astore 4, 2) := dk_58 4 (dk_at dksX2_sumContracts_1 8 rfl rfl)
theorem dX2_sumContracts_30 : decode cX2_sumContracts 30 = .ok (.iload_n 2, 1) := dk_28 (dk_at dksX2_sumContracts_1 10 rfl rfl)
theorem dX2_sumContracts_31 : decode cX2_sumContracts 31 = .ok (.aload_n 1, 1) := dk_43 (dk_at dksX2_sumContracts_1 11 rfl rfl)
theorem dX2_sumContracts_32 : decode cX2_sumContracts 32 = .ok (.aload 4, 2) := dk_25 4 (dk_at dksX2_sumContracts_1 12 rfl rfl)
theorem dX2_sumContracts_34 : decode cX2_sumContracts 34 = .ok (.invokeinterface 133 2, 5) := by decide +kernel
theorem dX2_sumContracts_39 : decode cX2_sumContracts 39 = .ok (.iadd, 1) := dk_96 (dk_at dksX2_sumContracts_1 19 rfl rfl)
theorem dX2_sumContracts_40 : decode cX2_sumContracts 40 = .ok (.istore_n 2, 1) := dk_61 (dk_at dksX2_sumContracts_1 20 rfl rfl)
theorem dX2_sumContracts_41 : decode cX2_sumContracts 41 = .ok (.goto (-31), 3) := dk_167 255 225 (dk_at dksX2_sumContracts_1 21 rfl rfl)
theorem dX2_sumContracts_44 : decode cX2_sumContracts 44 = .ok (.iload_n 2, 1) := dk_28 (dk_at dksX2_sumContracts_2 0 rfl rfl)
theorem dX2_sumContracts_45 : decode cX2_sumContracts 45 = .ok (.ireturn, 1) := dk_172 (dk_at dksX2_sumContracts_2 1 rfl rfl)
abbrev cX2_valueByExposure : ByteArray := prog_11_method_28_code
def yX2_valueByExposure : MethodName := ⟨RX2, "valueByExposure", "(II)I"⟩
def dkwX2_valueByExposure_0 : List UInt8 := [42, 27, 3, 182, 1, 68, 28, 42, 27, 182, 1, 71, 104, 96, 172]
abbrev dktX2_valueByExposure_0 : List UInt8 := dkwX2_valueByExposure_0 ++ []
theorem dksX2_valueByExposure_0 : cX2_valueByExposure.data.toList.drop 0 = dktX2_valueByExposure_0 := by decide +kernel
theorem dX2_valueByExposure_0 : decode cX2_valueByExposure 0 = .ok (.aload_n 0, 1) := dk_42 (dk_at dksX2_valueByExposure_0 0 rfl rfl)
theorem dX2_valueByExposure_1 : decode cX2_valueByExposure 1 = .ok (.iload_n 1, 1) := dk_27 (dk_at dksX2_valueByExposure_0 1 rfl rfl)
theorem dX2_valueByExposure_2 : decode cX2_valueByExposure 2 = .ok (.iconst 0, 1) := dk_3 (dk_at dksX2_valueByExposure_0 2 rfl rfl)
theorem dX2_valueByExposure_3 : decode cX2_valueByExposure 3 = .ok (.invokevirtual 324, 3) := dk_182 1 68 (dk_at dksX2_valueByExposure_0 3 rfl rfl)
theorem dX2_valueByExposure_6 : decode cX2_valueByExposure 6 = .ok (.iload_n 2, 1) := dk_28 (dk_at dksX2_valueByExposure_0 6 rfl rfl)
theorem dX2_valueByExposure_7 : decode cX2_valueByExposure 7 = .ok (.aload_n 0, 1) := dk_42 (dk_at dksX2_valueByExposure_0 7 rfl rfl)
theorem dX2_valueByExposure_8 : decode cX2_valueByExposure 8 = .ok (.iload_n 1, 1) := dk_27 (dk_at dksX2_valueByExposure_0 8 rfl rfl)
theorem dX2_valueByExposure_9 : decode cX2_valueByExposure 9 = .ok (.invokevirtual 327, 3) := dk_182 1 71 (dk_at dksX2_valueByExposure_0 9 rfl rfl)
theorem dX2_valueByExposure_12 : decode cX2_valueByExposure 12 = .ok (.imul, 1) := dk_104 (dk_at dksX2_valueByExposure_0 12 rfl rfl)
theorem dX2_valueByExposure_13 : decode cX2_valueByExposure 13 = .ok (.iadd, 1) := dk_96 (dk_at dksX2_valueByExposure_0 13 rfl rfl)
theorem dX2_valueByExposure_14 : decode cX2_valueByExposure 14 = .ok (.ireturn, 1) := dk_172 (dk_at dksX2_valueByExposure_0 14 rfl rfl)
abbrev cX2_exposure : ByteArray := prog_11_method_26_code
def yX2_exposure : MethodName := ⟨RX2, "exposure", "(I)I"⟩
def dkwX2_exposure_1 : List UInt8 := [180, 0, 243, 42, 27, 182, 1, 59, 96, 28, 96, 172]
abbrev dktX2_exposure_1 : List UInt8 := dkwX2_exposure_1 ++ []
def dkwX2_exposure_0 : List UInt8 := [42, 27, 186, 1, 52, 0, 0, 182, 1, 55, 61, 42, 180, 0, 22, 27, 182, 0, 114, 192, 0, 79]
abbrev dktX2_exposure_0 : List UInt8 := dkwX2_exposure_0 ++ dktX2_exposure_1
theorem dksX2_exposure_0 : cX2_exposure.data.toList.drop 0 = dktX2_exposure_0 := by decide +kernel
theorem dksX2_exposure_1 : cX2_exposure.data.toList.drop 22 = dktX2_exposure_1 := dk_seg dksX2_exposure_0 22 rfl rfl
theorem dX2_exposure_0 : decode cX2_exposure 0 = .ok (.aload_n 0, 1) := dk_42 (dk_at dksX2_exposure_0 0 rfl rfl)
theorem dX2_exposure_1 : decode cX2_exposure 1 = .ok (.iload_n 1, 1) := dk_27 (dk_at dksX2_exposure_0 1 rfl rfl)
theorem dX2_exposure_2 : decode cX2_exposure 2 = .ok (.invokedynamic 308, 5) := by decide +kernel
theorem dX2_exposure_7 : decode cX2_exposure 7 = .ok (.invokevirtual 311, 3) := dk_182 1 55 (dk_at dksX2_exposure_0 7 rfl rfl)
theorem dX2_exposure_10 : decode cX2_exposure 10 = .ok (.istore_n 2, 1) := dk_61 (dk_at dksX2_exposure_0 10 rfl rfl)
theorem dX2_exposure_11 : decode cX2_exposure 11 = .ok (.aload_n 0, 1) := dk_42 (dk_at dksX2_exposure_0 11 rfl rfl)
theorem dX2_exposure_12 : decode cX2_exposure 12 = .ok (.getfield 22, 3) := dk_180 0 22 (dk_at dksX2_exposure_0 12 rfl rfl)
theorem dX2_exposure_15 : decode cX2_exposure 15 = .ok (.iload_n 1, 1) := dk_27 (dk_at dksX2_exposure_0 15 rfl rfl)
theorem dX2_exposure_16 : decode cX2_exposure 16 = .ok (.invokevirtual 114, 3) := dk_182 0 114 (dk_at dksX2_exposure_0 16 rfl rfl)
theorem dX2_exposure_19 : decode cX2_exposure 19 = .ok (.checkcast 79, 3) := dk_192 0 79 (dk_at dksX2_exposure_0 19 rfl rfl)
theorem dX2_exposure_22 : decode cX2_exposure 22 = .ok (.getfield 243, 3) := dk_180 0 243 (dk_at dksX2_exposure_1 0 rfl rfl)
theorem dX2_exposure_25 : decode cX2_exposure 25 = .ok (.aload_n 0, 1) := dk_42 (dk_at dksX2_exposure_1 3 rfl rfl)
theorem dX2_exposure_26 : decode cX2_exposure 26 = .ok (.iload_n 1, 1) := dk_27 (dk_at dksX2_exposure_1 4 rfl rfl)
theorem dX2_exposure_27 : decode cX2_exposure 27 = .ok (.invokevirtual 315, 3) := dk_182 1 59 (dk_at dksX2_exposure_1 5 rfl rfl)
theorem dX2_exposure_30 : decode cX2_exposure 30 = .ok (.iadd, 1) := dk_96 (dk_at dksX2_exposure_1 8 rfl rfl)
theorem dX2_exposure_31 : decode cX2_exposure 31 = .ok (.iload_n 2, 1) := dk_28 (dk_at dksX2_exposure_1 9 rfl rfl)
theorem dX2_exposure_32 : decode cX2_exposure 32 = .ok (.iadd, 1) := dk_96 (dk_at dksX2_exposure_1 10 rfl rfl)
theorem dX2_exposure_33 : decode cX2_exposure 33 = .ok (.ireturn, 1) := dk_172 (dk_at dksX2_exposure_1 11 rfl rfl)
abbrev cX2_lambda_exposure_4 : ByteArray := prog_11_method_37_code
def yX2_lambda_exposure_4 : MethodName := ⟨RX2, "lambda$exposure$4", "(ILWindowExchange$Contract;)I"⟩
def dkwX2_lambda_exposure_4_0 : List UInt8 := [43, 26, 182, 1, 103, 43, 182, 1, 106, 104, 172]
abbrev dktX2_lambda_exposure_4_0 : List UInt8 := dkwX2_lambda_exposure_4_0 ++ []
theorem dksX2_lambda_exposure_4_0 : cX2_lambda_exposure_4.data.toList.drop 0 = dktX2_lambda_exposure_4_0 := by decide +kernel
theorem dX2_lambda_exposure_4_0 : decode cX2_lambda_exposure_4 0 = .ok (.aload_n 1, 1) := dk_43 (dk_at dksX2_lambda_exposure_4_0 0 rfl rfl)
theorem dX2_lambda_exposure_4_1 : decode cX2_lambda_exposure_4 1 = .ok (.iload_n 0, 1) := dk_26 (dk_at dksX2_lambda_exposure_4_0 1 rfl rfl)
theorem dX2_lambda_exposure_4_2 : decode cX2_lambda_exposure_4 2 = .ok (.invokevirtual 359, 3) := dk_182 1 103 (dk_at dksX2_lambda_exposure_4_0 2 rfl rfl)
theorem dX2_lambda_exposure_4_5 : decode cX2_lambda_exposure_4 5 = .ok (.aload_n 1, 1) := dk_43 (dk_at dksX2_lambda_exposure_4_0 5 rfl rfl)
theorem dX2_lambda_exposure_4_6 : decode cX2_lambda_exposure_4 6 = .ok (.invokevirtual 362, 3) := dk_182 1 106 (dk_at dksX2_lambda_exposure_4_0 6 rfl rfl)
theorem dX2_lambda_exposure_4_9 : decode cX2_lambda_exposure_4 9 = .ok (.imul, 1) := dk_104 (dk_at dksX2_lambda_exposure_4_0 9 rfl rfl)
theorem dX2_lambda_exposure_4_10 : decode cX2_lambda_exposure_4 10 = .ok (.ireturn, 1) := dk_172 (dk_at dksX2_lambda_exposure_4_0 10 rfl rfl)
abbrev cX2_sorted : ByteArray := prog_11_method_12_code
def yX2_sorted : MethodName := ⟨RX2, "sorted", "(Z)Ljava/util/ArrayList;"⟩
def dkwX2_sorted_1 : List UInt8 := [182, 0, 170, 192, 0, 88, 182, 0, 84, 54, 4, 167, 255, 236, 44, 176]
abbrev dktX2_sorted_1 : List UInt8 := dkwX2_sorted_1 ++ []
def dkwX2_sorted_0 : List UInt8 := [187, 0, 19, 89, 183, 0, 21, 77, 42, 27, 182, 0, 163, 78, 45, 182, 0, 167, 154, 0, 19, 44, 45]
abbrev dktX2_sorted_0 : List UInt8 := dkwX2_sorted_0 ++ dktX2_sorted_1
theorem dksX2_sorted_0 : cX2_sorted.data.toList.drop 0 = dktX2_sorted_0 := by decide +kernel
theorem dksX2_sorted_1 : cX2_sorted.data.toList.drop 23 = dktX2_sorted_1 := dk_seg dksX2_sorted_0 23 rfl rfl
theorem dX2_sorted_0 : decode cX2_sorted 0 = .ok (.new 19, 3) := dk_187 0 19 (dk_at dksX2_sorted_0 0 rfl rfl)
theorem dX2_sorted_3 : decode cX2_sorted 3 = .ok (.dup, 1) := dk_89 (dk_at dksX2_sorted_0 3 rfl rfl)
theorem dX2_sorted_4 : decode cX2_sorted 4 = .ok (.invokespecial 21, 3) := dk_183 0 21 (dk_at dksX2_sorted_0 4 rfl rfl)
theorem dX2_sorted_7 : decode cX2_sorted 7 = .ok (.astore_n 2, 1) := dk_77 (dk_at dksX2_sorted_0 7 rfl rfl)
theorem dX2_sorted_8 : decode cX2_sorted 8 = .ok (.aload_n 0, 1) := dk_42 (dk_at dksX2_sorted_0 8 rfl rfl)
theorem dX2_sorted_9 : decode cX2_sorted 9 = .ok (.iload_n 1, 1) := dk_27 (dk_at dksX2_sorted_0 9 rfl rfl)
theorem dX2_sorted_10 : decode cX2_sorted 10 = .ok (.invokevirtual 163, 3) := dk_182 0 163 (dk_at dksX2_sorted_0 10 rfl rfl)
theorem dX2_sorted_13 : decode cX2_sorted 13 = .ok (.astore_n 3, 1) := dk_78 (dk_at dksX2_sorted_0 13 rfl rfl)
theorem dX2_sorted_14 : decode cX2_sorted 14 = .ok (.aload_n 3, 1) := dk_45 (dk_at dksX2_sorted_0 14 rfl rfl)
theorem dX2_sorted_15 : decode cX2_sorted 15 = .ok (.invokevirtual 167, 3) := dk_182 0 167 (dk_at dksX2_sorted_0 15 rfl rfl)
theorem dX2_sorted_18 : decode cX2_sorted 18 = .ok (.ifCond .ne 19, 3) := dk_154 0 19 (dk_at dksX2_sorted_0 18 rfl rfl)
theorem dX2_sorted_21 : decode cX2_sorted 21 = .ok (.aload_n 2, 1) := dk_44 (dk_at dksX2_sorted_0 21 rfl rfl)
theorem dX2_sorted_22 : decode cX2_sorted 22 = .ok (.aload_n 3, 1) := dk_45 (dk_at dksX2_sorted_0 22 rfl rfl)
theorem dX2_sorted_23 : decode cX2_sorted 23 = .ok (.invokevirtual 170, 3) := dk_182 0 170 (dk_at dksX2_sorted_1 0 rfl rfl)
theorem dX2_sorted_26 : decode cX2_sorted 26 = .ok (.checkcast 88, 3) := dk_192 0 88 (dk_at dksX2_sorted_1 3 rfl rfl)
theorem dX2_sorted_29 : decode cX2_sorted 29 = .ok (.invokevirtual 84, 3) := dk_182 0 84 (dk_at dksX2_sorted_1 6 rfl rfl)
theorem dX2_sorted_32 : decode cX2_sorted 32 = .ok (.istore 4, 2) := dk_54 4 (dk_at dksX2_sorted_1 9 rfl rfl)
theorem dX2_sorted_34 : decode cX2_sorted 34 = .ok (.goto (-20), 3) := dk_167 255 236 (dk_at dksX2_sorted_1 11 rfl rfl)
theorem dX2_sorted_37 : decode cX2_sorted 37 = .ok (.aload_n 2, 1) := dk_44 (dk_at dksX2_sorted_1 14 rfl rfl)
theorem dX2_sorted_38 : decode cX2_sorted 38 = .ok (.areturn, 1) := dk_176 (dk_at dksX2_sorted_1 15 rfl rfl)
abbrev cX2_init_2 : ByteArray := prog_11_method_2_code
def yX2_init_2 : MethodName := ⟨RX2, "<init>", "(LWindowExchange$State;)V"⟩
def dkwX2_init_2_12 : List UInt8 := [43, 180, 0, 97, 183, 0, 103, 181, 0, 97, 177]
abbrev dktX2_init_2_12 : List UInt8 := dkwX2_init_2_12 ++ []
def dkwX2_init_2_11 : List UInt8 := [43, 180, 0, 29, 182, 0, 93, 61, 42, 43, 180, 0, 97, 199, 0, 7, 1, 167, 0, 14, 187, 0, 101, 89]
abbrev dktX2_init_2_11 : List UInt8 := dkwX2_init_2_11 ++ dktX2_init_2_12
def dkwX2_init_2_10 : List UInt8 := [42, 180, 0, 26, 187, 0, 88, 89, 25, 4, 183, 0, 90, 182, 0, 84, 61, 167, 255, 219, 42, 180, 0, 29]
abbrev dktX2_init_2_10 : List UInt8 := dkwX2_init_2_10 ++ dktX2_init_2_11
def dkwX2_init_2_9 : List UInt8 := [182, 0, 65, 78, 45, 185, 0, 69, 1, 0, 153, 0, 34, 45, 185, 0, 75, 1, 0, 192, 0, 88, 58, 4]
abbrev dktX2_init_2_9 : List UInt8 := dkwX2_init_2_9 ++ dktX2_init_2_10
def dkwX2_init_2_8 : List UInt8 := [180, 0, 22, 187, 0, 79, 89, 25, 4, 183, 0, 81, 182, 0, 84, 61, 167, 255, 219, 43, 180, 0, 26]
abbrev dktX2_init_2_8 : List UInt8 := dkwX2_init_2_8 ++ dktX2_init_2_9
def dkwX2_init_2_7 : List UInt8 := [78, 45, 185, 0, 69, 1, 0, 153, 0, 34, 45, 185, 0, 75, 1, 0, 192, 0, 79, 58, 4, 42]
abbrev dktX2_init_2_7 : List UInt8 := dkwX2_init_2_7 ++ dktX2_init_2_8
def dkwX2_init_2_6 : List UInt8 := [181, 0, 56, 43, 180, 0, 15, 3, 42, 180, 0, 15, 3, 7, 184, 0, 59, 43, 180, 0, 22, 182, 0, 65]
abbrev dktX2_init_2_6 : List UInt8 := dkwX2_init_2_6 ++ dktX2_init_2_7
def dkwX2_init_2_5 : List UInt8 := [181, 0, 47, 42, 43, 180, 0, 50, 181, 0, 50, 42, 43, 180, 0, 53, 181, 0, 53, 42, 43, 180, 0, 56]
abbrev dktX2_init_2_5 : List UInt8 := dkwX2_init_2_5 ++ dktX2_init_2_6
def dkwX2_init_2_4 : List UInt8 := [181, 0, 38, 42, 43, 180, 0, 41, 181, 0, 41, 42, 43, 180, 0, 44, 181, 0, 44, 42, 43, 180, 0, 47]
abbrev dktX2_init_2_4 : List UInt8 := dkwX2_init_2_4 ++ dktX2_init_2_5
def dkwX2_init_2_3 : List UInt8 := [181, 0, 32, 42, 43, 180, 0, 35, 181, 0, 35, 42, 43, 180, 0, 9, 181, 0, 9, 42, 43, 180, 0, 38]
abbrev dktX2_init_2_3 : List UInt8 := dkwX2_init_2_3 ++ dktX2_init_2_4
def dkwX2_init_2_2 : List UInt8 := [183, 0, 21, 181, 0, 26, 42, 187, 0, 19, 89, 183, 0, 21, 181, 0, 29, 42, 43, 180, 0, 32]
abbrev dktX2_init_2_2 : List UInt8 := dkwX2_init_2_2 ++ dktX2_init_2_3
def dkwX2_init_2_1 : List UInt8 := [79, 89, 6, 2, 79, 181, 0, 15, 42, 187, 0, 19, 89, 183, 0, 21, 181, 0, 22, 42, 187, 0, 19, 89]
abbrev dktX2_init_2_1 : List UInt8 := dkwX2_init_2_1 ++ dktX2_init_2_2
def dkwX2_init_2_0 : List UInt8 := [42, 183, 0, 3, 42, 2, 181, 0, 9, 42, 7, 188, 10, 89, 3, 2, 79, 89, 4, 2, 79, 89, 5, 2]
abbrev dktX2_init_2_0 : List UInt8 := dkwX2_init_2_0 ++ dktX2_init_2_1
theorem dksX2_init_2_0 : cX2_init_2.data.toList.drop 0 = dktX2_init_2_0 := by decide +kernel
theorem dksX2_init_2_1 : cX2_init_2.data.toList.drop 24 = dktX2_init_2_1 := dk_seg dksX2_init_2_0 24 rfl rfl
theorem dksX2_init_2_2 : cX2_init_2.data.toList.drop 48 = dktX2_init_2_2 := dk_seg dksX2_init_2_1 24 rfl rfl
theorem dksX2_init_2_3 : cX2_init_2.data.toList.drop 70 = dktX2_init_2_3 := dk_seg dksX2_init_2_2 22 rfl rfl
theorem dksX2_init_2_4 : cX2_init_2.data.toList.drop 94 = dktX2_init_2_4 := dk_seg dksX2_init_2_3 24 rfl rfl
theorem dksX2_init_2_5 : cX2_init_2.data.toList.drop 118 = dktX2_init_2_5 := dk_seg dksX2_init_2_4 24 rfl rfl
theorem dksX2_init_2_6 : cX2_init_2.data.toList.drop 142 = dktX2_init_2_6 := dk_seg dksX2_init_2_5 24 rfl rfl
theorem dksX2_init_2_7 : cX2_init_2.data.toList.drop 166 = dktX2_init_2_7 := dk_seg dksX2_init_2_6 24 rfl rfl
theorem dksX2_init_2_8 : cX2_init_2.data.toList.drop 188 = dktX2_init_2_8 := dk_seg dksX2_init_2_7 22 rfl rfl
theorem dksX2_init_2_9 : cX2_init_2.data.toList.drop 211 = dktX2_init_2_9 := dk_seg dksX2_init_2_8 23 rfl rfl
theorem dksX2_init_2_10 : cX2_init_2.data.toList.drop 235 = dktX2_init_2_10 := dk_seg dksX2_init_2_9 24 rfl rfl
theorem dksX2_init_2_11 : cX2_init_2.data.toList.drop 259 = dktX2_init_2_11 := dk_seg dksX2_init_2_10 24 rfl rfl
theorem dksX2_init_2_12 : cX2_init_2.data.toList.drop 283 = dktX2_init_2_12 := dk_seg dksX2_init_2_11 24 rfl rfl
theorem dX2_init_2_0 : decode cX2_init_2 0 = .ok (.aload_n 0, 1) := dk_42 (dk_at dksX2_init_2_0 0 rfl rfl)
theorem dX2_init_2_1 : decode cX2_init_2 1 = .ok (.invokespecial 3, 3) := dk_183 0 3 (dk_at dksX2_init_2_0 1 rfl rfl)
theorem dX2_init_2_4 : decode cX2_init_2 4 = .ok (.aload_n 0, 1) := dk_42 (dk_at dksX2_init_2_0 4 rfl rfl)
theorem dX2_init_2_5 : decode cX2_init_2 5 = .ok (.iconst (-1), 1) := dk_2 (dk_at dksX2_init_2_0 5 rfl rfl)
theorem dX2_init_2_6 : decode cX2_init_2 6 = .ok (.putfield 9, 3) := dk_181 0 9 (dk_at dksX2_init_2_0 6 rfl rfl)
theorem dX2_init_2_9 : decode cX2_init_2 9 = .ok (.aload_n 0, 1) := dk_42 (dk_at dksX2_init_2_0 9 rfl rfl)
theorem dX2_init_2_10 : decode cX2_init_2 10 = .ok (.iconst 4, 1) := dk_7 (dk_at dksX2_init_2_0 10 rfl rfl)
theorem dX2_init_2_11 : decode cX2_init_2 11 = .ok (.newarray .int, 2) := dk_188_10 (dk_at dksX2_init_2_0 11 rfl rfl)
theorem dX2_init_2_13 : decode cX2_init_2 13 = .ok (.dup, 1) := dk_89 (dk_at dksX2_init_2_0 13 rfl rfl)
theorem dX2_init_2_14 : decode cX2_init_2 14 = .ok (.iconst 0, 1) := dk_3 (dk_at dksX2_init_2_0 14 rfl rfl)
theorem dX2_init_2_15 : decode cX2_init_2 15 = .ok (.iconst (-1), 1) := dk_2 (dk_at dksX2_init_2_0 15 rfl rfl)
theorem dX2_init_2_16 : decode cX2_init_2 16 = .ok (.iastore, 1) := dk_79 (dk_at dksX2_init_2_0 16 rfl rfl)
theorem dX2_init_2_17 : decode cX2_init_2 17 = .ok (.dup, 1) := dk_89 (dk_at dksX2_init_2_0 17 rfl rfl)
theorem dX2_init_2_18 : decode cX2_init_2 18 = .ok (.iconst 1, 1) := dk_4 (dk_at dksX2_init_2_0 18 rfl rfl)
theorem dX2_init_2_19 : decode cX2_init_2 19 = .ok (.iconst (-1), 1) := dk_2 (dk_at dksX2_init_2_0 19 rfl rfl)
theorem dX2_init_2_20 : decode cX2_init_2 20 = .ok (.iastore, 1) := dk_79 (dk_at dksX2_init_2_0 20 rfl rfl)
theorem dX2_init_2_21 : decode cX2_init_2 21 = .ok (.dup, 1) := dk_89 (dk_at dksX2_init_2_0 21 rfl rfl)
theorem dX2_init_2_22 : decode cX2_init_2 22 = .ok (.iconst 2, 1) := dk_5 (dk_at dksX2_init_2_0 22 rfl rfl)
theorem dX2_init_2_23 : decode cX2_init_2 23 = .ok (.iconst (-1), 1) := dk_2 (dk_at dksX2_init_2_0 23 rfl rfl)
theorem dX2_init_2_24 : decode cX2_init_2 24 = .ok (.iastore, 1) := dk_79 (dk_at dksX2_init_2_1 0 rfl rfl)
theorem dX2_init_2_25 : decode cX2_init_2 25 = .ok (.dup, 1) := dk_89 (dk_at dksX2_init_2_1 1 rfl rfl)
theorem dX2_init_2_26 : decode cX2_init_2 26 = .ok (.iconst 3, 1) := dk_6 (dk_at dksX2_init_2_1 2 rfl rfl)
theorem dX2_init_2_27 : decode cX2_init_2 27 = .ok (.iconst (-1), 1) := dk_2 (dk_at dksX2_init_2_1 3 rfl rfl)
theorem dX2_init_2_28 : decode cX2_init_2 28 = .ok (.iastore, 1) := dk_79 (dk_at dksX2_init_2_1 4 rfl rfl)
theorem dX2_init_2_29 : decode cX2_init_2 29 = .ok (.putfield 15, 3) := dk_181 0 15 (dk_at dksX2_init_2_1 5 rfl rfl)
theorem dX2_init_2_32 : decode cX2_init_2 32 = .ok (.aload_n 0, 1) := dk_42 (dk_at dksX2_init_2_1 8 rfl rfl)
theorem dX2_init_2_33 : decode cX2_init_2 33 = .ok (.new 19, 3) := dk_187 0 19 (dk_at dksX2_init_2_1 9 rfl rfl)
theorem dX2_init_2_36 : decode cX2_init_2 36 = .ok (.dup, 1) := dk_89 (dk_at dksX2_init_2_1 12 rfl rfl)
theorem dX2_init_2_37 : decode cX2_init_2 37 = .ok (.invokespecial 21, 3) := dk_183 0 21 (dk_at dksX2_init_2_1 13 rfl rfl)
theorem dX2_init_2_40 : decode cX2_init_2 40 = .ok (.putfield 22, 3) := dk_181 0 22 (dk_at dksX2_init_2_1 16 rfl rfl)
theorem dX2_init_2_43 : decode cX2_init_2 43 = .ok (.aload_n 0, 1) := dk_42 (dk_at dksX2_init_2_1 19 rfl rfl)
theorem dX2_init_2_44 : decode cX2_init_2 44 = .ok (.new 19, 3) := dk_187 0 19 (dk_at dksX2_init_2_1 20 rfl rfl)
theorem dX2_init_2_47 : decode cX2_init_2 47 = .ok (.dup, 1) := dk_89 (dk_at dksX2_init_2_1 23 rfl rfl)
theorem dX2_init_2_48 : decode cX2_init_2 48 = .ok (.invokespecial 21, 3) := dk_183 0 21 (dk_at dksX2_init_2_2 0 rfl rfl)
theorem dX2_init_2_51 : decode cX2_init_2 51 = .ok (.putfield 26, 3) := dk_181 0 26 (dk_at dksX2_init_2_2 3 rfl rfl)
theorem dX2_init_2_54 : decode cX2_init_2 54 = .ok (.aload_n 0, 1) := dk_42 (dk_at dksX2_init_2_2 6 rfl rfl)
theorem dX2_init_2_55 : decode cX2_init_2 55 = .ok (.new 19, 3) := dk_187 0 19 (dk_at dksX2_init_2_2 7 rfl rfl)
theorem dX2_init_2_58 : decode cX2_init_2 58 = .ok (.dup, 1) := dk_89 (dk_at dksX2_init_2_2 10 rfl rfl)
theorem dX2_init_2_59 : decode cX2_init_2 59 = .ok (.invokespecial 21, 3) := dk_183 0 21 (dk_at dksX2_init_2_2 11 rfl rfl)
theorem dX2_init_2_62 : decode cX2_init_2 62 = .ok (.putfield 29, 3) := dk_181 0 29 (dk_at dksX2_init_2_2 14 rfl rfl)
theorem dX2_init_2_65 : decode cX2_init_2 65 = .ok (.aload_n 0, 1) := dk_42 (dk_at dksX2_init_2_2 17 rfl rfl)
theorem dX2_init_2_66 : decode cX2_init_2 66 = .ok (.aload_n 1, 1) := dk_43 (dk_at dksX2_init_2_2 18 rfl rfl)
theorem dX2_init_2_67 : decode cX2_init_2 67 = .ok (.getfield 32, 3) := dk_180 0 32 (dk_at dksX2_init_2_2 19 rfl rfl)
theorem dX2_init_2_70 : decode cX2_init_2 70 = .ok (.putfield 32, 3) := dk_181 0 32 (dk_at dksX2_init_2_3 0 rfl rfl)
theorem dX2_init_2_73 : decode cX2_init_2 73 = .ok (.aload_n 0, 1) := dk_42 (dk_at dksX2_init_2_3 3 rfl rfl)
theorem dX2_init_2_74 : decode cX2_init_2 74 = .ok (.aload_n 1, 1) := dk_43 (dk_at dksX2_init_2_3 4 rfl rfl)
theorem dX2_init_2_75 : decode cX2_init_2 75 = .ok (.getfield 35, 3) := dk_180 0 35 (dk_at dksX2_init_2_3 5 rfl rfl)
theorem dX2_init_2_78 : decode cX2_init_2 78 = .ok (.putfield 35, 3) := dk_181 0 35 (dk_at dksX2_init_2_3 8 rfl rfl)
theorem dX2_init_2_81 : decode cX2_init_2 81 = .ok (.aload_n 0, 1) := dk_42 (dk_at dksX2_init_2_3 11 rfl rfl)
theorem dX2_init_2_82 : decode cX2_init_2 82 = .ok (.aload_n 1, 1) := dk_43 (dk_at dksX2_init_2_3 12 rfl rfl)
theorem dX2_init_2_83 : decode cX2_init_2 83 = .ok (.getfield 9, 3) := dk_180 0 9 (dk_at dksX2_init_2_3 13 rfl rfl)
theorem dX2_init_2_86 : decode cX2_init_2 86 = .ok (.putfield 9, 3) := dk_181 0 9 (dk_at dksX2_init_2_3 16 rfl rfl)
theorem dX2_init_2_89 : decode cX2_init_2 89 = .ok (.aload_n 0, 1) := dk_42 (dk_at dksX2_init_2_3 19 rfl rfl)
theorem dX2_init_2_90 : decode cX2_init_2 90 = .ok (.aload_n 1, 1) := dk_43 (dk_at dksX2_init_2_3 20 rfl rfl)
theorem dX2_init_2_91 : decode cX2_init_2 91 = .ok (.getfield 38, 3) := dk_180 0 38 (dk_at dksX2_init_2_3 21 rfl rfl)
theorem dX2_init_2_94 : decode cX2_init_2 94 = .ok (.putfield 38, 3) := dk_181 0 38 (dk_at dksX2_init_2_4 0 rfl rfl)
theorem dX2_init_2_97 : decode cX2_init_2 97 = .ok (.aload_n 0, 1) := dk_42 (dk_at dksX2_init_2_4 3 rfl rfl)
theorem dX2_init_2_98 : decode cX2_init_2 98 = .ok (.aload_n 1, 1) := dk_43 (dk_at dksX2_init_2_4 4 rfl rfl)
theorem dX2_init_2_99 : decode cX2_init_2 99 = .ok (.getfield 41, 3) := dk_180 0 41 (dk_at dksX2_init_2_4 5 rfl rfl)
theorem dX2_init_2_102 : decode cX2_init_2 102 = .ok (.putfield 41, 3) := dk_181 0 41 (dk_at dksX2_init_2_4 8 rfl rfl)
theorem dX2_init_2_105 : decode cX2_init_2 105 = .ok (.aload_n 0, 1) := dk_42 (dk_at dksX2_init_2_4 11 rfl rfl)
theorem dX2_init_2_106 : decode cX2_init_2 106 = .ok (.aload_n 1, 1) := dk_43 (dk_at dksX2_init_2_4 12 rfl rfl)
theorem dX2_init_2_107 : decode cX2_init_2 107 = .ok (.getfield 44, 3) := dk_180 0 44 (dk_at dksX2_init_2_4 13 rfl rfl)
theorem dX2_init_2_110 : decode cX2_init_2 110 = .ok (.putfield 44, 3) := dk_181 0 44 (dk_at dksX2_init_2_4 16 rfl rfl)
theorem dX2_init_2_113 : decode cX2_init_2 113 = .ok (.aload_n 0, 1) := dk_42 (dk_at dksX2_init_2_4 19 rfl rfl)
theorem dX2_init_2_114 : decode cX2_init_2 114 = .ok (.aload_n 1, 1) := dk_43 (dk_at dksX2_init_2_4 20 rfl rfl)
theorem dX2_init_2_115 : decode cX2_init_2 115 = .ok (.getfield 47, 3) := dk_180 0 47 (dk_at dksX2_init_2_4 21 rfl rfl)
theorem dX2_init_2_118 : decode cX2_init_2 118 = .ok (.putfield 47, 3) := dk_181 0 47 (dk_at dksX2_init_2_5 0 rfl rfl)
theorem dX2_init_2_121 : decode cX2_init_2 121 = .ok (.aload_n 0, 1) := dk_42 (dk_at dksX2_init_2_5 3 rfl rfl)
theorem dX2_init_2_122 : decode cX2_init_2 122 = .ok (.aload_n 1, 1) := dk_43 (dk_at dksX2_init_2_5 4 rfl rfl)
theorem dX2_init_2_123 : decode cX2_init_2 123 = .ok (.getfield 50, 3) := dk_180 0 50 (dk_at dksX2_init_2_5 5 rfl rfl)
theorem dX2_init_2_126 : decode cX2_init_2 126 = .ok (.putfield 50, 3) := dk_181 0 50 (dk_at dksX2_init_2_5 8 rfl rfl)
theorem dX2_init_2_129 : decode cX2_init_2 129 = .ok (.aload_n 0, 1) := dk_42 (dk_at dksX2_init_2_5 11 rfl rfl)
theorem dX2_init_2_130 : decode cX2_init_2 130 = .ok (.aload_n 1, 1) := dk_43 (dk_at dksX2_init_2_5 12 rfl rfl)
theorem dX2_init_2_131 : decode cX2_init_2 131 = .ok (.getfield 53, 3) := dk_180 0 53 (dk_at dksX2_init_2_5 13 rfl rfl)
theorem dX2_init_2_134 : decode cX2_init_2 134 = .ok (.putfield 53, 3) := dk_181 0 53 (dk_at dksX2_init_2_5 16 rfl rfl)
theorem dX2_init_2_137 : decode cX2_init_2 137 = .ok (.aload_n 0, 1) := dk_42 (dk_at dksX2_init_2_5 19 rfl rfl)
theorem dX2_init_2_138 : decode cX2_init_2 138 = .ok (.aload_n 1, 1) := dk_43 (dk_at dksX2_init_2_5 20 rfl rfl)
theorem dX2_init_2_139 : decode cX2_init_2 139 = .ok (.getfield 56, 3) := dk_180 0 56 (dk_at dksX2_init_2_5 21 rfl rfl)
theorem dX2_init_2_142 : decode cX2_init_2 142 = .ok (.putfield 56, 3) := dk_181 0 56 (dk_at dksX2_init_2_6 0 rfl rfl)
theorem dX2_init_2_145 : decode cX2_init_2 145 = .ok (.aload_n 1, 1) := dk_43 (dk_at dksX2_init_2_6 3 rfl rfl)
theorem dX2_init_2_146 : decode cX2_init_2 146 = .ok (.getfield 15, 3) := dk_180 0 15 (dk_at dksX2_init_2_6 4 rfl rfl)
theorem dX2_init_2_149 : decode cX2_init_2 149 = .ok (.iconst 0, 1) := dk_3 (dk_at dksX2_init_2_6 7 rfl rfl)
theorem dX2_init_2_150 : decode cX2_init_2 150 = .ok (.aload_n 0, 1) := dk_42 (dk_at dksX2_init_2_6 8 rfl rfl)
theorem dX2_init_2_151 : decode cX2_init_2 151 = .ok (.getfield 15, 3) := dk_180 0 15 (dk_at dksX2_init_2_6 9 rfl rfl)
theorem dX2_init_2_154 : decode cX2_init_2 154 = .ok (.iconst 0, 1) := dk_3 (dk_at dksX2_init_2_6 12 rfl rfl)
theorem dX2_init_2_155 : decode cX2_init_2 155 = .ok (.iconst 4, 1) := dk_7 (dk_at dksX2_init_2_6 13 rfl rfl)
theorem dX2_init_2_156 : decode cX2_init_2 156 = .ok (.invokestatic 59, 3) := dk_184 0 59 (dk_at dksX2_init_2_6 14 rfl rfl)
theorem dX2_init_2_159 : decode cX2_init_2 159 = .ok (.aload_n 1, 1) := dk_43 (dk_at dksX2_init_2_6 17 rfl rfl)
theorem dX2_init_2_160 : decode cX2_init_2 160 = .ok (.getfield 22, 3) := dk_180 0 22 (dk_at dksX2_init_2_6 18 rfl rfl)
theorem dX2_init_2_163 : decode cX2_init_2 163 = .ok (.invokevirtual 65, 3) := dk_182 0 65 (dk_at dksX2_init_2_6 21 rfl rfl)
theorem dX2_init_2_166 : decode cX2_init_2 166 = .ok (.astore_n 3, 1) := dk_78 (dk_at dksX2_init_2_7 0 rfl rfl)
theorem dX2_init_2_167 : decode cX2_init_2 167 = .ok (.aload_n 3, 1) := dk_45 (dk_at dksX2_init_2_7 1 rfl rfl)
theorem dX2_init_2_168 : decode cX2_init_2 168 = .ok (.invokeinterface 69 1, 5) := by decide +kernel
theorem dX2_init_2_173 : decode cX2_init_2 173 = .ok (.ifCond .eq 34, 3) := dk_153 0 34 (dk_at dksX2_init_2_7 7 rfl rfl)
theorem dX2_init_2_176 : decode cX2_init_2 176 = .ok (.aload_n 3, 1) := dk_45 (dk_at dksX2_init_2_7 10 rfl rfl)
theorem dX2_init_2_177 : decode cX2_init_2 177 = .ok (.invokeinterface 75 1, 5) := by decide +kernel
theorem dX2_init_2_182 : decode cX2_init_2 182 = .ok (.checkcast 79, 3) := dk_192 0 79 (dk_at dksX2_init_2_7 16 rfl rfl)
theorem dX2_init_2_185 : decode cX2_init_2 185 = .ok (.astore 4, 2) := dk_58 4 (dk_at dksX2_init_2_7 19 rfl rfl)
theorem dX2_init_2_187 : decode cX2_init_2 187 = .ok (.aload_n 0, 1) := dk_42 (dk_at dksX2_init_2_7 21 rfl rfl)
theorem dX2_init_2_188 : decode cX2_init_2 188 = .ok (.getfield 22, 3) := dk_180 0 22 (dk_at dksX2_init_2_8 0 rfl rfl)
theorem dX2_init_2_191 : decode cX2_init_2 191 = .ok (.new 79, 3) := dk_187 0 79 (dk_at dksX2_init_2_8 3 rfl rfl)
theorem dX2_init_2_194 : decode cX2_init_2 194 = .ok (.dup, 1) := dk_89 (dk_at dksX2_init_2_8 6 rfl rfl)
theorem dX2_init_2_195 : decode cX2_init_2 195 = .ok (.aload 4, 2) := dk_25 4 (dk_at dksX2_init_2_8 7 rfl rfl)
theorem dX2_init_2_197 : decode cX2_init_2 197 = .ok (.invokespecial 81, 3) := dk_183 0 81 (dk_at dksX2_init_2_8 9 rfl rfl)
theorem dX2_init_2_200 : decode cX2_init_2 200 = .ok (.invokevirtual 84, 3) := dk_182 0 84 (dk_at dksX2_init_2_8 12 rfl rfl)
theorem dX2_init_2_203 : decode cX2_init_2 203 = .ok (.istore_n 2, 1) := dk_61 (dk_at dksX2_init_2_8 15 rfl rfl)
theorem dX2_init_2_204 : decode cX2_init_2 204 = .ok (.goto (-37), 3) := dk_167 255 219 (dk_at dksX2_init_2_8 16 rfl rfl)
theorem dX2_init_2_207 : decode cX2_init_2 207 = .ok (.aload_n 1, 1) := dk_43 (dk_at dksX2_init_2_8 19 rfl rfl)
theorem dX2_init_2_208 : decode cX2_init_2 208 = .ok (.getfield 26, 3) := dk_180 0 26 (dk_at dksX2_init_2_8 20 rfl rfl)
theorem dX2_init_2_211 : decode cX2_init_2 211 = .ok (.invokevirtual 65, 3) := dk_182 0 65 (dk_at dksX2_init_2_9 0 rfl rfl)
theorem dX2_init_2_214 : decode cX2_init_2 214 = .ok (.astore_n 3, 1) := dk_78 (dk_at dksX2_init_2_9 3 rfl rfl)
theorem dX2_init_2_215 : decode cX2_init_2 215 = .ok (.aload_n 3, 1) := dk_45 (dk_at dksX2_init_2_9 4 rfl rfl)
theorem dX2_init_2_216 : decode cX2_init_2 216 = .ok (.invokeinterface 69 1, 5) := by decide +kernel
theorem dX2_init_2_221 : decode cX2_init_2 221 = .ok (.ifCond .eq 34, 3) := dk_153 0 34 (dk_at dksX2_init_2_9 10 rfl rfl)
theorem dX2_init_2_224 : decode cX2_init_2 224 = .ok (.aload_n 3, 1) := dk_45 (dk_at dksX2_init_2_9 13 rfl rfl)
theorem dX2_init_2_225 : decode cX2_init_2 225 = .ok (.invokeinterface 75 1, 5) := by decide +kernel
theorem dX2_init_2_230 : decode cX2_init_2 230 = .ok (.checkcast 88, 3) := dk_192 0 88 (dk_at dksX2_init_2_9 19 rfl rfl)
theorem dX2_init_2_233 : decode cX2_init_2 233 = .ok (.astore 4, 2) := dk_58 4 (dk_at dksX2_init_2_9 22 rfl rfl)
theorem dX2_init_2_235 : decode cX2_init_2 235 = .ok (.aload_n 0, 1) := dk_42 (dk_at dksX2_init_2_10 0 rfl rfl)
theorem dX2_init_2_236 : decode cX2_init_2 236 = .ok (.getfield 26, 3) := dk_180 0 26 (dk_at dksX2_init_2_10 1 rfl rfl)
theorem dX2_init_2_239 : decode cX2_init_2 239 = .ok (.new 88, 3) := dk_187 0 88 (dk_at dksX2_init_2_10 4 rfl rfl)
theorem dX2_init_2_242 : decode cX2_init_2 242 = .ok (.dup, 1) := dk_89 (dk_at dksX2_init_2_10 7 rfl rfl)
theorem dX2_init_2_243 : decode cX2_init_2 243 = .ok (.aload 4, 2) := dk_25 4 (dk_at dksX2_init_2_10 8 rfl rfl)
theorem dX2_init_2_245 : decode cX2_init_2 245 = .ok (.invokespecial 90, 3) := dk_183 0 90 (dk_at dksX2_init_2_10 10 rfl rfl)
theorem dX2_init_2_248 : decode cX2_init_2 248 = .ok (.invokevirtual 84, 3) := dk_182 0 84 (dk_at dksX2_init_2_10 13 rfl rfl)
theorem dX2_init_2_251 : decode cX2_init_2 251 = .ok (.istore_n 2, 1) := dk_61 (dk_at dksX2_init_2_10 16 rfl rfl)
theorem dX2_init_2_252 : decode cX2_init_2 252 = .ok (.goto (-37), 3) := dk_167 255 219 (dk_at dksX2_init_2_10 17 rfl rfl)
theorem dX2_init_2_255 : decode cX2_init_2 255 = .ok (.aload_n 0, 1) := dk_42 (dk_at dksX2_init_2_10 20 rfl rfl)
theorem dX2_init_2_256 : decode cX2_init_2 256 = .ok (.getfield 29, 3) := dk_180 0 29 (dk_at dksX2_init_2_10 21 rfl rfl)
theorem dX2_init_2_259 : decode cX2_init_2 259 = .ok (.aload_n 1, 1) := dk_43 (dk_at dksX2_init_2_11 0 rfl rfl)
theorem dX2_init_2_260 : decode cX2_init_2 260 = .ok (.getfield 29, 3) := dk_180 0 29 (dk_at dksX2_init_2_11 1 rfl rfl)
theorem dX2_init_2_263 : decode cX2_init_2 263 = .ok (.invokevirtual 93, 3) := dk_182 0 93 (dk_at dksX2_init_2_11 4 rfl rfl)
theorem dX2_init_2_266 : decode cX2_init_2 266 = .ok (.istore_n 2, 1) := dk_61 (dk_at dksX2_init_2_11 7 rfl rfl)
theorem dX2_init_2_267 : decode cX2_init_2 267 = .ok (.aload_n 0, 1) := dk_42 (dk_at dksX2_init_2_11 8 rfl rfl)
theorem dX2_init_2_268 : decode cX2_init_2 268 = .ok (.aload_n 1, 1) := dk_43 (dk_at dksX2_init_2_11 9 rfl rfl)
theorem dX2_init_2_269 : decode cX2_init_2 269 = .ok (.getfield 97, 3) := dk_180 0 97 (dk_at dksX2_init_2_11 10 rfl rfl)
theorem dX2_init_2_272 : decode cX2_init_2 272 = .ok (.ifnonnull 7, 3) := dk_199 0 7 (dk_at dksX2_init_2_11 13 rfl rfl)
theorem dX2_init_2_275 : decode cX2_init_2 275 = .ok (.aconst_null, 1) := dk_1 (dk_at dksX2_init_2_11 16 rfl rfl)
theorem dX2_init_2_276 : decode cX2_init_2 276 = .ok (.goto 14, 3) := dk_167 0 14 (dk_at dksX2_init_2_11 17 rfl rfl)
theorem dX2_init_2_279 : decode cX2_init_2 279 = .ok (.new 101, 3) := dk_187 0 101 (dk_at dksX2_init_2_11 20 rfl rfl)
theorem dX2_init_2_282 : decode cX2_init_2 282 = .ok (.dup, 1) := dk_89 (dk_at dksX2_init_2_11 23 rfl rfl)
theorem dX2_init_2_283 : decode cX2_init_2 283 = .ok (.aload_n 1, 1) := dk_43 (dk_at dksX2_init_2_12 0 rfl rfl)
theorem dX2_init_2_284 : decode cX2_init_2 284 = .ok (.getfield 97, 3) := dk_180 0 97 (dk_at dksX2_init_2_12 1 rfl rfl)
theorem dX2_init_2_287 : decode cX2_init_2 287 = .ok (.invokespecial 103, 3) := dk_183 0 103 (dk_at dksX2_init_2_12 4 rfl rfl)
theorem dX2_init_2_290 : decode cX2_init_2 290 = .ok (.putfield 97, 3) := dk_181 0 97 (dk_at dksX2_init_2_12 7 rfl rfl)
theorem dX2_init_2_293 : decode cX2_init_2 293 = .ok (.return_, 1) := dk_177 (dk_at dksX2_init_2_12 10 rfl rfl)
abbrev cX2_addTrader : ByteArray := prog_11_method_15_code
def yX2_addTrader : MethodName := ⟨RX2, "addTrader", "(II)I"⟩
def dkwX2_addTrader_4 : List UInt8 := [182, 0, 106, 4, 100, 172]
abbrev dktX2_addTrader_4 : List UInt8 := dkwX2_addTrader_4 ++ []
def dkwX2_addTrader_3 : List UInt8 := [180, 0, 53, 27, 96, 181, 0, 53, 42, 89, 180, 0, 56, 28, 96, 181, 0, 56, 42, 180, 0, 22]
abbrev dktX2_addTrader_3 : List UInt8 := dkwX2_addTrader_3 ++ dktX2_addTrader_4
def dkwX2_addTrader_2 : List UInt8 := [184, 0, 229, 42, 180, 0, 22, 187, 0, 79, 89, 27, 28, 183, 0, 232, 182, 0, 84, 62, 42, 89]
abbrev dktX2_addTrader_2 : List UInt8 := dkwX2_addTrader_2 ++ dktX2_addTrader_3
def dkwX2_addTrader_1 : List UInt8 := [167, 0, 4, 3, 184, 0, 226, 42, 180, 0, 22, 182, 0, 106, 16, 6, 162, 0, 7, 4, 167, 0, 4, 3]
abbrev dktX2_addTrader_1 : List UInt8 := dkwX2_addTrader_1 ++ dktX2_addTrader_2
def dkwX2_addTrader_0 : List UInt8 := [27, 3, 17, 3, 231, 184, 0, 222, 153, 0, 17, 28, 3, 16, 99, 184, 0, 222, 153, 0, 7, 4]
abbrev dktX2_addTrader_0 : List UInt8 := dkwX2_addTrader_0 ++ dktX2_addTrader_1
theorem dksX2_addTrader_0 : cX2_addTrader.data.toList.drop 0 = dktX2_addTrader_0 := by decide +kernel
theorem dksX2_addTrader_1 : cX2_addTrader.data.toList.drop 22 = dktX2_addTrader_1 := dk_seg dksX2_addTrader_0 22 rfl rfl
theorem dksX2_addTrader_2 : cX2_addTrader.data.toList.drop 46 = dktX2_addTrader_2 := dk_seg dksX2_addTrader_1 24 rfl rfl
theorem dksX2_addTrader_3 : cX2_addTrader.data.toList.drop 68 = dktX2_addTrader_3 := dk_seg dksX2_addTrader_2 22 rfl rfl
theorem dksX2_addTrader_4 : cX2_addTrader.data.toList.drop 90 = dktX2_addTrader_4 := dk_seg dksX2_addTrader_3 22 rfl rfl
theorem dX2_addTrader_0 : decode cX2_addTrader 0 = .ok (.iload_n 1, 1) := dk_27 (dk_at dksX2_addTrader_0 0 rfl rfl)
theorem dX2_addTrader_1 : decode cX2_addTrader 1 = .ok (.iconst 0, 1) := dk_3 (dk_at dksX2_addTrader_0 1 rfl rfl)
theorem dX2_addTrader_2 : decode cX2_addTrader 2 = .ok (.sipush 999, 3) := dk_17 3 231 (dk_at dksX2_addTrader_0 2 rfl rfl)
theorem dX2_addTrader_5 : decode cX2_addTrader 5 = .ok (.invokestatic 222, 3) := dk_184 0 222 (dk_at dksX2_addTrader_0 5 rfl rfl)
theorem dX2_addTrader_8 : decode cX2_addTrader 8 = .ok (.ifCond .eq 17, 3) := dk_153 0 17 (dk_at dksX2_addTrader_0 8 rfl rfl)
theorem dX2_addTrader_11 : decode cX2_addTrader 11 = .ok (.iload_n 2, 1) := dk_28 (dk_at dksX2_addTrader_0 11 rfl rfl)
theorem dX2_addTrader_12 : decode cX2_addTrader 12 = .ok (.iconst 0, 1) := dk_3 (dk_at dksX2_addTrader_0 12 rfl rfl)
theorem dX2_addTrader_13 : decode cX2_addTrader 13 = .ok (.bipush 99, 2) := dk_16 99 (dk_at dksX2_addTrader_0 13 rfl rfl)
theorem dX2_addTrader_15 : decode cX2_addTrader 15 = .ok (.invokestatic 222, 3) := dk_184 0 222 (dk_at dksX2_addTrader_0 15 rfl rfl)
theorem dX2_addTrader_18 : decode cX2_addTrader 18 = .ok (.ifCond .eq 7, 3) := dk_153 0 7 (dk_at dksX2_addTrader_0 18 rfl rfl)
theorem dX2_addTrader_21 : decode cX2_addTrader 21 = .ok (.iconst 1, 1) := dk_4 (dk_at dksX2_addTrader_0 21 rfl rfl)
theorem dX2_addTrader_22 : decode cX2_addTrader 22 = .ok (.goto 4, 3) := dk_167 0 4 (dk_at dksX2_addTrader_1 0 rfl rfl)
theorem dX2_addTrader_25 : decode cX2_addTrader 25 = .ok (.iconst 0, 1) := dk_3 (dk_at dksX2_addTrader_1 3 rfl rfl)
theorem dX2_addTrader_26 : decode cX2_addTrader 26 = .ok (.invokestatic 226, 3) := dk_184 0 226 (dk_at dksX2_addTrader_1 4 rfl rfl)
theorem dX2_addTrader_29 : decode cX2_addTrader 29 = .ok (.aload_n 0, 1) := dk_42 (dk_at dksX2_addTrader_1 7 rfl rfl)
theorem dX2_addTrader_30 : decode cX2_addTrader 30 = .ok (.getfield 22, 3) := dk_180 0 22 (dk_at dksX2_addTrader_1 8 rfl rfl)
theorem dX2_addTrader_33 : decode cX2_addTrader 33 = .ok (.invokevirtual 106, 3) := dk_182 0 106 (dk_at dksX2_addTrader_1 11 rfl rfl)
theorem dX2_addTrader_36 : decode cX2_addTrader 36 = .ok (.bipush 6, 2) := dk_16 6 (dk_at dksX2_addTrader_1 14 rfl rfl)
theorem dX2_addTrader_38 : decode cX2_addTrader 38 = .ok (.if_icmp .ge 7, 3) := dk_162 0 7 (dk_at dksX2_addTrader_1 16 rfl rfl)
theorem dX2_addTrader_41 : decode cX2_addTrader 41 = .ok (.iconst 1, 1) := dk_4 (dk_at dksX2_addTrader_1 19 rfl rfl)
theorem dX2_addTrader_42 : decode cX2_addTrader 42 = .ok (.goto 4, 3) := dk_167 0 4 (dk_at dksX2_addTrader_1 20 rfl rfl)
theorem dX2_addTrader_45 : decode cX2_addTrader 45 = .ok (.iconst 0, 1) := dk_3 (dk_at dksX2_addTrader_1 23 rfl rfl)
theorem dX2_addTrader_46 : decode cX2_addTrader 46 = .ok (.invokestatic 229, 3) := dk_184 0 229 (dk_at dksX2_addTrader_2 0 rfl rfl)
theorem dX2_addTrader_49 : decode cX2_addTrader 49 = .ok (.aload_n 0, 1) := dk_42 (dk_at dksX2_addTrader_2 3 rfl rfl)
theorem dX2_addTrader_50 : decode cX2_addTrader 50 = .ok (.getfield 22, 3) := dk_180 0 22 (dk_at dksX2_addTrader_2 4 rfl rfl)
theorem dX2_addTrader_53 : decode cX2_addTrader 53 = .ok (.new 79, 3) := dk_187 0 79 (dk_at dksX2_addTrader_2 7 rfl rfl)
theorem dX2_addTrader_56 : decode cX2_addTrader 56 = .ok (.dup, 1) := dk_89 (dk_at dksX2_addTrader_2 10 rfl rfl)
theorem dX2_addTrader_57 : decode cX2_addTrader 57 = .ok (.iload_n 1, 1) := dk_27 (dk_at dksX2_addTrader_2 11 rfl rfl)
theorem dX2_addTrader_58 : decode cX2_addTrader 58 = .ok (.iload_n 2, 1) := dk_28 (dk_at dksX2_addTrader_2 12 rfl rfl)
theorem dX2_addTrader_59 : decode cX2_addTrader 59 = .ok (.invokespecial 232, 3) := dk_183 0 232 (dk_at dksX2_addTrader_2 13 rfl rfl)
theorem dX2_addTrader_62 : decode cX2_addTrader 62 = .ok (.invokevirtual 84, 3) := dk_182 0 84 (dk_at dksX2_addTrader_2 16 rfl rfl)
theorem dX2_addTrader_65 : decode cX2_addTrader 65 = .ok (.istore_n 3, 1) := dk_62 (dk_at dksX2_addTrader_2 19 rfl rfl)
theorem dX2_addTrader_66 : decode cX2_addTrader 66 = .ok (.aload_n 0, 1) := dk_42 (dk_at dksX2_addTrader_2 20 rfl rfl)
theorem dX2_addTrader_67 : decode cX2_addTrader 67 = .ok (.dup, 1) := dk_89 (dk_at dksX2_addTrader_2 21 rfl rfl)
theorem dX2_addTrader_68 : decode cX2_addTrader 68 = .ok (.getfield 53, 3) := dk_180 0 53 (dk_at dksX2_addTrader_3 0 rfl rfl)
theorem dX2_addTrader_71 : decode cX2_addTrader 71 = .ok (.iload_n 1, 1) := dk_27 (dk_at dksX2_addTrader_3 3 rfl rfl)
theorem dX2_addTrader_72 : decode cX2_addTrader 72 = .ok (.iadd, 1) := dk_96 (dk_at dksX2_addTrader_3 4 rfl rfl)
theorem dX2_addTrader_73 : decode cX2_addTrader 73 = .ok (.putfield 53, 3) := dk_181 0 53 (dk_at dksX2_addTrader_3 5 rfl rfl)
theorem dX2_addTrader_76 : decode cX2_addTrader 76 = .ok (.aload_n 0, 1) := dk_42 (dk_at dksX2_addTrader_3 8 rfl rfl)
theorem dX2_addTrader_77 : decode cX2_addTrader 77 = .ok (.dup, 1) := dk_89 (dk_at dksX2_addTrader_3 9 rfl rfl)
theorem dX2_addTrader_78 : decode cX2_addTrader 78 = .ok (.getfield 56, 3) := dk_180 0 56 (dk_at dksX2_addTrader_3 10 rfl rfl)
theorem dX2_addTrader_81 : decode cX2_addTrader 81 = .ok (.iload_n 2, 1) := dk_28 (dk_at dksX2_addTrader_3 13 rfl rfl)
theorem dX2_addTrader_82 : decode cX2_addTrader 82 = .ok (.iadd, 1) := dk_96 (dk_at dksX2_addTrader_3 14 rfl rfl)
theorem dX2_addTrader_83 : decode cX2_addTrader 83 = .ok (.putfield 56, 3) := dk_181 0 56 (dk_at dksX2_addTrader_3 15 rfl rfl)
theorem dX2_addTrader_86 : decode cX2_addTrader 86 = .ok (.aload_n 0, 1) := dk_42 (dk_at dksX2_addTrader_3 18 rfl rfl)
theorem dX2_addTrader_87 : decode cX2_addTrader 87 = .ok (.getfield 22, 3) := dk_180 0 22 (dk_at dksX2_addTrader_3 19 rfl rfl)
theorem dX2_addTrader_90 : decode cX2_addTrader 90 = .ok (.invokevirtual 106, 3) := dk_182 0 106 (dk_at dksX2_addTrader_4 0 rfl rfl)
theorem dX2_addTrader_93 : decode cX2_addTrader 93 = .ok (.iconst 1, 1) := dk_4 (dk_at dksX2_addTrader_4 3 rfl rfl)
theorem dX2_addTrader_94 : decode cX2_addTrader 94 = .ok (.isub, 1) := dk_100 (dk_at dksX2_addTrader_4 4 rfl rfl)
theorem dX2_addTrader_95 : decode cX2_addTrader 95 = .ok (.ireturn, 1) := dk_172 (dk_at dksX2_addTrader_4 5 rfl rfl)
abbrev cX2_place : ByteArray := prog_11_method_20_code
def yX2_place : MethodName := ⟨RX2, "place", "(IZII)I"⟩
def dkwX2_place_11 : List UInt8 := [25, 6, 182, 1, 19, 21, 8, 172]
abbrev dktX2_place_11 : List UInt8 := dkwX2_place_11 ++ []
def dkwX2_place_10 : List UInt8 := [182, 1, 16, 167, 255, 179, 29, 25, 6, 180, 0, 173, 100, 54, 8, 25, 6, 180, 0, 173, 158, 0, 9, 42]
abbrev dktX2_place_10 : List UInt8 := dkwX2_place_10 ++ dktX2_place_11
def dkwX2_place_9 : List UInt8 := [25, 8, 180, 0, 173, 184, 0, 176, 182, 1, 12, 25, 8, 180, 0, 173, 154, 0, 9, 42, 25, 8]
abbrev dktX2_place_9 : List UInt8 := dkwX2_place_9 ++ dktX2_place_10
def dkwX2_place_8 : List UInt8 := [153, 0, 51, 25, 7, 182, 0, 170, 192, 0, 88, 58, 8, 42, 25, 6, 25, 8, 25, 6, 180, 0, 173]
abbrev dktX2_place_8 : List UInt8 := dkwX2_place_8 ++ dktX2_place_9
def dkwX2_place_7 : List UInt8 := [158, 0, 75, 25, 7, 182, 0, 167, 154, 0, 67, 25, 6, 25, 7, 182, 1, 6, 192, 0, 88, 182, 1, 9]
abbrev dktX2_place_7 : List UInt8 := dkwX2_place_7 ++ dktX2_place_8
def dkwX2_place_6 : List UInt8 := [181, 0, 32, 42, 28, 154, 0, 7, 4, 167, 0, 4, 3, 182, 0, 163, 58, 7, 25, 6, 180, 0, 173]
abbrev dktX2_place_6 : List UInt8 := dkwX2_place_6 ++ dktX2_place_7
def dkwX2_place_5 : List UInt8 := [182, 0, 106, 16, 16, 162, 0, 7, 4, 167, 0, 4, 3, 184, 0, 229, 42, 89, 180, 0, 32, 4, 96]
abbrev dktX2_place_5 : List UInt8 := dkwX2_place_5 ++ dktX2_place_6
def dkwX2_place_4 : List UInt8 := [184, 0, 255, 42, 25, 6, 182, 1, 2, 154, 0, 7, 4, 167, 0, 4, 3, 184, 0, 255, 42, 180, 0, 26]
abbrev dktX2_place_4 : List UInt8 := dkwX2_place_4 ++ dktX2_place_5
def dkwX2_place_3 : List UInt8 := [4, 167, 0, 21, 3, 167, 0, 17, 25, 5, 180, 0, 243, 29, 161, 0, 7, 4, 167, 0, 4, 3]
abbrev dktX2_place_3 : List UInt8 := dkwX2_place_3 ++ dktX2_place_4
def dkwX2_place_2 : List UInt8 := [21, 4, 29, 183, 0, 252, 58, 6, 28, 153, 0, 23, 25, 5, 180, 0, 240, 21, 4, 29, 104, 161, 0, 7]
abbrev dktX2_place_2 : List UInt8 := dkwX2_place_2 ++ dktX2_place_3
def dkwX2_place_1 : List UInt8 := [184, 0, 222, 153, 0, 7, 4, 167, 0, 4, 3, 184, 0, 226, 187, 0, 88, 89, 42, 180, 0, 32, 27, 28]
abbrev dktX2_place_1 : List UInt8 := dkwX2_place_1 ++ dktX2_place_2
def dkwX2_place_0 : List UInt8 := [42, 27, 182, 0, 249, 58, 5, 29, 4, 16, 50, 184, 0, 222, 153, 0, 18, 21, 4, 4, 16, 99]
abbrev dktX2_place_0 : List UInt8 := dkwX2_place_0 ++ dktX2_place_1
theorem dksX2_place_0 : cX2_place.data.toList.drop 0 = dktX2_place_0 := by decide +kernel
theorem dksX2_place_1 : cX2_place.data.toList.drop 22 = dktX2_place_1 := dk_seg dksX2_place_0 22 rfl rfl
theorem dksX2_place_2 : cX2_place.data.toList.drop 46 = dktX2_place_2 := dk_seg dksX2_place_1 24 rfl rfl
theorem dksX2_place_3 : cX2_place.data.toList.drop 70 = dktX2_place_3 := dk_seg dksX2_place_2 24 rfl rfl
theorem dksX2_place_4 : cX2_place.data.toList.drop 92 = dktX2_place_4 := dk_seg dksX2_place_3 22 rfl rfl
theorem dksX2_place_5 : cX2_place.data.toList.drop 116 = dktX2_place_5 := dk_seg dksX2_place_4 24 rfl rfl
theorem dksX2_place_6 : cX2_place.data.toList.drop 139 = dktX2_place_6 := dk_seg dksX2_place_5 23 rfl rfl
theorem dksX2_place_7 : cX2_place.data.toList.drop 162 = dktX2_place_7 := dk_seg dksX2_place_6 23 rfl rfl
theorem dksX2_place_8 : cX2_place.data.toList.drop 186 = dktX2_place_8 := dk_seg dksX2_place_7 24 rfl rfl
theorem dksX2_place_9 : cX2_place.data.toList.drop 209 = dktX2_place_9 := dk_seg dksX2_place_8 23 rfl rfl
theorem dksX2_place_10 : cX2_place.data.toList.drop 231 = dktX2_place_10 := dk_seg dksX2_place_9 22 rfl rfl
theorem dksX2_place_11 : cX2_place.data.toList.drop 255 = dktX2_place_11 := dk_seg dksX2_place_10 24 rfl rfl
theorem dX2_place_0 : decode cX2_place 0 = .ok (.aload_n 0, 1) := dk_42 (dk_at dksX2_place_0 0 rfl rfl)
theorem dX2_place_1 : decode cX2_place 1 = .ok (.iload_n 1, 1) := dk_27 (dk_at dksX2_place_0 1 rfl rfl)
theorem dX2_place_2 : decode cX2_place 2 = .ok (.invokevirtual 249, 3) := dk_182 0 249 (dk_at dksX2_place_0 2 rfl rfl)
theorem dX2_place_5 : decode cX2_place 5 = .ok (.astore 5, 2) := dk_58 5 (dk_at dksX2_place_0 5 rfl rfl)
theorem dX2_place_7 : decode cX2_place 7 = .ok (.iload_n 3, 1) := dk_29 (dk_at dksX2_place_0 7 rfl rfl)
theorem dX2_place_8 : decode cX2_place 8 = .ok (.iconst 1, 1) := dk_4 (dk_at dksX2_place_0 8 rfl rfl)
theorem dX2_place_9 : decode cX2_place 9 = .ok (.bipush 50, 2) := dk_16 50 (dk_at dksX2_place_0 9 rfl rfl)
theorem dX2_place_11 : decode cX2_place 11 = .ok (.invokestatic 222, 3) := dk_184 0 222 (dk_at dksX2_place_0 11 rfl rfl)
theorem dX2_place_14 : decode cX2_place 14 = .ok (.ifCond .eq 18, 3) := dk_153 0 18 (dk_at dksX2_place_0 14 rfl rfl)
theorem dX2_place_17 : decode cX2_place 17 = .ok (.iload 4, 2) := dk_21 4 (dk_at dksX2_place_0 17 rfl rfl)
theorem dX2_place_19 : decode cX2_place 19 = .ok (.iconst 1, 1) := dk_4 (dk_at dksX2_place_0 19 rfl rfl)
theorem dX2_place_20 : decode cX2_place 20 = .ok (.bipush 99, 2) := dk_16 99 (dk_at dksX2_place_0 20 rfl rfl)
theorem dX2_place_22 : decode cX2_place 22 = .ok (.invokestatic 222, 3) := dk_184 0 222 (dk_at dksX2_place_1 0 rfl rfl)
theorem dX2_place_25 : decode cX2_place 25 = .ok (.ifCond .eq 7, 3) := dk_153 0 7 (dk_at dksX2_place_1 3 rfl rfl)
theorem dX2_place_28 : decode cX2_place 28 = .ok (.iconst 1, 1) := dk_4 (dk_at dksX2_place_1 6 rfl rfl)
theorem dX2_place_29 : decode cX2_place 29 = .ok (.goto 4, 3) := dk_167 0 4 (dk_at dksX2_place_1 7 rfl rfl)
theorem dX2_place_32 : decode cX2_place 32 = .ok (.iconst 0, 1) := dk_3 (dk_at dksX2_place_1 10 rfl rfl)
theorem dX2_place_33 : decode cX2_place 33 = .ok (.invokestatic 226, 3) := dk_184 0 226 (dk_at dksX2_place_1 11 rfl rfl)
theorem dX2_place_36 : decode cX2_place 36 = .ok (.new 88, 3) := dk_187 0 88 (dk_at dksX2_place_1 14 rfl rfl)
theorem dX2_place_39 : decode cX2_place 39 = .ok (.dup, 1) := dk_89 (dk_at dksX2_place_1 17 rfl rfl)
theorem dX2_place_40 : decode cX2_place 40 = .ok (.aload_n 0, 1) := dk_42 (dk_at dksX2_place_1 18 rfl rfl)
theorem dX2_place_41 : decode cX2_place 41 = .ok (.getfield 32, 3) := dk_180 0 32 (dk_at dksX2_place_1 19 rfl rfl)
theorem dX2_place_44 : decode cX2_place 44 = .ok (.iload_n 1, 1) := dk_27 (dk_at dksX2_place_1 22 rfl rfl)
theorem dX2_place_45 : decode cX2_place 45 = .ok (.iload_n 2, 1) := dk_28 (dk_at dksX2_place_1 23 rfl rfl)
theorem dX2_place_46 : decode cX2_place 46 = .ok (.iload 4, 2) := dk_21 4 (dk_at dksX2_place_2 0 rfl rfl)
theorem dX2_place_48 : decode cX2_place 48 = .ok (.iload_n 3, 1) := dk_29 (dk_at dksX2_place_2 2 rfl rfl)
theorem dX2_place_49 : decode cX2_place 49 = .ok (.invokespecial 252, 3) := dk_183 0 252 (dk_at dksX2_place_2 3 rfl rfl)
theorem dX2_place_52 : decode cX2_place 52 = .ok (.astore 6, 2) := dk_58 6 (dk_at dksX2_place_2 6 rfl rfl)
theorem dX2_place_54 : decode cX2_place 54 = .ok (.iload_n 2, 1) := dk_28 (dk_at dksX2_place_2 8 rfl rfl)
theorem dX2_place_55 : decode cX2_place 55 = .ok (.ifCond .eq 23, 3) := dk_153 0 23 (dk_at dksX2_place_2 9 rfl rfl)
theorem dX2_place_58 : decode cX2_place 58 = .ok (.aload 5, 2) := dk_25 5 (dk_at dksX2_place_2 12 rfl rfl)
theorem dX2_place_60 : decode cX2_place 60 = .ok (.getfield 240, 3) := dk_180 0 240 (dk_at dksX2_place_2 14 rfl rfl)
theorem dX2_place_63 : decode cX2_place 63 = .ok (.iload 4, 2) := dk_21 4 (dk_at dksX2_place_2 17 rfl rfl)
theorem dX2_place_65 : decode cX2_place 65 = .ok (.iload_n 3, 1) := dk_29 (dk_at dksX2_place_2 19 rfl rfl)
theorem dX2_place_66 : decode cX2_place 66 = .ok (.imul, 1) := dk_104 (dk_at dksX2_place_2 20 rfl rfl)
theorem dX2_place_67 : decode cX2_place 67 = .ok (.if_icmp .lt 7, 3) := dk_161 0 7 (dk_at dksX2_place_2 21 rfl rfl)
theorem dX2_place_70 : decode cX2_place 70 = .ok (.iconst 1, 1) := dk_4 (dk_at dksX2_place_3 0 rfl rfl)
theorem dX2_place_71 : decode cX2_place 71 = .ok (.goto 21, 3) := dk_167 0 21 (dk_at dksX2_place_3 1 rfl rfl)
theorem dX2_place_74 : decode cX2_place 74 = .ok (.iconst 0, 1) := dk_3 (dk_at dksX2_place_3 4 rfl rfl)
theorem dX2_place_75 : decode cX2_place 75 = .ok (.goto 17, 3) := dk_167 0 17 (dk_at dksX2_place_3 5 rfl rfl)
theorem dX2_place_78 : decode cX2_place 78 = .ok (.aload 5, 2) := dk_25 5 (dk_at dksX2_place_3 8 rfl rfl)
theorem dX2_place_80 : decode cX2_place 80 = .ok (.getfield 243, 3) := dk_180 0 243 (dk_at dksX2_place_3 10 rfl rfl)
theorem dX2_place_83 : decode cX2_place 83 = .ok (.iload_n 3, 1) := dk_29 (dk_at dksX2_place_3 13 rfl rfl)
theorem dX2_place_84 : decode cX2_place 84 = .ok (.if_icmp .lt 7, 3) := dk_161 0 7 (dk_at dksX2_place_3 14 rfl rfl)
theorem dX2_place_87 : decode cX2_place 87 = .ok (.iconst 1, 1) := dk_4 (dk_at dksX2_place_3 17 rfl rfl)
theorem dX2_place_88 : decode cX2_place 88 = .ok (.goto 4, 3) := dk_167 0 4 (dk_at dksX2_place_3 18 rfl rfl)
theorem dX2_place_91 : decode cX2_place 91 = .ok (.iconst 0, 1) := dk_3 (dk_at dksX2_place_3 21 rfl rfl)
theorem dX2_place_92 : decode cX2_place 92 = .ok (.invokestatic 255, 3) := dk_184 0 255 (dk_at dksX2_place_4 0 rfl rfl)
theorem dX2_place_95 : decode cX2_place 95 = .ok (.aload_n 0, 1) := dk_42 (dk_at dksX2_place_4 3 rfl rfl)
theorem dX2_place_96 : decode cX2_place 96 = .ok (.aload 6, 2) := dk_25 6 (dk_at dksX2_place_4 4 rfl rfl)
theorem dX2_place_98 : decode cX2_place 98 = .ok (.invokevirtual 258, 3) := dk_182 1 2 (dk_at dksX2_place_4 6 rfl rfl)
theorem dX2_place_101 : decode cX2_place 101 = .ok (.ifCond .ne 7, 3) := dk_154 0 7 (dk_at dksX2_place_4 9 rfl rfl)
theorem dX2_place_104 : decode cX2_place 104 = .ok (.iconst 1, 1) := dk_4 (dk_at dksX2_place_4 12 rfl rfl)
theorem dX2_place_105 : decode cX2_place 105 = .ok (.goto 4, 3) := dk_167 0 4 (dk_at dksX2_place_4 13 rfl rfl)
theorem dX2_place_108 : decode cX2_place 108 = .ok (.iconst 0, 1) := dk_3 (dk_at dksX2_place_4 16 rfl rfl)
theorem dX2_place_109 : decode cX2_place 109 = .ok (.invokestatic 255, 3) := dk_184 0 255 (dk_at dksX2_place_4 17 rfl rfl)
theorem dX2_place_112 : decode cX2_place 112 = .ok (.aload_n 0, 1) := dk_42 (dk_at dksX2_place_4 20 rfl rfl)
theorem dX2_place_113 : decode cX2_place 113 = .ok (.getfield 26, 3) := dk_180 0 26 (dk_at dksX2_place_4 21 rfl rfl)
theorem dX2_place_116 : decode cX2_place 116 = .ok (.invokevirtual 106, 3) := dk_182 0 106 (dk_at dksX2_place_5 0 rfl rfl)
theorem dX2_place_119 : decode cX2_place 119 = .ok (.bipush 16, 2) := dk_16 16 (dk_at dksX2_place_5 3 rfl rfl)
theorem dX2_place_121 : decode cX2_place 121 = .ok (.if_icmp .ge 7, 3) := dk_162 0 7 (dk_at dksX2_place_5 5 rfl rfl)
theorem dX2_place_124 : decode cX2_place 124 = .ok (.iconst 1, 1) := dk_4 (dk_at dksX2_place_5 8 rfl rfl)
theorem dX2_place_125 : decode cX2_place 125 = .ok (.goto 4, 3) := dk_167 0 4 (dk_at dksX2_place_5 9 rfl rfl)
theorem dX2_place_128 : decode cX2_place 128 = .ok (.iconst 0, 1) := dk_3 (dk_at dksX2_place_5 12 rfl rfl)
theorem dX2_place_129 : decode cX2_place 129 = .ok (.invokestatic 229, 3) := dk_184 0 229 (dk_at dksX2_place_5 13 rfl rfl)
theorem dX2_place_132 : decode cX2_place 132 = .ok (.aload_n 0, 1) := dk_42 (dk_at dksX2_place_5 16 rfl rfl)
theorem dX2_place_133 : decode cX2_place 133 = .ok (.dup, 1) := dk_89 (dk_at dksX2_place_5 17 rfl rfl)
theorem dX2_place_134 : decode cX2_place 134 = .ok (.getfield 32, 3) := dk_180 0 32 (dk_at dksX2_place_5 18 rfl rfl)
theorem dX2_place_137 : decode cX2_place 137 = .ok (.iconst 1, 1) := dk_4 (dk_at dksX2_place_5 21 rfl rfl)
theorem dX2_place_138 : decode cX2_place 138 = .ok (.iadd, 1) := dk_96 (dk_at dksX2_place_5 22 rfl rfl)
theorem dX2_place_139 : decode cX2_place 139 = .ok (.putfield 32, 3) := dk_181 0 32 (dk_at dksX2_place_6 0 rfl rfl)
theorem dX2_place_142 : decode cX2_place 142 = .ok (.aload_n 0, 1) := dk_42 (dk_at dksX2_place_6 3 rfl rfl)
theorem dX2_place_143 : decode cX2_place 143 = .ok (.iload_n 2, 1) := dk_28 (dk_at dksX2_place_6 4 rfl rfl)
theorem dX2_place_144 : decode cX2_place 144 = .ok (.ifCond .ne 7, 3) := dk_154 0 7 (dk_at dksX2_place_6 5 rfl rfl)
theorem dX2_place_147 : decode cX2_place 147 = .ok (.iconst 1, 1) := dk_4 (dk_at dksX2_place_6 8 rfl rfl)
theorem dX2_place_148 : decode cX2_place 148 = .ok (.goto 4, 3) := dk_167 0 4 (dk_at dksX2_place_6 9 rfl rfl)
theorem dX2_place_151 : decode cX2_place 151 = .ok (.iconst 0, 1) := dk_3 (dk_at dksX2_place_6 12 rfl rfl)
theorem dX2_place_152 : decode cX2_place 152 = .ok (.invokevirtual 163, 3) := dk_182 0 163 (dk_at dksX2_place_6 13 rfl rfl)
theorem dX2_place_155 : decode cX2_place 155 = .ok (.astore 7, 2) := dk_58 7 (dk_at dksX2_place_6 16 rfl rfl)
theorem dX2_place_157 : decode cX2_place 157 = .ok (.aload 6, 2) := dk_25 6 (dk_at dksX2_place_6 18 rfl rfl)
theorem dX2_place_159 : decode cX2_place 159 = .ok (.getfield 173, 3) := dk_180 0 173 (dk_at dksX2_place_6 20 rfl rfl)
theorem dX2_place_162 : decode cX2_place 162 = .ok (.ifCond .le 75, 3) := dk_158 0 75 (dk_at dksX2_place_7 0 rfl rfl)
theorem dX2_place_165 : decode cX2_place 165 = .ok (.aload 7, 2) := dk_25 7 (dk_at dksX2_place_7 3 rfl rfl)
theorem dX2_place_167 : decode cX2_place 167 = .ok (.invokevirtual 167, 3) := dk_182 0 167 (dk_at dksX2_place_7 5 rfl rfl)
theorem dX2_place_170 : decode cX2_place 170 = .ok (.ifCond .ne 67, 3) := dk_154 0 67 (dk_at dksX2_place_7 8 rfl rfl)
theorem dX2_place_173 : decode cX2_place 173 = .ok (.aload 6, 2) := dk_25 6 (dk_at dksX2_place_7 11 rfl rfl)
theorem dX2_place_175 : decode cX2_place 175 = .ok (.aload 7, 2) := dk_25 7 (dk_at dksX2_place_7 13 rfl rfl)
theorem dX2_place_177 : decode cX2_place 177 = .ok (.invokevirtual 262, 3) := dk_182 1 6 (dk_at dksX2_place_7 15 rfl rfl)
theorem dX2_place_180 : decode cX2_place 180 = .ok (.checkcast 88, 3) := dk_192 0 88 (dk_at dksX2_place_7 18 rfl rfl)
theorem dX2_place_183 : decode cX2_place 183 = .ok (.invokevirtual 265, 3) := dk_182 1 9 (dk_at dksX2_place_7 21 rfl rfl)
theorem dX2_place_186 : decode cX2_place 186 = .ok (.ifCond .eq 51, 3) := dk_153 0 51 (dk_at dksX2_place_8 0 rfl rfl)
theorem dX2_place_189 : decode cX2_place 189 = .ok (.aload 7, 2) := dk_25 7 (dk_at dksX2_place_8 3 rfl rfl)
theorem dX2_place_191 : decode cX2_place 191 = .ok (.invokevirtual 170, 3) := dk_182 0 170 (dk_at dksX2_place_8 5 rfl rfl)
theorem dX2_place_194 : decode cX2_place 194 = .ok (.checkcast 88, 3) := dk_192 0 88 (dk_at dksX2_place_8 8 rfl rfl)
theorem dX2_place_197 : decode cX2_place 197 = .ok (.astore 8, 2) := dk_58 8 (dk_at dksX2_place_8 11 rfl rfl)
theorem dX2_place_199 : decode cX2_place 199 = .ok (.aload_n 0, 1) := dk_42 (dk_at dksX2_place_8 13 rfl rfl)
theorem dX2_place_200 : decode cX2_place 200 = .ok (.aload 6, 2) := dk_25 6 (dk_at dksX2_place_8 14 rfl rfl)
theorem dX2_place_202 : decode cX2_place 202 = .ok (.aload 8, 2) := dk_25 8 (dk_at dksX2_place_8 16 rfl rfl)
theorem dX2_place_204 : decode cX2_place 204 = .ok (.aload 6, 2) := dk_25 6 (dk_at dksX2_place_8 18 rfl rfl)
theorem dX2_place_206 : decode cX2_place 206 = .ok (.getfield 173, 3) := dk_180 0 173 (dk_at dksX2_place_8 20 rfl rfl)
theorem dX2_place_209 : decode cX2_place 209 = .ok (.aload 8, 2) := dk_25 8 (dk_at dksX2_place_9 0 rfl rfl)
theorem dX2_place_211 : decode cX2_place 211 = .ok (.getfield 173, 3) := dk_180 0 173 (dk_at dksX2_place_9 2 rfl rfl)
theorem dX2_place_214 : decode cX2_place 214 = .ok (.invokestatic 176, 3) := dk_184 0 176 (dk_at dksX2_place_9 5 rfl rfl)
theorem dX2_place_217 : decode cX2_place 217 = .ok (.invokevirtual 268, 3) := dk_182 1 12 (dk_at dksX2_place_9 8 rfl rfl)
theorem dX2_place_220 : decode cX2_place 220 = .ok (.aload 8, 2) := dk_25 8 (dk_at dksX2_place_9 11 rfl rfl)
theorem dX2_place_222 : decode cX2_place 222 = .ok (.getfield 173, 3) := dk_180 0 173 (dk_at dksX2_place_9 13 rfl rfl)
theorem dX2_place_225 : decode cX2_place 225 = .ok (.ifCond .ne 9, 3) := dk_154 0 9 (dk_at dksX2_place_9 16 rfl rfl)
theorem dX2_place_228 : decode cX2_place 228 = .ok (.aload_n 0, 1) := dk_42 (dk_at dksX2_place_9 19 rfl rfl)
theorem dX2_place_229 : decode cX2_place 229 = .ok (.aload 8, 2) := dk_25 8 (dk_at dksX2_place_9 20 rfl rfl)
theorem dX2_place_231 : decode cX2_place 231 = .ok (.invokevirtual 272, 3) := dk_182 1 16 (dk_at dksX2_place_10 0 rfl rfl)
theorem dX2_place_234 : decode cX2_place 234 = .ok (.goto (-77), 3) := dk_167 255 179 (dk_at dksX2_place_10 3 rfl rfl)
theorem dX2_place_237 : decode cX2_place 237 = .ok (.iload_n 3, 1) := dk_29 (dk_at dksX2_place_10 6 rfl rfl)
theorem dX2_place_238 : decode cX2_place 238 = .ok (.aload 6, 2) := dk_25 6 (dk_at dksX2_place_10 7 rfl rfl)
theorem dX2_place_240 : decode cX2_place 240 = .ok (.getfield 173, 3) := dk_180 0 173 (dk_at dksX2_place_10 9 rfl rfl)
theorem dX2_place_243 : decode cX2_place 243 = .ok (.isub, 1) := dk_100 (dk_at dksX2_place_10 12 rfl rfl)
theorem dX2_place_244 : decode cX2_place 244 = .ok (.istore 8, 2) := dk_54 8 (dk_at dksX2_place_10 13 rfl rfl)
theorem dX2_place_246 : decode cX2_place 246 = .ok (.aload 6, 2) := dk_25 6 (dk_at dksX2_place_10 15 rfl rfl)
theorem dX2_place_248 : decode cX2_place 248 = .ok (.getfield 173, 3) := dk_180 0 173 (dk_at dksX2_place_10 17 rfl rfl)
theorem dX2_place_251 : decode cX2_place 251 = .ok (.ifCond .le 9, 3) := dk_158 0 9 (dk_at dksX2_place_10 20 rfl rfl)
theorem dX2_place_254 : decode cX2_place 254 = .ok (.aload_n 0, 1) := dk_42 (dk_at dksX2_place_10 23 rfl rfl)
theorem dX2_place_255 : decode cX2_place 255 = .ok (.aload 6, 2) := dk_25 6 (dk_at dksX2_place_11 0 rfl rfl)
theorem dX2_place_257 : decode cX2_place 257 = .ok (.invokevirtual 275, 3) := dk_182 1 19 (dk_at dksX2_place_11 2 rfl rfl)
theorem dX2_place_260 : decode cX2_place 260 = .ok (.iload 8, 2) := dk_21 8 (dk_at dksX2_place_11 5 rfl rfl)
theorem dX2_place_262 : decode cX2_place 262 = .ok (.ireturn, 1) := dk_172 (dk_at dksX2_place_11 7 rfl rfl)
abbrev cX2_trader : ByteArray := prog_11_method_3_code
def yX2_trader : MethodName := ⟨RX2, "trader", "(I)LWindowExchange$Trader;"⟩
def dkwX2_trader_0 : List UInt8 := [27, 42, 180, 0, 22, 182, 0, 106, 184, 0, 110, 42, 180, 0, 22, 27, 182, 0, 114, 192, 0, 79, 176]
abbrev dktX2_trader_0 : List UInt8 := dkwX2_trader_0 ++ []
theorem dksX2_trader_0 : cX2_trader.data.toList.drop 0 = dktX2_trader_0 := by decide +kernel
theorem dX2_trader_0 : decode cX2_trader 0 = .ok (.iload_n 1, 1) := dk_27 (dk_at dksX2_trader_0 0 rfl rfl)
theorem dX2_trader_1 : decode cX2_trader 1 = .ok (.aload_n 0, 1) := dk_42 (dk_at dksX2_trader_0 1 rfl rfl)
theorem dX2_trader_2 : decode cX2_trader 2 = .ok (.getfield 22, 3) := dk_180 0 22 (dk_at dksX2_trader_0 2 rfl rfl)
theorem dX2_trader_5 : decode cX2_trader 5 = .ok (.invokevirtual 106, 3) := dk_182 0 106 (dk_at dksX2_trader_0 5 rfl rfl)
theorem dX2_trader_8 : decode cX2_trader 8 = .ok (.invokestatic 110, 3) := dk_184 0 110 (dk_at dksX2_trader_0 8 rfl rfl)
theorem dX2_trader_11 : decode cX2_trader 11 = .ok (.aload_n 0, 1) := dk_42 (dk_at dksX2_trader_0 11 rfl rfl)
theorem dX2_trader_12 : decode cX2_trader 12 = .ok (.getfield 22, 3) := dk_180 0 22 (dk_at dksX2_trader_0 12 rfl rfl)
theorem dX2_trader_15 : decode cX2_trader 15 = .ok (.iload_n 1, 1) := dk_27 (dk_at dksX2_trader_0 15 rfl rfl)
theorem dX2_trader_16 : decode cX2_trader 16 = .ok (.invokevirtual 114, 3) := dk_182 0 114 (dk_at dksX2_trader_0 16 rfl rfl)
theorem dX2_trader_19 : decode cX2_trader 19 = .ok (.checkcast 79, 3) := dk_192 0 79 (dk_at dksX2_trader_0 19 rfl rfl)
theorem dX2_trader_22 : decode cX2_trader 22 = .ok (.areturn, 1) := dk_176 (dk_at dksX2_trader_0 22 rfl rfl)
abbrev cX2_matchesOwn : ByteArray := prog_11_method_16_code
def yX2_matchesOwn : MethodName := ⟨RX2, "matchesOwn", "(LWindowExchange$Order;)Z"⟩
def dkwX2_matchesOwn_0 : List UInt8 := [42, 43, 186, 0, 234, 0, 0, 182, 0, 141, 158, 0, 7, 4, 167, 0, 4, 3, 172]
abbrev dktX2_matchesOwn_0 : List UInt8 := dkwX2_matchesOwn_0 ++ []
theorem dksX2_matchesOwn_0 : cX2_matchesOwn.data.toList.drop 0 = dktX2_matchesOwn_0 := by decide +kernel
theorem dX2_matchesOwn_0 : decode cX2_matchesOwn 0 = .ok (.aload_n 0, 1) := dk_42 (dk_at dksX2_matchesOwn_0 0 rfl rfl)
theorem dX2_matchesOwn_1 : decode cX2_matchesOwn 1 = .ok (.aload_n 1, 1) := dk_43 (dk_at dksX2_matchesOwn_0 1 rfl rfl)
theorem dX2_matchesOwn_2 : decode cX2_matchesOwn 2 = .ok (.invokedynamic 234, 5) := by decide +kernel
theorem dX2_matchesOwn_7 : decode cX2_matchesOwn 7 = .ok (.invokevirtual 141, 3) := dk_182 0 141 (dk_at dksX2_matchesOwn_0 7 rfl rfl)
theorem dX2_matchesOwn_10 : decode cX2_matchesOwn 10 = .ok (.ifCond .le 7, 3) := dk_158 0 7 (dk_at dksX2_matchesOwn_0 10 rfl rfl)
theorem dX2_matchesOwn_13 : decode cX2_matchesOwn 13 = .ok (.iconst 1, 1) := dk_4 (dk_at dksX2_matchesOwn_0 13 rfl rfl)
theorem dX2_matchesOwn_14 : decode cX2_matchesOwn 14 = .ok (.goto 4, 3) := dk_167 0 4 (dk_at dksX2_matchesOwn_0 14 rfl rfl)
theorem dX2_matchesOwn_17 : decode cX2_matchesOwn 17 = .ok (.iconst 0, 1) := dk_3 (dk_at dksX2_matchesOwn_0 17 rfl rfl)
theorem dX2_matchesOwn_18 : decode cX2_matchesOwn 18 = .ok (.ireturn, 1) := dk_172 (dk_at dksX2_matchesOwn_0 18 rfl rfl)
abbrev cX2_lambda_matchesOwn_3 : ByteArray := prog_11_method_38_code
def yX2_lambda_matchesOwn_3 : MethodName := ⟨RX2, "lambda$matchesOwn$3", "(LWindowExchange$Order;LWindowExchange$Order;)I"⟩
def dkwX2_lambda_matchesOwn_3_1 : List UInt8 := [172]
abbrev dktX2_lambda_matchesOwn_3_1 : List UInt8 := dkwX2_lambda_matchesOwn_3_1 ++ []
def dkwX2_lambda_matchesOwn_3_0 : List UInt8 := [43, 180, 0, 237, 42, 180, 0, 237, 160, 0, 15, 42, 43, 182, 1, 9, 153, 0, 7, 4, 167, 0, 4, 3]
abbrev dktX2_lambda_matchesOwn_3_0 : List UInt8 := dkwX2_lambda_matchesOwn_3_0 ++ dktX2_lambda_matchesOwn_3_1
theorem dksX2_lambda_matchesOwn_3_0 : cX2_lambda_matchesOwn_3.data.toList.drop 0 = dktX2_lambda_matchesOwn_3_0 := by decide +kernel
theorem dksX2_lambda_matchesOwn_3_1 : cX2_lambda_matchesOwn_3.data.toList.drop 24 = dktX2_lambda_matchesOwn_3_1 := dk_seg dksX2_lambda_matchesOwn_3_0 24 rfl rfl
theorem dX2_lambda_matchesOwn_3_0 : decode cX2_lambda_matchesOwn_3 0 = .ok (.aload_n 1, 1) := dk_43 (dk_at dksX2_lambda_matchesOwn_3_0 0 rfl rfl)
theorem dX2_lambda_matchesOwn_3_1 : decode cX2_lambda_matchesOwn_3 1 = .ok (.getfield 237, 3) := dk_180 0 237 (dk_at dksX2_lambda_matchesOwn_3_0 1 rfl rfl)
theorem dX2_lambda_matchesOwn_3_4 : decode cX2_lambda_matchesOwn_3 4 = .ok (.aload_n 0, 1) := dk_42 (dk_at dksX2_lambda_matchesOwn_3_0 4 rfl rfl)
theorem dX2_lambda_matchesOwn_3_5 : decode cX2_lambda_matchesOwn_3 5 = .ok (.getfield 237, 3) := dk_180 0 237 (dk_at dksX2_lambda_matchesOwn_3_0 5 rfl rfl)
theorem dX2_lambda_matchesOwn_3_8 : decode cX2_lambda_matchesOwn_3 8 = .ok (.if_icmp .ne 15, 3) := dk_160 0 15 (dk_at dksX2_lambda_matchesOwn_3_0 8 rfl rfl)
theorem dX2_lambda_matchesOwn_3_11 : decode cX2_lambda_matchesOwn_3 11 = .ok (.aload_n 0, 1) := dk_42 (dk_at dksX2_lambda_matchesOwn_3_0 11 rfl rfl)
theorem dX2_lambda_matchesOwn_3_12 : decode cX2_lambda_matchesOwn_3 12 = .ok (.aload_n 1, 1) := dk_43 (dk_at dksX2_lambda_matchesOwn_3_0 12 rfl rfl)
theorem dX2_lambda_matchesOwn_3_13 : decode cX2_lambda_matchesOwn_3 13 = .ok (.invokevirtual 265, 3) := dk_182 1 9 (dk_at dksX2_lambda_matchesOwn_3_0 13 rfl rfl)
theorem dX2_lambda_matchesOwn_3_16 : decode cX2_lambda_matchesOwn_3 16 = .ok (.ifCond .eq 7, 3) := dk_153 0 7 (dk_at dksX2_lambda_matchesOwn_3_0 16 rfl rfl)
theorem dX2_lambda_matchesOwn_3_19 : decode cX2_lambda_matchesOwn_3 19 = .ok (.iconst 1, 1) := dk_4 (dk_at dksX2_lambda_matchesOwn_3_0 19 rfl rfl)
theorem dX2_lambda_matchesOwn_3_20 : decode cX2_lambda_matchesOwn_3 20 = .ok (.goto 4, 3) := dk_167 0 4 (dk_at dksX2_lambda_matchesOwn_3_0 20 rfl rfl)
theorem dX2_lambda_matchesOwn_3_23 : decode cX2_lambda_matchesOwn_3 23 = .ok (.iconst 0, 1) := dk_3 (dk_at dksX2_lambda_matchesOwn_3_0 23 rfl rfl)
theorem dX2_lambda_matchesOwn_3_24 : decode cX2_lambda_matchesOwn_3 24 = .ok (.ireturn, 1) := dk_172 (dk_at dksX2_lambda_matchesOwn_3_1 0 rfl rfl)
abbrev cX2_trade : ByteArray := prog_11_method_17_code
def yX2_trade : MethodName := ⟨RX2, "trade", "(LWindowExchange$Order;LWindowExchange$Order;I)V"⟩
def dkwX2_trade_7 : List UInt8 := [180, 0, 41, 21, 6, 96, 181, 0, 41, 177]
abbrev dktX2_trade_7 : List UInt8 := dkwX2_trade_7 ++ []
def dkwX2_trade_6 : List UInt8 := [100, 181, 0, 173, 42, 44, 180, 0, 182, 181, 0, 9, 42, 89, 180, 0, 38, 29, 96, 181, 0, 38, 42, 89]
abbrev dktX2_trade_6 : List UInt8 := dkwX2_trade_6 ++ dktX2_trade_7
def dkwX2_trade_5 : List UInt8 := [180, 0, 243, 29, 96, 181, 0, 243, 43, 89, 180, 0, 173, 29, 100, 181, 0, 173, 44, 89, 180, 0, 173, 29]
abbrev dktX2_trade_5 : List UInt8 := dkwX2_trade_5 ++ dktX2_trade_6
def dkwX2_trade_4 : List UInt8 := [180, 0, 243, 29, 100, 181, 0, 243, 25, 5, 89, 180, 0, 240, 21, 6, 96, 181, 0, 240, 25, 4, 89]
abbrev dktX2_trade_4 : List UInt8 := dkwX2_trade_4 ++ dktX2_trade_5
def dkwX2_trade_3 : List UInt8 := [180, 0, 158, 153, 0, 18, 25, 4, 89, 180, 0, 240, 21, 6, 100, 181, 0, 240, 167, 0, 14, 25, 5, 89]
abbrev dktX2_trade_3 : List UInt8 := dkwX2_trade_3 ++ dktX2_trade_4
def dkwX2_trade_2 : List UInt8 := [167, 0, 7, 43, 180, 0, 237, 182, 0, 114, 192, 0, 79, 58, 5, 29, 44, 180, 0, 182, 104, 54, 6, 43]
abbrev dktX2_trade_2 : List UInt8 := dkwX2_trade_2 ++ dktX2_trade_3
def dkwX2_trade_1 : List UInt8 := [182, 0, 114, 192, 0, 79, 58, 4, 42, 180, 0, 22, 43, 180, 0, 158, 153, 0, 10, 44, 180, 0, 237]
abbrev dktX2_trade_1 : List UInt8 := dkwX2_trade_1 ++ dktX2_trade_2
def dkwX2_trade_0 : List UInt8 := [42, 180, 0, 22, 43, 180, 0, 158, 153, 0, 10, 43, 180, 0, 237, 167, 0, 7, 44, 180, 0, 237]
abbrev dktX2_trade_0 : List UInt8 := dkwX2_trade_0 ++ dktX2_trade_1
theorem dksX2_trade_0 : cX2_trade.data.toList.drop 0 = dktX2_trade_0 := by decide +kernel
theorem dksX2_trade_1 : cX2_trade.data.toList.drop 22 = dktX2_trade_1 := dk_seg dksX2_trade_0 22 rfl rfl
theorem dksX2_trade_2 : cX2_trade.data.toList.drop 45 = dktX2_trade_2 := dk_seg dksX2_trade_1 23 rfl rfl
theorem dksX2_trade_3 : cX2_trade.data.toList.drop 69 = dktX2_trade_3 := dk_seg dksX2_trade_2 24 rfl rfl
theorem dksX2_trade_4 : cX2_trade.data.toList.drop 93 = dktX2_trade_4 := dk_seg dksX2_trade_3 24 rfl rfl
theorem dksX2_trade_5 : cX2_trade.data.toList.drop 116 = dktX2_trade_5 := dk_seg dksX2_trade_4 23 rfl rfl
theorem dksX2_trade_6 : cX2_trade.data.toList.drop 140 = dktX2_trade_6 := dk_seg dksX2_trade_5 24 rfl rfl
theorem dksX2_trade_7 : cX2_trade.data.toList.drop 164 = dktX2_trade_7 := dk_seg dksX2_trade_6 24 rfl rfl
theorem dX2_trade_0 : decode cX2_trade 0 = .ok (.aload_n 0, 1) := dk_42 (dk_at dksX2_trade_0 0 rfl rfl)
theorem dX2_trade_1 : decode cX2_trade 1 = .ok (.getfield 22, 3) := dk_180 0 22 (dk_at dksX2_trade_0 1 rfl rfl)
theorem dX2_trade_4 : decode cX2_trade 4 = .ok (.aload_n 1, 1) := dk_43 (dk_at dksX2_trade_0 4 rfl rfl)
theorem dX2_trade_5 : decode cX2_trade 5 = .ok (.getfield 158, 3) := dk_180 0 158 (dk_at dksX2_trade_0 5 rfl rfl)
theorem dX2_trade_8 : decode cX2_trade 8 = .ok (.ifCond .eq 10, 3) := dk_153 0 10 (dk_at dksX2_trade_0 8 rfl rfl)
theorem dX2_trade_11 : decode cX2_trade 11 = .ok (.aload_n 1, 1) := dk_43 (dk_at dksX2_trade_0 11 rfl rfl)
theorem dX2_trade_12 : decode cX2_trade 12 = .ok (.getfield 237, 3) := dk_180 0 237 (dk_at dksX2_trade_0 12 rfl rfl)
theorem dX2_trade_15 : decode cX2_trade 15 = .ok (.goto 7, 3) := dk_167 0 7 (dk_at dksX2_trade_0 15 rfl rfl)
theorem dX2_trade_18 : decode cX2_trade 18 = .ok (.aload_n 2, 1) := dk_44 (dk_at dksX2_trade_0 18 rfl rfl)
theorem dX2_trade_19 : decode cX2_trade 19 = .ok (.getfield 237, 3) := dk_180 0 237 (dk_at dksX2_trade_0 19 rfl rfl)
theorem dX2_trade_22 : decode cX2_trade 22 = .ok (.invokevirtual 114, 3) := dk_182 0 114 (dk_at dksX2_trade_1 0 rfl rfl)
theorem dX2_trade_25 : decode cX2_trade 25 = .ok (.checkcast 79, 3) := dk_192 0 79 (dk_at dksX2_trade_1 3 rfl rfl)
theorem dX2_trade_28 : decode cX2_trade 28 = .ok (.astore 4, 2) := dk_58 4 (dk_at dksX2_trade_1 6 rfl rfl)
theorem dX2_trade_30 : decode cX2_trade 30 = .ok (.aload_n 0, 1) := dk_42 (dk_at dksX2_trade_1 8 rfl rfl)
theorem dX2_trade_31 : decode cX2_trade 31 = .ok (.getfield 22, 3) := dk_180 0 22 (dk_at dksX2_trade_1 9 rfl rfl)
theorem dX2_trade_34 : decode cX2_trade 34 = .ok (.aload_n 1, 1) := dk_43 (dk_at dksX2_trade_1 12 rfl rfl)
theorem dX2_trade_35 : decode cX2_trade 35 = .ok (.getfield 158, 3) := dk_180 0 158 (dk_at dksX2_trade_1 13 rfl rfl)
theorem dX2_trade_38 : decode cX2_trade 38 = .ok (.ifCond .eq 10, 3) := dk_153 0 10 (dk_at dksX2_trade_1 16 rfl rfl)
theorem dX2_trade_41 : decode cX2_trade 41 = .ok (.aload_n 2, 1) := dk_44 (dk_at dksX2_trade_1 19 rfl rfl)
theorem dX2_trade_42 : decode cX2_trade 42 = .ok (.getfield 237, 3) := dk_180 0 237 (dk_at dksX2_trade_1 20 rfl rfl)
theorem dX2_trade_45 : decode cX2_trade 45 = .ok (.goto 7, 3) := dk_167 0 7 (dk_at dksX2_trade_2 0 rfl rfl)
theorem dX2_trade_48 : decode cX2_trade 48 = .ok (.aload_n 1, 1) := dk_43 (dk_at dksX2_trade_2 3 rfl rfl)
theorem dX2_trade_49 : decode cX2_trade 49 = .ok (.getfield 237, 3) := dk_180 0 237 (dk_at dksX2_trade_2 4 rfl rfl)
theorem dX2_trade_52 : decode cX2_trade 52 = .ok (.invokevirtual 114, 3) := dk_182 0 114 (dk_at dksX2_trade_2 7 rfl rfl)
theorem dX2_trade_55 : decode cX2_trade 55 = .ok (.checkcast 79, 3) := dk_192 0 79 (dk_at dksX2_trade_2 10 rfl rfl)
theorem dX2_trade_58 : decode cX2_trade 58 = .ok (.astore 5, 2) := dk_58 5 (dk_at dksX2_trade_2 13 rfl rfl)
theorem dX2_trade_60 : decode cX2_trade 60 = .ok (.iload_n 3, 1) := dk_29 (dk_at dksX2_trade_2 15 rfl rfl)
theorem dX2_trade_61 : decode cX2_trade 61 = .ok (.aload_n 2, 1) := dk_44 (dk_at dksX2_trade_2 16 rfl rfl)
theorem dX2_trade_62 : decode cX2_trade 62 = .ok (.getfield 182, 3) := dk_180 0 182 (dk_at dksX2_trade_2 17 rfl rfl)
theorem dX2_trade_65 : decode cX2_trade 65 = .ok (.imul, 1) := dk_104 (dk_at dksX2_trade_2 20 rfl rfl)
theorem dX2_trade_66 : decode cX2_trade 66 = .ok (.istore 6, 2) := dk_54 6 (dk_at dksX2_trade_2 21 rfl rfl)
theorem dX2_trade_68 : decode cX2_trade 68 = .ok (.aload_n 1, 1) := dk_43 (dk_at dksX2_trade_2 23 rfl rfl)
theorem dX2_trade_69 : decode cX2_trade 69 = .ok (.getfield 158, 3) := dk_180 0 158 (dk_at dksX2_trade_3 0 rfl rfl)
theorem dX2_trade_72 : decode cX2_trade 72 = .ok (.ifCond .eq 18, 3) := dk_153 0 18 (dk_at dksX2_trade_3 3 rfl rfl)
theorem dX2_trade_75 : decode cX2_trade 75 = .ok (.aload 4, 2) := dk_25 4 (dk_at dksX2_trade_3 6 rfl rfl)
theorem dX2_trade_77 : decode cX2_trade 77 = .ok (.dup, 1) := dk_89 (dk_at dksX2_trade_3 8 rfl rfl)
theorem dX2_trade_78 : decode cX2_trade 78 = .ok (.getfield 240, 3) := dk_180 0 240 (dk_at dksX2_trade_3 9 rfl rfl)
theorem dX2_trade_81 : decode cX2_trade 81 = .ok (.iload 6, 2) := dk_21 6 (dk_at dksX2_trade_3 12 rfl rfl)
theorem dX2_trade_83 : decode cX2_trade 83 = .ok (.isub, 1) := dk_100 (dk_at dksX2_trade_3 14 rfl rfl)
theorem dX2_trade_84 : decode cX2_trade 84 = .ok (.putfield 240, 3) := dk_181 0 240 (dk_at dksX2_trade_3 15 rfl rfl)
theorem dX2_trade_87 : decode cX2_trade 87 = .ok (.goto 14, 3) := dk_167 0 14 (dk_at dksX2_trade_3 18 rfl rfl)
theorem dX2_trade_90 : decode cX2_trade 90 = .ok (.aload 5, 2) := dk_25 5 (dk_at dksX2_trade_3 21 rfl rfl)
theorem dX2_trade_92 : decode cX2_trade 92 = .ok (.dup, 1) := dk_89 (dk_at dksX2_trade_3 23 rfl rfl)
theorem dX2_trade_93 : decode cX2_trade 93 = .ok (.getfield 243, 3) := dk_180 0 243 (dk_at dksX2_trade_4 0 rfl rfl)
theorem dX2_trade_96 : decode cX2_trade 96 = .ok (.iload_n 3, 1) := dk_29 (dk_at dksX2_trade_4 3 rfl rfl)
theorem dX2_trade_97 : decode cX2_trade 97 = .ok (.isub, 1) := dk_100 (dk_at dksX2_trade_4 4 rfl rfl)
theorem dX2_trade_98 : decode cX2_trade 98 = .ok (.putfield 243, 3) := dk_181 0 243 (dk_at dksX2_trade_4 5 rfl rfl)
theorem dX2_trade_101 : decode cX2_trade 101 = .ok (.aload 5, 2) := dk_25 5 (dk_at dksX2_trade_4 8 rfl rfl)
theorem dX2_trade_103 : decode cX2_trade 103 = .ok (.dup, 1) := dk_89 (dk_at dksX2_trade_4 10 rfl rfl)
theorem dX2_trade_104 : decode cX2_trade 104 = .ok (.getfield 240, 3) := dk_180 0 240 (dk_at dksX2_trade_4 11 rfl rfl)
theorem dX2_trade_107 : decode cX2_trade 107 = .ok (.iload 6, 2) := dk_21 6 (dk_at dksX2_trade_4 14 rfl rfl)
theorem dX2_trade_109 : decode cX2_trade 109 = .ok (.iadd, 1) := dk_96 (dk_at dksX2_trade_4 16 rfl rfl)
theorem dX2_trade_110 : decode cX2_trade 110 = .ok (.putfield 240, 3) := dk_181 0 240 (dk_at dksX2_trade_4 17 rfl rfl)
theorem dX2_trade_113 : decode cX2_trade 113 = .ok (.aload 4, 2) := dk_25 4 (dk_at dksX2_trade_4 20 rfl rfl)
theorem dX2_trade_115 : decode cX2_trade 115 = .ok (.dup, 1) := dk_89 (dk_at dksX2_trade_4 22 rfl rfl)
theorem dX2_trade_116 : decode cX2_trade 116 = .ok (.getfield 243, 3) := dk_180 0 243 (dk_at dksX2_trade_5 0 rfl rfl)
theorem dX2_trade_119 : decode cX2_trade 119 = .ok (.iload_n 3, 1) := dk_29 (dk_at dksX2_trade_5 3 rfl rfl)
theorem dX2_trade_120 : decode cX2_trade 120 = .ok (.iadd, 1) := dk_96 (dk_at dksX2_trade_5 4 rfl rfl)
theorem dX2_trade_121 : decode cX2_trade 121 = .ok (.putfield 243, 3) := dk_181 0 243 (dk_at dksX2_trade_5 5 rfl rfl)
theorem dX2_trade_124 : decode cX2_trade 124 = .ok (.aload_n 1, 1) := dk_43 (dk_at dksX2_trade_5 8 rfl rfl)
theorem dX2_trade_125 : decode cX2_trade 125 = .ok (.dup, 1) := dk_89 (dk_at dksX2_trade_5 9 rfl rfl)
theorem dX2_trade_126 : decode cX2_trade 126 = .ok (.getfield 173, 3) := dk_180 0 173 (dk_at dksX2_trade_5 10 rfl rfl)
theorem dX2_trade_129 : decode cX2_trade 129 = .ok (.iload_n 3, 1) := dk_29 (dk_at dksX2_trade_5 13 rfl rfl)
theorem dX2_trade_130 : decode cX2_trade 130 = .ok (.isub, 1) := dk_100 (dk_at dksX2_trade_5 14 rfl rfl)
theorem dX2_trade_131 : decode cX2_trade 131 = .ok (.putfield 173, 3) := dk_181 0 173 (dk_at dksX2_trade_5 15 rfl rfl)
theorem dX2_trade_134 : decode cX2_trade 134 = .ok (.aload_n 2, 1) := dk_44 (dk_at dksX2_trade_5 18 rfl rfl)
theorem dX2_trade_135 : decode cX2_trade 135 = .ok (.dup, 1) := dk_89 (dk_at dksX2_trade_5 19 rfl rfl)
theorem dX2_trade_136 : decode cX2_trade 136 = .ok (.getfield 173, 3) := dk_180 0 173 (dk_at dksX2_trade_5 20 rfl rfl)
theorem dX2_trade_139 : decode cX2_trade 139 = .ok (.iload_n 3, 1) := dk_29 (dk_at dksX2_trade_5 23 rfl rfl)
theorem dX2_trade_140 : decode cX2_trade 140 = .ok (.isub, 1) := dk_100 (dk_at dksX2_trade_6 0 rfl rfl)
theorem dX2_trade_141 : decode cX2_trade 141 = .ok (.putfield 173, 3) := dk_181 0 173 (dk_at dksX2_trade_6 1 rfl rfl)
theorem dX2_trade_144 : decode cX2_trade 144 = .ok (.aload_n 0, 1) := dk_42 (dk_at dksX2_trade_6 4 rfl rfl)
theorem dX2_trade_145 : decode cX2_trade 145 = .ok (.aload_n 2, 1) := dk_44 (dk_at dksX2_trade_6 5 rfl rfl)
theorem dX2_trade_146 : decode cX2_trade 146 = .ok (.getfield 182, 3) := dk_180 0 182 (dk_at dksX2_trade_6 6 rfl rfl)
theorem dX2_trade_149 : decode cX2_trade 149 = .ok (.putfield 9, 3) := dk_181 0 9 (dk_at dksX2_trade_6 9 rfl rfl)
theorem dX2_trade_152 : decode cX2_trade 152 = .ok (.aload_n 0, 1) := dk_42 (dk_at dksX2_trade_6 12 rfl rfl)
theorem dX2_trade_153 : decode cX2_trade 153 = .ok (.dup, 1) := dk_89 (dk_at dksX2_trade_6 13 rfl rfl)
theorem dX2_trade_154 : decode cX2_trade 154 = .ok (.getfield 38, 3) := dk_180 0 38 (dk_at dksX2_trade_6 14 rfl rfl)
theorem dX2_trade_157 : decode cX2_trade 157 = .ok (.iload_n 3, 1) := dk_29 (dk_at dksX2_trade_6 17 rfl rfl)
theorem dX2_trade_158 : decode cX2_trade 158 = .ok (.iadd, 1) := dk_96 (dk_at dksX2_trade_6 18 rfl rfl)
theorem dX2_trade_159 : decode cX2_trade 159 = .ok (.putfield 38, 3) := dk_181 0 38 (dk_at dksX2_trade_6 19 rfl rfl)
theorem dX2_trade_162 : decode cX2_trade 162 = .ok (.aload_n 0, 1) := dk_42 (dk_at dksX2_trade_6 22 rfl rfl)
theorem dX2_trade_163 : decode cX2_trade 163 = .ok (.dup, 1) := dk_89 (dk_at dksX2_trade_6 23 rfl rfl)
theorem dX2_trade_164 : decode cX2_trade 164 = .ok (.getfield 41, 3) := dk_180 0 41 (dk_at dksX2_trade_7 0 rfl rfl)
theorem dX2_trade_167 : decode cX2_trade 167 = .ok (.iload 6, 2) := dk_21 6 (dk_at dksX2_trade_7 3 rfl rfl)
theorem dX2_trade_169 : decode cX2_trade 169 = .ok (.iadd, 1) := dk_96 (dk_at dksX2_trade_7 5 rfl rfl)
theorem dX2_trade_170 : decode cX2_trade 170 = .ok (.putfield 41, 3) := dk_181 0 41 (dk_at dksX2_trade_7 6 rfl rfl)
theorem dX2_trade_173 : decode cX2_trade 173 = .ok (.return_, 1) := dk_177 (dk_at dksX2_trade_7 9 rfl rfl)
abbrev cX2_close : ByteArray := prog_11_method_18_code
def yX2_close : MethodName := ⟨RX2, "close", "(LWindowExchange$Order;)V"⟩
def dkwX2_close_1 : List UInt8 := [28, 182, 0, 246, 192, 0, 88, 78, 177]
abbrev dktX2_close_1 : List UInt8 := dkwX2_close_1 ++ []
def dkwX2_close_0 : List UInt8 := [3, 61, 42, 180, 0, 26, 28, 182, 0, 114, 43, 165, 0, 9, 132, 2, 1, 167, 255, 241, 42, 180, 0, 26]
abbrev dktX2_close_0 : List UInt8 := dkwX2_close_0 ++ dktX2_close_1
theorem dksX2_close_0 : cX2_close.data.toList.drop 0 = dktX2_close_0 := by decide +kernel
theorem dksX2_close_1 : cX2_close.data.toList.drop 24 = dktX2_close_1 := dk_seg dksX2_close_0 24 rfl rfl
theorem dX2_close_0 : decode cX2_close 0 = .ok (.iconst 0, 1) := dk_3 (dk_at dksX2_close_0 0 rfl rfl)
theorem dX2_close_1 : decode cX2_close 1 = .ok (.istore_n 2, 1) := dk_61 (dk_at dksX2_close_0 1 rfl rfl)
theorem dX2_close_2 : decode cX2_close 2 = .ok (.aload_n 0, 1) := dk_42 (dk_at dksX2_close_0 2 rfl rfl)
theorem dX2_close_3 : decode cX2_close 3 = .ok (.getfield 26, 3) := dk_180 0 26 (dk_at dksX2_close_0 3 rfl rfl)
theorem dX2_close_6 : decode cX2_close 6 = .ok (.iload_n 2, 1) := dk_28 (dk_at dksX2_close_0 6 rfl rfl)
theorem dX2_close_7 : decode cX2_close 7 = .ok (.invokevirtual 114, 3) := dk_182 0 114 (dk_at dksX2_close_0 7 rfl rfl)
theorem dX2_close_10 : decode cX2_close 10 = .ok (.aload_n 1, 1) := dk_43 (dk_at dksX2_close_0 10 rfl rfl)
theorem dX2_close_11 : decode cX2_close 11 = .ok (.if_acmp .eq 9, 3) := dk_165 0 9 (dk_at dksX2_close_0 11 rfl rfl)
theorem dX2_close_14 : decode cX2_close 14 = .ok (.iinc 2 1, 3) := dk_132 2 1 (dk_at dksX2_close_0 14 rfl rfl)
theorem dX2_close_17 : decode cX2_close 17 = .ok (.goto (-15), 3) := dk_167 255 241 (dk_at dksX2_close_0 17 rfl rfl)
theorem dX2_close_20 : decode cX2_close 20 = .ok (.aload_n 0, 1) := dk_42 (dk_at dksX2_close_0 20 rfl rfl)
theorem dX2_close_21 : decode cX2_close 21 = .ok (.getfield 26, 3) := dk_180 0 26 (dk_at dksX2_close_0 21 rfl rfl)
theorem dX2_close_24 : decode cX2_close 24 = .ok (.iload_n 2, 1) := dk_28 (dk_at dksX2_close_1 0 rfl rfl)
theorem dX2_close_25 : decode cX2_close 25 = .ok (.invokevirtual 246, 3) := dk_182 0 246 (dk_at dksX2_close_1 1 rfl rfl)
theorem dX2_close_28 : decode cX2_close 28 = .ok (.checkcast 88, 3) := dk_192 0 88 (dk_at dksX2_close_1 4 rfl rfl)
theorem dX2_close_31 : decode cX2_close 31 = .ok (.astore_n 3, 1) := dk_78 (dk_at dksX2_close_1 7 rfl rfl)
theorem dX2_close_32 : decode cX2_close 32 = .ok (.return_, 1) := dk_177 (dk_at dksX2_close_1 8 rfl rfl)
abbrev cX2_open : ByteArray := prog_11_method_19_code
def yX2_open : MethodName := ⟨RX2, "open", "(LWindowExchange$Order;)V"⟩
def dkwX2_open_2 : List UInt8 := [43, 180, 0, 173, 100, 181, 0, 243, 42, 180, 0, 26, 43, 182, 0, 84, 62, 177]
abbrev dktX2_open_2 : List UInt8 := dkwX2_open_2 ++ []
def dkwX2_open_1 : List UInt8 := [180, 0, 240, 43, 180, 0, 182, 43, 180, 0, 173, 104, 100, 181, 0, 240, 167, 0, 16, 44, 89, 180, 0, 243]
abbrev dktX2_open_1 : List UInt8 := dkwX2_open_1 ++ dktX2_open_2
def dkwX2_open_0 : List UInt8 := [42, 180, 0, 22, 43, 180, 0, 237, 182, 0, 114, 192, 0, 79, 77, 43, 180, 0, 158, 153, 0, 24, 44, 89]
abbrev dktX2_open_0 : List UInt8 := dkwX2_open_0 ++ dktX2_open_1
theorem dksX2_open_0 : cX2_open.data.toList.drop 0 = dktX2_open_0 := by decide +kernel
theorem dksX2_open_1 : cX2_open.data.toList.drop 24 = dktX2_open_1 := dk_seg dksX2_open_0 24 rfl rfl
theorem dksX2_open_2 : cX2_open.data.toList.drop 48 = dktX2_open_2 := dk_seg dksX2_open_1 24 rfl rfl
theorem dX2_open_0 : decode cX2_open 0 = .ok (.aload_n 0, 1) := dk_42 (dk_at dksX2_open_0 0 rfl rfl)
theorem dX2_open_1 : decode cX2_open 1 = .ok (.getfield 22, 3) := dk_180 0 22 (dk_at dksX2_open_0 1 rfl rfl)
theorem dX2_open_4 : decode cX2_open 4 = .ok (.aload_n 1, 1) := dk_43 (dk_at dksX2_open_0 4 rfl rfl)
theorem dX2_open_5 : decode cX2_open 5 = .ok (.getfield 237, 3) := dk_180 0 237 (dk_at dksX2_open_0 5 rfl rfl)
theorem dX2_open_8 : decode cX2_open 8 = .ok (.invokevirtual 114, 3) := dk_182 0 114 (dk_at dksX2_open_0 8 rfl rfl)
theorem dX2_open_11 : decode cX2_open 11 = .ok (.checkcast 79, 3) := dk_192 0 79 (dk_at dksX2_open_0 11 rfl rfl)
theorem dX2_open_14 : decode cX2_open 14 = .ok (.astore_n 2, 1) := dk_77 (dk_at dksX2_open_0 14 rfl rfl)
theorem dX2_open_15 : decode cX2_open 15 = .ok (.aload_n 1, 1) := dk_43 (dk_at dksX2_open_0 15 rfl rfl)
theorem dX2_open_16 : decode cX2_open 16 = .ok (.getfield 158, 3) := dk_180 0 158 (dk_at dksX2_open_0 16 rfl rfl)
theorem dX2_open_19 : decode cX2_open 19 = .ok (.ifCond .eq 24, 3) := dk_153 0 24 (dk_at dksX2_open_0 19 rfl rfl)
theorem dX2_open_22 : decode cX2_open 22 = .ok (.aload_n 2, 1) := dk_44 (dk_at dksX2_open_0 22 rfl rfl)
theorem dX2_open_23 : decode cX2_open 23 = .ok (.dup, 1) := dk_89 (dk_at dksX2_open_0 23 rfl rfl)
theorem dX2_open_24 : decode cX2_open 24 = .ok (.getfield 240, 3) := dk_180 0 240 (dk_at dksX2_open_1 0 rfl rfl)
theorem dX2_open_27 : decode cX2_open 27 = .ok (.aload_n 1, 1) := dk_43 (dk_at dksX2_open_1 3 rfl rfl)
theorem dX2_open_28 : decode cX2_open 28 = .ok (.getfield 182, 3) := dk_180 0 182 (dk_at dksX2_open_1 4 rfl rfl)
theorem dX2_open_31 : decode cX2_open 31 = .ok (.aload_n 1, 1) := dk_43 (dk_at dksX2_open_1 7 rfl rfl)
theorem dX2_open_32 : decode cX2_open 32 = .ok (.getfield 173, 3) := dk_180 0 173 (dk_at dksX2_open_1 8 rfl rfl)
theorem dX2_open_35 : decode cX2_open 35 = .ok (.imul, 1) := dk_104 (dk_at dksX2_open_1 11 rfl rfl)
theorem dX2_open_36 : decode cX2_open 36 = .ok (.isub, 1) := dk_100 (dk_at dksX2_open_1 12 rfl rfl)
theorem dX2_open_37 : decode cX2_open 37 = .ok (.putfield 240, 3) := dk_181 0 240 (dk_at dksX2_open_1 13 rfl rfl)
theorem dX2_open_40 : decode cX2_open 40 = .ok (.goto 16, 3) := dk_167 0 16 (dk_at dksX2_open_1 16 rfl rfl)
theorem dX2_open_43 : decode cX2_open 43 = .ok (.aload_n 2, 1) := dk_44 (dk_at dksX2_open_1 19 rfl rfl)
theorem dX2_open_44 : decode cX2_open 44 = .ok (.dup, 1) := dk_89 (dk_at dksX2_open_1 20 rfl rfl)
theorem dX2_open_45 : decode cX2_open 45 = .ok (.getfield 243, 3) := dk_180 0 243 (dk_at dksX2_open_1 21 rfl rfl)
theorem dX2_open_48 : decode cX2_open 48 = .ok (.aload_n 1, 1) := dk_43 (dk_at dksX2_open_2 0 rfl rfl)
theorem dX2_open_49 : decode cX2_open 49 = .ok (.getfield 173, 3) := dk_180 0 173 (dk_at dksX2_open_2 1 rfl rfl)
theorem dX2_open_52 : decode cX2_open 52 = .ok (.isub, 1) := dk_100 (dk_at dksX2_open_2 4 rfl rfl)
theorem dX2_open_53 : decode cX2_open 53 = .ok (.putfield 243, 3) := dk_181 0 243 (dk_at dksX2_open_2 5 rfl rfl)
theorem dX2_open_56 : decode cX2_open 56 = .ok (.aload_n 0, 1) := dk_42 (dk_at dksX2_open_2 8 rfl rfl)
theorem dX2_open_57 : decode cX2_open 57 = .ok (.getfield 26, 3) := dk_180 0 26 (dk_at dksX2_open_2 9 rfl rfl)
theorem dX2_open_60 : decode cX2_open 60 = .ok (.aload_n 1, 1) := dk_43 (dk_at dksX2_open_2 12 rfl rfl)
theorem dX2_open_61 : decode cX2_open 61 = .ok (.invokevirtual 84, 3) := dk_182 0 84 (dk_at dksX2_open_2 13 rfl rfl)
theorem dX2_open_64 : decode cX2_open 64 = .ok (.istore_n 3, 1) := dk_62 (dk_at dksX2_open_2 16 rfl rfl)
theorem dX2_open_65 : decode cX2_open 65 = .ok (.return_, 1) := dk_177 (dk_at dksX2_open_2 17 rfl rfl)
abbrev cX2_cancelOrder : ByteArray := prog_11_method_21_code
def yX2_cancelOrder : MethodName := ⟨RX2, "cancelOrder", "(I)I"⟩
def dkwX2_cancelOrder_3 : List UInt8 := [181, 0, 243, 42, 44, 182, 1, 16, 44, 180, 0, 173, 172]
abbrev dktX2_cancelOrder_3 : List UInt8 := dkwX2_cancelOrder_3 ++ []
def dkwX2_cancelOrder_2 : List UInt8 := [181, 0, 240, 45, 89, 180, 0, 243, 44, 180, 0, 158, 153, 0, 7, 3, 167, 0, 7, 44, 180, 0, 173, 96]
abbrev dktX2_cancelOrder_2 : List UInt8 := dkwX2_cancelOrder_2 ++ dktX2_cancelOrder_3
def dkwX2_cancelOrder_1 : List UInt8 := [180, 0, 240, 44, 180, 0, 158, 153, 0, 15, 44, 180, 0, 182, 44, 180, 0, 173, 104, 167, 0, 4, 3, 96]
abbrev dktX2_cancelOrder_1 : List UInt8 := dkwX2_cancelOrder_1 ++ dktX2_cancelOrder_2
def dkwX2_cancelOrder_0 : List UInt8 := [42, 27, 182, 1, 22, 77, 42, 180, 0, 22, 44, 180, 0, 237, 182, 0, 114, 192, 0, 79, 78, 45, 89]
abbrev dktX2_cancelOrder_0 : List UInt8 := dkwX2_cancelOrder_0 ++ dktX2_cancelOrder_1
theorem dksX2_cancelOrder_0 : cX2_cancelOrder.data.toList.drop 0 = dktX2_cancelOrder_0 := by decide +kernel
theorem dksX2_cancelOrder_1 : cX2_cancelOrder.data.toList.drop 23 = dktX2_cancelOrder_1 := dk_seg dksX2_cancelOrder_0 23 rfl rfl
theorem dksX2_cancelOrder_2 : cX2_cancelOrder.data.toList.drop 47 = dktX2_cancelOrder_2 := dk_seg dksX2_cancelOrder_1 24 rfl rfl
theorem dksX2_cancelOrder_3 : cX2_cancelOrder.data.toList.drop 71 = dktX2_cancelOrder_3 := dk_seg dksX2_cancelOrder_2 24 rfl rfl
theorem dX2_cancelOrder_0 : decode cX2_cancelOrder 0 = .ok (.aload_n 0, 1) := dk_42 (dk_at dksX2_cancelOrder_0 0 rfl rfl)
theorem dX2_cancelOrder_1 : decode cX2_cancelOrder 1 = .ok (.iload_n 1, 1) := dk_27 (dk_at dksX2_cancelOrder_0 1 rfl rfl)
theorem dX2_cancelOrder_2 : decode cX2_cancelOrder 2 = .ok (.invokevirtual 278, 3) := dk_182 1 22 (dk_at dksX2_cancelOrder_0 2 rfl rfl)
theorem dX2_cancelOrder_5 : decode cX2_cancelOrder 5 = .ok (.astore_n 2, 1) := dk_77 (dk_at dksX2_cancelOrder_0 5 rfl rfl)
theorem dX2_cancelOrder_6 : decode cX2_cancelOrder 6 = .ok (.aload_n 0, 1) := dk_42 (dk_at dksX2_cancelOrder_0 6 rfl rfl)
theorem dX2_cancelOrder_7 : decode cX2_cancelOrder 7 = .ok (.getfield 22, 3) := dk_180 0 22 (dk_at dksX2_cancelOrder_0 7 rfl rfl)
theorem dX2_cancelOrder_10 : decode cX2_cancelOrder 10 = .ok (.aload_n 2, 1) := dk_44 (dk_at dksX2_cancelOrder_0 10 rfl rfl)
theorem dX2_cancelOrder_11 : decode cX2_cancelOrder 11 = .ok (.getfield 237, 3) := dk_180 0 237 (dk_at dksX2_cancelOrder_0 11 rfl rfl)
theorem dX2_cancelOrder_14 : decode cX2_cancelOrder 14 = .ok (.invokevirtual 114, 3) := dk_182 0 114 (dk_at dksX2_cancelOrder_0 14 rfl rfl)
theorem dX2_cancelOrder_17 : decode cX2_cancelOrder 17 = .ok (.checkcast 79, 3) := dk_192 0 79 (dk_at dksX2_cancelOrder_0 17 rfl rfl)
theorem dX2_cancelOrder_20 : decode cX2_cancelOrder 20 = .ok (.astore_n 3, 1) := dk_78 (dk_at dksX2_cancelOrder_0 20 rfl rfl)
theorem dX2_cancelOrder_21 : decode cX2_cancelOrder 21 = .ok (.aload_n 3, 1) := dk_45 (dk_at dksX2_cancelOrder_0 21 rfl rfl)
theorem dX2_cancelOrder_22 : decode cX2_cancelOrder 22 = .ok (.dup, 1) := dk_89 (dk_at dksX2_cancelOrder_0 22 rfl rfl)
theorem dX2_cancelOrder_23 : decode cX2_cancelOrder 23 = .ok (.getfield 240, 3) := dk_180 0 240 (dk_at dksX2_cancelOrder_1 0 rfl rfl)
theorem dX2_cancelOrder_26 : decode cX2_cancelOrder 26 = .ok (.aload_n 2, 1) := dk_44 (dk_at dksX2_cancelOrder_1 3 rfl rfl)
theorem dX2_cancelOrder_27 : decode cX2_cancelOrder 27 = .ok (.getfield 158, 3) := dk_180 0 158 (dk_at dksX2_cancelOrder_1 4 rfl rfl)
theorem dX2_cancelOrder_30 : decode cX2_cancelOrder 30 = .ok (.ifCond .eq 15, 3) := dk_153 0 15 (dk_at dksX2_cancelOrder_1 7 rfl rfl)
theorem dX2_cancelOrder_33 : decode cX2_cancelOrder 33 = .ok (.aload_n 2, 1) := dk_44 (dk_at dksX2_cancelOrder_1 10 rfl rfl)
theorem dX2_cancelOrder_34 : decode cX2_cancelOrder 34 = .ok (.getfield 182, 3) := dk_180 0 182 (dk_at dksX2_cancelOrder_1 11 rfl rfl)
theorem dX2_cancelOrder_37 : decode cX2_cancelOrder 37 = .ok (.aload_n 2, 1) := dk_44 (dk_at dksX2_cancelOrder_1 14 rfl rfl)
theorem dX2_cancelOrder_38 : decode cX2_cancelOrder 38 = .ok (.getfield 173, 3) := dk_180 0 173 (dk_at dksX2_cancelOrder_1 15 rfl rfl)
theorem dX2_cancelOrder_41 : decode cX2_cancelOrder 41 = .ok (.imul, 1) := dk_104 (dk_at dksX2_cancelOrder_1 18 rfl rfl)
theorem dX2_cancelOrder_42 : decode cX2_cancelOrder 42 = .ok (.goto 4, 3) := dk_167 0 4 (dk_at dksX2_cancelOrder_1 19 rfl rfl)
theorem dX2_cancelOrder_45 : decode cX2_cancelOrder 45 = .ok (.iconst 0, 1) := dk_3 (dk_at dksX2_cancelOrder_1 22 rfl rfl)
theorem dX2_cancelOrder_46 : decode cX2_cancelOrder 46 = .ok (.iadd, 1) := dk_96 (dk_at dksX2_cancelOrder_1 23 rfl rfl)
theorem dX2_cancelOrder_47 : decode cX2_cancelOrder 47 = .ok (.putfield 240, 3) := dk_181 0 240 (dk_at dksX2_cancelOrder_2 0 rfl rfl)
theorem dX2_cancelOrder_50 : decode cX2_cancelOrder 50 = .ok (.aload_n 3, 1) := dk_45 (dk_at dksX2_cancelOrder_2 3 rfl rfl)
theorem dX2_cancelOrder_51 : decode cX2_cancelOrder 51 = .ok (.dup, 1) := dk_89 (dk_at dksX2_cancelOrder_2 4 rfl rfl)
theorem dX2_cancelOrder_52 : decode cX2_cancelOrder 52 = .ok (.getfield 243, 3) := dk_180 0 243 (dk_at dksX2_cancelOrder_2 5 rfl rfl)
theorem dX2_cancelOrder_55 : decode cX2_cancelOrder 55 = .ok (.aload_n 2, 1) := dk_44 (dk_at dksX2_cancelOrder_2 8 rfl rfl)
theorem dX2_cancelOrder_56 : decode cX2_cancelOrder 56 = .ok (.getfield 158, 3) := dk_180 0 158 (dk_at dksX2_cancelOrder_2 9 rfl rfl)
theorem dX2_cancelOrder_59 : decode cX2_cancelOrder 59 = .ok (.ifCond .eq 7, 3) := dk_153 0 7 (dk_at dksX2_cancelOrder_2 12 rfl rfl)
theorem dX2_cancelOrder_62 : decode cX2_cancelOrder 62 = .ok (.iconst 0, 1) := dk_3 (dk_at dksX2_cancelOrder_2 15 rfl rfl)
theorem dX2_cancelOrder_63 : decode cX2_cancelOrder 63 = .ok (.goto 7, 3) := dk_167 0 7 (dk_at dksX2_cancelOrder_2 16 rfl rfl)
theorem dX2_cancelOrder_66 : decode cX2_cancelOrder 66 = .ok (.aload_n 2, 1) := dk_44 (dk_at dksX2_cancelOrder_2 19 rfl rfl)
theorem dX2_cancelOrder_67 : decode cX2_cancelOrder 67 = .ok (.getfield 173, 3) := dk_180 0 173 (dk_at dksX2_cancelOrder_2 20 rfl rfl)
theorem dX2_cancelOrder_70 : decode cX2_cancelOrder 70 = .ok (.iadd, 1) := dk_96 (dk_at dksX2_cancelOrder_2 23 rfl rfl)
theorem dX2_cancelOrder_71 : decode cX2_cancelOrder 71 = .ok (.putfield 243, 3) := dk_181 0 243 (dk_at dksX2_cancelOrder_3 0 rfl rfl)
theorem dX2_cancelOrder_74 : decode cX2_cancelOrder 74 = .ok (.aload_n 0, 1) := dk_42 (dk_at dksX2_cancelOrder_3 3 rfl rfl)
theorem dX2_cancelOrder_75 : decode cX2_cancelOrder 75 = .ok (.aload_n 2, 1) := dk_44 (dk_at dksX2_cancelOrder_3 4 rfl rfl)
theorem dX2_cancelOrder_76 : decode cX2_cancelOrder 76 = .ok (.invokevirtual 272, 3) := dk_182 1 16 (dk_at dksX2_cancelOrder_3 5 rfl rfl)
theorem dX2_cancelOrder_79 : decode cX2_cancelOrder 79 = .ok (.aload_n 2, 1) := dk_44 (dk_at dksX2_cancelOrder_3 8 rfl rfl)
theorem dX2_cancelOrder_80 : decode cX2_cancelOrder 80 = .ok (.getfield 173, 3) := dk_180 0 173 (dk_at dksX2_cancelOrder_3 9 rfl rfl)
theorem dX2_cancelOrder_83 : decode cX2_cancelOrder 83 = .ok (.ireturn, 1) := dk_172 (dk_at dksX2_cancelOrder_3 12 rfl rfl)
abbrev cX2_order : ByteArray := prog_11_method_5_code
def yX2_order : MethodName := ⟨RX2, "order", "(I)LWindowExchange$Order;"⟩
def dkwX2_order_2 : List UInt8 := [44, 77, 167, 255, 220, 44, 198, 0, 7, 4, 167, 0, 4, 3, 184, 0, 123, 44, 176]
abbrev dktX2_order_2 : List UInt8 := dkwX2_order_2 ++ []
def dkwX2_order_1 : List UInt8 := [185, 0, 75, 1, 0, 192, 0, 88, 58, 4, 25, 4, 180, 0, 120, 27, 160, 0, 8, 25, 4, 167, 0, 4]
abbrev dktX2_order_1 : List UInt8 := dkwX2_order_1 ++ dktX2_order_2
def dkwX2_order_0 : List UInt8 := [1, 77, 42, 180, 0, 26, 182, 0, 65, 78, 45, 185, 0, 69, 1, 0, 153, 0, 33, 45]
abbrev dktX2_order_0 : List UInt8 := dkwX2_order_0 ++ dktX2_order_1
theorem dksX2_order_0 : cX2_order.data.toList.drop 0 = dktX2_order_0 := by decide +kernel
theorem dksX2_order_1 : cX2_order.data.toList.drop 20 = dktX2_order_1 := dk_seg dksX2_order_0 20 rfl rfl
theorem dksX2_order_2 : cX2_order.data.toList.drop 44 = dktX2_order_2 := dk_seg dksX2_order_1 24 rfl rfl
theorem dX2_order_0 : decode cX2_order 0 = .ok (.aconst_null, 1) := dk_1 (dk_at dksX2_order_0 0 rfl rfl)
theorem dX2_order_1 : decode cX2_order 1 = .ok (.astore_n 2, 1) := dk_77 (dk_at dksX2_order_0 1 rfl rfl)
theorem dX2_order_2 : decode cX2_order 2 = .ok (.aload_n 0, 1) := dk_42 (dk_at dksX2_order_0 2 rfl rfl)
theorem dX2_order_3 : decode cX2_order 3 = .ok (.getfield 26, 3) := dk_180 0 26 (dk_at dksX2_order_0 3 rfl rfl)
theorem dX2_order_6 : decode cX2_order 6 = .ok (.invokevirtual 65, 3) := dk_182 0 65 (dk_at dksX2_order_0 6 rfl rfl)
theorem dX2_order_9 : decode cX2_order 9 = .ok (.astore_n 3, 1) := dk_78 (dk_at dksX2_order_0 9 rfl rfl)
theorem dX2_order_10 : decode cX2_order 10 = .ok (.aload_n 3, 1) := dk_45 (dk_at dksX2_order_0 10 rfl rfl)
theorem dX2_order_11 : decode cX2_order 11 = .ok (.invokeinterface 69 1, 5) := by decide +kernel
theorem dX2_order_16 : decode cX2_order 16 = .ok (.ifCond .eq 33, 3) := dk_153 0 33 (dk_at dksX2_order_0 16 rfl rfl)
theorem dX2_order_19 : decode cX2_order 19 = .ok (.aload_n 3, 1) := dk_45 (dk_at dksX2_order_0 19 rfl rfl)
theorem dX2_order_20 : decode cX2_order 20 = .ok (.invokeinterface 75 1, 5) := by decide +kernel
theorem dX2_order_25 : decode cX2_order 25 = .ok (.checkcast 88, 3) := dk_192 0 88 (dk_at dksX2_order_1 5 rfl rfl)
theorem dX2_order_28 : decode cX2_order 28 = .ok (.astore 4, 2) := dk_58 4 (dk_at dksX2_order_1 8 rfl rfl)
theorem dX2_order_30 : decode cX2_order 30 = .ok (.aload 4, 2) := dk_25 4 (dk_at dksX2_order_1 10 rfl rfl)
theorem dX2_order_32 : decode cX2_order 32 = .ok (.getfield 120, 3) := dk_180 0 120 (dk_at dksX2_order_1 12 rfl rfl)
theorem dX2_order_35 : decode cX2_order 35 = .ok (.iload_n 1, 1) := dk_27 (dk_at dksX2_order_1 15 rfl rfl)
theorem dX2_order_36 : decode cX2_order 36 = .ok (.if_icmp .ne 8, 3) := dk_160 0 8 (dk_at dksX2_order_1 16 rfl rfl)
theorem dX2_order_39 : decode cX2_order 39 = .ok (.aload 4, 2) := dk_25 4 (dk_at dksX2_order_1 19 rfl rfl)
theorem dX2_order_41 : decode cX2_order 41 = .ok (.goto 4, 3) := dk_167 0 4 (dk_at dksX2_order_1 21 rfl rfl)
theorem dX2_order_44 : decode cX2_order 44 = .ok (.aload_n 2, 1) := dk_44 (dk_at dksX2_order_2 0 rfl rfl)
theorem dX2_order_45 : decode cX2_order 45 = .ok (.astore_n 2, 1) := dk_77 (dk_at dksX2_order_2 1 rfl rfl)
theorem dX2_order_46 : decode cX2_order 46 = .ok (.goto (-36), 3) := dk_167 255 220 (dk_at dksX2_order_2 2 rfl rfl)
theorem dX2_order_49 : decode cX2_order 49 = .ok (.aload_n 2, 1) := dk_44 (dk_at dksX2_order_2 5 rfl rfl)
theorem dX2_order_50 : decode cX2_order 50 = .ok (.ifnull 7, 3) := dk_198 0 7 (dk_at dksX2_order_2 6 rfl rfl)
theorem dX2_order_53 : decode cX2_order 53 = .ok (.iconst 1, 1) := dk_4 (dk_at dksX2_order_2 9 rfl rfl)
theorem dX2_order_54 : decode cX2_order 54 = .ok (.goto 4, 3) := dk_167 0 4 (dk_at dksX2_order_2 10 rfl rfl)
theorem dX2_order_57 : decode cX2_order 57 = .ok (.iconst 0, 1) := dk_3 (dk_at dksX2_order_2 13 rfl rfl)
theorem dX2_order_58 : decode cX2_order 58 = .ok (.invokestatic 123, 3) := dk_184 0 123 (dk_at dksX2_order_2 14 rfl rfl)
theorem dX2_order_61 : decode cX2_order 61 = .ok (.aload_n 2, 1) := dk_44 (dk_at dksX2_order_2 17 rfl rfl)
theorem dX2_order_62 : decode cX2_order 62 = .ok (.areturn, 1) := dk_176 (dk_at dksX2_order_2 18 rfl rfl)
abbrev cX2_agree : ByteArray := prog_11_method_22_code
def yX2_agree : MethodName := ⟨RX2, "agree", "(IIIII)I"⟩
def dkwX2_agree_5 : List UInt8 := [182, 0, 106, 4, 100, 172]
abbrev dktX2_agree_5 : List UInt8 := dkwX2_agree_5 ++ []
def dkwX2_agree_4 : List UInt8 := [27, 28, 29, 21, 4, 42, 180, 0, 35, 21, 5, 96, 183, 1, 26, 182, 0, 84, 54, 6, 42, 180, 0, 29]
abbrev dktX2_agree_4 : List UInt8 := dkwX2_agree_4 ++ dktX2_agree_5
def dkwX2_agree_3 : List UInt8 := [182, 0, 106, 16, 8, 162, 0, 7, 4, 167, 0, 4, 3, 184, 0, 229, 42, 180, 0, 29, 187, 0, 118, 89]
abbrev dktX2_agree_3 : List UInt8 := dkwX2_agree_3 ++ dktX2_agree_4
def dkwX2_agree_2 : List UInt8 := [21, 5, 4, 16, 99, 184, 0, 222, 153, 0, 7, 4, 167, 0, 4, 3, 184, 0, 226, 42, 180, 0, 29]
abbrev dktX2_agree_2 : List UInt8 := dkwX2_agree_2 ++ dktX2_agree_3
def dkwX2_agree_1 : List UInt8 := [159, 0, 39, 29, 4, 16, 50, 184, 0, 222, 153, 0, 29, 21, 4, 4, 16, 99, 184, 0, 222, 153, 0, 18]
abbrev dktX2_agree_1 : List UInt8 := dkwX2_agree_1 ++ dktX2_agree_2
def dkwX2_agree_0 : List UInt8 := [27, 42, 180, 0, 22, 182, 0, 106, 184, 0, 110, 28, 42, 180, 0, 22, 182, 0, 106, 184, 0, 110, 27, 28]
abbrev dktX2_agree_0 : List UInt8 := dkwX2_agree_0 ++ dktX2_agree_1
theorem dksX2_agree_0 : cX2_agree.data.toList.drop 0 = dktX2_agree_0 := by decide +kernel
theorem dksX2_agree_1 : cX2_agree.data.toList.drop 24 = dktX2_agree_1 := dk_seg dksX2_agree_0 24 rfl rfl
theorem dksX2_agree_2 : cX2_agree.data.toList.drop 48 = dktX2_agree_2 := dk_seg dksX2_agree_1 24 rfl rfl
theorem dksX2_agree_3 : cX2_agree.data.toList.drop 71 = dktX2_agree_3 := dk_seg dksX2_agree_2 23 rfl rfl
theorem dksX2_agree_4 : cX2_agree.data.toList.drop 95 = dktX2_agree_4 := dk_seg dksX2_agree_3 24 rfl rfl
theorem dksX2_agree_5 : cX2_agree.data.toList.drop 119 = dktX2_agree_5 := dk_seg dksX2_agree_4 24 rfl rfl
theorem dX2_agree_0 : decode cX2_agree 0 = .ok (.iload_n 1, 1) := dk_27 (dk_at dksX2_agree_0 0 rfl rfl)
theorem dX2_agree_1 : decode cX2_agree 1 = .ok (.aload_n 0, 1) := dk_42 (dk_at dksX2_agree_0 1 rfl rfl)
theorem dX2_agree_2 : decode cX2_agree 2 = .ok (.getfield 22, 3) := dk_180 0 22 (dk_at dksX2_agree_0 2 rfl rfl)
theorem dX2_agree_5 : decode cX2_agree 5 = .ok (.invokevirtual 106, 3) := dk_182 0 106 (dk_at dksX2_agree_0 5 rfl rfl)
theorem dX2_agree_8 : decode cX2_agree 8 = .ok (.invokestatic 110, 3) := dk_184 0 110 (dk_at dksX2_agree_0 8 rfl rfl)
theorem dX2_agree_11 : decode cX2_agree 11 = .ok (.iload_n 2, 1) := dk_28 (dk_at dksX2_agree_0 11 rfl rfl)
theorem dX2_agree_12 : decode cX2_agree 12 = .ok (.aload_n 0, 1) := dk_42 (dk_at dksX2_agree_0 12 rfl rfl)
theorem dX2_agree_13 : decode cX2_agree 13 = .ok (.getfield 22, 3) := dk_180 0 22 (dk_at dksX2_agree_0 13 rfl rfl)
theorem dX2_agree_16 : decode cX2_agree 16 = .ok (.invokevirtual 106, 3) := dk_182 0 106 (dk_at dksX2_agree_0 16 rfl rfl)
theorem dX2_agree_19 : decode cX2_agree 19 = .ok (.invokestatic 110, 3) := dk_184 0 110 (dk_at dksX2_agree_0 19 rfl rfl)
theorem dX2_agree_22 : decode cX2_agree 22 = .ok (.iload_n 1, 1) := dk_27 (dk_at dksX2_agree_0 22 rfl rfl)
theorem dX2_agree_23 : decode cX2_agree 23 = .ok (.iload_n 2, 1) := dk_28 (dk_at dksX2_agree_0 23 rfl rfl)
theorem dX2_agree_24 : decode cX2_agree 24 = .ok (.if_icmp .eq 39, 3) := dk_159 0 39 (dk_at dksX2_agree_1 0 rfl rfl)
theorem dX2_agree_27 : decode cX2_agree 27 = .ok (.iload_n 3, 1) := dk_29 (dk_at dksX2_agree_1 3 rfl rfl)
theorem dX2_agree_28 : decode cX2_agree 28 = .ok (.iconst 1, 1) := dk_4 (dk_at dksX2_agree_1 4 rfl rfl)
theorem dX2_agree_29 : decode cX2_agree 29 = .ok (.bipush 50, 2) := dk_16 50 (dk_at dksX2_agree_1 5 rfl rfl)
theorem dX2_agree_31 : decode cX2_agree 31 = .ok (.invokestatic 222, 3) := dk_184 0 222 (dk_at dksX2_agree_1 7 rfl rfl)
theorem dX2_agree_34 : decode cX2_agree 34 = .ok (.ifCond .eq 29, 3) := dk_153 0 29 (dk_at dksX2_agree_1 10 rfl rfl)
theorem dX2_agree_37 : decode cX2_agree 37 = .ok (.iload 4, 2) := dk_21 4 (dk_at dksX2_agree_1 13 rfl rfl)
theorem dX2_agree_39 : decode cX2_agree 39 = .ok (.iconst 1, 1) := dk_4 (dk_at dksX2_agree_1 15 rfl rfl)
theorem dX2_agree_40 : decode cX2_agree 40 = .ok (.bipush 99, 2) := dk_16 99 (dk_at dksX2_agree_1 16 rfl rfl)
theorem dX2_agree_42 : decode cX2_agree 42 = .ok (.invokestatic 222, 3) := dk_184 0 222 (dk_at dksX2_agree_1 18 rfl rfl)
theorem dX2_agree_45 : decode cX2_agree 45 = .ok (.ifCond .eq 18, 3) := dk_153 0 18 (dk_at dksX2_agree_1 21 rfl rfl)
theorem dX2_agree_48 : decode cX2_agree 48 = .ok (.iload 5, 2) := dk_21 5 (dk_at dksX2_agree_2 0 rfl rfl)
theorem dX2_agree_50 : decode cX2_agree 50 = .ok (.iconst 1, 1) := dk_4 (dk_at dksX2_agree_2 2 rfl rfl)
theorem dX2_agree_51 : decode cX2_agree 51 = .ok (.bipush 99, 2) := dk_16 99 (dk_at dksX2_agree_2 3 rfl rfl)
theorem dX2_agree_53 : decode cX2_agree 53 = .ok (.invokestatic 222, 3) := dk_184 0 222 (dk_at dksX2_agree_2 5 rfl rfl)
theorem dX2_agree_56 : decode cX2_agree 56 = .ok (.ifCond .eq 7, 3) := dk_153 0 7 (dk_at dksX2_agree_2 8 rfl rfl)
theorem dX2_agree_59 : decode cX2_agree 59 = .ok (.iconst 1, 1) := dk_4 (dk_at dksX2_agree_2 11 rfl rfl)
theorem dX2_agree_60 : decode cX2_agree 60 = .ok (.goto 4, 3) := dk_167 0 4 (dk_at dksX2_agree_2 12 rfl rfl)
theorem dX2_agree_63 : decode cX2_agree 63 = .ok (.iconst 0, 1) := dk_3 (dk_at dksX2_agree_2 15 rfl rfl)
theorem dX2_agree_64 : decode cX2_agree 64 = .ok (.invokestatic 226, 3) := dk_184 0 226 (dk_at dksX2_agree_2 16 rfl rfl)
theorem dX2_agree_67 : decode cX2_agree 67 = .ok (.aload_n 0, 1) := dk_42 (dk_at dksX2_agree_2 19 rfl rfl)
theorem dX2_agree_68 : decode cX2_agree 68 = .ok (.getfield 29, 3) := dk_180 0 29 (dk_at dksX2_agree_2 20 rfl rfl)
theorem dX2_agree_71 : decode cX2_agree 71 = .ok (.invokevirtual 106, 3) := dk_182 0 106 (dk_at dksX2_agree_3 0 rfl rfl)
theorem dX2_agree_74 : decode cX2_agree 74 = .ok (.bipush 8, 2) := dk_16 8 (dk_at dksX2_agree_3 3 rfl rfl)
theorem dX2_agree_76 : decode cX2_agree 76 = .ok (.if_icmp .ge 7, 3) := dk_162 0 7 (dk_at dksX2_agree_3 5 rfl rfl)
theorem dX2_agree_79 : decode cX2_agree 79 = .ok (.iconst 1, 1) := dk_4 (dk_at dksX2_agree_3 8 rfl rfl)
theorem dX2_agree_80 : decode cX2_agree 80 = .ok (.goto 4, 3) := dk_167 0 4 (dk_at dksX2_agree_3 9 rfl rfl)
theorem dX2_agree_83 : decode cX2_agree 83 = .ok (.iconst 0, 1) := dk_3 (dk_at dksX2_agree_3 12 rfl rfl)
theorem dX2_agree_84 : decode cX2_agree 84 = .ok (.invokestatic 229, 3) := dk_184 0 229 (dk_at dksX2_agree_3 13 rfl rfl)
theorem dX2_agree_87 : decode cX2_agree 87 = .ok (.aload_n 0, 1) := dk_42 (dk_at dksX2_agree_3 16 rfl rfl)
theorem dX2_agree_88 : decode cX2_agree 88 = .ok (.getfield 29, 3) := dk_180 0 29 (dk_at dksX2_agree_3 17 rfl rfl)
theorem dX2_agree_91 : decode cX2_agree 91 = .ok (.new 118, 3) := dk_187 0 118 (dk_at dksX2_agree_3 20 rfl rfl)
theorem dX2_agree_94 : decode cX2_agree 94 = .ok (.dup, 1) := dk_89 (dk_at dksX2_agree_3 23 rfl rfl)
theorem dX2_agree_95 : decode cX2_agree 95 = .ok (.iload_n 1, 1) := dk_27 (dk_at dksX2_agree_4 0 rfl rfl)
theorem dX2_agree_96 : decode cX2_agree 96 = .ok (.iload_n 2, 1) := dk_28 (dk_at dksX2_agree_4 1 rfl rfl)
theorem dX2_agree_97 : decode cX2_agree 97 = .ok (.iload_n 3, 1) := dk_29 (dk_at dksX2_agree_4 2 rfl rfl)
theorem dX2_agree_98 : decode cX2_agree 98 = .ok (.iload 4, 2) := dk_21 4 (dk_at dksX2_agree_4 3 rfl rfl)
theorem dX2_agree_100 : decode cX2_agree 100 = .ok (.aload_n 0, 1) := dk_42 (dk_at dksX2_agree_4 5 rfl rfl)
theorem dX2_agree_101 : decode cX2_agree 101 = .ok (.getfield 35, 3) := dk_180 0 35 (dk_at dksX2_agree_4 6 rfl rfl)
theorem dX2_agree_104 : decode cX2_agree 104 = .ok (.iload 5, 2) := dk_21 5 (dk_at dksX2_agree_4 9 rfl rfl)
theorem dX2_agree_106 : decode cX2_agree 106 = .ok (.iadd, 1) := dk_96 (dk_at dksX2_agree_4 11 rfl rfl)
theorem dX2_agree_107 : decode cX2_agree 107 = .ok (.invokespecial 282, 3) := dk_183 1 26 (dk_at dksX2_agree_4 12 rfl rfl)
theorem dX2_agree_110 : decode cX2_agree 110 = .ok (.invokevirtual 84, 3) := dk_182 0 84 (dk_at dksX2_agree_4 15 rfl rfl)
theorem dX2_agree_113 : decode cX2_agree 113 = .ok (.istore 6, 2) := dk_54 6 (dk_at dksX2_agree_4 18 rfl rfl)
theorem dX2_agree_115 : decode cX2_agree 115 = .ok (.aload_n 0, 1) := dk_42 (dk_at dksX2_agree_4 20 rfl rfl)
theorem dX2_agree_116 : decode cX2_agree 116 = .ok (.getfield 29, 3) := dk_180 0 29 (dk_at dksX2_agree_4 21 rfl rfl)
theorem dX2_agree_119 : decode cX2_agree 119 = .ok (.invokevirtual 106, 3) := dk_182 0 106 (dk_at dksX2_agree_5 0 rfl rfl)
theorem dX2_agree_122 : decode cX2_agree 122 = .ok (.iconst 1, 1) := dk_4 (dk_at dksX2_agree_5 3 rfl rfl)
theorem dX2_agree_123 : decode cX2_agree 123 = .ok (.isub, 1) := dk_100 (dk_at dksX2_agree_5 4 rfl rfl)
theorem dX2_agree_124 : decode cX2_agree 124 = .ok (.ireturn, 1) := dk_172 (dk_at dksX2_agree_5 5 rfl rfl)
abbrev cX2_advance : ByteArray := prog_11_method_25_code
def yX2_advance : MethodName := ⟨RX2, "advance", "(I)I"⟩
def dkwX2_advance_1 : List UInt8 := [96, 61, 132, 3, 1, 167, 255, 241, 28, 172]
abbrev dktX2_advance_1 : List UInt8 := dkwX2_advance_1 ++ []
def dkwX2_advance_0 : List UInt8 := [27, 4, 16, 99, 184, 0, 222, 184, 0, 226, 3, 61, 3, 62, 29, 27, 162, 0, 16, 28, 42, 182, 1, 49]
abbrev dktX2_advance_0 : List UInt8 := dkwX2_advance_0 ++ dktX2_advance_1
theorem dksX2_advance_0 : cX2_advance.data.toList.drop 0 = dktX2_advance_0 := by decide +kernel
theorem dksX2_advance_1 : cX2_advance.data.toList.drop 24 = dktX2_advance_1 := dk_seg dksX2_advance_0 24 rfl rfl
theorem dX2_advance_0 : decode cX2_advance 0 = .ok (.iload_n 1, 1) := dk_27 (dk_at dksX2_advance_0 0 rfl rfl)
theorem dX2_advance_1 : decode cX2_advance 1 = .ok (.iconst 1, 1) := dk_4 (dk_at dksX2_advance_0 1 rfl rfl)
theorem dX2_advance_2 : decode cX2_advance 2 = .ok (.bipush 99, 2) := dk_16 99 (dk_at dksX2_advance_0 2 rfl rfl)
theorem dX2_advance_4 : decode cX2_advance 4 = .ok (.invokestatic 222, 3) := dk_184 0 222 (dk_at dksX2_advance_0 4 rfl rfl)
theorem dX2_advance_7 : decode cX2_advance 7 = .ok (.invokestatic 226, 3) := dk_184 0 226 (dk_at dksX2_advance_0 7 rfl rfl)
theorem dX2_advance_10 : decode cX2_advance 10 = .ok (.iconst 0, 1) := dk_3 (dk_at dksX2_advance_0 10 rfl rfl)
theorem dX2_advance_11 : decode cX2_advance 11 = .ok (.istore_n 2, 1) := dk_61 (dk_at dksX2_advance_0 11 rfl rfl)
theorem dX2_advance_12 : decode cX2_advance 12 = .ok (.iconst 0, 1) := dk_3 (dk_at dksX2_advance_0 12 rfl rfl)
theorem dX2_advance_13 : decode cX2_advance 13 = .ok (.istore_n 3, 1) := dk_62 (dk_at dksX2_advance_0 13 rfl rfl)
theorem dX2_advance_14 : decode cX2_advance 14 = .ok (.iload_n 3, 1) := dk_29 (dk_at dksX2_advance_0 14 rfl rfl)
theorem dX2_advance_15 : decode cX2_advance 15 = .ok (.iload_n 1, 1) := dk_27 (dk_at dksX2_advance_0 15 rfl rfl)
theorem dX2_advance_16 : decode cX2_advance 16 = .ok (.if_icmp .ge 16, 3) := dk_162 0 16 (dk_at dksX2_advance_0 16 rfl rfl)
theorem dX2_advance_19 : decode cX2_advance 19 = .ok (.iload_n 2, 1) := dk_28 (dk_at dksX2_advance_0 19 rfl rfl)
theorem dX2_advance_20 : decode cX2_advance 20 = .ok (.aload_n 0, 1) := dk_42 (dk_at dksX2_advance_0 20 rfl rfl)
theorem dX2_advance_21 : decode cX2_advance 21 = .ok (.invokevirtual 305, 3) := dk_182 1 49 (dk_at dksX2_advance_0 21 rfl rfl)
theorem dX2_advance_24 : decode cX2_advance 24 = .ok (.iadd, 1) := dk_96 (dk_at dksX2_advance_1 0 rfl rfl)
theorem dX2_advance_25 : decode cX2_advance 25 = .ok (.istore_n 2, 1) := dk_61 (dk_at dksX2_advance_1 1 rfl rfl)
theorem dX2_advance_26 : decode cX2_advance 26 = .ok (.iinc 3 1, 3) := dk_132 3 1 (dk_at dksX2_advance_1 2 rfl rfl)
theorem dX2_advance_29 : decode cX2_advance 29 = .ok (.goto (-15), 3) := dk_167 255 241 (dk_at dksX2_advance_1 5 rfl rfl)
theorem dX2_advance_32 : decode cX2_advance 32 = .ok (.iload_n 2, 1) := dk_28 (dk_at dksX2_advance_1 8 rfl rfl)
theorem dX2_advance_33 : decode cX2_advance 33 = .ok (.ireturn, 1) := dk_172 (dk_at dksX2_advance_1 9 rfl rfl)
abbrev cX2_passDay : ByteArray := prog_11_method_24_code
def yX2_passDay : MethodName := ⟨RX2, "passDay", "()I"⟩
def dkwX2_passDay_3 : List UInt8 := [167, 255, 200, 27, 172]
abbrev dktX2_passDay_3 : List UInt8 := dkwX2_passDay_3 ++ []
def dkwX2_passDay_2 : List UInt8 := [42, 42, 180, 0, 29, 28, 182, 0, 246, 192, 0, 118, 182, 1, 45, 132, 1, 1, 167, 255, 206, 132, 2, 1]
abbrev dktX2_passDay_2 : List UInt8 := dkwX2_passDay_2 ++ dktX2_passDay_3
def dkwX2_passDay_1 : List UInt8 := [162, 0, 51, 42, 180, 0, 29, 28, 182, 0, 114, 192, 0, 118, 182, 1, 42, 42, 180, 0, 35, 160, 0, 24]
abbrev dktX2_passDay_1 : List UInt8 := dkwX2_passDay_1 ++ dktX2_passDay_2
def dkwX2_passDay_0 : List UInt8 := [42, 89, 180, 0, 35, 4, 96, 181, 0, 35, 3, 60, 3, 61, 28, 42, 180, 0, 29, 182, 0, 106]
abbrev dktX2_passDay_0 : List UInt8 := dkwX2_passDay_0 ++ dktX2_passDay_1
theorem dksX2_passDay_0 : cX2_passDay.data.toList.drop 0 = dktX2_passDay_0 := by decide +kernel
theorem dksX2_passDay_1 : cX2_passDay.data.toList.drop 22 = dktX2_passDay_1 := dk_seg dksX2_passDay_0 22 rfl rfl
theorem dksX2_passDay_2 : cX2_passDay.data.toList.drop 46 = dktX2_passDay_2 := dk_seg dksX2_passDay_1 24 rfl rfl
theorem dksX2_passDay_3 : cX2_passDay.data.toList.drop 70 = dktX2_passDay_3 := dk_seg dksX2_passDay_2 24 rfl rfl
theorem dX2_passDay_0 : decode cX2_passDay 0 = .ok (.aload_n 0, 1) := dk_42 (dk_at dksX2_passDay_0 0 rfl rfl)
theorem dX2_passDay_1 : decode cX2_passDay 1 = .ok (.dup, 1) := dk_89 (dk_at dksX2_passDay_0 1 rfl rfl)
theorem dX2_passDay_2 : decode cX2_passDay 2 = .ok (.getfield 35, 3) := dk_180 0 35 (dk_at dksX2_passDay_0 2 rfl rfl)
theorem dX2_passDay_5 : decode cX2_passDay 5 = .ok (.iconst 1, 1) := dk_4 (dk_at dksX2_passDay_0 5 rfl rfl)
theorem dX2_passDay_6 : decode cX2_passDay 6 = .ok (.iadd, 1) := dk_96 (dk_at dksX2_passDay_0 6 rfl rfl)
theorem dX2_passDay_7 : decode cX2_passDay 7 = .ok (.putfield 35, 3) := dk_181 0 35 (dk_at dksX2_passDay_0 7 rfl rfl)
theorem dX2_passDay_10 : decode cX2_passDay 10 = .ok (.iconst 0, 1) := dk_3 (dk_at dksX2_passDay_0 10 rfl rfl)
theorem dX2_passDay_11 : decode cX2_passDay 11 = .ok (.istore_n 1, 1) := dk_60 (dk_at dksX2_passDay_0 11 rfl rfl)
theorem dX2_passDay_12 : decode cX2_passDay 12 = .ok (.iconst 0, 1) := dk_3 (dk_at dksX2_passDay_0 12 rfl rfl)
theorem dX2_passDay_13 : decode cX2_passDay 13 = .ok (.istore_n 2, 1) := dk_61 (dk_at dksX2_passDay_0 13 rfl rfl)
theorem dX2_passDay_14 : decode cX2_passDay 14 = .ok (.iload_n 2, 1) := dk_28 (dk_at dksX2_passDay_0 14 rfl rfl)
theorem dX2_passDay_15 : decode cX2_passDay 15 = .ok (.aload_n 0, 1) := dk_42 (dk_at dksX2_passDay_0 15 rfl rfl)
theorem dX2_passDay_16 : decode cX2_passDay 16 = .ok (.getfield 29, 3) := dk_180 0 29 (dk_at dksX2_passDay_0 16 rfl rfl)
theorem dX2_passDay_19 : decode cX2_passDay 19 = .ok (.invokevirtual 106, 3) := dk_182 0 106 (dk_at dksX2_passDay_0 19 rfl rfl)
theorem dX2_passDay_22 : decode cX2_passDay 22 = .ok (.if_icmp .ge 51, 3) := dk_162 0 51 (dk_at dksX2_passDay_1 0 rfl rfl)
theorem dX2_passDay_25 : decode cX2_passDay 25 = .ok (.aload_n 0, 1) := dk_42 (dk_at dksX2_passDay_1 3 rfl rfl)
theorem dX2_passDay_26 : decode cX2_passDay 26 = .ok (.getfield 29, 3) := dk_180 0 29 (dk_at dksX2_passDay_1 4 rfl rfl)
theorem dX2_passDay_29 : decode cX2_passDay 29 = .ok (.iload_n 2, 1) := dk_28 (dk_at dksX2_passDay_1 7 rfl rfl)
theorem dX2_passDay_30 : decode cX2_passDay 30 = .ok (.invokevirtual 114, 3) := dk_182 0 114 (dk_at dksX2_passDay_1 8 rfl rfl)
theorem dX2_passDay_33 : decode cX2_passDay 33 = .ok (.checkcast 118, 3) := dk_192 0 118 (dk_at dksX2_passDay_1 11 rfl rfl)
theorem dX2_passDay_36 : decode cX2_passDay 36 = .ok (.invokevirtual 298, 3) := dk_182 1 42 (dk_at dksX2_passDay_1 14 rfl rfl)
theorem dX2_passDay_39 : decode cX2_passDay 39 = .ok (.aload_n 0, 1) := dk_42 (dk_at dksX2_passDay_1 17 rfl rfl)
theorem dX2_passDay_40 : decode cX2_passDay 40 = .ok (.getfield 35, 3) := dk_180 0 35 (dk_at dksX2_passDay_1 18 rfl rfl)
theorem dX2_passDay_43 : decode cX2_passDay 43 = .ok (.if_icmp .ne 24, 3) := dk_160 0 24 (dk_at dksX2_passDay_1 21 rfl rfl)
theorem dX2_passDay_46 : decode cX2_passDay 46 = .ok (.aload_n 0, 1) := dk_42 (dk_at dksX2_passDay_2 0 rfl rfl)
theorem dX2_passDay_47 : decode cX2_passDay 47 = .ok (.aload_n 0, 1) := dk_42 (dk_at dksX2_passDay_2 1 rfl rfl)
theorem dX2_passDay_48 : decode cX2_passDay 48 = .ok (.getfield 29, 3) := dk_180 0 29 (dk_at dksX2_passDay_2 2 rfl rfl)
theorem dX2_passDay_51 : decode cX2_passDay 51 = .ok (.iload_n 2, 1) := dk_28 (dk_at dksX2_passDay_2 5 rfl rfl)
theorem dX2_passDay_52 : decode cX2_passDay 52 = .ok (.invokevirtual 246, 3) := dk_182 0 246 (dk_at dksX2_passDay_2 6 rfl rfl)
theorem dX2_passDay_55 : decode cX2_passDay 55 = .ok (.checkcast 118, 3) := dk_192 0 118 (dk_at dksX2_passDay_2 9 rfl rfl)
theorem dX2_passDay_58 : decode cX2_passDay 58 = .ok (.invokevirtual 301, 3) := dk_182 1 45 (dk_at dksX2_passDay_2 12 rfl rfl)
theorem dX2_passDay_61 : decode cX2_passDay 61 = .ok (.iinc 1 1, 3) := dk_132 1 1 (dk_at dksX2_passDay_2 15 rfl rfl)
theorem dX2_passDay_64 : decode cX2_passDay 64 = .ok (.goto (-50), 3) := dk_167 255 206 (dk_at dksX2_passDay_2 18 rfl rfl)
theorem dX2_passDay_67 : decode cX2_passDay 67 = .ok (.iinc 2 1, 3) := dk_132 2 1 (dk_at dksX2_passDay_2 21 rfl rfl)
theorem dX2_passDay_70 : decode cX2_passDay 70 = .ok (.goto (-56), 3) := dk_167 255 200 (dk_at dksX2_passDay_3 0 rfl rfl)
theorem dX2_passDay_73 : decode cX2_passDay 73 = .ok (.iload_n 1, 1) := dk_27 (dk_at dksX2_passDay_3 3 rfl rfl)
theorem dX2_passDay_74 : decode cX2_passDay 74 = .ok (.ireturn, 1) := dk_172 (dk_at dksX2_passDay_3 4 rfl rfl)
abbrev cX2_settle : ByteArray := prog_11_method_23_code
def yX2_settle : MethodName := ⟨RX2, "settle", "(LWindowExchange$Contract;)V"⟩
def dkwX2_settle_6 : List UInt8 := [4, 96, 181, 0, 44, 177]
abbrev dktX2_settle_6 : List UInt8 := dkwX2_settle_6 ++ []
def dkwX2_settle_5 : List UInt8 := [180, 0, 47, 21, 6, 21, 5, 162, 0, 7, 4, 167, 0, 4, 3, 96, 181, 0, 47, 42, 89, 180, 0, 44]
abbrev dktX2_settle_5 : List UInt8 := dkwX2_settle_5 ++ dktX2_settle_6
def dkwX2_settle_4 : List UInt8 := [180, 0, 240, 21, 6, 100, 181, 0, 240, 25, 4, 89, 180, 0, 240, 21, 6, 96, 181, 0, 240, 42, 89]
abbrev dktX2_settle_4 : List UInt8 := dkwX2_settle_4 ++ dktX2_settle_5
def dkwX2_settle_3 : List UInt8 := [192, 0, 79, 58, 4, 28, 184, 1, 39, 54, 5, 21, 5, 45, 180, 0, 240, 184, 0, 176, 54, 6, 45, 89]
abbrev dktX2_settle_3 : List UInt8 := dkwX2_settle_3 ++ dktX2_settle_4
def dkwX2_settle_2 : List UInt8 := [78, 42, 180, 0, 22, 28, 158, 0, 10, 43, 182, 1, 36, 167, 0, 7, 43, 182, 1, 33, 182, 0, 114]
abbrev dktX2_settle_2 : List UInt8 := dkwX2_settle_2 ++ dktX2_settle_3
def dkwX2_settle_1 : List UInt8 := [180, 0, 22, 28, 158, 0, 10, 43, 182, 1, 33, 167, 0, 7, 43, 182, 1, 36, 182, 0, 114, 192, 0, 79]
abbrev dktX2_settle_1 : List UInt8 := dkwX2_settle_1 ++ dktX2_settle_2
def dkwX2_settle_0 : List UInt8 := [42, 180, 0, 9, 2, 160, 0, 7, 3, 167, 0, 11, 43, 42, 180, 0, 9, 182, 1, 29, 61, 42]
abbrev dktX2_settle_0 : List UInt8 := dkwX2_settle_0 ++ dktX2_settle_1
theorem dksX2_settle_0 : cX2_settle.data.toList.drop 0 = dktX2_settle_0 := by decide +kernel
theorem dksX2_settle_1 : cX2_settle.data.toList.drop 22 = dktX2_settle_1 := dk_seg dksX2_settle_0 22 rfl rfl
theorem dksX2_settle_2 : cX2_settle.data.toList.drop 46 = dktX2_settle_2 := dk_seg dksX2_settle_1 24 rfl rfl
theorem dksX2_settle_3 : cX2_settle.data.toList.drop 69 = dktX2_settle_3 := dk_seg dksX2_settle_2 23 rfl rfl
theorem dksX2_settle_4 : cX2_settle.data.toList.drop 93 = dktX2_settle_4 := dk_seg dksX2_settle_3 24 rfl rfl
theorem dksX2_settle_5 : cX2_settle.data.toList.drop 116 = dktX2_settle_5 := dk_seg dksX2_settle_4 23 rfl rfl
theorem dksX2_settle_6 : cX2_settle.data.toList.drop 140 = dktX2_settle_6 := dk_seg dksX2_settle_5 24 rfl rfl
theorem dX2_settle_0 : decode cX2_settle 0 = .ok (.aload_n 0, 1) := dk_42 (dk_at dksX2_settle_0 0 rfl rfl)
theorem dX2_settle_1 : decode cX2_settle 1 = .ok (.getfield 9, 3) := dk_180 0 9 (dk_at dksX2_settle_0 1 rfl rfl)
theorem dX2_settle_4 : decode cX2_settle 4 = .ok (.iconst (-1), 1) := dk_2 (dk_at dksX2_settle_0 4 rfl rfl)
theorem dX2_settle_5 : decode cX2_settle 5 = .ok (.if_icmp .ne 7, 3) := dk_160 0 7 (dk_at dksX2_settle_0 5 rfl rfl)
theorem dX2_settle_8 : decode cX2_settle 8 = .ok (.iconst 0, 1) := dk_3 (dk_at dksX2_settle_0 8 rfl rfl)
theorem dX2_settle_9 : decode cX2_settle 9 = .ok (.goto 11, 3) := dk_167 0 11 (dk_at dksX2_settle_0 9 rfl rfl)
theorem dX2_settle_12 : decode cX2_settle 12 = .ok (.aload_n 1, 1) := dk_43 (dk_at dksX2_settle_0 12 rfl rfl)
theorem dX2_settle_13 : decode cX2_settle 13 = .ok (.aload_n 0, 1) := dk_42 (dk_at dksX2_settle_0 13 rfl rfl)
theorem dX2_settle_14 : decode cX2_settle 14 = .ok (.getfield 9, 3) := dk_180 0 9 (dk_at dksX2_settle_0 14 rfl rfl)
theorem dX2_settle_17 : decode cX2_settle 17 = .ok (.invokevirtual 285, 3) := dk_182 1 29 (dk_at dksX2_settle_0 17 rfl rfl)
theorem dX2_settle_20 : decode cX2_settle 20 = .ok (.istore_n 2, 1) := dk_61 (dk_at dksX2_settle_0 20 rfl rfl)
theorem dX2_settle_21 : decode cX2_settle 21 = .ok (.aload_n 0, 1) := dk_42 (dk_at dksX2_settle_0 21 rfl rfl)
theorem dX2_settle_22 : decode cX2_settle 22 = .ok (.getfield 22, 3) := dk_180 0 22 (dk_at dksX2_settle_1 0 rfl rfl)
theorem dX2_settle_25 : decode cX2_settle 25 = .ok (.iload_n 2, 1) := dk_28 (dk_at dksX2_settle_1 3 rfl rfl)
theorem dX2_settle_26 : decode cX2_settle 26 = .ok (.ifCond .le 10, 3) := dk_158 0 10 (dk_at dksX2_settle_1 4 rfl rfl)
theorem dX2_settle_29 : decode cX2_settle 29 = .ok (.aload_n 1, 1) := dk_43 (dk_at dksX2_settle_1 7 rfl rfl)
theorem dX2_settle_30 : decode cX2_settle 30 = .ok (.invokevirtual 289, 3) := dk_182 1 33 (dk_at dksX2_settle_1 8 rfl rfl)
theorem dX2_settle_33 : decode cX2_settle 33 = .ok (.goto 7, 3) := dk_167 0 7 (dk_at dksX2_settle_1 11 rfl rfl)
theorem dX2_settle_36 : decode cX2_settle 36 = .ok (.aload_n 1, 1) := dk_43 (dk_at dksX2_settle_1 14 rfl rfl)
theorem dX2_settle_37 : decode cX2_settle 37 = .ok (.invokevirtual 292, 3) := dk_182 1 36 (dk_at dksX2_settle_1 15 rfl rfl)
theorem dX2_settle_40 : decode cX2_settle 40 = .ok (.invokevirtual 114, 3) := dk_182 0 114 (dk_at dksX2_settle_1 18 rfl rfl)
theorem dX2_settle_43 : decode cX2_settle 43 = .ok (.checkcast 79, 3) := dk_192 0 79 (dk_at dksX2_settle_1 21 rfl rfl)
theorem dX2_settle_46 : decode cX2_settle 46 = .ok (.astore_n 3, 1) := dk_78 (dk_at dksX2_settle_2 0 rfl rfl)
theorem dX2_settle_47 : decode cX2_settle 47 = .ok (.aload_n 0, 1) := dk_42 (dk_at dksX2_settle_2 1 rfl rfl)
theorem dX2_settle_48 : decode cX2_settle 48 = .ok (.getfield 22, 3) := dk_180 0 22 (dk_at dksX2_settle_2 2 rfl rfl)
theorem dX2_settle_51 : decode cX2_settle 51 = .ok (.iload_n 2, 1) := dk_28 (dk_at dksX2_settle_2 5 rfl rfl)
theorem dX2_settle_52 : decode cX2_settle 52 = .ok (.ifCond .le 10, 3) := dk_158 0 10 (dk_at dksX2_settle_2 6 rfl rfl)
theorem dX2_settle_55 : decode cX2_settle 55 = .ok (.aload_n 1, 1) := dk_43 (dk_at dksX2_settle_2 9 rfl rfl)
theorem dX2_settle_56 : decode cX2_settle 56 = .ok (.invokevirtual 292, 3) := dk_182 1 36 (dk_at dksX2_settle_2 10 rfl rfl)
theorem dX2_settle_59 : decode cX2_settle 59 = .ok (.goto 7, 3) := dk_167 0 7 (dk_at dksX2_settle_2 13 rfl rfl)
theorem dX2_settle_62 : decode cX2_settle 62 = .ok (.aload_n 1, 1) := dk_43 (dk_at dksX2_settle_2 16 rfl rfl)
theorem dX2_settle_63 : decode cX2_settle 63 = .ok (.invokevirtual 289, 3) := dk_182 1 33 (dk_at dksX2_settle_2 17 rfl rfl)
theorem dX2_settle_66 : decode cX2_settle 66 = .ok (.invokevirtual 114, 3) := dk_182 0 114 (dk_at dksX2_settle_2 20 rfl rfl)
theorem dX2_settle_69 : decode cX2_settle 69 = .ok (.checkcast 79, 3) := dk_192 0 79 (dk_at dksX2_settle_3 0 rfl rfl)
theorem dX2_settle_72 : decode cX2_settle 72 = .ok (.astore 4, 2) := dk_58 4 (dk_at dksX2_settle_3 3 rfl rfl)
theorem dX2_settle_74 : decode cX2_settle 74 = .ok (.iload_n 2, 1) := dk_28 (dk_at dksX2_settle_3 5 rfl rfl)
theorem dX2_settle_75 : decode cX2_settle 75 = .ok (.invokestatic 295, 3) := dk_184 1 39 (dk_at dksX2_settle_3 6 rfl rfl)
theorem dX2_settle_78 : decode cX2_settle 78 = .ok (.istore 5, 2) := dk_54 5 (dk_at dksX2_settle_3 9 rfl rfl)
theorem dX2_settle_80 : decode cX2_settle 80 = .ok (.iload 5, 2) := dk_21 5 (dk_at dksX2_settle_3 11 rfl rfl)
theorem dX2_settle_82 : decode cX2_settle 82 = .ok (.aload_n 3, 1) := dk_45 (dk_at dksX2_settle_3 13 rfl rfl)
theorem dX2_settle_83 : decode cX2_settle 83 = .ok (.getfield 240, 3) := dk_180 0 240 (dk_at dksX2_settle_3 14 rfl rfl)
theorem dX2_settle_86 : decode cX2_settle 86 = .ok (.invokestatic 176, 3) := dk_184 0 176 (dk_at dksX2_settle_3 17 rfl rfl)
theorem dX2_settle_89 : decode cX2_settle 89 = .ok (.istore 6, 2) := dk_54 6 (dk_at dksX2_settle_3 20 rfl rfl)
theorem dX2_settle_91 : decode cX2_settle 91 = .ok (.aload_n 3, 1) := dk_45 (dk_at dksX2_settle_3 22 rfl rfl)
theorem dX2_settle_92 : decode cX2_settle 92 = .ok (.dup, 1) := dk_89 (dk_at dksX2_settle_3 23 rfl rfl)
theorem dX2_settle_93 : decode cX2_settle 93 = .ok (.getfield 240, 3) := dk_180 0 240 (dk_at dksX2_settle_4 0 rfl rfl)
theorem dX2_settle_96 : decode cX2_settle 96 = .ok (.iload 6, 2) := dk_21 6 (dk_at dksX2_settle_4 3 rfl rfl)
theorem dX2_settle_98 : decode cX2_settle 98 = .ok (.isub, 1) := dk_100 (dk_at dksX2_settle_4 5 rfl rfl)
theorem dX2_settle_99 : decode cX2_settle 99 = .ok (.putfield 240, 3) := dk_181 0 240 (dk_at dksX2_settle_4 6 rfl rfl)
theorem dX2_settle_102 : decode cX2_settle 102 = .ok (.aload 4, 2) := dk_25 4 (dk_at dksX2_settle_4 9 rfl rfl)
theorem dX2_settle_104 : decode cX2_settle 104 = .ok (.dup, 1) := dk_89 (dk_at dksX2_settle_4 11 rfl rfl)
theorem dX2_settle_105 : decode cX2_settle 105 = .ok (.getfield 240, 3) := dk_180 0 240 (dk_at dksX2_settle_4 12 rfl rfl)
theorem dX2_settle_108 : decode cX2_settle 108 = .ok (.iload 6, 2) := dk_21 6 (dk_at dksX2_settle_4 15 rfl rfl)
theorem dX2_settle_110 : decode cX2_settle 110 = .ok (.iadd, 1) := dk_96 (dk_at dksX2_settle_4 17 rfl rfl)
theorem dX2_settle_111 : decode cX2_settle 111 = .ok (.putfield 240, 3) := dk_181 0 240 (dk_at dksX2_settle_4 18 rfl rfl)
theorem dX2_settle_114 : decode cX2_settle 114 = .ok (.aload_n 0, 1) := dk_42 (dk_at dksX2_settle_4 21 rfl rfl)
theorem dX2_settle_115 : decode cX2_settle 115 = .ok (.dup, 1) := dk_89 (dk_at dksX2_settle_4 22 rfl rfl)
theorem dX2_settle_116 : decode cX2_settle 116 = .ok (.getfield 47, 3) := dk_180 0 47 (dk_at dksX2_settle_5 0 rfl rfl)
theorem dX2_settle_119 : decode cX2_settle 119 = .ok (.iload 6, 2) := dk_21 6 (dk_at dksX2_settle_5 3 rfl rfl)
theorem dX2_settle_121 : decode cX2_settle 121 = .ok (.iload 5, 2) := dk_21 5 (dk_at dksX2_settle_5 5 rfl rfl)
theorem dX2_settle_123 : decode cX2_settle 123 = .ok (.if_icmp .ge 7, 3) := dk_162 0 7 (dk_at dksX2_settle_5 7 rfl rfl)
theorem dX2_settle_126 : decode cX2_settle 126 = .ok (.iconst 1, 1) := dk_4 (dk_at dksX2_settle_5 10 rfl rfl)
theorem dX2_settle_127 : decode cX2_settle 127 = .ok (.goto 4, 3) := dk_167 0 4 (dk_at dksX2_settle_5 11 rfl rfl)
theorem dX2_settle_130 : decode cX2_settle 130 = .ok (.iconst 0, 1) := dk_3 (dk_at dksX2_settle_5 14 rfl rfl)
theorem dX2_settle_131 : decode cX2_settle 131 = .ok (.iadd, 1) := dk_96 (dk_at dksX2_settle_5 15 rfl rfl)
theorem dX2_settle_132 : decode cX2_settle 132 = .ok (.putfield 47, 3) := dk_181 0 47 (dk_at dksX2_settle_5 16 rfl rfl)
theorem dX2_settle_135 : decode cX2_settle 135 = .ok (.aload_n 0, 1) := dk_42 (dk_at dksX2_settle_5 19 rfl rfl)
theorem dX2_settle_136 : decode cX2_settle 136 = .ok (.dup, 1) := dk_89 (dk_at dksX2_settle_5 20 rfl rfl)
theorem dX2_settle_137 : decode cX2_settle 137 = .ok (.getfield 44, 3) := dk_180 0 44 (dk_at dksX2_settle_5 21 rfl rfl)
theorem dX2_settle_140 : decode cX2_settle 140 = .ok (.iconst 1, 1) := dk_4 (dk_at dksX2_settle_6 0 rfl rfl)
theorem dX2_settle_141 : decode cX2_settle 141 = .ok (.iadd, 1) := dk_96 (dk_at dksX2_settle_6 1 rfl rfl)
theorem dX2_settle_142 : decode cX2_settle 142 = .ok (.putfield 44, 3) := dk_181 0 44 (dk_at dksX2_settle_6 2 rfl rfl)
theorem dX2_settle_145 : decode cX2_settle 145 = .ok (.return_, 1) := dk_177 (dk_at dksX2_settle_6 5 rfl rfl)
abbrev cX2_openAuction : ByteArray := prog_11_method_30_code
def yX2_openAuction : MethodName := ⟨RX2, "openAuction", "(II)I"⟩
def dkwX2_openAuction_2 : List UInt8 := [183, 1, 74, 181, 0, 97, 42, 182, 1, 75, 172]
abbrev dktX2_openAuction_2 : List UInt8 := dkwX2_openAuction_2 ++ []
def dkwX2_openAuction_1 : List UInt8 := [180, 0, 15, 27, 46, 2, 160, 0, 7, 4, 167, 0, 4, 3, 184, 0, 229, 42, 187, 0, 101, 89, 27, 28]
abbrev dktX2_openAuction_1 : List UInt8 := dkwX2_openAuction_1 ++ dktX2_openAuction_2
def dkwX2_openAuction_0 : List UInt8 := [27, 7, 184, 0, 110, 28, 3, 16, 99, 184, 0, 222, 184, 0, 226, 42, 180, 0, 97, 199, 0, 17, 42]
abbrev dktX2_openAuction_0 : List UInt8 := dkwX2_openAuction_0 ++ dktX2_openAuction_1
theorem dksX2_openAuction_0 : cX2_openAuction.data.toList.drop 0 = dktX2_openAuction_0 := by decide +kernel
theorem dksX2_openAuction_1 : cX2_openAuction.data.toList.drop 23 = dktX2_openAuction_1 := dk_seg dksX2_openAuction_0 23 rfl rfl
theorem dksX2_openAuction_2 : cX2_openAuction.data.toList.drop 47 = dktX2_openAuction_2 := dk_seg dksX2_openAuction_1 24 rfl rfl
theorem dX2_openAuction_0 : decode cX2_openAuction 0 = .ok (.iload_n 1, 1) := dk_27 (dk_at dksX2_openAuction_0 0 rfl rfl)
theorem dX2_openAuction_1 : decode cX2_openAuction 1 = .ok (.iconst 4, 1) := dk_7 (dk_at dksX2_openAuction_0 1 rfl rfl)
theorem dX2_openAuction_2 : decode cX2_openAuction 2 = .ok (.invokestatic 110, 3) := dk_184 0 110 (dk_at dksX2_openAuction_0 2 rfl rfl)
theorem dX2_openAuction_5 : decode cX2_openAuction 5 = .ok (.iload_n 2, 1) := dk_28 (dk_at dksX2_openAuction_0 5 rfl rfl)
theorem dX2_openAuction_6 : decode cX2_openAuction 6 = .ok (.iconst 0, 1) := dk_3 (dk_at dksX2_openAuction_0 6 rfl rfl)
theorem dX2_openAuction_7 : decode cX2_openAuction 7 = .ok (.bipush 99, 2) := dk_16 99 (dk_at dksX2_openAuction_0 7 rfl rfl)
theorem dX2_openAuction_9 : decode cX2_openAuction 9 = .ok (.invokestatic 222, 3) := dk_184 0 222 (dk_at dksX2_openAuction_0 9 rfl rfl)
theorem dX2_openAuction_12 : decode cX2_openAuction 12 = .ok (.invokestatic 226, 3) := dk_184 0 226 (dk_at dksX2_openAuction_0 12 rfl rfl)
theorem dX2_openAuction_15 : decode cX2_openAuction 15 = .ok (.aload_n 0, 1) := dk_42 (dk_at dksX2_openAuction_0 15 rfl rfl)
theorem dX2_openAuction_16 : decode cX2_openAuction 16 = .ok (.getfield 97, 3) := dk_180 0 97 (dk_at dksX2_openAuction_0 16 rfl rfl)
theorem dX2_openAuction_19 : decode cX2_openAuction 19 = .ok (.ifnonnull 17, 3) := dk_199 0 17 (dk_at dksX2_openAuction_0 19 rfl rfl)
theorem dX2_openAuction_22 : decode cX2_openAuction 22 = .ok (.aload_n 0, 1) := dk_42 (dk_at dksX2_openAuction_0 22 rfl rfl)
theorem dX2_openAuction_23 : decode cX2_openAuction 23 = .ok (.getfield 15, 3) := dk_180 0 15 (dk_at dksX2_openAuction_1 0 rfl rfl)
theorem dX2_openAuction_26 : decode cX2_openAuction 26 = .ok (.iload_n 1, 1) := dk_27 (dk_at dksX2_openAuction_1 3 rfl rfl)
theorem dX2_openAuction_27 : decode cX2_openAuction 27 = .ok (.iaload, 1) := dk_46 (dk_at dksX2_openAuction_1 4 rfl rfl)
theorem dX2_openAuction_28 : decode cX2_openAuction 28 = .ok (.iconst (-1), 1) := dk_2 (dk_at dksX2_openAuction_1 5 rfl rfl)
theorem dX2_openAuction_29 : decode cX2_openAuction 29 = .ok (.if_icmp .ne 7, 3) := dk_160 0 7 (dk_at dksX2_openAuction_1 6 rfl rfl)
theorem dX2_openAuction_32 : decode cX2_openAuction 32 = .ok (.iconst 1, 1) := dk_4 (dk_at dksX2_openAuction_1 9 rfl rfl)
theorem dX2_openAuction_33 : decode cX2_openAuction 33 = .ok (.goto 4, 3) := dk_167 0 4 (dk_at dksX2_openAuction_1 10 rfl rfl)
theorem dX2_openAuction_36 : decode cX2_openAuction 36 = .ok (.iconst 0, 1) := dk_3 (dk_at dksX2_openAuction_1 13 rfl rfl)
theorem dX2_openAuction_37 : decode cX2_openAuction 37 = .ok (.invokestatic 229, 3) := dk_184 0 229 (dk_at dksX2_openAuction_1 14 rfl rfl)
theorem dX2_openAuction_40 : decode cX2_openAuction 40 = .ok (.aload_n 0, 1) := dk_42 (dk_at dksX2_openAuction_1 17 rfl rfl)
theorem dX2_openAuction_41 : decode cX2_openAuction 41 = .ok (.new 101, 3) := dk_187 0 101 (dk_at dksX2_openAuction_1 18 rfl rfl)
theorem dX2_openAuction_44 : decode cX2_openAuction 44 = .ok (.dup, 1) := dk_89 (dk_at dksX2_openAuction_1 21 rfl rfl)
theorem dX2_openAuction_45 : decode cX2_openAuction 45 = .ok (.iload_n 1, 1) := dk_27 (dk_at dksX2_openAuction_1 22 rfl rfl)
theorem dX2_openAuction_46 : decode cX2_openAuction 46 = .ok (.iload_n 2, 1) := dk_28 (dk_at dksX2_openAuction_1 23 rfl rfl)
theorem dX2_openAuction_47 : decode cX2_openAuction 47 = .ok (.invokespecial 330, 3) := dk_183 1 74 (dk_at dksX2_openAuction_2 0 rfl rfl)
theorem dX2_openAuction_50 : decode cX2_openAuction 50 = .ok (.putfield 97, 3) := dk_181 0 97 (dk_at dksX2_openAuction_2 3 rfl rfl)
theorem dX2_openAuction_53 : decode cX2_openAuction 53 = .ok (.aload_n 0, 1) := dk_42 (dk_at dksX2_openAuction_2 6 rfl rfl)
theorem dX2_openAuction_54 : decode cX2_openAuction 54 = .ok (.invokevirtual 331, 3) := dk_182 1 75 (dk_at dksX2_openAuction_2 7 rfl rfl)
theorem dX2_openAuction_57 : decode cX2_openAuction 57 = .ok (.ireturn, 1) := dk_172 (dk_at dksX2_openAuction_2 10 rfl rfl)
abbrev cX2_countFreeViews : ByteArray := prog_11_method_29_code
def yX2_countFreeViews : MethodName := ⟨RX2, "countFreeViews", "()I"⟩
def dkwX2_countFreeViews_1 : List UInt8 := [54, 5, 27, 21, 5, 2, 160, 0, 7, 4, 167, 0, 4, 3, 96, 60, 132, 4, 1, 167, 255, 227, 27, 172]
abbrev dktX2_countFreeViews_1 : List UInt8 := dkwX2_countFreeViews_1 ++ []
def dkwX2_countFreeViews_0 : List UInt8 := [3, 60, 42, 180, 0, 15, 77, 44, 190, 62, 3, 54, 4, 21, 4, 29, 162, 0, 29, 44, 21, 4, 46]
abbrev dktX2_countFreeViews_0 : List UInt8 := dkwX2_countFreeViews_0 ++ dktX2_countFreeViews_1
theorem dksX2_countFreeViews_0 : cX2_countFreeViews.data.toList.drop 0 = dktX2_countFreeViews_0 := by decide +kernel
theorem dksX2_countFreeViews_1 : cX2_countFreeViews.data.toList.drop 23 = dktX2_countFreeViews_1 := dk_seg dksX2_countFreeViews_0 23 rfl rfl
theorem dX2_countFreeViews_0 : decode cX2_countFreeViews 0 = .ok (.iconst 0, 1) := dk_3 (dk_at dksX2_countFreeViews_0 0 rfl rfl)
theorem dX2_countFreeViews_1 : decode cX2_countFreeViews 1 = .ok (.istore_n 1, 1) := dk_60 (dk_at dksX2_countFreeViews_0 1 rfl rfl)
theorem dX2_countFreeViews_2 : decode cX2_countFreeViews 2 = .ok (.aload_n 0, 1) := dk_42 (dk_at dksX2_countFreeViews_0 2 rfl rfl)
theorem dX2_countFreeViews_3 : decode cX2_countFreeViews 3 = .ok (.getfield 15, 3) := dk_180 0 15 (dk_at dksX2_countFreeViews_0 3 rfl rfl)
theorem dX2_countFreeViews_6 : decode cX2_countFreeViews 6 = .ok (.astore_n 2, 1) := dk_77 (dk_at dksX2_countFreeViews_0 6 rfl rfl)
theorem dX2_countFreeViews_7 : decode cX2_countFreeViews 7 = .ok (.aload_n 2, 1) := dk_44 (dk_at dksX2_countFreeViews_0 7 rfl rfl)
theorem dX2_countFreeViews_8 : decode cX2_countFreeViews 8 = .ok (.arraylength, 1) := dk_190 (dk_at dksX2_countFreeViews_0 8 rfl rfl)
theorem dX2_countFreeViews_9 : decode cX2_countFreeViews 9 = .ok (.istore_n 3, 1) := dk_62 (dk_at dksX2_countFreeViews_0 9 rfl rfl)
theorem dX2_countFreeViews_10 : decode cX2_countFreeViews 10 = .ok (.iconst 0, 1) := dk_3 (dk_at dksX2_countFreeViews_0 10 rfl rfl)
theorem dX2_countFreeViews_11 : decode cX2_countFreeViews 11 = .ok (.istore 4, 2) := dk_54 4 (dk_at dksX2_countFreeViews_0 11 rfl rfl)
theorem dX2_countFreeViews_13 : decode cX2_countFreeViews 13 = .ok (.iload 4, 2) := dk_21 4 (dk_at dksX2_countFreeViews_0 13 rfl rfl)
theorem dX2_countFreeViews_15 : decode cX2_countFreeViews 15 = .ok (.iload_n 3, 1) := dk_29 (dk_at dksX2_countFreeViews_0 15 rfl rfl)
theorem dX2_countFreeViews_16 : decode cX2_countFreeViews 16 = .ok (.if_icmp .ge 29, 3) := dk_162 0 29 (dk_at dksX2_countFreeViews_0 16 rfl rfl)
theorem dX2_countFreeViews_19 : decode cX2_countFreeViews 19 = .ok (.aload_n 2, 1) := dk_44 (dk_at dksX2_countFreeViews_0 19 rfl rfl)
theorem dX2_countFreeViews_20 : decode cX2_countFreeViews 20 = .ok (.iload 4, 2) := dk_21 4 (dk_at dksX2_countFreeViews_0 20 rfl rfl)
theorem dX2_countFreeViews_22 : decode cX2_countFreeViews 22 = .ok (.iaload, 1) := dk_46 (dk_at dksX2_countFreeViews_0 22 rfl rfl)
theorem dX2_countFreeViews_23 : decode cX2_countFreeViews 23 = .ok (.istore 5, 2) := dk_54 5 (dk_at dksX2_countFreeViews_1 0 rfl rfl)
theorem dX2_countFreeViews_25 : decode cX2_countFreeViews 25 = .ok (.iload_n 1, 1) := dk_27 (dk_at dksX2_countFreeViews_1 2 rfl rfl)
theorem dX2_countFreeViews_26 : decode cX2_countFreeViews 26 = .ok (.iload 5, 2) := dk_21 5 (dk_at dksX2_countFreeViews_1 3 rfl rfl)
theorem dX2_countFreeViews_28 : decode cX2_countFreeViews 28 = .ok (.iconst (-1), 1) := dk_2 (dk_at dksX2_countFreeViews_1 5 rfl rfl)
theorem dX2_countFreeViews_29 : decode cX2_countFreeViews 29 = .ok (.if_icmp .ne 7, 3) := dk_160 0 7 (dk_at dksX2_countFreeViews_1 6 rfl rfl)
theorem dX2_countFreeViews_32 : decode cX2_countFreeViews 32 = .ok (.iconst 1, 1) := dk_4 (dk_at dksX2_countFreeViews_1 9 rfl rfl)
theorem dX2_countFreeViews_33 : decode cX2_countFreeViews 33 = .ok (.goto 4, 3) := dk_167 0 4 (dk_at dksX2_countFreeViews_1 10 rfl rfl)
theorem dX2_countFreeViews_36 : decode cX2_countFreeViews 36 = .ok (.iconst 0, 1) := dk_3 (dk_at dksX2_countFreeViews_1 13 rfl rfl)
theorem dX2_countFreeViews_37 : decode cX2_countFreeViews 37 = .ok (.iadd, 1) := dk_96 (dk_at dksX2_countFreeViews_1 14 rfl rfl)
theorem dX2_countFreeViews_38 : decode cX2_countFreeViews 38 = .ok (.istore_n 1, 1) := dk_60 (dk_at dksX2_countFreeViews_1 15 rfl rfl)
theorem dX2_countFreeViews_39 : decode cX2_countFreeViews 39 = .ok (.iinc 4 1, 3) := dk_132 4 1 (dk_at dksX2_countFreeViews_1 16 rfl rfl)
theorem dX2_countFreeViews_42 : decode cX2_countFreeViews 42 = .ok (.goto (-29), 3) := dk_167 255 227 (dk_at dksX2_countFreeViews_1 19 rfl rfl)
theorem dX2_countFreeViews_45 : decode cX2_countFreeViews 45 = .ok (.iload_n 1, 1) := dk_27 (dk_at dksX2_countFreeViews_1 22 rfl rfl)
theorem dX2_countFreeViews_46 : decode cX2_countFreeViews 46 = .ok (.ireturn, 1) := dk_172 (dk_at dksX2_countFreeViews_1 23 rfl rfl)
abbrev cX2_sealBid : ByteArray := prog_11_method_31_code
def yX2_sealBid : MethodName := ⟨RX2, "sealBid", "(II)I"⟩
def dkwX2_sealBid_2 : List UInt8 := [42, 180, 0, 97, 182, 1, 81, 172]
abbrev dktX2_sealBid_2 : List UInt8 := dkwX2_sealBid_2 ++ []
def dkwX2_sealBid_1 : List UInt8 := [180, 0, 97, 198, 0, 7, 4, 167, 0, 4, 3, 184, 0, 229, 42, 180, 0, 97, 180, 1, 78, 27, 28, 79]
abbrev dktX2_sealBid_1 : List UInt8 := dkwX2_sealBid_1 ++ dktX2_sealBid_2
def dkwX2_sealBid_0 : List UInt8 := [27, 42, 180, 0, 22, 182, 0, 106, 184, 0, 110, 28, 4, 17, 3, 231, 184, 0, 222, 184, 0, 226, 42]
abbrev dktX2_sealBid_0 : List UInt8 := dkwX2_sealBid_0 ++ dktX2_sealBid_1
theorem dksX2_sealBid_0 : cX2_sealBid.data.toList.drop 0 = dktX2_sealBid_0 := by decide +kernel
theorem dksX2_sealBid_1 : cX2_sealBid.data.toList.drop 23 = dktX2_sealBid_1 := dk_seg dksX2_sealBid_0 23 rfl rfl
theorem dksX2_sealBid_2 : cX2_sealBid.data.toList.drop 47 = dktX2_sealBid_2 := dk_seg dksX2_sealBid_1 24 rfl rfl
theorem dX2_sealBid_0 : decode cX2_sealBid 0 = .ok (.iload_n 1, 1) := dk_27 (dk_at dksX2_sealBid_0 0 rfl rfl)
theorem dX2_sealBid_1 : decode cX2_sealBid 1 = .ok (.aload_n 0, 1) := dk_42 (dk_at dksX2_sealBid_0 1 rfl rfl)
theorem dX2_sealBid_2 : decode cX2_sealBid 2 = .ok (.getfield 22, 3) := dk_180 0 22 (dk_at dksX2_sealBid_0 2 rfl rfl)
theorem dX2_sealBid_5 : decode cX2_sealBid 5 = .ok (.invokevirtual 106, 3) := dk_182 0 106 (dk_at dksX2_sealBid_0 5 rfl rfl)
theorem dX2_sealBid_8 : decode cX2_sealBid 8 = .ok (.invokestatic 110, 3) := dk_184 0 110 (dk_at dksX2_sealBid_0 8 rfl rfl)
theorem dX2_sealBid_11 : decode cX2_sealBid 11 = .ok (.iload_n 2, 1) := dk_28 (dk_at dksX2_sealBid_0 11 rfl rfl)
theorem dX2_sealBid_12 : decode cX2_sealBid 12 = .ok (.iconst 1, 1) := dk_4 (dk_at dksX2_sealBid_0 12 rfl rfl)
theorem dX2_sealBid_13 : decode cX2_sealBid 13 = .ok (.sipush 999, 3) := dk_17 3 231 (dk_at dksX2_sealBid_0 13 rfl rfl)
theorem dX2_sealBid_16 : decode cX2_sealBid 16 = .ok (.invokestatic 222, 3) := dk_184 0 222 (dk_at dksX2_sealBid_0 16 rfl rfl)
theorem dX2_sealBid_19 : decode cX2_sealBid 19 = .ok (.invokestatic 226, 3) := dk_184 0 226 (dk_at dksX2_sealBid_0 19 rfl rfl)
theorem dX2_sealBid_22 : decode cX2_sealBid 22 = .ok (.aload_n 0, 1) := dk_42 (dk_at dksX2_sealBid_0 22 rfl rfl)
theorem dX2_sealBid_23 : decode cX2_sealBid 23 = .ok (.getfield 97, 3) := dk_180 0 97 (dk_at dksX2_sealBid_1 0 rfl rfl)
theorem dX2_sealBid_26 : decode cX2_sealBid 26 = .ok (.ifnull 7, 3) := dk_198 0 7 (dk_at dksX2_sealBid_1 3 rfl rfl)
theorem dX2_sealBid_29 : decode cX2_sealBid 29 = .ok (.iconst 1, 1) := dk_4 (dk_at dksX2_sealBid_1 6 rfl rfl)
theorem dX2_sealBid_30 : decode cX2_sealBid 30 = .ok (.goto 4, 3) := dk_167 0 4 (dk_at dksX2_sealBid_1 7 rfl rfl)
theorem dX2_sealBid_33 : decode cX2_sealBid 33 = .ok (.iconst 0, 1) := dk_3 (dk_at dksX2_sealBid_1 10 rfl rfl)
theorem dX2_sealBid_34 : decode cX2_sealBid 34 = .ok (.invokestatic 229, 3) := dk_184 0 229 (dk_at dksX2_sealBid_1 11 rfl rfl)
theorem dX2_sealBid_37 : decode cX2_sealBid 37 = .ok (.aload_n 0, 1) := dk_42 (dk_at dksX2_sealBid_1 14 rfl rfl)
theorem dX2_sealBid_38 : decode cX2_sealBid 38 = .ok (.getfield 97, 3) := dk_180 0 97 (dk_at dksX2_sealBid_1 15 rfl rfl)
theorem dX2_sealBid_41 : decode cX2_sealBid 41 = .ok (.getfield 334, 3) := dk_180 1 78 (dk_at dksX2_sealBid_1 18 rfl rfl)
theorem dX2_sealBid_44 : decode cX2_sealBid 44 = .ok (.iload_n 1, 1) := dk_27 (dk_at dksX2_sealBid_1 21 rfl rfl)
theorem dX2_sealBid_45 : decode cX2_sealBid 45 = .ok (.iload_n 2, 1) := dk_28 (dk_at dksX2_sealBid_1 22 rfl rfl)
theorem dX2_sealBid_46 : decode cX2_sealBid 46 = .ok (.iastore, 1) := dk_79 (dk_at dksX2_sealBid_1 23 rfl rfl)
theorem dX2_sealBid_47 : decode cX2_sealBid 47 = .ok (.aload_n 0, 1) := dk_42 (dk_at dksX2_sealBid_2 0 rfl rfl)
theorem dX2_sealBid_48 : decode cX2_sealBid 48 = .ok (.getfield 97, 3) := dk_180 0 97 (dk_at dksX2_sealBid_2 1 rfl rfl)
theorem dX2_sealBid_51 : decode cX2_sealBid 51 = .ok (.invokevirtual 337, 3) := dk_182 1 81 (dk_at dksX2_sealBid_2 4 rfl rfl)
theorem dX2_sealBid_54 : decode cX2_sealBid 54 = .ok (.ireturn, 1) := dk_172 (dk_at dksX2_sealBid_2 7 rfl rfl)
abbrev cX2_closeAuction : ByteArray := prog_11_method_35_code
def yX2_closeAuction : MethodName := ⟨RX2, "closeAuction", "()I"⟩
def dkwX2_closeAuction_3 : List UInt8 := [181, 0, 50, 42, 180, 0, 15, 42, 180, 0, 97, 180, 1, 100, 27, 79, 42, 1, 181, 0, 97, 28, 172]
abbrev dktX2_closeAuction_3 : List UInt8 := dkwX2_closeAuction_3 ++ []
def dkwX2_closeAuction_2 : List UInt8 := [182, 0, 114, 192, 0, 79, 89, 180, 0, 240, 28, 100, 181, 0, 240, 42, 89, 180, 0, 50, 28, 96]
abbrev dktX2_closeAuction_2 : List UInt8 := dkwX2_closeAuction_2 ++ dktX2_closeAuction_3
def dkwX2_closeAuction_1 : List UInt8 := [160, 0, 7, 3, 167, 0, 8, 42, 27, 182, 1, 97, 61, 27, 2, 159, 0, 46, 42, 180, 0, 22, 27]
abbrev dktX2_closeAuction_1 : List UInt8 := dkwX2_closeAuction_1 ++ dktX2_closeAuction_2
def dkwX2_closeAuction_0 : List UInt8 := [42, 180, 0, 97, 198, 0, 7, 4, 167, 0, 4, 3, 184, 0, 229, 42, 182, 1, 94, 60, 27, 2]
abbrev dktX2_closeAuction_0 : List UInt8 := dkwX2_closeAuction_0 ++ dktX2_closeAuction_1
theorem dksX2_closeAuction_0 : cX2_closeAuction.data.toList.drop 0 = dktX2_closeAuction_0 := by decide +kernel
theorem dksX2_closeAuction_1 : cX2_closeAuction.data.toList.drop 22 = dktX2_closeAuction_1 := dk_seg dksX2_closeAuction_0 22 rfl rfl
theorem dksX2_closeAuction_2 : cX2_closeAuction.data.toList.drop 45 = dktX2_closeAuction_2 := dk_seg dksX2_closeAuction_1 23 rfl rfl
theorem dksX2_closeAuction_3 : cX2_closeAuction.data.toList.drop 67 = dktX2_closeAuction_3 := dk_seg dksX2_closeAuction_2 22 rfl rfl
theorem dX2_closeAuction_0 : decode cX2_closeAuction 0 = .ok (.aload_n 0, 1) := dk_42 (dk_at dksX2_closeAuction_0 0 rfl rfl)
theorem dX2_closeAuction_1 : decode cX2_closeAuction 1 = .ok (.getfield 97, 3) := dk_180 0 97 (dk_at dksX2_closeAuction_0 1 rfl rfl)
theorem dX2_closeAuction_4 : decode cX2_closeAuction 4 = .ok (.ifnull 7, 3) := dk_198 0 7 (dk_at dksX2_closeAuction_0 4 rfl rfl)
theorem dX2_closeAuction_7 : decode cX2_closeAuction 7 = .ok (.iconst 1, 1) := dk_4 (dk_at dksX2_closeAuction_0 7 rfl rfl)
theorem dX2_closeAuction_8 : decode cX2_closeAuction 8 = .ok (.goto 4, 3) := dk_167 0 4 (dk_at dksX2_closeAuction_0 8 rfl rfl)
theorem dX2_closeAuction_11 : decode cX2_closeAuction 11 = .ok (.iconst 0, 1) := dk_3 (dk_at dksX2_closeAuction_0 11 rfl rfl)
theorem dX2_closeAuction_12 : decode cX2_closeAuction 12 = .ok (.invokestatic 229, 3) := dk_184 0 229 (dk_at dksX2_closeAuction_0 12 rfl rfl)
theorem dX2_closeAuction_15 : decode cX2_closeAuction 15 = .ok (.aload_n 0, 1) := dk_42 (dk_at dksX2_closeAuction_0 15 rfl rfl)
theorem dX2_closeAuction_16 : decode cX2_closeAuction 16 = .ok (.invokevirtual 350, 3) := dk_182 1 94 (dk_at dksX2_closeAuction_0 16 rfl rfl)
theorem dX2_closeAuction_19 : decode cX2_closeAuction 19 = .ok (.istore_n 1, 1) := dk_60 (dk_at dksX2_closeAuction_0 19 rfl rfl)
theorem dX2_closeAuction_20 : decode cX2_closeAuction 20 = .ok (.iload_n 1, 1) := dk_27 (dk_at dksX2_closeAuction_0 20 rfl rfl)
theorem dX2_closeAuction_21 : decode cX2_closeAuction 21 = .ok (.iconst (-1), 1) := dk_2 (dk_at dksX2_closeAuction_0 21 rfl rfl)
theorem dX2_closeAuction_22 : decode cX2_closeAuction 22 = .ok (.if_icmp .ne 7, 3) := dk_160 0 7 (dk_at dksX2_closeAuction_1 0 rfl rfl)
theorem dX2_closeAuction_25 : decode cX2_closeAuction 25 = .ok (.iconst 0, 1) := dk_3 (dk_at dksX2_closeAuction_1 3 rfl rfl)
theorem dX2_closeAuction_26 : decode cX2_closeAuction 26 = .ok (.goto 8, 3) := dk_167 0 8 (dk_at dksX2_closeAuction_1 4 rfl rfl)
theorem dX2_closeAuction_29 : decode cX2_closeAuction 29 = .ok (.aload_n 0, 1) := dk_42 (dk_at dksX2_closeAuction_1 7 rfl rfl)
theorem dX2_closeAuction_30 : decode cX2_closeAuction 30 = .ok (.iload_n 1, 1) := dk_27 (dk_at dksX2_closeAuction_1 8 rfl rfl)
theorem dX2_closeAuction_31 : decode cX2_closeAuction 31 = .ok (.invokevirtual 353, 3) := dk_182 1 97 (dk_at dksX2_closeAuction_1 9 rfl rfl)
theorem dX2_closeAuction_34 : decode cX2_closeAuction 34 = .ok (.istore_n 2, 1) := dk_61 (dk_at dksX2_closeAuction_1 12 rfl rfl)
theorem dX2_closeAuction_35 : decode cX2_closeAuction 35 = .ok (.iload_n 1, 1) := dk_27 (dk_at dksX2_closeAuction_1 13 rfl rfl)
theorem dX2_closeAuction_36 : decode cX2_closeAuction 36 = .ok (.iconst (-1), 1) := dk_2 (dk_at dksX2_closeAuction_1 14 rfl rfl)
theorem dX2_closeAuction_37 : decode cX2_closeAuction 37 = .ok (.if_icmp .eq 46, 3) := dk_159 0 46 (dk_at dksX2_closeAuction_1 15 rfl rfl)
theorem dX2_closeAuction_40 : decode cX2_closeAuction 40 = .ok (.aload_n 0, 1) := dk_42 (dk_at dksX2_closeAuction_1 18 rfl rfl)
theorem dX2_closeAuction_41 : decode cX2_closeAuction 41 = .ok (.getfield 22, 3) := dk_180 0 22 (dk_at dksX2_closeAuction_1 19 rfl rfl)
theorem dX2_closeAuction_44 : decode cX2_closeAuction 44 = .ok (.iload_n 1, 1) := dk_27 (dk_at dksX2_closeAuction_1 22 rfl rfl)
theorem dX2_closeAuction_45 : decode cX2_closeAuction 45 = .ok (.invokevirtual 114, 3) := dk_182 0 114 (dk_at dksX2_closeAuction_2 0 rfl rfl)
theorem dX2_closeAuction_48 : decode cX2_closeAuction 48 = .ok (.checkcast 79, 3) := dk_192 0 79 (dk_at dksX2_closeAuction_2 3 rfl rfl)
theorem dX2_closeAuction_51 : decode cX2_closeAuction 51 = .ok (.dup, 1) := dk_89 (dk_at dksX2_closeAuction_2 6 rfl rfl)
theorem dX2_closeAuction_52 : decode cX2_closeAuction 52 = .ok (.getfield 240, 3) := dk_180 0 240 (dk_at dksX2_closeAuction_2 7 rfl rfl)
theorem dX2_closeAuction_55 : decode cX2_closeAuction 55 = .ok (.iload_n 2, 1) := dk_28 (dk_at dksX2_closeAuction_2 10 rfl rfl)
theorem dX2_closeAuction_56 : decode cX2_closeAuction 56 = .ok (.isub, 1) := dk_100 (dk_at dksX2_closeAuction_2 11 rfl rfl)
theorem dX2_closeAuction_57 : decode cX2_closeAuction 57 = .ok (.putfield 240, 3) := dk_181 0 240 (dk_at dksX2_closeAuction_2 12 rfl rfl)
theorem dX2_closeAuction_60 : decode cX2_closeAuction 60 = .ok (.aload_n 0, 1) := dk_42 (dk_at dksX2_closeAuction_2 15 rfl rfl)
theorem dX2_closeAuction_61 : decode cX2_closeAuction 61 = .ok (.dup, 1) := dk_89 (dk_at dksX2_closeAuction_2 16 rfl rfl)
theorem dX2_closeAuction_62 : decode cX2_closeAuction 62 = .ok (.getfield 50, 3) := dk_180 0 50 (dk_at dksX2_closeAuction_2 17 rfl rfl)
theorem dX2_closeAuction_65 : decode cX2_closeAuction 65 = .ok (.iload_n 2, 1) := dk_28 (dk_at dksX2_closeAuction_2 20 rfl rfl)
theorem dX2_closeAuction_66 : decode cX2_closeAuction 66 = .ok (.iadd, 1) := dk_96 (dk_at dksX2_closeAuction_2 21 rfl rfl)
theorem dX2_closeAuction_67 : decode cX2_closeAuction 67 = .ok (.putfield 50, 3) := dk_181 0 50 (dk_at dksX2_closeAuction_3 0 rfl rfl)
theorem dX2_closeAuction_70 : decode cX2_closeAuction 70 = .ok (.aload_n 0, 1) := dk_42 (dk_at dksX2_closeAuction_3 3 rfl rfl)
theorem dX2_closeAuction_71 : decode cX2_closeAuction 71 = .ok (.getfield 15, 3) := dk_180 0 15 (dk_at dksX2_closeAuction_3 4 rfl rfl)
theorem dX2_closeAuction_74 : decode cX2_closeAuction 74 = .ok (.aload_n 0, 1) := dk_42 (dk_at dksX2_closeAuction_3 7 rfl rfl)
theorem dX2_closeAuction_75 : decode cX2_closeAuction 75 = .ok (.getfield 97, 3) := dk_180 0 97 (dk_at dksX2_closeAuction_3 8 rfl rfl)
theorem dX2_closeAuction_78 : decode cX2_closeAuction 78 = .ok (.getfield 356, 3) := dk_180 1 100 (dk_at dksX2_closeAuction_3 11 rfl rfl)
theorem dX2_closeAuction_81 : decode cX2_closeAuction 81 = .ok (.iload_n 1, 1) := dk_27 (dk_at dksX2_closeAuction_3 14 rfl rfl)
theorem dX2_closeAuction_82 : decode cX2_closeAuction 82 = .ok (.iastore, 1) := dk_79 (dk_at dksX2_closeAuction_3 15 rfl rfl)
theorem dX2_closeAuction_83 : decode cX2_closeAuction 83 = .ok (.aload_n 0, 1) := dk_42 (dk_at dksX2_closeAuction_3 16 rfl rfl)
theorem dX2_closeAuction_84 : decode cX2_closeAuction 84 = .ok (.aconst_null, 1) := dk_1 (dk_at dksX2_closeAuction_3 17 rfl rfl)
theorem dX2_closeAuction_85 : decode cX2_closeAuction 85 = .ok (.putfield 97, 3) := dk_181 0 97 (dk_at dksX2_closeAuction_3 18 rfl rfl)
theorem dX2_closeAuction_88 : decode cX2_closeAuction 88 = .ok (.iload_n 2, 1) := dk_28 (dk_at dksX2_closeAuction_3 21 rfl rfl)
theorem dX2_closeAuction_89 : decode cX2_closeAuction 89 = .ok (.ireturn, 1) := dk_172 (dk_at dksX2_closeAuction_3 22 rfl rfl)
abbrev cX2_winner : ByteArray := prog_11_method_33_code
def yX2_winner : MethodName := ⟨RX2, "winner", "()I"⟩
def dkwX2_winner_3 : List UInt8 := [167, 255, 192, 27, 172]
abbrev dktX2_winner_3 : List UInt8 := dkwX2_winner_3 ++ []
def dkwX2_winner_2 : List UInt8 := [164, 0, 7, 4, 167, 0, 4, 3, 62, 29, 153, 0, 7, 28, 167, 0, 4, 27, 60, 132, 2, 1]
abbrev dktX2_winner_2 : List UInt8 := dkwX2_winner_2 ++ dktX2_winner_3
def dkwX2_winner_1 : List UInt8 := [2, 159, 0, 24, 42, 180, 0, 97, 180, 1, 78, 28, 46, 42, 180, 0, 97, 180, 1, 78, 27, 46]
abbrev dktX2_winner_1 : List UInt8 := dkwX2_winner_1 ++ dktX2_winner_2
def dkwX2_winner_0 : List UInt8 := [2, 60, 3, 61, 28, 42, 180, 0, 22, 182, 0, 106, 162, 0, 59, 42, 28, 182, 1, 87, 153, 0, 33, 27]
abbrev dktX2_winner_0 : List UInt8 := dkwX2_winner_0 ++ dktX2_winner_1
theorem dksX2_winner_0 : cX2_winner.data.toList.drop 0 = dktX2_winner_0 := by decide +kernel
theorem dksX2_winner_1 : cX2_winner.data.toList.drop 24 = dktX2_winner_1 := dk_seg dksX2_winner_0 24 rfl rfl
theorem dksX2_winner_2 : cX2_winner.data.toList.drop 46 = dktX2_winner_2 := dk_seg dksX2_winner_1 22 rfl rfl
theorem dksX2_winner_3 : cX2_winner.data.toList.drop 68 = dktX2_winner_3 := dk_seg dksX2_winner_2 22 rfl rfl
theorem dX2_winner_0 : decode cX2_winner 0 = .ok (.iconst (-1), 1) := dk_2 (dk_at dksX2_winner_0 0 rfl rfl)
theorem dX2_winner_1 : decode cX2_winner 1 = .ok (.istore_n 1, 1) := dk_60 (dk_at dksX2_winner_0 1 rfl rfl)
theorem dX2_winner_2 : decode cX2_winner 2 = .ok (.iconst 0, 1) := dk_3 (dk_at dksX2_winner_0 2 rfl rfl)
theorem dX2_winner_3 : decode cX2_winner 3 = .ok (.istore_n 2, 1) := dk_61 (dk_at dksX2_winner_0 3 rfl rfl)
theorem dX2_winner_4 : decode cX2_winner 4 = .ok (.iload_n 2, 1) := dk_28 (dk_at dksX2_winner_0 4 rfl rfl)
theorem dX2_winner_5 : decode cX2_winner 5 = .ok (.aload_n 0, 1) := dk_42 (dk_at dksX2_winner_0 5 rfl rfl)
theorem dX2_winner_6 : decode cX2_winner 6 = .ok (.getfield 22, 3) := dk_180 0 22 (dk_at dksX2_winner_0 6 rfl rfl)
theorem dX2_winner_9 : decode cX2_winner 9 = .ok (.invokevirtual 106, 3) := dk_182 0 106 (dk_at dksX2_winner_0 9 rfl rfl)
theorem dX2_winner_12 : decode cX2_winner 12 = .ok (.if_icmp .ge 59, 3) := dk_162 0 59 (dk_at dksX2_winner_0 12 rfl rfl)
theorem dX2_winner_15 : decode cX2_winner 15 = .ok (.aload_n 0, 1) := dk_42 (dk_at dksX2_winner_0 15 rfl rfl)
theorem dX2_winner_16 : decode cX2_winner 16 = .ok (.iload_n 2, 1) := dk_28 (dk_at dksX2_winner_0 16 rfl rfl)
theorem dX2_winner_17 : decode cX2_winner 17 = .ok (.invokevirtual 343, 3) := dk_182 1 87 (dk_at dksX2_winner_0 17 rfl rfl)
theorem dX2_winner_20 : decode cX2_winner 20 = .ok (.ifCond .eq 33, 3) := dk_153 0 33 (dk_at dksX2_winner_0 20 rfl rfl)
theorem dX2_winner_23 : decode cX2_winner 23 = .ok (.iload_n 1, 1) := dk_27 (dk_at dksX2_winner_0 23 rfl rfl)
theorem dX2_winner_24 : decode cX2_winner 24 = .ok (.iconst (-1), 1) := dk_2 (dk_at dksX2_winner_1 0 rfl rfl)
theorem dX2_winner_25 : decode cX2_winner 25 = .ok (.if_icmp .eq 24, 3) := dk_159 0 24 (dk_at dksX2_winner_1 1 rfl rfl)
theorem dX2_winner_28 : decode cX2_winner 28 = .ok (.aload_n 0, 1) := dk_42 (dk_at dksX2_winner_1 4 rfl rfl)
theorem dX2_winner_29 : decode cX2_winner 29 = .ok (.getfield 97, 3) := dk_180 0 97 (dk_at dksX2_winner_1 5 rfl rfl)
theorem dX2_winner_32 : decode cX2_winner 32 = .ok (.getfield 334, 3) := dk_180 1 78 (dk_at dksX2_winner_1 8 rfl rfl)
theorem dX2_winner_35 : decode cX2_winner 35 = .ok (.iload_n 2, 1) := dk_28 (dk_at dksX2_winner_1 11 rfl rfl)
theorem dX2_winner_36 : decode cX2_winner 36 = .ok (.iaload, 1) := dk_46 (dk_at dksX2_winner_1 12 rfl rfl)
theorem dX2_winner_37 : decode cX2_winner 37 = .ok (.aload_n 0, 1) := dk_42 (dk_at dksX2_winner_1 13 rfl rfl)
theorem dX2_winner_38 : decode cX2_winner 38 = .ok (.getfield 97, 3) := dk_180 0 97 (dk_at dksX2_winner_1 14 rfl rfl)
theorem dX2_winner_41 : decode cX2_winner 41 = .ok (.getfield 334, 3) := dk_180 1 78 (dk_at dksX2_winner_1 17 rfl rfl)
theorem dX2_winner_44 : decode cX2_winner 44 = .ok (.iload_n 1, 1) := dk_27 (dk_at dksX2_winner_1 20 rfl rfl)
theorem dX2_winner_45 : decode cX2_winner 45 = .ok (.iaload, 1) := dk_46 (dk_at dksX2_winner_1 21 rfl rfl)
theorem dX2_winner_46 : decode cX2_winner 46 = .ok (.if_icmp .le 7, 3) := dk_164 0 7 (dk_at dksX2_winner_2 0 rfl rfl)
theorem dX2_winner_49 : decode cX2_winner 49 = .ok (.iconst 1, 1) := dk_4 (dk_at dksX2_winner_2 3 rfl rfl)
theorem dX2_winner_50 : decode cX2_winner 50 = .ok (.goto 4, 3) := dk_167 0 4 (dk_at dksX2_winner_2 4 rfl rfl)
theorem dX2_winner_53 : decode cX2_winner 53 = .ok (.iconst 0, 1) := dk_3 (dk_at dksX2_winner_2 7 rfl rfl)
theorem dX2_winner_54 : decode cX2_winner 54 = .ok (.istore_n 3, 1) := dk_62 (dk_at dksX2_winner_2 8 rfl rfl)
theorem dX2_winner_55 : decode cX2_winner 55 = .ok (.iload_n 3, 1) := dk_29 (dk_at dksX2_winner_2 9 rfl rfl)
theorem dX2_winner_56 : decode cX2_winner 56 = .ok (.ifCond .eq 7, 3) := dk_153 0 7 (dk_at dksX2_winner_2 10 rfl rfl)
theorem dX2_winner_59 : decode cX2_winner 59 = .ok (.iload_n 2, 1) := dk_28 (dk_at dksX2_winner_2 13 rfl rfl)
theorem dX2_winner_60 : decode cX2_winner 60 = .ok (.goto 4, 3) := dk_167 0 4 (dk_at dksX2_winner_2 14 rfl rfl)
theorem dX2_winner_63 : decode cX2_winner 63 = .ok (.iload_n 1, 1) := dk_27 (dk_at dksX2_winner_2 17 rfl rfl)
theorem dX2_winner_64 : decode cX2_winner 64 = .ok (.istore_n 1, 1) := dk_60 (dk_at dksX2_winner_2 18 rfl rfl)
theorem dX2_winner_65 : decode cX2_winner 65 = .ok (.iinc 2 1, 3) := dk_132 2 1 (dk_at dksX2_winner_2 19 rfl rfl)
theorem dX2_winner_68 : decode cX2_winner 68 = .ok (.goto (-64), 3) := dk_167 255 192 (dk_at dksX2_winner_3 0 rfl rfl)
theorem dX2_winner_71 : decode cX2_winner 71 = .ok (.iload_n 1, 1) := dk_27 (dk_at dksX2_winner_3 3 rfl rfl)
theorem dX2_winner_72 : decode cX2_winner 72 = .ok (.ireturn, 1) := dk_172 (dk_at dksX2_winner_3 4 rfl rfl)
abbrev cX2_isValid : ByteArray := prog_11_method_32_code
def yX2_isValid : MethodName := ⟨RX2, "isValid", "(I)Z"⟩
def dkwX2_isValid_2 : List UInt8 := [167, 0, 4, 3, 172]
abbrev dktX2_isValid_2 : List UInt8 := dkwX2_isValid_2 ++ []
def dkwX2_isValid_1 : List UInt8 := [161, 0, 25, 28, 42, 180, 0, 22, 27, 182, 0, 114, 192, 0, 79, 180, 0, 240, 163, 0, 7, 4]
abbrev dktX2_isValid_1 : List UInt8 := dkwX2_isValid_1 ++ dktX2_isValid_2
def dkwX2_isValid_0 : List UInt8 := [42, 180, 0, 97, 180, 1, 78, 27, 46, 61, 28, 158, 0, 36, 28, 42, 180, 0, 97, 180, 1, 84]
abbrev dktX2_isValid_0 : List UInt8 := dkwX2_isValid_0 ++ dktX2_isValid_1
theorem dksX2_isValid_0 : cX2_isValid.data.toList.drop 0 = dktX2_isValid_0 := by decide +kernel
theorem dksX2_isValid_1 : cX2_isValid.data.toList.drop 22 = dktX2_isValid_1 := dk_seg dksX2_isValid_0 22 rfl rfl
theorem dksX2_isValid_2 : cX2_isValid.data.toList.drop 44 = dktX2_isValid_2 := dk_seg dksX2_isValid_1 22 rfl rfl
theorem dX2_isValid_0 : decode cX2_isValid 0 = .ok (.aload_n 0, 1) := dk_42 (dk_at dksX2_isValid_0 0 rfl rfl)
theorem dX2_isValid_1 : decode cX2_isValid 1 = .ok (.getfield 97, 3) := dk_180 0 97 (dk_at dksX2_isValid_0 1 rfl rfl)
theorem dX2_isValid_4 : decode cX2_isValid 4 = .ok (.getfield 334, 3) := dk_180 1 78 (dk_at dksX2_isValid_0 4 rfl rfl)
theorem dX2_isValid_7 : decode cX2_isValid 7 = .ok (.iload_n 1, 1) := dk_27 (dk_at dksX2_isValid_0 7 rfl rfl)
theorem dX2_isValid_8 : decode cX2_isValid 8 = .ok (.iaload, 1) := dk_46 (dk_at dksX2_isValid_0 8 rfl rfl)
theorem dX2_isValid_9 : decode cX2_isValid 9 = .ok (.istore_n 2, 1) := dk_61 (dk_at dksX2_isValid_0 9 rfl rfl)
theorem dX2_isValid_10 : decode cX2_isValid 10 = .ok (.iload_n 2, 1) := dk_28 (dk_at dksX2_isValid_0 10 rfl rfl)
theorem dX2_isValid_11 : decode cX2_isValid 11 = .ok (.ifCond .le 36, 3) := dk_158 0 36 (dk_at dksX2_isValid_0 11 rfl rfl)
theorem dX2_isValid_14 : decode cX2_isValid 14 = .ok (.iload_n 2, 1) := dk_28 (dk_at dksX2_isValid_0 14 rfl rfl)
theorem dX2_isValid_15 : decode cX2_isValid 15 = .ok (.aload_n 0, 1) := dk_42 (dk_at dksX2_isValid_0 15 rfl rfl)
theorem dX2_isValid_16 : decode cX2_isValid 16 = .ok (.getfield 97, 3) := dk_180 0 97 (dk_at dksX2_isValid_0 16 rfl rfl)
theorem dX2_isValid_19 : decode cX2_isValid 19 = .ok (.getfield 340, 3) := dk_180 1 84 (dk_at dksX2_isValid_0 19 rfl rfl)
theorem dX2_isValid_22 : decode cX2_isValid 22 = .ok (.if_icmp .lt 25, 3) := dk_161 0 25 (dk_at dksX2_isValid_1 0 rfl rfl)
theorem dX2_isValid_25 : decode cX2_isValid 25 = .ok (.iload_n 2, 1) := dk_28 (dk_at dksX2_isValid_1 3 rfl rfl)
theorem dX2_isValid_26 : decode cX2_isValid 26 = .ok (.aload_n 0, 1) := dk_42 (dk_at dksX2_isValid_1 4 rfl rfl)
theorem dX2_isValid_27 : decode cX2_isValid 27 = .ok (.getfield 22, 3) := dk_180 0 22 (dk_at dksX2_isValid_1 5 rfl rfl)
theorem dX2_isValid_30 : decode cX2_isValid 30 = .ok (.iload_n 1, 1) := dk_27 (dk_at dksX2_isValid_1 8 rfl rfl)
theorem dX2_isValid_31 : decode cX2_isValid 31 = .ok (.invokevirtual 114, 3) := dk_182 0 114 (dk_at dksX2_isValid_1 9 rfl rfl)
theorem dX2_isValid_34 : decode cX2_isValid 34 = .ok (.checkcast 79, 3) := dk_192 0 79 (dk_at dksX2_isValid_1 12 rfl rfl)
theorem dX2_isValid_37 : decode cX2_isValid 37 = .ok (.getfield 240, 3) := dk_180 0 240 (dk_at dksX2_isValid_1 15 rfl rfl)
theorem dX2_isValid_40 : decode cX2_isValid 40 = .ok (.if_icmp .gt 7, 3) := dk_163 0 7 (dk_at dksX2_isValid_1 18 rfl rfl)
theorem dX2_isValid_43 : decode cX2_isValid 43 = .ok (.iconst 1, 1) := dk_4 (dk_at dksX2_isValid_1 21 rfl rfl)
theorem dX2_isValid_44 : decode cX2_isValid 44 = .ok (.goto 4, 3) := dk_167 0 4 (dk_at dksX2_isValid_2 0 rfl rfl)
theorem dX2_isValid_47 : decode cX2_isValid 47 = .ok (.iconst 0, 1) := dk_3 (dk_at dksX2_isValid_2 3 rfl rfl)
theorem dX2_isValid_48 : decode cX2_isValid 48 = .ok (.ireturn, 1) := dk_172 (dk_at dksX2_isValid_2 4 rfl rfl)
abbrev cX2_priceFor : ByteArray := prog_11_method_34_code
def yX2_priceFor : MethodName := ⟨RX2, "priceFor", "(I)I"⟩
def dkwX2_priceFor_2 : List UInt8 := [167, 0, 4, 28, 61, 132, 3, 1, 167, 255, 211, 28, 172]
abbrev dktX2_priceFor_2 : List UInt8 := dkwX2_priceFor_2 ++ []
def dkwX2_priceFor_1 : List UInt8 := [159, 0, 27, 42, 29, 182, 1, 87, 153, 0, 19, 28, 42, 180, 0, 97, 180, 1, 78, 29, 46, 184, 1, 91]
abbrev dktX2_priceFor_1 : List UInt8 := dkwX2_priceFor_1 ++ dktX2_priceFor_2
def dkwX2_priceFor_0 : List UInt8 := [42, 180, 0, 97, 180, 1, 84, 61, 3, 62, 29, 42, 180, 0, 22, 182, 0, 106, 162, 0, 40, 29, 27]
abbrev dktX2_priceFor_0 : List UInt8 := dkwX2_priceFor_0 ++ dktX2_priceFor_1
theorem dksX2_priceFor_0 : cX2_priceFor.data.toList.drop 0 = dktX2_priceFor_0 := by decide +kernel
theorem dksX2_priceFor_1 : cX2_priceFor.data.toList.drop 23 = dktX2_priceFor_1 := dk_seg dksX2_priceFor_0 23 rfl rfl
theorem dksX2_priceFor_2 : cX2_priceFor.data.toList.drop 47 = dktX2_priceFor_2 := dk_seg dksX2_priceFor_1 24 rfl rfl
theorem dX2_priceFor_0 : decode cX2_priceFor 0 = .ok (.aload_n 0, 1) := dk_42 (dk_at dksX2_priceFor_0 0 rfl rfl)
theorem dX2_priceFor_1 : decode cX2_priceFor 1 = .ok (.getfield 97, 3) := dk_180 0 97 (dk_at dksX2_priceFor_0 1 rfl rfl)
theorem dX2_priceFor_4 : decode cX2_priceFor 4 = .ok (.getfield 340, 3) := dk_180 1 84 (dk_at dksX2_priceFor_0 4 rfl rfl)
theorem dX2_priceFor_7 : decode cX2_priceFor 7 = .ok (.istore_n 2, 1) := dk_61 (dk_at dksX2_priceFor_0 7 rfl rfl)
theorem dX2_priceFor_8 : decode cX2_priceFor 8 = .ok (.iconst 0, 1) := dk_3 (dk_at dksX2_priceFor_0 8 rfl rfl)
theorem dX2_priceFor_9 : decode cX2_priceFor 9 = .ok (.istore_n 3, 1) := dk_62 (dk_at dksX2_priceFor_0 9 rfl rfl)
theorem dX2_priceFor_10 : decode cX2_priceFor 10 = .ok (.iload_n 3, 1) := dk_29 (dk_at dksX2_priceFor_0 10 rfl rfl)
theorem dX2_priceFor_11 : decode cX2_priceFor 11 = .ok (.aload_n 0, 1) := dk_42 (dk_at dksX2_priceFor_0 11 rfl rfl)
theorem dX2_priceFor_12 : decode cX2_priceFor 12 = .ok (.getfield 22, 3) := dk_180 0 22 (dk_at dksX2_priceFor_0 12 rfl rfl)
theorem dX2_priceFor_15 : decode cX2_priceFor 15 = .ok (.invokevirtual 106, 3) := dk_182 0 106 (dk_at dksX2_priceFor_0 15 rfl rfl)
theorem dX2_priceFor_18 : decode cX2_priceFor 18 = .ok (.if_icmp .ge 40, 3) := dk_162 0 40 (dk_at dksX2_priceFor_0 18 rfl rfl)
theorem dX2_priceFor_21 : decode cX2_priceFor 21 = .ok (.iload_n 3, 1) := dk_29 (dk_at dksX2_priceFor_0 21 rfl rfl)
theorem dX2_priceFor_22 : decode cX2_priceFor 22 = .ok (.iload_n 1, 1) := dk_27 (dk_at dksX2_priceFor_0 22 rfl rfl)
theorem dX2_priceFor_23 : decode cX2_priceFor 23 = .ok (.if_icmp .eq 27, 3) := dk_159 0 27 (dk_at dksX2_priceFor_1 0 rfl rfl)
theorem dX2_priceFor_26 : decode cX2_priceFor 26 = .ok (.aload_n 0, 1) := dk_42 (dk_at dksX2_priceFor_1 3 rfl rfl)
theorem dX2_priceFor_27 : decode cX2_priceFor 27 = .ok (.iload_n 3, 1) := dk_29 (dk_at dksX2_priceFor_1 4 rfl rfl)
theorem dX2_priceFor_28 : decode cX2_priceFor 28 = .ok (.invokevirtual 343, 3) := dk_182 1 87 (dk_at dksX2_priceFor_1 5 rfl rfl)
theorem dX2_priceFor_31 : decode cX2_priceFor 31 = .ok (.ifCond .eq 19, 3) := dk_153 0 19 (dk_at dksX2_priceFor_1 8 rfl rfl)
theorem dX2_priceFor_34 : decode cX2_priceFor 34 = .ok (.iload_n 2, 1) := dk_28 (dk_at dksX2_priceFor_1 11 rfl rfl)
theorem dX2_priceFor_35 : decode cX2_priceFor 35 = .ok (.aload_n 0, 1) := dk_42 (dk_at dksX2_priceFor_1 12 rfl rfl)
theorem dX2_priceFor_36 : decode cX2_priceFor 36 = .ok (.getfield 97, 3) := dk_180 0 97 (dk_at dksX2_priceFor_1 13 rfl rfl)
theorem dX2_priceFor_39 : decode cX2_priceFor 39 = .ok (.getfield 334, 3) := dk_180 1 78 (dk_at dksX2_priceFor_1 16 rfl rfl)
theorem dX2_priceFor_42 : decode cX2_priceFor 42 = .ok (.iload_n 3, 1) := dk_29 (dk_at dksX2_priceFor_1 19 rfl rfl)
theorem dX2_priceFor_43 : decode cX2_priceFor 43 = .ok (.iaload, 1) := dk_46 (dk_at dksX2_priceFor_1 20 rfl rfl)
theorem dX2_priceFor_44 : decode cX2_priceFor 44 = .ok (.invokestatic 347, 3) := dk_184 1 91 (dk_at dksX2_priceFor_1 21 rfl rfl)
theorem dX2_priceFor_47 : decode cX2_priceFor 47 = .ok (.goto 4, 3) := dk_167 0 4 (dk_at dksX2_priceFor_2 0 rfl rfl)
theorem dX2_priceFor_50 : decode cX2_priceFor 50 = .ok (.iload_n 2, 1) := dk_28 (dk_at dksX2_priceFor_2 3 rfl rfl)
theorem dX2_priceFor_51 : decode cX2_priceFor 51 = .ok (.istore_n 2, 1) := dk_61 (dk_at dksX2_priceFor_2 4 rfl rfl)
theorem dX2_priceFor_52 : decode cX2_priceFor 52 = .ok (.iinc 3 1, 3) := dk_132 3 1 (dk_at dksX2_priceFor_2 5 rfl rfl)
theorem dX2_priceFor_55 : decode cX2_priceFor 55 = .ok (.goto (-45), 3) := dk_167 255 211 (dk_at dksX2_priceFor_2 8 rfl rfl)
theorem dX2_priceFor_58 : decode cX2_priceFor 58 = .ok (.iload_n 2, 1) := dk_28 (dk_at dksX2_priceFor_2 11 rfl rfl)
theorem dX2_priceFor_59 : decode cX2_priceFor 59 = .ok (.ireturn, 1) := dk_172 (dk_at dksX2_priceFor_2 12 rfl rfl)
abbrev cX2_contract : ByteArray := prog_11_method_4_code
def yX2_contract : MethodName := ⟨RX2, "contract", "(I)LWindowExchange$Contract;"⟩
def dkwX2_contract_0 : List UInt8 := [27, 42, 180, 0, 29, 182, 0, 106, 184, 0, 110, 42, 180, 0, 29, 27, 182, 0, 114, 192, 0, 118, 176]
abbrev dktX2_contract_0 : List UInt8 := dkwX2_contract_0 ++ []
theorem dksX2_contract_0 : cX2_contract.data.toList.drop 0 = dktX2_contract_0 := by decide +kernel
theorem dX2_contract_0 : decode cX2_contract 0 = .ok (.iload_n 1, 1) := dk_27 (dk_at dksX2_contract_0 0 rfl rfl)
theorem dX2_contract_1 : decode cX2_contract 1 = .ok (.aload_n 0, 1) := dk_42 (dk_at dksX2_contract_0 1 rfl rfl)
theorem dX2_contract_2 : decode cX2_contract 2 = .ok (.getfield 29, 3) := dk_180 0 29 (dk_at dksX2_contract_0 2 rfl rfl)
theorem dX2_contract_5 : decode cX2_contract 5 = .ok (.invokevirtual 106, 3) := dk_182 0 106 (dk_at dksX2_contract_0 5 rfl rfl)
theorem dX2_contract_8 : decode cX2_contract 8 = .ok (.invokestatic 110, 3) := dk_184 0 110 (dk_at dksX2_contract_0 8 rfl rfl)
theorem dX2_contract_11 : decode cX2_contract 11 = .ok (.aload_n 0, 1) := dk_42 (dk_at dksX2_contract_0 11 rfl rfl)
theorem dX2_contract_12 : decode cX2_contract 12 = .ok (.getfield 29, 3) := dk_180 0 29 (dk_at dksX2_contract_0 12 rfl rfl)
theorem dX2_contract_15 : decode cX2_contract 15 = .ok (.iload_n 1, 1) := dk_27 (dk_at dksX2_contract_0 15 rfl rfl)
theorem dX2_contract_16 : decode cX2_contract 16 = .ok (.invokevirtual 114, 3) := dk_182 0 114 (dk_at dksX2_contract_0 16 rfl rfl)
theorem dX2_contract_19 : decode cX2_contract 19 = .ok (.checkcast 118, 3) := dk_192 0 118 (dk_at dksX2_contract_0 19 rfl rfl)
theorem dX2_contract_22 : decode cX2_contract 22 = .ok (.areturn, 1) := dk_176 (dk_at dksX2_contract_0 22 rfl rfl)
theorem q95 : (Jvm.Cond.initialized "WindowExchange$State") ∈ lw_all := lw_g (lw_at lw_m1 2 rfl) rfl
theorem q160 : (Jvm.Cond.instantiable "WindowExchange$State" (15 : Nat)) ∈ lw_all := lw_g (lw_at lw_m1 67 rfl) rfl
theorem q162 : (Jvm.Cond.instanceMethod ({ cls := "WindowExchange$State", name := "<init>", desc := "()V" } : Jvm.MethodName)) ∈ lw_all := lw_g (lw_at lw_m1 69 rfl) rfl
theorem q163 : (Jvm.Cond.code ({ cls := "WindowExchange$State", name := "<init>", desc := "()V" } : Jvm.MethodName) prog_11_method_1_code (1 : Nat) (Option.none : Option Jvm.ClassFile.FieldType)) ∈ lw_all := lw_g (lw_at lw_m1 70 rfl) rfl
theorem q164 : (Jvm.Cond.methodLink "WindowExchange$State" (3 : Nat) ({ cls := "java/lang/Object", name := "<init>", desc := "()V" } : Jvm.MethodName)) ∈ lw_all := lw_g (lw_at lw_m1 71 rfl) rfl
theorem q165 : (Jvm.Cond.classLink "WindowExchange$State" (19 : Nat) "java/util/ArrayList") ∈ lw_all := lw_g (lw_at lw_m1 72 rfl) rfl
theorem q167 : (Jvm.Cond.methodLink "WindowExchange$State" (21 : Nat) ({ cls := "java/util/ArrayList", name := "<init>", desc := "()V" } : Jvm.MethodName)) ∈ lw_all := lw_g (lw_at lw_m1 74 rfl) rfl
theorem q195 : (Jvm.Cond.fieldLink "WindowExchange$State" (32 : Nat) "WindowExchange$State" "nextOrder" "I") ∈ lw_all := lw_g (lw_at lw_m1 102 rfl) rfl
theorem q196 : (Jvm.Cond.fieldLink "WindowExchange$State" (35 : Nat) "WindowExchange$State" "day" "I") ∈ lw_all := lw_g (lw_at lw_m1 103 rfl) rfl
theorem q198 : (Jvm.Cond.fieldLink "WindowExchange$State" (9 : Nat) "WindowExchange$State" "lastPrice" "I") ∈ lw_all := lw_g (lw_at lw_m1 105 rfl) rfl
theorem q200 : (Jvm.Cond.fieldLink "WindowExchange$State" (38 : Nat) "WindowExchange$State" "tradedUnits" "I") ∈ lw_all := lw_g (lw_at lw_m1 107 rfl) rfl
theorem q202 : (Jvm.Cond.fieldLink "WindowExchange$State" (41 : Nat) "WindowExchange$State" "turnover" "I") ∈ lw_all := lw_g (lw_at lw_m1 109 rfl) rfl
theorem q204 : (Jvm.Cond.fieldLink "WindowExchange$State" (44 : Nat) "WindowExchange$State" "settled" "I") ∈ lw_all := lw_g (lw_at lw_m1 111 rfl) rfl
theorem q206 : (Jvm.Cond.fieldLink "WindowExchange$State" (47 : Nat) "WindowExchange$State" "defaults" "I") ∈ lw_all := lw_g (lw_at lw_m1 113 rfl) rfl
theorem q208 : (Jvm.Cond.fieldLink "WindowExchange$State" (50 : Nat) "WindowExchange$State" "till" "I") ∈ lw_all := lw_g (lw_at lw_m1 115 rfl) rfl
theorem q210 : (Jvm.Cond.fieldLink "WindowExchange$State" (53 : Nat) "WindowExchange$State" "givenCash" "I") ∈ lw_all := lw_g (lw_at lw_m1 117 rfl) rfl
theorem q212 : (Jvm.Cond.fieldLink "WindowExchange$State" (56 : Nat) "WindowExchange$State" "givenWindows" "I") ∈ lw_all := lw_g (lw_at lw_m1 119 rfl) rfl
theorem q214 : (Jvm.Cond.fieldLink "WindowExchange$State" (15 : Nat) "WindowExchange$State" "holders" "[I") ∈ lw_all := lw_g (lw_at lw_m1 121 rfl) rfl
theorem q216 : (Jvm.Cond.fieldLink "WindowExchange$State" (22 : Nat) "WindowExchange$State" "traders" "Ljava/util/ArrayList;") ∈ lw_all := lw_g (lw_at lw_m1 123 rfl) rfl
theorem q218 : (Jvm.Cond.fieldLink "WindowExchange$State" (26 : Nat) "WindowExchange$State" "orders" "Ljava/util/ArrayList;") ∈ lw_all := lw_g (lw_at lw_m1 125 rfl) rfl
theorem q220 : (Jvm.Cond.fieldLink "WindowExchange$State" (29 : Nat) "WindowExchange$State" "contracts" "Ljava/util/ArrayList;") ∈ lw_all := lw_g (lw_at lw_m1 127 rfl) rfl
theorem q222 : (Jvm.Cond.fieldLink "WindowExchange$State" (97 : Nat) "WindowExchange$State" "auction" "LWindowExchange$Auction;") ∈ lw_all := lw_g (lw_at lw_m1 129 rfl) rfl
theorem q224 : (Jvm.Cond.lays "WindowExchange$State" "WindowExchange$State" "nextOrder" "I") ∈ lw_all := lw_g (lw_at lw_m1 131 rfl) rfl
theorem q225 : (Jvm.Cond.soleField "WindowExchange$State" "nextOrder") ∈ lw_all := lw_g (lw_at lw_m1 132 rfl) rfl
theorem q226 : (Jvm.Cond.lays "WindowExchange$State" "WindowExchange$State" "day" "I") ∈ lw_all := lw_g (lw_at lw_m1 133 rfl) rfl
theorem q227 : (Jvm.Cond.soleField "WindowExchange$State" "day") ∈ lw_all := lw_g (lw_at lw_m1 134 rfl) rfl
theorem q228 : (Jvm.Cond.lays "WindowExchange$State" "WindowExchange$State" "lastPrice" "I") ∈ lw_all := lw_g (lw_at lw_m1 135 rfl) rfl
theorem q229 : (Jvm.Cond.soleField "WindowExchange$State" "lastPrice") ∈ lw_all := lw_g (lw_at lw_m1 136 rfl) rfl
theorem q230 : (Jvm.Cond.lays "WindowExchange$State" "WindowExchange$State" "tradedUnits" "I") ∈ lw_all := lw_g (lw_at lw_m1 137 rfl) rfl
theorem q231 : (Jvm.Cond.soleField "WindowExchange$State" "tradedUnits") ∈ lw_all := lw_g (lw_at lw_m1 138 rfl) rfl
theorem q232 : (Jvm.Cond.lays "WindowExchange$State" "WindowExchange$State" "turnover" "I") ∈ lw_all := lw_g (lw_at lw_m1 139 rfl) rfl
theorem q233 : (Jvm.Cond.soleField "WindowExchange$State" "turnover") ∈ lw_all := lw_g (lw_at lw_m1 140 rfl) rfl
theorem q234 : (Jvm.Cond.lays "WindowExchange$State" "WindowExchange$State" "settled" "I") ∈ lw_all := lw_g (lw_at lw_m1 141 rfl) rfl
theorem q235 : (Jvm.Cond.soleField "WindowExchange$State" "settled") ∈ lw_all := lw_g (lw_at lw_m1 142 rfl) rfl
theorem q236 : (Jvm.Cond.lays "WindowExchange$State" "WindowExchange$State" "defaults" "I") ∈ lw_all := lw_g (lw_at lw_m1 143 rfl) rfl
theorem q237 : (Jvm.Cond.soleField "WindowExchange$State" "defaults") ∈ lw_all := lw_g (lw_at lw_m1 144 rfl) rfl
theorem q238 : (Jvm.Cond.lays "WindowExchange$State" "WindowExchange$State" "till" "I") ∈ lw_all := lw_g (lw_at lw_m1 145 rfl) rfl
theorem q239 : (Jvm.Cond.soleField "WindowExchange$State" "till") ∈ lw_all := lw_g (lw_at lw_m1 146 rfl) rfl
theorem q240 : (Jvm.Cond.lays "WindowExchange$State" "WindowExchange$State" "givenCash" "I") ∈ lw_all := lw_g (lw_at lw_m1 147 rfl) rfl
theorem q241 : (Jvm.Cond.soleField "WindowExchange$State" "givenCash") ∈ lw_all := lw_g (lw_at lw_m1 148 rfl) rfl
theorem q242 : (Jvm.Cond.lays "WindowExchange$State" "WindowExchange$State" "givenWindows" "I") ∈ lw_all := lw_g (lw_at lw_m1 149 rfl) rfl
theorem q243 : (Jvm.Cond.soleField "WindowExchange$State" "givenWindows") ∈ lw_all := lw_g (lw_at lw_m1 150 rfl) rfl
theorem q244 : (Jvm.Cond.laysFinal "WindowExchange$State" "WindowExchange$State" "holders" "[I") ∈ lw_all := lw_g (lw_at lw_m1 151 rfl) rfl
theorem q245 : (Jvm.Cond.soleField "WindowExchange$State" "holders") ∈ lw_all := lw_g (lw_at lw_m1 152 rfl) rfl
theorem q246 : (Jvm.Cond.laysFinal "WindowExchange$State" "WindowExchange$State" "traders" "Ljava/util/ArrayList;") ∈ lw_all := lw_g (lw_at lw_m1 153 rfl) rfl
theorem q247 : (Jvm.Cond.soleField "WindowExchange$State" "traders") ∈ lw_all := lw_g (lw_at lw_m1 154 rfl) rfl
theorem q248 : (Jvm.Cond.laysFinal "WindowExchange$State" "WindowExchange$State" "orders" "Ljava/util/ArrayList;") ∈ lw_all := lw_g (lw_at lw_m1 155 rfl) rfl
theorem q249 : (Jvm.Cond.soleField "WindowExchange$State" "orders") ∈ lw_all := lw_g (lw_at lw_m1 156 rfl) rfl
theorem q250 : (Jvm.Cond.laysFinal "WindowExchange$State" "WindowExchange$State" "contracts" "Ljava/util/ArrayList;") ∈ lw_all := lw_g (lw_at lw_m1 157 rfl) rfl
theorem q251 : (Jvm.Cond.soleField "WindowExchange$State" "contracts") ∈ lw_all := lw_g (lw_at lw_m1 158 rfl) rfl
theorem q252 : (Jvm.Cond.lays "WindowExchange$State" "WindowExchange$State" "auction" "LWindowExchange$Auction;") ∈ lw_all := lw_g (lw_at lw_m1 159 rfl) rfl
theorem q253 : (Jvm.Cond.soleField "WindowExchange$State" "auction") ∈ lw_all := lw_g (lw_at lw_m1 160 rfl) rfl
theorem q254 : (Jvm.Cond.superclass "WindowExchange$State" "java/lang/Object") ∈ lw_all := lw_g (lw_at lw_m1 161 rfl) rfl
theorem q356 : (Jvm.Cond.instanceMethod ({ cls := "WindowExchange$State", name := "depth", desc := "(ZI)I" } : Jvm.MethodName)) ∈ lw_all := lw_g (lw_at lw_m2 23 rfl) rfl
theorem q357 : (Jvm.Cond.selects "WindowExchange$State" ({ cls := "WindowExchange$State", name := "depth", desc := "(ZI)I" } : Jvm.MethodName) ({ cls := "WindowExchange$State", name := "depth", desc := "(ZI)I" } : Jvm.MethodName)) ∈ lw_all := lw_g (lw_at lw_m2 24 rfl) rfl
theorem q358 : (Jvm.Cond.code ({ cls := "WindowExchange$State", name := "depth", desc := "(ZI)I" } : Jvm.MethodName) prog_11_method_10_code (3 : Nat) (Option.some Jvm.ClassFile.FieldType.int)) ∈ lw_all := lw_g (lw_at lw_m2 25 rfl) rfl
theorem q359 : (Jvm.Cond.static ({ cls := "WindowExchange$State", name := "lambda$depth$2", desc := "(ZILWindowExchange$Order;)I" } : Jvm.MethodName)) ∈ lw_all := lw_g (lw_at lw_m2 26 rfl) rfl
theorem q360 : (Jvm.Cond.code ({ cls := "WindowExchange$State", name := "lambda$depth$2", desc := "(ZILWindowExchange$Order;)I" } : Jvm.MethodName) prog_11_method_39_code (3 : Nat) (Option.some Jvm.ClassFile.FieldType.int)) ∈ lw_all := lw_g (lw_at lw_m2 27 rfl) rfl
theorem q361 : (Jvm.Cond.methodLink "WindowExchange$State" (141 : Nat) ({ cls := "WindowExchange$State", name := "sumOrders", desc := "(LWindowExchange$OrderMeasure;)I" } : Jvm.MethodName)) ∈ lw_all := lw_g (lw_at lw_m2 28 rfl) rfl
theorem q362 : (Jvm.Cond.instanceMethod ({ cls := "WindowExchange$State", name := "sumOrders", desc := "(LWindowExchange$OrderMeasure;)I" } : Jvm.MethodName)) ∈ lw_all := lw_g (lw_at lw_m2 29 rfl) rfl
theorem q363 : (Jvm.Cond.selects "WindowExchange$State" ({ cls := "WindowExchange$State", name := "sumOrders", desc := "(LWindowExchange$OrderMeasure;)I" } : Jvm.MethodName) ({ cls := "WindowExchange$State", name := "sumOrders", desc := "(LWindowExchange$OrderMeasure;)I" } : Jvm.MethodName)) ∈ lw_all := lw_g (lw_at lw_m2 30 rfl) rfl
theorem q364 : (Jvm.Cond.code ({ cls := "WindowExchange$State", name := "sumOrders", desc := "(LWindowExchange$OrderMeasure;)I" } : Jvm.MethodName) prog_11_method_6_code (5 : Nat) (Option.some Jvm.ClassFile.FieldType.int)) ∈ lw_all := lw_g (lw_at lw_m2 31 rfl) rfl
theorem q365 : (Jvm.Cond.methodLink "WindowExchange$State" (65 : Nat) ({ cls := "java/util/ArrayList", name := "iterator", desc := "()Ljava/util/Iterator;" } : Jvm.MethodName)) ∈ lw_all := lw_g (lw_at lw_m2 32 rfl) rfl
theorem q388 : (Jvm.Cond.interfaceEntry "WindowExchange$State" (69 : Nat)) ∈ lw_tbl := lw_at lw_m2 55 rfl
theorem q389 : (Jvm.Cond.methodLink "WindowExchange$State" (69 : Nat) ({ cls := "java/util/Iterator", name := "hasNext", desc := "()Z" } : Jvm.MethodName)) ∈ lw_all := lw_g (lw_at lw_m2 56 rfl) rfl
theorem q420 : (Jvm.Cond.interfaceEntry "WindowExchange$State" (75 : Nat)) ∈ lw_tbl := lw_at lw_m2 87 rfl
theorem q421 : (Jvm.Cond.methodLink "WindowExchange$State" (75 : Nat) ({ cls := "java/util/Iterator", name := "next", desc := "()Ljava/lang/Object;" } : Jvm.MethodName)) ∈ lw_all := lw_g (lw_at lw_m2 88 rfl) rfl
theorem q555 : (Jvm.Cond.classLink "WindowExchange$State" (88 : Nat) "WindowExchange$Order") ∈ lw_all := lw_g (lw_at lw_m2 222 rfl) rfl
theorem q556 : (Jvm.Cond.interfaceEntry "WindowExchange$State" (127 : Nat)) ∈ lw_tbl := lw_at lw_m2 223 rfl
theorem q557 : (Jvm.Cond.methodLink "WindowExchange$State" (127 : Nat) ({ cls := "WindowExchange$OrderMeasure", name := "of", desc := "(LWindowExchange$Order;)I" } : Jvm.MethodName)) ∈ lw_all := lw_g (lw_at lw_m2 224 rfl) rfl
theorem q608 : (Jvm.Cond.instanceMethod ({ cls := "WindowExchange$State", name := "reservedCash", desc := "(I)I" } : Jvm.MethodName)) ∈ lw_all := lw_g (lw_at lw_m3 35 rfl) rfl
theorem q609 : (Jvm.Cond.selects "WindowExchange$State" ({ cls := "WindowExchange$State", name := "reservedCash", desc := "(I)I" } : Jvm.MethodName) ({ cls := "WindowExchange$State", name := "reservedCash", desc := "(I)I" } : Jvm.MethodName)) ∈ lw_all := lw_g (lw_at lw_m3 36 rfl) rfl
theorem q610 : (Jvm.Cond.code ({ cls := "WindowExchange$State", name := "reservedCash", desc := "(I)I" } : Jvm.MethodName) prog_11_method_8_code (2 : Nat) (Option.some Jvm.ClassFile.FieldType.int)) ∈ lw_all := lw_g (lw_at lw_m3 37 rfl) rfl
theorem q611 : (Jvm.Cond.static ({ cls := "WindowExchange$State", name := "lambda$reservedCash$0", desc := "(ILWindowExchange$Order;)I" } : Jvm.MethodName)) ∈ lw_all := lw_g (lw_at lw_m3 38 rfl) rfl
theorem q612 : (Jvm.Cond.code ({ cls := "WindowExchange$State", name := "lambda$reservedCash$0", desc := "(ILWindowExchange$Order;)I" } : Jvm.MethodName) prog_11_method_41_code (2 : Nat) (Option.some Jvm.ClassFile.FieldType.int)) ∈ lw_all := lw_g (lw_at lw_m3 39 rfl) rfl
theorem q614 : (Jvm.Cond.instanceMethod ({ cls := "WindowExchange$State", name := "reservedWindows", desc := "(I)I" } : Jvm.MethodName)) ∈ lw_all := lw_g (lw_at lw_m3 41 rfl) rfl
theorem q615 : (Jvm.Cond.selects "WindowExchange$State" ({ cls := "WindowExchange$State", name := "reservedWindows", desc := "(I)I" } : Jvm.MethodName) ({ cls := "WindowExchange$State", name := "reservedWindows", desc := "(I)I" } : Jvm.MethodName)) ∈ lw_all := lw_g (lw_at lw_m3 42 rfl) rfl
theorem q616 : (Jvm.Cond.code ({ cls := "WindowExchange$State", name := "reservedWindows", desc := "(I)I" } : Jvm.MethodName) prog_11_method_9_code (2 : Nat) (Option.some Jvm.ClassFile.FieldType.int)) ∈ lw_all := lw_g (lw_at lw_m3 43 rfl) rfl
theorem q617 : (Jvm.Cond.static ({ cls := "WindowExchange$State", name := "lambda$reservedWindows$1", desc := "(ILWindowExchange$Order;)I" } : Jvm.MethodName)) ∈ lw_all := lw_g (lw_at lw_m3 44 rfl) rfl
theorem q618 : (Jvm.Cond.code ({ cls := "WindowExchange$State", name := "lambda$reservedWindows$1", desc := "(ILWindowExchange$Order;)I" } : Jvm.MethodName) prog_11_method_40_code (2 : Nat) (Option.some Jvm.ClassFile.FieldType.int)) ∈ lw_all := lw_g (lw_at lw_m3 45 rfl) rfl
theorem q624 : (Jvm.Cond.instanceMethod ({ cls := "WindowExchange$State", name := "side", desc := "(Z)Ljava/util/PriorityQueue;" } : Jvm.MethodName)) ∈ lw_all := lw_g (lw_at lw_m3 51 rfl) rfl
theorem q625 : (Jvm.Cond.selects "WindowExchange$State" ({ cls := "WindowExchange$State", name := "side", desc := "(Z)Ljava/util/PriorityQueue;" } : Jvm.MethodName) ({ cls := "WindowExchange$State", name := "side", desc := "(Z)Ljava/util/PriorityQueue;" } : Jvm.MethodName)) ∈ lw_all := lw_g (lw_at lw_m3 52 rfl) rfl
theorem q626 : (Jvm.Cond.code ({ cls := "WindowExchange$State", name := "side", desc := "(Z)Ljava/util/PriorityQueue;" } : Jvm.MethodName) prog_11_method_11_code (6 : Nat) (Option.some (Jvm.ClassFile.FieldType.object "java/util/PriorityQueue"))) ∈ lw_all := lw_g (lw_at lw_m3 53 rfl) rfl
theorem q627 : (Jvm.Cond.classLink "WindowExchange$State" (149 : Nat) "java/util/PriorityQueue") ∈ lw_all := lw_g (lw_at lw_m3 54 rfl) rfl
theorem q629 : (Jvm.Cond.classLink "WindowExchange$State" (151 : Nat) "WindowExchange$ByPriority") ∈ lw_all := lw_g (lw_at lw_m3 56 rfl) rfl
theorem q631 : (Jvm.Cond.methodLink "WindowExchange$State" (153 : Nat) ({ cls := "WindowExchange$ByPriority", name := "<init>", desc := "(Z)V" } : Jvm.MethodName)) ∈ lw_all := lw_g (lw_at lw_m3 58 rfl) rfl
theorem q639 : (Jvm.Cond.methodLink "WindowExchange$State" (155 : Nat) ({ cls := "java/util/PriorityQueue", name := "<init>", desc := "(Ljava/util/Comparator;)V" } : Jvm.MethodName)) ∈ lw_all := lw_g (lw_at lw_m3 66 rfl) rfl
theorem q681 : (Jvm.Cond.methodLink "WindowExchange$State" (162 : Nat) ({ cls := "java/util/PriorityQueue", name := "add", desc := "(Ljava/lang/Object;)Z" } : Jvm.MethodName)) ∈ lw_all := lw_g (lw_at lw_m3 108 rfl) rfl
theorem q716 : (Jvm.Cond.selects "WindowExchange$State" ({ cls := "java/lang/Object", name := "getClass", desc := "()Ljava/lang/Class;" } : Jvm.MethodName) ({ cls := "java/lang/Object", name := "getClass", desc := "()Ljava/lang/Class;" } : Jvm.MethodName)) ∈ lw_all := lw_g (lw_at lw_m3 143 rfl) rfl
theorem q1041 : (Jvm.Cond.instanceMethod ({ cls := "WindowExchange$State", name := "costToBuy", desc := "(I)I" } : Jvm.MethodName)) ∈ lw_all := lw_g (lw_at lw_m4 228 rfl) rfl
theorem q1042 : (Jvm.Cond.selects "WindowExchange$State" ({ cls := "WindowExchange$State", name := "costToBuy", desc := "(I)I" } : Jvm.MethodName) ({ cls := "WindowExchange$State", name := "costToBuy", desc := "(I)I" } : Jvm.MethodName)) ∈ lw_all := lw_g (lw_at lw_m4 229 rfl) rfl
theorem q1043 : (Jvm.Cond.code ({ cls := "WindowExchange$State", name := "costToBuy", desc := "(I)I" } : Jvm.MethodName) prog_11_method_13_code (7 : Nat) (Option.some Jvm.ClassFile.FieldType.int)) ∈ lw_all := lw_g (lw_at lw_m4 230 rfl) rfl
theorem q1044 : (Jvm.Cond.methodLink "WindowExchange$State" (163 : Nat) ({ cls := "WindowExchange$State", name := "side", desc := "(Z)Ljava/util/PriorityQueue;" } : Jvm.MethodName)) ∈ lw_all := lw_g (lw_at lw_m4 231 rfl) rfl
theorem q1045 : (Jvm.Cond.methodLink "WindowExchange$State" (167 : Nat) ({ cls := "java/util/PriorityQueue", name := "isEmpty", desc := "()Z" } : Jvm.MethodName)) ∈ lw_all := lw_g (lw_at lw_m4 232 rfl) rfl
theorem q1046 : (Jvm.Cond.methodLink "WindowExchange$State" (170 : Nat) ({ cls := "java/util/PriorityQueue", name := "poll", desc := "()Ljava/lang/Object;" } : Jvm.MethodName)) ∈ lw_all := lw_g (lw_at lw_m4 233 rfl) rfl
theorem q1056 : (Jvm.Cond.methodLink "WindowExchange$State" (176 : Nat) ({ cls := "java/lang/Math", name := "min", desc := "(II)I" } : Jvm.MethodName)) ∈ lw_all := lw_g (lw_at lw_m5 3 rfl) rfl
theorem q1058 : (Jvm.Cond.instanceMethod ({ cls := "WindowExchange$State", name := "costToBuyByPrices", desc := "(I)I" } : Jvm.MethodName)) ∈ lw_all := lw_g (lw_at lw_m5 5 rfl) rfl
theorem q1059 : (Jvm.Cond.selects "WindowExchange$State" ({ cls := "WindowExchange$State", name := "costToBuyByPrices", desc := "(I)I" } : Jvm.MethodName) ({ cls := "WindowExchange$State", name := "costToBuyByPrices", desc := "(I)I" } : Jvm.MethodName)) ∈ lw_all := lw_g (lw_at lw_m5 6 rfl) rfl
theorem q1060 : (Jvm.Cond.code ({ cls := "WindowExchange$State", name := "costToBuyByPrices", desc := "(I)I" } : Jvm.MethodName) prog_11_method_14_code (8 : Nat) (Option.some Jvm.ClassFile.FieldType.int)) ∈ lw_all := lw_g (lw_at lw_m5 7 rfl) rfl
theorem q1061 : (Jvm.Cond.classLink "WindowExchange$State" (185 : Nat) "java/util/TreeMap") ∈ lw_all := lw_g (lw_at lw_m5 8 rfl) rfl
theorem q1063 : (Jvm.Cond.methodLink "WindowExchange$State" (187 : Nat) ({ cls := "java/util/TreeMap", name := "<init>", desc := "()V" } : Jvm.MethodName)) ∈ lw_all := lw_g (lw_at lw_m5 10 rfl) rfl
theorem q1095 : (Jvm.Cond.methodLink "WindowExchange$State" (188 : Nat) ({ cls := "java/lang/Integer", name := "valueOf", desc := "(I)Ljava/lang/Integer;" } : Jvm.MethodName)) ∈ lw_all := lw_g (lw_at lw_m5 42 rfl) rfl
theorem q1114 : (Jvm.Cond.methodLink "WindowExchange$State" (194 : Nat) ({ cls := "java/util/TreeMap", name := "containsKey", desc := "(Ljava/lang/Object;)Z" } : Jvm.MethodName)) ∈ lw_all := lw_g (lw_at lw_m5 61 rfl) rfl
theorem q1134 : (Jvm.Cond.methodLink "WindowExchange$State" (197 : Nat) ({ cls := "java/util/TreeMap", name := "get", desc := "(Ljava/lang/Object;)Ljava/lang/Object;" } : Jvm.MethodName)) ∈ lw_all := lw_g (lw_at lw_m5 81 rfl) rfl
theorem q1138 : (Jvm.Cond.classLink "WindowExchange$State" (189 : Nat) "java/lang/Integer") ∈ lw_all := lw_g (lw_at lw_m5 85 rfl) rfl
theorem q1139 : (Jvm.Cond.methodLink "WindowExchange$State" (200 : Nat) ({ cls := "java/lang/Integer", name := "intValue", desc := "()I" } : Jvm.MethodName)) ∈ lw_all := lw_g (lw_at lw_m5 86 rfl) rfl
theorem q1143 : (Jvm.Cond.methodLink "WindowExchange$State" (203 : Nat) ({ cls := "java/util/TreeMap", name := "put", desc := "(Ljava/lang/Object;Ljava/lang/Object;)Ljava/lang/Object;" } : Jvm.MethodName)) ∈ lw_all := lw_g (lw_at lw_m5 90 rfl) rfl
theorem q1219 : (Jvm.Cond.methodLink "WindowExchange$State" (207 : Nat) ({ cls := "java/util/TreeMap", name := "entrySet", desc := "()Ljava/util/Set;" } : Jvm.MethodName)) ∈ lw_all := lw_g (lw_at lw_m5 166 rfl) rfl
theorem q1236 : (Jvm.Cond.interfaceEntry "WindowExchange$State" (211 : Nat)) ∈ lw_tbl := lw_at lw_m5 183 rfl
theorem q1237 : (Jvm.Cond.methodLink "WindowExchange$State" (211 : Nat) ({ cls := "java/util/Set", name := "iterator", desc := "()Ljava/util/Iterator;" } : Jvm.MethodName)) ∈ lw_all := lw_g (lw_at lw_m5 184 rfl) rfl
theorem q1272 : (Jvm.Cond.classLink "WindowExchange$State" (214 : Nat) "java/util/Map$Entry") ∈ lw_all := lw_g (lw_at lw_m5 219 rfl) rfl
theorem q1273 : (Jvm.Cond.interfaceEntry "WindowExchange$State" (216 : Nat)) ∈ lw_tbl := lw_at lw_m5 220 rfl
theorem q1274 : (Jvm.Cond.methodLink "WindowExchange$State" (216 : Nat) ({ cls := "java/util/Map$Entry", name := "getValue", desc := "()Ljava/lang/Object;" } : Jvm.MethodName)) ∈ lw_all := lw_g (lw_at lw_m5 221 rfl) rfl
theorem q1283 : (Jvm.Cond.interfaceEntry "WindowExchange$State" (219 : Nat)) ∈ lw_tbl := lw_at lw_m5 230 rfl
theorem q1284 : (Jvm.Cond.methodLink "WindowExchange$State" (219 : Nat) ({ cls := "java/util/Map$Entry", name := "getKey", desc := "()Ljava/lang/Object;" } : Jvm.MethodName)) ∈ lw_all := lw_g (lw_at lw_m5 231 rfl) rfl
theorem q1293 : (Jvm.Cond.instanceMethod ({ cls := "WindowExchange$State", name := "value", desc := "(II)I" } : Jvm.MethodName)) ∈ lw_all := lw_g (lw_at lw_m6 0 rfl) rfl
theorem q1294 : (Jvm.Cond.selects "WindowExchange$State" ({ cls := "WindowExchange$State", name := "value", desc := "(II)I" } : Jvm.MethodName) ({ cls := "WindowExchange$State", name := "value", desc := "(II)I" } : Jvm.MethodName)) ∈ lw_all := lw_g (lw_at lw_m6 1 rfl) rfl
theorem q1295 : (Jvm.Cond.code ({ cls := "WindowExchange$State", name := "value", desc := "(II)I" } : Jvm.MethodName) prog_11_method_27_code (5 : Nat) (Option.some Jvm.ClassFile.FieldType.int)) ∈ lw_all := lw_g (lw_at lw_m6 2 rfl) rfl
theorem q1296 : (Jvm.Cond.methodLink "WindowExchange$State" (114 : Nat) ({ cls := "java/util/ArrayList", name := "get", desc := "(I)Ljava/lang/Object;" } : Jvm.MethodName)) ∈ lw_all := lw_g (lw_at lw_m6 3 rfl) rfl
theorem q1297 : (Jvm.Cond.classLink "WindowExchange$State" (79 : Nat) "WindowExchange$Trader") ∈ lw_all := lw_g (lw_at lw_m6 4 rfl) rfl
theorem q1298 : (Jvm.Cond.static ({ cls := "WindowExchange$State", name := "lambda$value$5", desc := "(IILWindowExchange$Contract;)I" } : Jvm.MethodName)) ∈ lw_all := lw_g (lw_at lw_m6 5 rfl) rfl
theorem q1299 : (Jvm.Cond.code ({ cls := "WindowExchange$State", name := "lambda$value$5", desc := "(IILWindowExchange$Contract;)I" } : Jvm.MethodName) prog_11_method_36_code (3 : Nat) (Option.some Jvm.ClassFile.FieldType.int)) ∈ lw_all := lw_g (lw_at lw_m6 6 rfl) rfl
theorem q1300 : (Jvm.Cond.methodLink "WindowExchange$State" (359 : Nat) ({ cls := "WindowExchange$Contract", name := "signFor", desc := "(I)I" } : Jvm.MethodName)) ∈ lw_all := lw_g (lw_at lw_m6 7 rfl) rfl
theorem q1304 : (Jvm.Cond.methodLink "WindowExchange$State" (285 : Nat) ({ cls := "WindowExchange$Contract", name := "gainAt", desc := "(I)I" } : Jvm.MethodName)) ∈ lw_all := lw_g (lw_at lw_m6 11 rfl) rfl
theorem q1308 : (Jvm.Cond.methodLink "WindowExchange$State" (311 : Nat) ({ cls := "WindowExchange$State", name := "sumContracts", desc := "(LWindowExchange$ContractMeasure;)I" } : Jvm.MethodName)) ∈ lw_all := lw_g (lw_at lw_m6 15 rfl) rfl
theorem q1309 : (Jvm.Cond.instanceMethod ({ cls := "WindowExchange$State", name := "sumContracts", desc := "(LWindowExchange$ContractMeasure;)I" } : Jvm.MethodName)) ∈ lw_all := lw_g (lw_at lw_m6 16 rfl) rfl
theorem q1310 : (Jvm.Cond.selects "WindowExchange$State" ({ cls := "WindowExchange$State", name := "sumContracts", desc := "(LWindowExchange$ContractMeasure;)I" } : Jvm.MethodName) ({ cls := "WindowExchange$State", name := "sumContracts", desc := "(LWindowExchange$ContractMeasure;)I" } : Jvm.MethodName)) ∈ lw_all := lw_g (lw_at lw_m6 17 rfl) rfl
theorem q1311 : (Jvm.Cond.code ({ cls := "WindowExchange$State", name := "sumContracts", desc := "(LWindowExchange$ContractMeasure;)I" } : Jvm.MethodName) prog_11_method_7_code (5 : Nat) (Option.some Jvm.ClassFile.FieldType.int)) ∈ lw_all := lw_g (lw_at lw_m6 18 rfl) rfl
theorem q1312 : (Jvm.Cond.classLink "WindowExchange$State" (118 : Nat) "WindowExchange$Contract") ∈ lw_all := lw_g (lw_at lw_m6 19 rfl) rfl
theorem q1313 : (Jvm.Cond.interfaceEntry "WindowExchange$State" (133 : Nat)) ∈ lw_tbl := lw_at lw_m6 20 rfl
theorem q1314 : (Jvm.Cond.methodLink "WindowExchange$State" (133 : Nat) ({ cls := "WindowExchange$ContractMeasure", name := "of", desc := "(LWindowExchange$Contract;)I" } : Jvm.MethodName)) ∈ lw_all := lw_g (lw_at lw_m6 21 rfl) rfl
theorem q1317 : (Jvm.Cond.methodLink "WindowExchange$State" (321 : Nat) ({ cls := "WindowExchange$State", name := "reservedCash", desc := "(I)I" } : Jvm.MethodName)) ∈ lw_all := lw_g (lw_at lw_m6 24 rfl) rfl
theorem q1318 : (Jvm.Cond.methodLink "WindowExchange$State" (315 : Nat) ({ cls := "WindowExchange$State", name := "reservedWindows", desc := "(I)I" } : Jvm.MethodName)) ∈ lw_all := lw_g (lw_at lw_m6 25 rfl) rfl
theorem q1320 : (Jvm.Cond.instanceMethod ({ cls := "WindowExchange$State", name := "valueByExposure", desc := "(II)I" } : Jvm.MethodName)) ∈ lw_all := lw_g (lw_at lw_m6 27 rfl) rfl
theorem q1321 : (Jvm.Cond.selects "WindowExchange$State" ({ cls := "WindowExchange$State", name := "valueByExposure", desc := "(II)I" } : Jvm.MethodName) ({ cls := "WindowExchange$State", name := "valueByExposure", desc := "(II)I" } : Jvm.MethodName)) ∈ lw_all := lw_g (lw_at lw_m6 28 rfl) rfl
theorem q1322 : (Jvm.Cond.code ({ cls := "WindowExchange$State", name := "valueByExposure", desc := "(II)I" } : Jvm.MethodName) prog_11_method_28_code (3 : Nat) (Option.some Jvm.ClassFile.FieldType.int)) ∈ lw_all := lw_g (lw_at lw_m6 29 rfl) rfl
theorem q1323 : (Jvm.Cond.methodLink "WindowExchange$State" (324 : Nat) ({ cls := "WindowExchange$State", name := "value", desc := "(II)I" } : Jvm.MethodName)) ∈ lw_all := lw_g (lw_at lw_m6 30 rfl) rfl
theorem q1324 : (Jvm.Cond.methodLink "WindowExchange$State" (327 : Nat) ({ cls := "WindowExchange$State", name := "exposure", desc := "(I)I" } : Jvm.MethodName)) ∈ lw_all := lw_g (lw_at lw_m6 31 rfl) rfl
theorem q1325 : (Jvm.Cond.instanceMethod ({ cls := "WindowExchange$State", name := "exposure", desc := "(I)I" } : Jvm.MethodName)) ∈ lw_all := lw_g (lw_at lw_m6 32 rfl) rfl
theorem q1326 : (Jvm.Cond.selects "WindowExchange$State" ({ cls := "WindowExchange$State", name := "exposure", desc := "(I)I" } : Jvm.MethodName) ({ cls := "WindowExchange$State", name := "exposure", desc := "(I)I" } : Jvm.MethodName)) ∈ lw_all := lw_g (lw_at lw_m6 33 rfl) rfl
theorem q1327 : (Jvm.Cond.code ({ cls := "WindowExchange$State", name := "exposure", desc := "(I)I" } : Jvm.MethodName) prog_11_method_26_code (3 : Nat) (Option.some Jvm.ClassFile.FieldType.int)) ∈ lw_all := lw_g (lw_at lw_m6 34 rfl) rfl
theorem q1328 : (Jvm.Cond.static ({ cls := "WindowExchange$State", name := "lambda$exposure$4", desc := "(ILWindowExchange$Contract;)I" } : Jvm.MethodName)) ∈ lw_all := lw_g (lw_at lw_m6 35 rfl) rfl
theorem q1329 : (Jvm.Cond.code ({ cls := "WindowExchange$State", name := "lambda$exposure$4", desc := "(ILWindowExchange$Contract;)I" } : Jvm.MethodName) prog_11_method_37_code (2 : Nat) (Option.some Jvm.ClassFile.FieldType.int)) ∈ lw_all := lw_g (lw_at lw_m6 36 rfl) rfl
theorem q1330 : (Jvm.Cond.methodLink "WindowExchange$State" (362 : Nat) ({ cls := "WindowExchange$Contract", name := "units", desc := "()I" } : Jvm.MethodName)) ∈ lw_all := lw_g (lw_at lw_m6 37 rfl) rfl
theorem q1590 : (Jvm.Cond.instanceMethod ({ cls := "WindowExchange$State", name := "sorted", desc := "(Z)Ljava/util/ArrayList;" } : Jvm.MethodName)) ∈ lw_all := lw_g (lw_at lw_m7 57 rfl) rfl
theorem q1591 : (Jvm.Cond.selects "WindowExchange$State" ({ cls := "WindowExchange$State", name := "sorted", desc := "(Z)Ljava/util/ArrayList;" } : Jvm.MethodName) ({ cls := "WindowExchange$State", name := "sorted", desc := "(Z)Ljava/util/ArrayList;" } : Jvm.MethodName)) ∈ lw_all := lw_g (lw_at lw_m7 58 rfl) rfl
theorem q1592 : (Jvm.Cond.code ({ cls := "WindowExchange$State", name := "sorted", desc := "(Z)Ljava/util/ArrayList;" } : Jvm.MethodName) prog_11_method_12_code (5 : Nat) (Option.some (Jvm.ClassFile.FieldType.object "java/util/ArrayList"))) ∈ lw_all := lw_g (lw_at lw_m7 59 rfl) rfl
theorem q1593 : (Jvm.Cond.methodLink "WindowExchange$State" (84 : Nat) ({ cls := "java/util/ArrayList", name := "add", desc := "(Ljava/lang/Object;)Z" } : Jvm.MethodName)) ∈ lw_all := lw_g (lw_at lw_m7 60 rfl) rfl
theorem q1648 : (Jvm.Cond.instanceMethod ({ cls := "WindowExchange$State", name := "<init>", desc := "(LWindowExchange$State;)V" } : Jvm.MethodName)) ∈ lw_all := lw_g (lw_at lw_m7 115 rfl) rfl
theorem q1649 : (Jvm.Cond.code ({ cls := "WindowExchange$State", name := "<init>", desc := "(LWindowExchange$State;)V" } : Jvm.MethodName) prog_11_method_2_code (5 : Nat) (Option.none : Option Jvm.ClassFile.FieldType)) ∈ lw_all := lw_g (lw_at lw_m7 116 rfl) rfl
theorem q1650 : (Jvm.Cond.methodLink "WindowExchange$State" (59 : Nat) ({ cls := "java/lang/System", name := "arraycopy", desc := "(Ljava/lang/Object;ILjava/lang/Object;II)V" } : Jvm.MethodName)) ∈ lw_all := lw_g (lw_at lw_m7 117 rfl) rfl
theorem q1652 : (Jvm.Cond.methodLink "WindowExchange$State" (81 : Nat) ({ cls := "WindowExchange$Trader", name := "<init>", desc := "(LWindowExchange$Trader;)V" } : Jvm.MethodName)) ∈ lw_all := lw_g (lw_at lw_m7 119 rfl) rfl
theorem q1660 : (Jvm.Cond.fieldLinkNest "WindowExchange$State" (240 : Nat) "WindowExchange$Trader" "cash" "I" "WindowExchange") ∈ lw_tbl := lw_at lw_m7 127 rfl
theorem q1663 : (Jvm.Cond.fieldLinkNest "WindowExchange$State" (243 : Nat) "WindowExchange$Trader" "windows" "I" "WindowExchange") ∈ lw_tbl := lw_at lw_m7 130 rfl
theorem q1671 : (Jvm.Cond.methodLink "WindowExchange$State" (90 : Nat) ({ cls := "WindowExchange$Order", name := "<init>", desc := "(LWindowExchange$Order;)V" } : Jvm.MethodName)) ∈ lw_all := lw_g (lw_at lw_m7 138 rfl) rfl
theorem q1680 : (Jvm.Cond.fieldLinkNest "WindowExchange$State" (120 : Nat) "WindowExchange$Order" "number" "I" "WindowExchange") ∈ lw_tbl := lw_at lw_m7 147 rfl
theorem q1683 : (Jvm.Cond.fieldLinkNest "WindowExchange$State" (237 : Nat) "WindowExchange$Order" "trader" "I" "WindowExchange") ∈ lw_tbl := lw_at lw_m7 150 rfl
theorem q1686 : (Jvm.Cond.fieldLinkNest "WindowExchange$State" (158 : Nat) "WindowExchange$Order" "isBid" "Z" "WindowExchange") ∈ lw_tbl := lw_at lw_m7 153 rfl
theorem q1690 : (Jvm.Cond.fieldLinkNest "WindowExchange$State" (182 : Nat) "WindowExchange$Order" "price" "I" "WindowExchange") ∈ lw_tbl := lw_at lw_m7 157 rfl
theorem q1693 : (Jvm.Cond.fieldLinkNest "WindowExchange$State" (173 : Nat) "WindowExchange$Order" "units" "I" "WindowExchange") ∈ lw_tbl := lw_at lw_m7 160 rfl
theorem q1706 : (Jvm.Cond.methodLink "WindowExchange$State" (93 : Nat) ({ cls := "java/util/ArrayList", name := "addAll", desc := "(Ljava/util/Collection;)Z" } : Jvm.MethodName)) ∈ lw_all := lw_g (lw_at lw_m7 173 rfl) rfl
theorem q1814 : (Jvm.Cond.classLink "WindowExchange$State" (101 : Nat) "WindowExchange$Auction") ∈ lw_all := lw_g (lw_at lw_m8 41 rfl) rfl
theorem q1816 : (Jvm.Cond.methodLink "WindowExchange$State" (103 : Nat) ({ cls := "WindowExchange$Auction", name := "<init>", desc := "(LWindowExchange$Auction;)V" } : Jvm.MethodName)) ∈ lw_all := lw_g (lw_at lw_m8 43 rfl) rfl
theorem q1824 : (Jvm.Cond.fieldLinkNest "WindowExchange$State" (356 : Nat) "WindowExchange$Auction" "room" "I" "WindowExchange") ∈ lw_tbl := lw_at lw_m8 51 rfl
theorem q1826 : (Jvm.Cond.fieldLinkNest "WindowExchange$State" (340 : Nat) "WindowExchange$Auction" "reservePrice" "I" "WindowExchange") ∈ lw_tbl := lw_at lw_m8 53 rfl
theorem q1828 : (Jvm.Cond.fieldLinkNest "WindowExchange$State" (334 : Nat) "WindowExchange$Auction" "amounts" "[I" "WindowExchange") ∈ lw_tbl := lw_at lw_m8 55 rfl
theorem q1849 : (Jvm.Cond.instanceMethod ({ cls := "WindowExchange$State", name := "addTrader", desc := "(II)I" } : Jvm.MethodName)) ∈ lw_all := lw_g (lw_at lw_m8 76 rfl) rfl
theorem q1850 : (Jvm.Cond.selects "WindowExchange$State" ({ cls := "WindowExchange$State", name := "addTrader", desc := "(II)I" } : Jvm.MethodName) ({ cls := "WindowExchange$State", name := "addTrader", desc := "(II)I" } : Jvm.MethodName)) ∈ lw_all := lw_g (lw_at lw_m8 77 rfl) rfl
theorem q1851 : (Jvm.Cond.code ({ cls := "WindowExchange$State", name := "addTrader", desc := "(II)I" } : Jvm.MethodName) prog_11_method_15_code (4 : Nat) (Option.some Jvm.ClassFile.FieldType.int)) ∈ lw_all := lw_g (lw_at lw_m8 78 rfl) rfl
theorem q1852 : (Jvm.Cond.methodLinkNest "WindowExchange$State" (222 : Nat) ({ cls := "WindowExchange", name := "inRange", desc := "(III)Z" } : Jvm.MethodName) "WindowExchange") ∈ lw_tbl := lw_at lw_m8 79 rfl
theorem q1855 : (Jvm.Cond.methodLinkNest "WindowExchange$State" (226 : Nat) ({ cls := "WindowExchange", name := "checkArgument", desc := "(Z)V" } : Jvm.MethodName) "WindowExchange") ∈ lw_tbl := lw_at lw_m8 82 rfl
theorem q1860 : (Jvm.Cond.methodLink "WindowExchange$State" (106 : Nat) ({ cls := "java/util/ArrayList", name := "size", desc := "()I" } : Jvm.MethodName)) ∈ lw_all := lw_g (lw_at lw_m8 87 rfl) rfl
theorem q1861 : (Jvm.Cond.methodLinkNest "WindowExchange$State" (229 : Nat) ({ cls := "WindowExchange", name := "checkState", desc := "(Z)V" } : Jvm.MethodName) "WindowExchange") ∈ lw_tbl := lw_at lw_m8 88 rfl
theorem q1879 : (Jvm.Cond.methodLink "WindowExchange$State" (232 : Nat) ({ cls := "WindowExchange$Trader", name := "<init>", desc := "(II)V" } : Jvm.MethodName)) ∈ lw_all := lw_g (lw_at lw_m8 106 rfl) rfl
theorem q1934 : (Jvm.Cond.instanceMethod ({ cls := "WindowExchange$State", name := "place", desc := "(IZII)I" } : Jvm.MethodName)) ∈ lw_all := lw_g (lw_at lw_m8 161 rfl) rfl
theorem q1935 : (Jvm.Cond.selects "WindowExchange$State" ({ cls := "WindowExchange$State", name := "place", desc := "(IZII)I" } : Jvm.MethodName) ({ cls := "WindowExchange$State", name := "place", desc := "(IZII)I" } : Jvm.MethodName)) ∈ lw_all := lw_g (lw_at lw_m8 162 rfl) rfl
theorem q1936 : (Jvm.Cond.code ({ cls := "WindowExchange$State", name := "place", desc := "(IZII)I" } : Jvm.MethodName) prog_11_method_20_code (9 : Nat) (Option.some Jvm.ClassFile.FieldType.int)) ∈ lw_all := lw_g (lw_at lw_m8 163 rfl) rfl
theorem q1937 : (Jvm.Cond.methodLink "WindowExchange$State" (249 : Nat) ({ cls := "WindowExchange$State", name := "trader", desc := "(I)LWindowExchange$Trader;" } : Jvm.MethodName)) ∈ lw_all := lw_g (lw_at lw_m8 164 rfl) rfl
theorem q1938 : (Jvm.Cond.instanceMethod ({ cls := "WindowExchange$State", name := "trader", desc := "(I)LWindowExchange$Trader;" } : Jvm.MethodName)) ∈ lw_all := lw_g (lw_at lw_m8 165 rfl) rfl
theorem q1939 : (Jvm.Cond.selects "WindowExchange$State" ({ cls := "WindowExchange$State", name := "trader", desc := "(I)LWindowExchange$Trader;" } : Jvm.MethodName) ({ cls := "WindowExchange$State", name := "trader", desc := "(I)LWindowExchange$Trader;" } : Jvm.MethodName)) ∈ lw_all := lw_g (lw_at lw_m8 166 rfl) rfl
theorem q1940 : (Jvm.Cond.code ({ cls := "WindowExchange$State", name := "trader", desc := "(I)LWindowExchange$Trader;" } : Jvm.MethodName) prog_11_method_3_code (2 : Nat) (Option.some (Jvm.ClassFile.FieldType.object "WindowExchange$Trader"))) ∈ lw_all := lw_g (lw_at lw_m8 167 rfl) rfl
theorem q1941 : (Jvm.Cond.methodLinkNest "WindowExchange$State" (110 : Nat) ({ cls := "WindowExchange", name := "checkIndex", desc := "(II)V" } : Jvm.MethodName) "WindowExchange") ∈ lw_tbl := lw_at lw_m8 168 rfl
theorem q1960 : (Jvm.Cond.methodLink "WindowExchange$State" (252 : Nat) ({ cls := "WindowExchange$Order", name := "<init>", desc := "(IIZII)V" } : Jvm.MethodName)) ∈ lw_all := lw_g (lw_at lw_m8 187 rfl) rfl
theorem q1961 : (Jvm.Cond.methodLinkNest "WindowExchange$State" (255 : Nat) ({ cls := "WindowExchange", name := "checkSupported", desc := "(Z)V" } : Jvm.MethodName) "WindowExchange") ∈ lw_tbl := lw_at lw_m8 188 rfl
theorem q1979 : (Jvm.Cond.methodLink "WindowExchange$State" (258 : Nat) ({ cls := "WindowExchange$State", name := "matchesOwn", desc := "(LWindowExchange$Order;)Z" } : Jvm.MethodName)) ∈ lw_all := lw_g (lw_at lw_m8 206 rfl) rfl
theorem q1980 : (Jvm.Cond.privateMethod ({ cls := "WindowExchange$State", name := "matchesOwn", desc := "(LWindowExchange$Order;)Z" } : Jvm.MethodName)) ∈ lw_tbl := lw_at lw_m8 207 rfl
theorem q1981 : (Jvm.Cond.instanceMethod ({ cls := "WindowExchange$State", name := "matchesOwn", desc := "(LWindowExchange$Order;)Z" } : Jvm.MethodName)) ∈ lw_all := lw_g (lw_at lw_m8 208 rfl) rfl
theorem q1982 : (Jvm.Cond.code ({ cls := "WindowExchange$State", name := "matchesOwn", desc := "(LWindowExchange$Order;)Z" } : Jvm.MethodName) prog_11_method_16_code (2 : Nat) (Option.some Jvm.ClassFile.FieldType.boolean)) ∈ lw_all := lw_g (lw_at lw_m8 209 rfl) rfl
theorem q1983 : (Jvm.Cond.static ({ cls := "WindowExchange$State", name := "lambda$matchesOwn$3", desc := "(LWindowExchange$Order;LWindowExchange$Order;)I" } : Jvm.MethodName)) ∈ lw_all := lw_g (lw_at lw_m8 210 rfl) rfl
theorem q1984 : (Jvm.Cond.code ({ cls := "WindowExchange$State", name := "lambda$matchesOwn$3", desc := "(LWindowExchange$Order;LWindowExchange$Order;)I" } : Jvm.MethodName) prog_11_method_38_code (2 : Nat) (Option.some Jvm.ClassFile.FieldType.int)) ∈ lw_all := lw_g (lw_at lw_m8 211 rfl) rfl
theorem q1985 : (Jvm.Cond.methodLink "WindowExchange$State" (265 : Nat) ({ cls := "WindowExchange$Order", name := "matches", desc := "(LWindowExchange$Order;)Z" } : Jvm.MethodName)) ∈ lw_all := lw_g (lw_at lw_m8 212 rfl) rfl
theorem q1986 : (Jvm.Cond.methodLink "WindowExchange$State" (262 : Nat) ({ cls := "java/util/PriorityQueue", name := "peek", desc := "()Ljava/lang/Object;" } : Jvm.MethodName)) ∈ lw_all := lw_g (lw_at lw_m8 213 rfl) rfl
theorem q1987 : (Jvm.Cond.methodLink "WindowExchange$State" (268 : Nat) ({ cls := "WindowExchange$State", name := "trade", desc := "(LWindowExchange$Order;LWindowExchange$Order;I)V" } : Jvm.MethodName)) ∈ lw_all := lw_g (lw_at lw_m8 214 rfl) rfl
theorem q1988 : (Jvm.Cond.privateMethod ({ cls := "WindowExchange$State", name := "trade", desc := "(LWindowExchange$Order;LWindowExchange$Order;I)V" } : Jvm.MethodName)) ∈ lw_tbl := lw_at lw_m8 215 rfl
theorem q1989 : (Jvm.Cond.instanceMethod ({ cls := "WindowExchange$State", name := "trade", desc := "(LWindowExchange$Order;LWindowExchange$Order;I)V" } : Jvm.MethodName)) ∈ lw_all := lw_g (lw_at lw_m8 216 rfl) rfl
theorem q1990 : (Jvm.Cond.code ({ cls := "WindowExchange$State", name := "trade", desc := "(LWindowExchange$Order;LWindowExchange$Order;I)V" } : Jvm.MethodName) prog_11_method_17_code (7 : Nat) (Option.none : Option Jvm.ClassFile.FieldType)) ∈ lw_all := lw_g (lw_at lw_m8 217 rfl) rfl
theorem q1991 : (Jvm.Cond.methodLink "WindowExchange$State" (272 : Nat) ({ cls := "WindowExchange$State", name := "close", desc := "(LWindowExchange$Order;)V" } : Jvm.MethodName)) ∈ lw_all := lw_g (lw_at lw_m8 218 rfl) rfl
theorem q1992 : (Jvm.Cond.privateMethod ({ cls := "WindowExchange$State", name := "close", desc := "(LWindowExchange$Order;)V" } : Jvm.MethodName)) ∈ lw_tbl := lw_at lw_m8 219 rfl
theorem q1993 : (Jvm.Cond.instanceMethod ({ cls := "WindowExchange$State", name := "close", desc := "(LWindowExchange$Order;)V" } : Jvm.MethodName)) ∈ lw_all := lw_g (lw_at lw_m8 220 rfl) rfl
theorem q1994 : (Jvm.Cond.code ({ cls := "WindowExchange$State", name := "close", desc := "(LWindowExchange$Order;)V" } : Jvm.MethodName) prog_11_method_18_code (4 : Nat) (Option.none : Option Jvm.ClassFile.FieldType)) ∈ lw_all := lw_g (lw_at lw_m8 221 rfl) rfl
theorem q1995 : (Jvm.Cond.methodLink "WindowExchange$State" (246 : Nat) ({ cls := "java/util/ArrayList", name := "remove", desc := "(I)Ljava/lang/Object;" } : Jvm.MethodName)) ∈ lw_all := lw_g (lw_at lw_m8 222 rfl) rfl
theorem q2003 : (Jvm.Cond.methodLink "WindowExchange$State" (275 : Nat) ({ cls := "WindowExchange$State", name := "open", desc := "(LWindowExchange$Order;)V" } : Jvm.MethodName)) ∈ lw_all := lw_g (lw_at lw_m8 230 rfl) rfl
theorem q2004 : (Jvm.Cond.privateMethod ({ cls := "WindowExchange$State", name := "open", desc := "(LWindowExchange$Order;)V" } : Jvm.MethodName)) ∈ lw_tbl := lw_at lw_m8 231 rfl
theorem q2005 : (Jvm.Cond.instanceMethod ({ cls := "WindowExchange$State", name := "open", desc := "(LWindowExchange$Order;)V" } : Jvm.MethodName)) ∈ lw_all := lw_g (lw_at lw_m8 232 rfl) rfl
theorem q2006 : (Jvm.Cond.code ({ cls := "WindowExchange$State", name := "open", desc := "(LWindowExchange$Order;)V" } : Jvm.MethodName) prog_11_method_19_code (4 : Nat) (Option.none : Option Jvm.ClassFile.FieldType)) ∈ lw_all := lw_g (lw_at lw_m8 233 rfl) rfl
theorem q2027 : (Jvm.Cond.instanceMethod ({ cls := "WindowExchange$State", name := "cancelOrder", desc := "(I)I" } : Jvm.MethodName)) ∈ lw_all := lw_g (lw_at lw_m9 14 rfl) rfl
theorem q2028 : (Jvm.Cond.selects "WindowExchange$State" ({ cls := "WindowExchange$State", name := "cancelOrder", desc := "(I)I" } : Jvm.MethodName) ({ cls := "WindowExchange$State", name := "cancelOrder", desc := "(I)I" } : Jvm.MethodName)) ∈ lw_all := lw_g (lw_at lw_m9 15 rfl) rfl
theorem q2029 : (Jvm.Cond.code ({ cls := "WindowExchange$State", name := "cancelOrder", desc := "(I)I" } : Jvm.MethodName) prog_11_method_21_code (4 : Nat) (Option.some Jvm.ClassFile.FieldType.int)) ∈ lw_all := lw_g (lw_at lw_m9 16 rfl) rfl
theorem q2030 : (Jvm.Cond.methodLink "WindowExchange$State" (278 : Nat) ({ cls := "WindowExchange$State", name := "order", desc := "(I)LWindowExchange$Order;" } : Jvm.MethodName)) ∈ lw_all := lw_g (lw_at lw_m9 17 rfl) rfl
theorem q2031 : (Jvm.Cond.instanceMethod ({ cls := "WindowExchange$State", name := "order", desc := "(I)LWindowExchange$Order;" } : Jvm.MethodName)) ∈ lw_all := lw_g (lw_at lw_m9 18 rfl) rfl
theorem q2032 : (Jvm.Cond.selects "WindowExchange$State" ({ cls := "WindowExchange$State", name := "order", desc := "(I)LWindowExchange$Order;" } : Jvm.MethodName) ({ cls := "WindowExchange$State", name := "order", desc := "(I)LWindowExchange$Order;" } : Jvm.MethodName)) ∈ lw_all := lw_g (lw_at lw_m9 19 rfl) rfl
theorem q2033 : (Jvm.Cond.code ({ cls := "WindowExchange$State", name := "order", desc := "(I)LWindowExchange$Order;" } : Jvm.MethodName) prog_11_method_5_code (5 : Nat) (Option.some (Jvm.ClassFile.FieldType.object "WindowExchange$Order"))) ∈ lw_all := lw_g (lw_at lw_m9 20 rfl) rfl
theorem q2034 : (Jvm.Cond.methodLinkNest "WindowExchange$State" (123 : Nat) ({ cls := "WindowExchange", name := "checkElement", desc := "(Z)V" } : Jvm.MethodName) "WindowExchange") ∈ lw_tbl := lw_at lw_m9 21 rfl
theorem q2049 : (Jvm.Cond.instanceMethod ({ cls := "WindowExchange$State", name := "agree", desc := "(IIIII)I" } : Jvm.MethodName)) ∈ lw_all := lw_g (lw_at lw_m9 36 rfl) rfl
theorem q2050 : (Jvm.Cond.selects "WindowExchange$State" ({ cls := "WindowExchange$State", name := "agree", desc := "(IIIII)I" } : Jvm.MethodName) ({ cls := "WindowExchange$State", name := "agree", desc := "(IIIII)I" } : Jvm.MethodName)) ∈ lw_all := lw_g (lw_at lw_m9 37 rfl) rfl
theorem q2051 : (Jvm.Cond.code ({ cls := "WindowExchange$State", name := "agree", desc := "(IIIII)I" } : Jvm.MethodName) prog_11_method_22_code (7 : Nat) (Option.some Jvm.ClassFile.FieldType.int)) ∈ lw_all := lw_g (lw_at lw_m9 38 rfl) rfl
theorem q2053 : (Jvm.Cond.methodLinkNest "WindowExchange$State" (282 : Nat) ({ cls := "WindowExchange$Contract", name := "<init>", desc := "(IIIII)V" } : Jvm.MethodName) "WindowExchange") ∈ lw_tbl := lw_at lw_m9 40 rfl
theorem q2086 : (Jvm.Cond.instanceMethod ({ cls := "WindowExchange$State", name := "advance", desc := "(I)I" } : Jvm.MethodName)) ∈ lw_all := lw_g (lw_at lw_m9 73 rfl) rfl
theorem q2087 : (Jvm.Cond.selects "WindowExchange$State" ({ cls := "WindowExchange$State", name := "advance", desc := "(I)I" } : Jvm.MethodName) ({ cls := "WindowExchange$State", name := "advance", desc := "(I)I" } : Jvm.MethodName)) ∈ lw_all := lw_g (lw_at lw_m9 74 rfl) rfl
theorem q2088 : (Jvm.Cond.code ({ cls := "WindowExchange$State", name := "advance", desc := "(I)I" } : Jvm.MethodName) prog_11_method_25_code (4 : Nat) (Option.some Jvm.ClassFile.FieldType.int)) ∈ lw_all := lw_g (lw_at lw_m9 75 rfl) rfl
theorem q2089 : (Jvm.Cond.methodLink "WindowExchange$State" (305 : Nat) ({ cls := "WindowExchange$State", name := "passDay", desc := "()I" } : Jvm.MethodName)) ∈ lw_all := lw_g (lw_at lw_m9 76 rfl) rfl
theorem q2090 : (Jvm.Cond.privateMethod ({ cls := "WindowExchange$State", name := "passDay", desc := "()I" } : Jvm.MethodName)) ∈ lw_tbl := lw_at lw_m9 77 rfl
theorem q2091 : (Jvm.Cond.instanceMethod ({ cls := "WindowExchange$State", name := "passDay", desc := "()I" } : Jvm.MethodName)) ∈ lw_all := lw_g (lw_at lw_m9 78 rfl) rfl
theorem q2092 : (Jvm.Cond.code ({ cls := "WindowExchange$State", name := "passDay", desc := "()I" } : Jvm.MethodName) prog_11_method_24_code (3 : Nat) (Option.some Jvm.ClassFile.FieldType.int)) ∈ lw_all := lw_g (lw_at lw_m9 79 rfl) rfl
theorem q2093 : (Jvm.Cond.methodLink "WindowExchange$State" (298 : Nat) ({ cls := "WindowExchange$Contract", name := "settlementDay", desc := "()I" } : Jvm.MethodName)) ∈ lw_all := lw_g (lw_at lw_m9 80 rfl) rfl
theorem q2097 : (Jvm.Cond.methodLink "WindowExchange$State" (301 : Nat) ({ cls := "WindowExchange$State", name := "settle", desc := "(LWindowExchange$Contract;)V" } : Jvm.MethodName)) ∈ lw_all := lw_g (lw_at lw_m9 84 rfl) rfl
theorem q2098 : (Jvm.Cond.privateMethod ({ cls := "WindowExchange$State", name := "settle", desc := "(LWindowExchange$Contract;)V" } : Jvm.MethodName)) ∈ lw_tbl := lw_at lw_m9 85 rfl
theorem q2099 : (Jvm.Cond.instanceMethod ({ cls := "WindowExchange$State", name := "settle", desc := "(LWindowExchange$Contract;)V" } : Jvm.MethodName)) ∈ lw_all := lw_g (lw_at lw_m9 86 rfl) rfl
theorem q2100 : (Jvm.Cond.code ({ cls := "WindowExchange$State", name := "settle", desc := "(LWindowExchange$Contract;)V" } : Jvm.MethodName) prog_11_method_23_code (7 : Nat) (Option.none : Option Jvm.ClassFile.FieldType)) ∈ lw_all := lw_g (lw_at lw_m9 87 rfl) rfl
theorem q2101 : (Jvm.Cond.methodLink "WindowExchange$State" (289 : Nat) ({ cls := "WindowExchange$Contract", name := "seller", desc := "()I" } : Jvm.MethodName)) ∈ lw_all := lw_g (lw_at lw_m9 88 rfl) rfl
theorem q2105 : (Jvm.Cond.methodLink "WindowExchange$State" (292 : Nat) ({ cls := "WindowExchange$Contract", name := "buyer", desc := "()I" } : Jvm.MethodName)) ∈ lw_all := lw_g (lw_at lw_m9 92 rfl) rfl
theorem q2109 : (Jvm.Cond.methodLink "WindowExchange$State" (295 : Nat) ({ cls := "java/lang/Math", name := "abs", desc := "(I)I" } : Jvm.MethodName)) ∈ lw_all := lw_g (lw_at lw_m9 96 rfl) rfl
theorem q2122 : (Jvm.Cond.instanceMethod ({ cls := "WindowExchange$State", name := "openAuction", desc := "(II)I" } : Jvm.MethodName)) ∈ lw_all := lw_g (lw_at lw_m9 109 rfl) rfl
theorem q2123 : (Jvm.Cond.selects "WindowExchange$State" ({ cls := "WindowExchange$State", name := "openAuction", desc := "(II)I" } : Jvm.MethodName) ({ cls := "WindowExchange$State", name := "openAuction", desc := "(II)I" } : Jvm.MethodName)) ∈ lw_all := lw_g (lw_at lw_m9 110 rfl) rfl
theorem q2124 : (Jvm.Cond.code ({ cls := "WindowExchange$State", name := "openAuction", desc := "(II)I" } : Jvm.MethodName) prog_11_method_30_code (3 : Nat) (Option.some Jvm.ClassFile.FieldType.int)) ∈ lw_all := lw_g (lw_at lw_m9 111 rfl) rfl
theorem q2125 : (Jvm.Cond.methodLink "WindowExchange$State" (330 : Nat) ({ cls := "WindowExchange$Auction", name := "<init>", desc := "(II)V" } : Jvm.MethodName)) ∈ lw_all := lw_g (lw_at lw_m9 112 rfl) rfl
theorem q2126 : (Jvm.Cond.methodLink "WindowExchange$State" (331 : Nat) ({ cls := "WindowExchange$State", name := "countFreeViews", desc := "()I" } : Jvm.MethodName)) ∈ lw_all := lw_g (lw_at lw_m9 113 rfl) rfl
theorem q2127 : (Jvm.Cond.privateMethod ({ cls := "WindowExchange$State", name := "countFreeViews", desc := "()I" } : Jvm.MethodName)) ∈ lw_tbl := lw_at lw_m9 114 rfl
theorem q2128 : (Jvm.Cond.instanceMethod ({ cls := "WindowExchange$State", name := "countFreeViews", desc := "()I" } : Jvm.MethodName)) ∈ lw_all := lw_g (lw_at lw_m9 115 rfl) rfl
theorem q2129 : (Jvm.Cond.code ({ cls := "WindowExchange$State", name := "countFreeViews", desc := "()I" } : Jvm.MethodName) prog_11_method_29_code (6 : Nat) (Option.some Jvm.ClassFile.FieldType.int)) ∈ lw_all := lw_g (lw_at lw_m9 116 rfl) rfl
theorem q2140 : (Jvm.Cond.instanceMethod ({ cls := "WindowExchange$State", name := "sealBid", desc := "(II)I" } : Jvm.MethodName)) ∈ lw_all := lw_g (lw_at lw_m9 127 rfl) rfl
theorem q2141 : (Jvm.Cond.selects "WindowExchange$State" ({ cls := "WindowExchange$State", name := "sealBid", desc := "(II)I" } : Jvm.MethodName) ({ cls := "WindowExchange$State", name := "sealBid", desc := "(II)I" } : Jvm.MethodName)) ∈ lw_all := lw_g (lw_at lw_m9 128 rfl) rfl
theorem q2142 : (Jvm.Cond.code ({ cls := "WindowExchange$State", name := "sealBid", desc := "(II)I" } : Jvm.MethodName) prog_11_method_31_code (3 : Nat) (Option.some Jvm.ClassFile.FieldType.int)) ∈ lw_all := lw_g (lw_at lw_m9 129 rfl) rfl
theorem q2143 : (Jvm.Cond.methodLink "WindowExchange$State" (337 : Nat) ({ cls := "WindowExchange$Auction", name := "countBids", desc := "()I" } : Jvm.MethodName)) ∈ lw_all := lw_g (lw_at lw_m9 130 rfl) rfl
theorem q2157 : (Jvm.Cond.instanceMethod ({ cls := "WindowExchange$State", name := "closeAuction", desc := "()I" } : Jvm.MethodName)) ∈ lw_all := lw_g (lw_at lw_m9 144 rfl) rfl
theorem q2158 : (Jvm.Cond.selects "WindowExchange$State" ({ cls := "WindowExchange$State", name := "closeAuction", desc := "()I" } : Jvm.MethodName) ({ cls := "WindowExchange$State", name := "closeAuction", desc := "()I" } : Jvm.MethodName)) ∈ lw_all := lw_g (lw_at lw_m9 145 rfl) rfl
theorem q2159 : (Jvm.Cond.code ({ cls := "WindowExchange$State", name := "closeAuction", desc := "()I" } : Jvm.MethodName) prog_11_method_35_code (3 : Nat) (Option.some Jvm.ClassFile.FieldType.int)) ∈ lw_all := lw_g (lw_at lw_m9 146 rfl) rfl
theorem q2160 : (Jvm.Cond.methodLink "WindowExchange$State" (350 : Nat) ({ cls := "WindowExchange$State", name := "winner", desc := "()I" } : Jvm.MethodName)) ∈ lw_all := lw_g (lw_at lw_m9 147 rfl) rfl
theorem q2161 : (Jvm.Cond.instanceMethod ({ cls := "WindowExchange$State", name := "winner", desc := "()I" } : Jvm.MethodName)) ∈ lw_all := lw_g (lw_at lw_m9 148 rfl) rfl
theorem q2162 : (Jvm.Cond.selects "WindowExchange$State" ({ cls := "WindowExchange$State", name := "winner", desc := "()I" } : Jvm.MethodName) ({ cls := "WindowExchange$State", name := "winner", desc := "()I" } : Jvm.MethodName)) ∈ lw_all := lw_g (lw_at lw_m9 149 rfl) rfl
theorem q2163 : (Jvm.Cond.code ({ cls := "WindowExchange$State", name := "winner", desc := "()I" } : Jvm.MethodName) prog_11_method_33_code (4 : Nat) (Option.some Jvm.ClassFile.FieldType.int)) ∈ lw_all := lw_g (lw_at lw_m9 150 rfl) rfl
theorem q2164 : (Jvm.Cond.methodLink "WindowExchange$State" (343 : Nat) ({ cls := "WindowExchange$State", name := "isValid", desc := "(I)Z" } : Jvm.MethodName)) ∈ lw_all := lw_g (lw_at lw_m9 151 rfl) rfl
theorem q2165 : (Jvm.Cond.privateMethod ({ cls := "WindowExchange$State", name := "isValid", desc := "(I)Z" } : Jvm.MethodName)) ∈ lw_tbl := lw_at lw_m9 152 rfl
theorem q2166 : (Jvm.Cond.instanceMethod ({ cls := "WindowExchange$State", name := "isValid", desc := "(I)Z" } : Jvm.MethodName)) ∈ lw_all := lw_g (lw_at lw_m9 153 rfl) rfl
theorem q2167 : (Jvm.Cond.code ({ cls := "WindowExchange$State", name := "isValid", desc := "(I)Z" } : Jvm.MethodName) prog_11_method_32_code (3 : Nat) (Option.some Jvm.ClassFile.FieldType.boolean)) ∈ lw_all := lw_g (lw_at lw_m9 154 rfl) rfl
theorem q2168 : (Jvm.Cond.methodLink "WindowExchange$State" (353 : Nat) ({ cls := "WindowExchange$State", name := "priceFor", desc := "(I)I" } : Jvm.MethodName)) ∈ lw_all := lw_g (lw_at lw_m9 155 rfl) rfl
theorem q2169 : (Jvm.Cond.instanceMethod ({ cls := "WindowExchange$State", name := "priceFor", desc := "(I)I" } : Jvm.MethodName)) ∈ lw_all := lw_g (lw_at lw_m9 156 rfl) rfl
theorem q2170 : (Jvm.Cond.selects "WindowExchange$State" ({ cls := "WindowExchange$State", name := "priceFor", desc := "(I)I" } : Jvm.MethodName) ({ cls := "WindowExchange$State", name := "priceFor", desc := "(I)I" } : Jvm.MethodName)) ∈ lw_all := lw_g (lw_at lw_m9 157 rfl) rfl
theorem q2171 : (Jvm.Cond.code ({ cls := "WindowExchange$State", name := "priceFor", desc := "(I)I" } : Jvm.MethodName) prog_11_method_34_code (4 : Nat) (Option.some Jvm.ClassFile.FieldType.int)) ∈ lw_all := lw_g (lw_at lw_m9 158 rfl) rfl
theorem q2172 : (Jvm.Cond.methodLink "WindowExchange$State" (347 : Nat) ({ cls := "java/lang/Math", name := "max", desc := "(II)I" } : Jvm.MethodName)) ∈ lw_all := lw_g (lw_at lw_m9 159 rfl) rfl
theorem q2321 : (Jvm.Cond.instanceMethod ({ cls := "WindowExchange$State", name := "contract", desc := "(I)LWindowExchange$Contract;" } : Jvm.MethodName)) ∈ lw_all := lw_g (lw_at lw_m10 68 rfl) rfl
theorem q2322 : (Jvm.Cond.selects "WindowExchange$State" ({ cls := "WindowExchange$State", name := "contract", desc := "(I)LWindowExchange$Contract;" } : Jvm.MethodName) ({ cls := "WindowExchange$State", name := "contract", desc := "(I)LWindowExchange$Contract;" } : Jvm.MethodName)) ∈ lw_all := lw_g (lw_at lw_m10 69 rfl) rfl
theorem q2323 : (Jvm.Cond.code ({ cls := "WindowExchange$State", name := "contract", desc := "(I)LWindowExchange$Contract;" } : Jvm.MethodName) prog_11_method_4_code (2 : Nat) (Option.some (Jvm.ClassFile.FieldType.object "WindowExchange$Contract"))) ∈ lw_all := lw_g (lw_at lw_m10 70 rfl) rfl
theorem q3222 : (Jvm.Cond.castable "WindowExchange$State" "java/lang/Object") ∈ lw_tbl := lw_at lw_m14 9 rfl
theorem in_X2 : ∀ w ∈ wsX20, w ∈ lw_all := lw_in wsX20 [224, 226, 228, 230, 232, 234, 236, 238, 240, 242, 244, 246, 248, 250, 252] (by decide +kernel) (by decide +kernel)
