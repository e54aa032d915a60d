/-! WindowExchange -/
set_option maxRecDepth 100000
def RX1 : String := "WindowExchange"
def TX1 : u_T := fun k => match k with
  | 0 => ("WindowExchange", "state", "LWindowExchange$State;", false)
  | 1 => ("WindowExchange", "saved", "LWindowExchange$State;", false)
  | 2 => ("WindowExchange", "history", "Ljava/util/ArrayDeque;", true)
  | 3 => ("WindowExchange", "checkedPrices", "[I", true)
  | 4 => ("WindowExchange", "line", "Ljava/lang/StringBuilder;", true)
  | 5 => ("WindowExchange", "text", "[C", true)
  | 6 => ("WindowExchange", "textLength", "I", false)
  | 7 => ("WindowExchange", "errorPosition", "I", false)
  | _ => ("WindowExchange", "failedCommand", "I", false)
def tyX1 : Nat → FieldType := fun k => match k with
  | 0 => .object "WindowExchange$State"
  | 1 => .object "WindowExchange$State"
  | 2 => .object "java/util/ArrayDeque"
  | 3 => .array .int
  | 4 => .object "java/lang/StringBuilder"
  | 5 => .array .char
  | 6 => .int
  | 7 => .int
  | _ => .int
abbrev wsX10 : List Cond := u_ws RX1 TX1 9
theorem nmX1 : ∀ a, a < 9 → ∀ b, b < 9 → a ≠ b → (TX1 a).2.1 ≠ (TX1 b).2.1 := by decide +kernel
theorem tyX1_ok : ∀ k, k < 9 → parseFieldDescriptor (TX1 k).2.2.1 = some (tyX1 k) := by decide +kernel
abbrev cX1_init : ByteArray := prog_1_method_7_code
def yX1_init : MethodName := ⟨RX1, "<init>", "()V"⟩
def dkwX1_init_3 : List UInt8 := [2, 181, 0, 57, 42, 2, 181, 0, 61, 177]
abbrev dktX1_init_3 : List UInt8 := dkwX1_init_3 ++ []
def dkwX1_init_2 : List UInt8 := [79, 181, 0, 42, 42, 187, 0, 46, 89, 183, 0, 48, 181, 0, 49, 42, 16, 60, 188, 5, 181, 0, 53, 42]
abbrev dktX1_init_2 : List UInt8 := dkwX1_init_2 ++ dktX1_init_3
def dkwX1_init_1 : List UInt8 := [181, 0, 38, 42, 7, 188, 10, 89, 3, 3, 79, 89, 4, 4, 79, 89, 5, 16, 50, 79, 89, 6, 16, 99]
abbrev dktX1_init_1 : List UInt8 := dkwX1_init_1 ++ dktX1_init_2
def dkwX1_init_0 : List UInt8 := [42, 183, 0, 25, 42, 187, 0, 28, 89, 183, 0, 30, 181, 0, 31, 42, 187, 0, 35, 89, 183, 0, 37]
abbrev dktX1_init_0 : List UInt8 := dkwX1_init_0 ++ dktX1_init_1
theorem dksX1_init_0 : cX1_init.data.toList.drop 0 = dktX1_init_0 := by decide +kernel
theorem dksX1_init_1 : cX1_init.data.toList.drop 23 = dktX1_init_1 := dk_seg dksX1_init_0 23 rfl rfl
theorem dksX1_init_2 : cX1_init.data.toList.drop 47 = dktX1_init_2 := dk_seg dksX1_init_1 24 rfl rfl
theorem dksX1_init_3 : cX1_init.data.toList.drop 71 = dktX1_init_3 := dk_seg dksX1_init_2 24 rfl rfl
theorem dX1_init_0 : decode cX1_init 0 = .ok (.aload_n 0, 1) := dk_42 (dk_at dksX1_init_0 0 rfl rfl)
theorem dX1_init_1 : decode cX1_init 1 = .ok (.invokespecial 25, 3) := dk_183 0 25 (dk_at dksX1_init_0 1 rfl rfl)
theorem dX1_init_4 : decode cX1_init 4 = .ok (.aload_n 0, 1) := dk_42 (dk_at dksX1_init_0 4 rfl rfl)
theorem dX1_init_5 : decode cX1_init 5 = .ok (.new 28, 3) := dk_187 0 28 (dk_at dksX1_init_0 5 rfl rfl)
theorem dX1_init_8 : decode cX1_init 8 = .ok (.dup, 1) := dk_89 (dk_at dksX1_init_0 8 rfl rfl)
theorem dX1_init_9 : decode cX1_init 9 = .ok (.invokespecial 30, 3) := dk_183 0 30 (dk_at dksX1_init_0 9 rfl rfl)
theorem dX1_init_12 : decode cX1_init 12 = .ok (.putfield 31, 3) := dk_181 0 31 (dk_at dksX1_init_0 12 rfl rfl)
theorem dX1_init_15 : decode cX1_init 15 = .ok (.aload_n 0, 1) := dk_42 (dk_at dksX1_init_0 15 rfl rfl)
theorem dX1_init_16 : decode cX1_init 16 = .ok (.new 35, 3) := dk_187 0 35 (dk_at dksX1_init_0 16 rfl rfl)
theorem dX1_init_19 : decode cX1_init 19 = .ok (.dup, 1) := dk_89 (dk_at dksX1_init_0 19 rfl rfl)
theorem dX1_init_20 : decode cX1_init 20 = .ok (.invokespecial 37, 3) := dk_183 0 37 (dk_at dksX1_init_0 20 rfl rfl)
theorem dX1_init_23 : decode cX1_init 23 = .ok (.putfield 38, 3) := dk_181 0 38 (dk_at dksX1_init_1 0 rfl rfl)
theorem dX1_init_26 : decode cX1_init 26 = .ok (.aload_n 0, 1) := dk_42 (dk_at dksX1_init_1 3 rfl rfl)
theorem dX1_init_27 : decode cX1_init 27 = .ok (.iconst 4, 1) := dk_7 (dk_at dksX1_init_1 4 rfl rfl)
theorem dX1_init_28 : decode cX1_init 28 = .ok (.newarray .int, 2) := dk_188_10 (dk_at dksX1_init_1 5 rfl rfl)
theorem dX1_init_30 : decode cX1_init 30 = .ok (.dup, 1) := dk_89 (dk_at dksX1_init_1 7 rfl rfl)
theorem dX1_init_31 : decode cX1_init 31 = .ok (.iconst 0, 1) := dk_3 (dk_at dksX1_init_1 8 rfl rfl)
theorem dX1_init_32 : decode cX1_init 32 = .ok (.iconst 0, 1) := dk_3 (dk_at dksX1_init_1 9 rfl rfl)
theorem dX1_init_33 : decode cX1_init 33 = .ok (.iastore, 1) := dk_79 (dk_at dksX1_init_1 10 rfl rfl)
theorem dX1_init_34 : decode cX1_init 34 = .ok (.dup, 1) := dk_89 (dk_at dksX1_init_1 11 rfl rfl)
theorem dX1_init_35 : decode cX1_init 35 = .ok (.iconst 1, 1) := dk_4 (dk_at dksX1_init_1 12 rfl rfl)
theorem dX1_init_36 : decode cX1_init 36 = .ok (.iconst 1, 1) := dk_4 (dk_at dksX1_init_1 13 rfl rfl)
theorem dX1_init_37 : decode cX1_init 37 = .ok (.iastore, 1) := dk_79 (dk_at dksX1_init_1 14 rfl rfl)
theorem dX1_init_38 : decode cX1_init 38 = .ok (.dup, 1) := dk_89 (dk_at dksX1_init_1 15 rfl rfl)
theorem dX1_init_39 : decode cX1_init 39 = .ok (.iconst 2, 1) := dk_5 (dk_at dksX1_init_1 16 rfl rfl)
theorem dX1_init_40 : decode cX1_init 40 = .ok (.bipush 50, 2) := dk_16 50 (dk_at dksX1_init_1 17 rfl rfl)
theorem dX1_init_42 : decode cX1_init 42 = .ok (.iastore, 1) := dk_79 (dk_at dksX1_init_1 19 rfl rfl)
theorem dX1_init_43 : decode cX1_init 43 = .ok (.dup, 1) := dk_89 (dk_at dksX1_init_1 20 rfl rfl)
theorem dX1_init_44 : decode cX1_init 44 = .ok (.iconst 3, 1) := dk_6 (dk_at dksX1_init_1 21 rfl rfl)
theorem dX1_init_45 : decode cX1_init 45 = .ok (.bipush 99, 2) := dk_16 99 (dk_at dksX1_init_1 22 rfl rfl)
theorem dX1_init_47 : decode cX1_init 47 = .ok (.iastore, 1) := dk_79 (dk_at dksX1_init_2 0 rfl rfl)
theorem dX1_init_48 : decode cX1_init 48 = .ok (.putfield 42, 3) := dk_181 0 42 (dk_at dksX1_init_2 1 rfl rfl)
theorem dX1_init_51 : decode cX1_init 51 = .ok (.aload_n 0, 1) := dk_42 (dk_at dksX1_init_2 4 rfl rfl)
theorem dX1_init_52 : decode cX1_init 52 = .ok (.new 46, 3) := dk_187 0 46 (dk_at dksX1_init_2 5 rfl rfl)
theorem dX1_init_55 : decode cX1_init 55 = .ok (.dup, 1) := dk_89 (dk_at dksX1_init_2 8 rfl rfl)
theorem dX1_init_56 : decode cX1_init 56 = .ok (.invokespecial 48, 3) := dk_183 0 48 (dk_at dksX1_init_2 9 rfl rfl)
theorem dX1_init_59 : decode cX1_init 59 = .ok (.putfield 49, 3) := dk_181 0 49 (dk_at dksX1_init_2 12 rfl rfl)
theorem dX1_init_62 : decode cX1_init 62 = .ok (.aload_n 0, 1) := dk_42 (dk_at dksX1_init_2 15 rfl rfl)
theorem dX1_init_63 : decode cX1_init 63 = .ok (.bipush 60, 2) := dk_16 60 (dk_at dksX1_init_2 16 rfl rfl)
theorem dX1_init_65 : decode cX1_init 65 = .ok (.newarray .char, 2) := dk_188_5 (dk_at dksX1_init_2 18 rfl rfl)
theorem dX1_init_67 : decode cX1_init 67 = .ok (.putfield 53, 3) := dk_181 0 53 (dk_at dksX1_init_2 20 rfl rfl)
theorem dX1_init_70 : decode cX1_init 70 = .ok (.aload_n 0, 1) := dk_42 (dk_at dksX1_init_2 23 rfl rfl)
theorem dX1_init_71 : decode cX1_init 71 = .ok (.iconst (-1), 1) := dk_2 (dk_at dksX1_init_3 0 rfl rfl)
theorem dX1_init_72 : decode cX1_init 72 = .ok (.putfield 57, 3) := dk_181 0 57 (dk_at dksX1_init_3 1 rfl rfl)
theorem dX1_init_75 : decode cX1_init 75 = .ok (.aload_n 0, 1) := dk_42 (dk_at dksX1_init_3 4 rfl rfl)
theorem dX1_init_76 : decode cX1_init 76 = .ok (.iconst (-1), 1) := dk_2 (dk_at dksX1_init_3 5 rfl rfl)
theorem dX1_init_77 : decode cX1_init 77 = .ok (.putfield 61, 3) := dk_181 0 61 (dk_at dksX1_init_3 6 rfl rfl)
theorem dX1_init_80 : decode cX1_init 80 = .ok (.return_, 1) := dk_177 (dk_at dksX1_init_3 9 rfl rfl)
abbrev cX1_traders : ByteArray := prog_1_method_19_code
def yX1_traders : MethodName := ⟨RX1, "traders", "()I"⟩
def dkwX1_traders_0 : List UInt8 := [42, 180, 0, 31, 180, 0, 111, 182, 0, 115, 172]
abbrev dktX1_traders_0 : List UInt8 := dkwX1_traders_0 ++ []
theorem dksX1_traders_0 : cX1_traders.data.toList.drop 0 = dktX1_traders_0 := by decide +kernel
theorem dX1_traders_0 : decode cX1_traders 0 = .ok (.aload_n 0, 1) := dk_42 (dk_at dksX1_traders_0 0 rfl rfl)
theorem dX1_traders_1 : decode cX1_traders 1 = .ok (.getfield 31, 3) := dk_180 0 31 (dk_at dksX1_traders_0 1 rfl rfl)
theorem dX1_traders_4 : decode cX1_traders 4 = .ok (.getfield 111, 3) := dk_180 0 111 (dk_at dksX1_traders_0 4 rfl rfl)
theorem dX1_traders_7 : decode cX1_traders 7 = .ok (.invokevirtual 115, 3) := dk_182 0 115 (dk_at dksX1_traders_0 7 rfl rfl)
theorem dX1_traders_10 : decode cX1_traders 10 = .ok (.ireturn, 1) := dk_172 (dk_at dksX1_traders_0 10 rfl rfl)
abbrev cX1_openOrders : ByteArray := prog_1_method_25_code
def yX1_openOrders : MethodName := ⟨RX1, "openOrders", "()I"⟩
def dkwX1_openOrders_0 : List UInt8 := [42, 180, 0, 31, 180, 0, 145, 182, 0, 115, 172]
abbrev dktX1_openOrders_0 : List UInt8 := dkwX1_openOrders_0 ++ []
theorem dksX1_openOrders_0 : cX1_openOrders.data.toList.drop 0 = dktX1_openOrders_0 := by decide +kernel
theorem dX1_openOrders_0 : decode cX1_openOrders 0 = .ok (.aload_n 0, 1) := dk_42 (dk_at dksX1_openOrders_0 0 rfl rfl)
theorem dX1_openOrders_1 : decode cX1_openOrders 1 = .ok (.getfield 31, 3) := dk_180 0 31 (dk_at dksX1_openOrders_0 1 rfl rfl)
theorem dX1_openOrders_4 : decode cX1_openOrders 4 = .ok (.getfield 145, 3) := dk_180 0 145 (dk_at dksX1_openOrders_0 4 rfl rfl)
theorem dX1_openOrders_7 : decode cX1_openOrders 7 = .ok (.invokevirtual 115, 3) := dk_182 0 115 (dk_at dksX1_openOrders_0 7 rfl rfl)
theorem dX1_openOrders_10 : decode cX1_openOrders 10 = .ok (.ireturn, 1) := dk_172 (dk_at dksX1_openOrders_0 10 rfl rfl)
abbrev cX1_depth : ByteArray := prog_1_method_34_code
def yX1_depth : MethodName := ⟨RX1, "depth", "(ZI)I"⟩
def dkwX1_depth_0 : List UInt8 := [42, 180, 0, 31, 27, 28, 182, 0, 198, 172]
abbrev dktX1_depth_0 : List UInt8 := dkwX1_depth_0 ++ []
theorem dksX1_depth_0 : cX1_depth.data.toList.drop 0 = dktX1_depth_0 := by decide +kernel
theorem dX1_depth_0 : decode cX1_depth 0 = .ok (.aload_n 0, 1) := dk_42 (dk_at dksX1_depth_0 0 rfl rfl)
theorem dX1_depth_1 : decode cX1_depth 1 = .ok (.getfield 31, 3) := dk_180 0 31 (dk_at dksX1_depth_0 1 rfl rfl)
theorem dX1_depth_4 : decode cX1_depth 4 = .ok (.iload_n 1, 1) := dk_27 (dk_at dksX1_depth_0 4 rfl rfl)
theorem dX1_depth_5 : decode cX1_depth 5 = .ok (.iload_n 2, 1) := dk_28 (dk_at dksX1_depth_0 5 rfl rfl)
theorem dX1_depth_6 : decode cX1_depth 6 = .ok (.invokevirtual 198, 3) := dk_182 0 198 (dk_at dksX1_depth_0 6 rfl rfl)
theorem dX1_depth_9 : decode cX1_depth 9 = .ok (.ireturn, 1) := dk_172 (dk_at dksX1_depth_0 9 rfl rfl)
abbrev cX1_tradedUnits : ByteArray := prog_1_method_39_code
def yX1_tradedUnits : MethodName := ⟨RX1, "tradedUnits", "()I"⟩
def dkwX1_tradedUnits_0 : List UInt8 := [42, 180, 0, 31, 180, 0, 218, 172]
abbrev dktX1_tradedUnits_0 : List UInt8 := dkwX1_tradedUnits_0 ++ []
theorem dksX1_tradedUnits_0 : cX1_tradedUnits.data.toList.drop 0 = dktX1_tradedUnits_0 := by decide +kernel
theorem dX1_tradedUnits_0 : decode cX1_tradedUnits 0 = .ok (.aload_n 0, 1) := dk_42 (dk_at dksX1_tradedUnits_0 0 rfl rfl)
theorem dX1_tradedUnits_1 : decode cX1_tradedUnits 1 = .ok (.getfield 31, 3) := dk_180 0 31 (dk_at dksX1_tradedUnits_0 1 rfl rfl)
theorem dX1_tradedUnits_4 : decode cX1_tradedUnits 4 = .ok (.getfield 218, 3) := dk_180 0 218 (dk_at dksX1_tradedUnits_0 4 rfl rfl)
theorem dX1_tradedUnits_7 : decode cX1_tradedUnits 7 = .ok (.ireturn, 1) := dk_172 (dk_at dksX1_tradedUnits_0 7 rfl rfl)
abbrev cX1_day : ByteArray := prog_1_method_41_code
def yX1_day : MethodName := ⟨RX1, "day", "()I"⟩
def dkwX1_day_0 : List UInt8 := [42, 180, 0, 31, 180, 0, 227, 172]
abbrev dktX1_day_0 : List UInt8 := dkwX1_day_0 ++ []
theorem dksX1_day_0 : cX1_day.data.toList.drop 0 = dktX1_day_0 := by decide +kernel
theorem dX1_day_0 : decode cX1_day 0 = .ok (.aload_n 0, 1) := dk_42 (dk_at dksX1_day_0 0 rfl rfl)
theorem dX1_day_1 : decode cX1_day 1 = .ok (.getfield 31, 3) := dk_180 0 31 (dk_at dksX1_day_0 1 rfl rfl)
theorem dX1_day_4 : decode cX1_day 4 = .ok (.getfield 227, 3) := dk_180 0 227 (dk_at dksX1_day_0 4 rfl rfl)
theorem dX1_day_7 : decode cX1_day 7 = .ok (.ireturn, 1) := dk_172 (dk_at dksX1_day_0 7 rfl rfl)
abbrev cX1_contracts : ByteArray := prog_1_method_42_code
def yX1_contracts : MethodName := ⟨RX1, "contracts", "()I"⟩
def dkwX1_contracts_0 : List UInt8 := [42, 180, 0, 31, 180, 0, 230, 182, 0, 115, 172]
abbrev dktX1_contracts_0 : List UInt8 := dkwX1_contracts_0 ++ []
theorem dksX1_contracts_0 : cX1_contracts.data.toList.drop 0 = dktX1_contracts_0 := by decide +kernel
theorem dX1_contracts_0 : decode cX1_contracts 0 = .ok (.aload_n 0, 1) := dk_42 (dk_at dksX1_contracts_0 0 rfl rfl)
theorem dX1_contracts_1 : decode cX1_contracts 1 = .ok (.getfield 31, 3) := dk_180 0 31 (dk_at dksX1_contracts_0 1 rfl rfl)
theorem dX1_contracts_4 : decode cX1_contracts 4 = .ok (.getfield 230, 3) := dk_180 0 230 (dk_at dksX1_contracts_0 4 rfl rfl)
theorem dX1_contracts_7 : decode cX1_contracts 7 = .ok (.invokevirtual 115, 3) := dk_182 0 115 (dk_at dksX1_contracts_0 7 rfl rfl)
theorem dX1_contracts_10 : decode cX1_contracts 10 = .ok (.ireturn, 1) := dk_172 (dk_at dksX1_contracts_0 10 rfl rfl)
abbrev cX1_defaults : ByteArray := prog_1_method_49_code
def yX1_defaults : MethodName := ⟨RX1, "defaults", "()I"⟩
def dkwX1_defaults_0 : List UInt8 := [42, 180, 0, 31, 180, 1, 1, 172]
abbrev dktX1_defaults_0 : List UInt8 := dkwX1_defaults_0 ++ []
theorem dksX1_defaults_0 : cX1_defaults.data.toList.drop 0 = dktX1_defaults_0 := by decide +kernel
theorem dX1_defaults_0 : decode cX1_defaults 0 = .ok (.aload_n 0, 1) := dk_42 (dk_at dksX1_defaults_0 0 rfl rfl)
theorem dX1_defaults_1 : decode cX1_defaults 1 = .ok (.getfield 31, 3) := dk_180 0 31 (dk_at dksX1_defaults_0 1 rfl rfl)
theorem dX1_defaults_4 : decode cX1_defaults 4 = .ok (.getfield 257, 3) := dk_180 1 1 (dk_at dksX1_defaults_0 4 rfl rfl)
theorem dX1_defaults_7 : decode cX1_defaults 7 = .ok (.ireturn, 1) := dk_172 (dk_at dksX1_defaults_0 7 rfl rfl)
abbrev cX1_isAuctionOpen : ByteArray := prog_1_method_51_code
def yX1_isAuctionOpen : MethodName := ⟨RX1, "isAuctionOpen", "()Z"⟩
def dkwX1_isAuctionOpen_0 : List UInt8 := [42, 180, 0, 31, 180, 1, 7, 198, 0, 7, 4, 167, 0, 4, 3, 172]
abbrev dktX1_isAuctionOpen_0 : List UInt8 := dkwX1_isAuctionOpen_0 ++ []
theorem dksX1_isAuctionOpen_0 : cX1_isAuctionOpen.data.toList.drop 0 = dktX1_isAuctionOpen_0 := by decide +kernel
theorem dX1_isAuctionOpen_0 : decode cX1_isAuctionOpen 0 = .ok (.aload_n 0, 1) := dk_42 (dk_at dksX1_isAuctionOpen_0 0 rfl rfl)
theorem dX1_isAuctionOpen_1 : decode cX1_isAuctionOpen 1 = .ok (.getfield 31, 3) := dk_180 0 31 (dk_at dksX1_isAuctionOpen_0 1 rfl rfl)
theorem dX1_isAuctionOpen_4 : decode cX1_isAuctionOpen 4 = .ok (.getfield 263, 3) := dk_180 1 7 (dk_at dksX1_isAuctionOpen_0 4 rfl rfl)
theorem dX1_isAuctionOpen_7 : decode cX1_isAuctionOpen 7 = .ok (.ifnull 7, 3) := dk_198 0 7 (dk_at dksX1_isAuctionOpen_0 7 rfl rfl)
theorem dX1_isAuctionOpen_10 : decode cX1_isAuctionOpen 10 = .ok (.iconst 1, 1) := dk_4 (dk_at dksX1_isAuctionOpen_0 10 rfl rfl)
theorem dX1_isAuctionOpen_11 : decode cX1_isAuctionOpen 11 = .ok (.goto 4, 3) := dk_167 0 4 (dk_at dksX1_isAuctionOpen_0 11 rfl rfl)
theorem dX1_isAuctionOpen_14 : decode cX1_isAuctionOpen 14 = .ok (.iconst 0, 1) := dk_3 (dk_at dksX1_isAuctionOpen_0 14 rfl rfl)
theorem dX1_isAuctionOpen_15 : decode cX1_isAuctionOpen 15 = .ok (.ireturn, 1) := dk_172 (dk_at dksX1_isAuctionOpen_0 15 rfl rfl)
abbrev cX1_till : ByteArray := prog_1_method_55_code
def yX1_till : MethodName := ⟨RX1, "till", "()I"⟩
def dkwX1_till_0 : List UInt8 := [42, 180, 0, 31, 180, 1, 24, 172]
abbrev dktX1_till_0 : List UInt8 := dkwX1_till_0 ++ []
theorem dksX1_till_0 : cX1_till.data.toList.drop 0 = dktX1_till_0 := by decide +kernel
theorem dX1_till_0 : decode cX1_till 0 = .ok (.aload_n 0, 1) := dk_42 (dk_at dksX1_till_0 0 rfl rfl)
theorem dX1_till_1 : decode cX1_till 1 = .ok (.getfield 31, 3) := dk_180 0 31 (dk_at dksX1_till_0 1 rfl rfl)
theorem dX1_till_4 : decode cX1_till 4 = .ok (.getfield 280, 3) := dk_180 1 24 (dk_at dksX1_till_0 4 rfl rfl)
theorem dX1_till_7 : decode cX1_till 7 = .ok (.ireturn, 1) := dk_172 (dk_at dksX1_till_0 7 rfl rfl)
abbrev cX1_isConsistent : ByteArray := prog_1_method_58_code
def yX1_isConsistent : MethodName := ⟨RX1, "isConsistent", "()Z"⟩
def dkwX1_isConsistent_6 : List UInt8 := [167, 255, 209, 132, 2, 1, 167, 255, 177, 27, 172]
abbrev dktX1_isConsistent_6 : List UInt8 := dkwX1_isConsistent_6 ++ []
def dkwX1_isConsistent_5 : List UInt8 := [180, 0, 31, 28, 21, 6, 182, 0, 254, 160, 0, 7, 4, 167, 0, 4, 3, 126, 60, 132, 5, 1]
abbrev dktX1_isConsistent_5 : List UInt8 := dkwX1_isConsistent_5 ++ dktX1_isConsistent_6
def dkwX1_isConsistent_4 : List UInt8 := [21, 4, 162, 0, 46, 45, 21, 5, 46, 54, 6, 27, 42, 180, 0, 31, 28, 21, 6, 182, 0, 251, 42]
abbrev dktX1_isConsistent_4 : List UInt8 := dkwX1_isConsistent_4 ++ dktX1_isConsistent_5
def dkwX1_isConsistent_3 : List UInt8 := [180, 0, 111, 182, 0, 115, 162, 0, 71, 42, 180, 0, 42, 78, 45, 190, 54, 4, 3, 54, 5, 21, 5]
abbrev dktX1_isConsistent_3 : List UInt8 := dkwX1_isConsistent_3 ++ dktX1_isConsistent_4
def dkwX1_isConsistent_2 : List UInt8 := [160, 0, 7, 4, 167, 0, 4, 3, 126, 60, 132, 2, 1, 167, 255, 220, 3, 61, 28, 42, 180, 0, 31]
abbrev dktX1_isConsistent_2 : List UInt8 := dkwX1_isConsistent_2 ++ dktX1_isConsistent_3
def dkwX1_isConsistent_1 : List UInt8 := [16, 20, 163, 0, 36, 27, 42, 180, 0, 31, 28, 182, 0, 205, 42, 180, 0, 31, 28, 182, 0, 212]
abbrev dktX1_isConsistent_1 : List UInt8 := dkwX1_isConsistent_1 ++ dktX1_isConsistent_2
def dkwX1_isConsistent_0 : List UInt8 := [42, 182, 1, 37, 153, 0, 14, 42, 182, 1, 40, 153, 0, 7, 4, 167, 0, 4, 3, 60, 4, 61, 28]
abbrev dktX1_isConsistent_0 : List UInt8 := dkwX1_isConsistent_0 ++ dktX1_isConsistent_1
theorem dksX1_isConsistent_0 : cX1_isConsistent.data.toList.drop 0 = dktX1_isConsistent_0 := by decide +kernel
theorem dksX1_isConsistent_1 : cX1_isConsistent.data.toList.drop 23 = dktX1_isConsistent_1 := dk_seg dksX1_isConsistent_0 23 rfl rfl
theorem dksX1_isConsistent_2 : cX1_isConsistent.data.toList.drop 45 = dktX1_isConsistent_2 := dk_seg dksX1_isConsistent_1 22 rfl rfl
theorem dksX1_isConsistent_3 : cX1_isConsistent.data.toList.drop 68 = dktX1_isConsistent_3 := dk_seg dksX1_isConsistent_2 23 rfl rfl
theorem dksX1_isConsistent_4 : cX1_isConsistent.data.toList.drop 91 = dktX1_isConsistent_4 := dk_seg dksX1_isConsistent_3 23 rfl rfl
theorem dksX1_isConsistent_5 : cX1_isConsistent.data.toList.drop 114 = dktX1_isConsistent_5 := dk_seg dksX1_isConsistent_4 23 rfl rfl
theorem dksX1_isConsistent_6 : cX1_isConsistent.data.toList.drop 136 = dktX1_isConsistent_6 := dk_seg dksX1_isConsistent_5 22 rfl rfl
theorem dX1_isConsistent_0 : decode cX1_isConsistent 0 = .ok (.aload_n 0, 1) := dk_42 (dk_at dksX1_isConsistent_0 0 rfl rfl)
theorem dX1_isConsistent_1 : decode cX1_isConsistent 1 = .ok (.invokevirtual 293, 3) := dk_182 1 37 (dk_at dksX1_isConsistent_0 1 rfl rfl)
theorem dX1_isConsistent_4 : decode cX1_isConsistent 4 = .ok (.ifCond .eq 14, 3) := dk_153 0 14 (dk_at dksX1_isConsistent_0 4 rfl rfl)
theorem dX1_isConsistent_7 : decode cX1_isConsistent 7 = .ok (.aload_n 0, 1) := dk_42 (dk_at dksX1_isConsistent_0 7 rfl rfl)
theorem dX1_isConsistent_8 : decode cX1_isConsistent 8 = .ok (.invokevirtual 296, 3) := dk_182 1 40 (dk_at dksX1_isConsistent_0 8 rfl rfl)
theorem dX1_isConsistent_11 : decode cX1_isConsistent 11 = .ok (.ifCond .eq 7, 3) := dk_153 0 7 (dk_at dksX1_isConsistent_0 11 rfl rfl)
theorem dX1_isConsistent_14 : decode cX1_isConsistent 14 = .ok (.iconst 1, 1) := dk_4 (dk_at dksX1_isConsistent_0 14 rfl rfl)
theorem dX1_isConsistent_15 : decode cX1_isConsistent 15 = .ok (.goto 4, 3) := dk_167 0 4 (dk_at dksX1_isConsistent_0 15 rfl rfl)
theorem dX1_isConsistent_18 : decode cX1_isConsistent 18 = .ok (.iconst 0, 1) := dk_3 (dk_at dksX1_isConsistent_0 18 rfl rfl)
theorem dX1_isConsistent_19 : decode cX1_isConsistent 19 = .ok (.istore_n 1, 1) := dk_60 (dk_at dksX1_isConsistent_0 19 rfl rfl)
theorem dX1_isConsistent_20 : decode cX1_isConsistent 20 = .ok (.iconst 1, 1) := dk_4 (dk_at dksX1_isConsistent_0 20 rfl rfl)
theorem dX1_isConsistent_21 : decode cX1_isConsistent 21 = .ok (.istore_n 2, 1) := dk_61 (dk_at dksX1_isConsistent_0 21 rfl rfl)
theorem dX1_isConsistent_22 : decode cX1_isConsistent 22 = .ok (.iload_n 2, 1) := dk_28 (dk_at dksX1_isConsistent_0 22 rfl rfl)
theorem dX1_isConsistent_23 : decode cX1_isConsistent 23 = .ok (.bipush 20, 2) := dk_16 20 (dk_at dksX1_isConsistent_1 0 rfl rfl)
theorem dX1_isConsistent_25 : decode cX1_isConsistent 25 = .ok (.if_icmp .gt 36, 3) := dk_163 0 36 (dk_at dksX1_isConsistent_1 2 rfl rfl)
theorem dX1_isConsistent_28 : decode cX1_isConsistent 28 = .ok (.iload_n 1, 1) := dk_27 (dk_at dksX1_isConsistent_1 5 rfl rfl)
theorem dX1_isConsistent_29 : decode cX1_isConsistent 29 = .ok (.aload_n 0, 1) := dk_42 (dk_at dksX1_isConsistent_1 6 rfl rfl)
theorem dX1_isConsistent_30 : decode cX1_isConsistent 30 = .ok (.getfield 31, 3) := dk_180 0 31 (dk_at dksX1_isConsistent_1 7 rfl rfl)
theorem dX1_isConsistent_33 : decode cX1_isConsistent 33 = .ok (.iload_n 2, 1) := dk_28 (dk_at dksX1_isConsistent_1 10 rfl rfl)
theorem dX1_isConsistent_34 : decode cX1_isConsistent 34 = .ok (.invokevirtual 205, 3) := dk_182 0 205 (dk_at dksX1_isConsistent_1 11 rfl rfl)
theorem dX1_isConsistent_37 : decode cX1_isConsistent 37 = .ok (.aload_n 0, 1) := dk_42 (dk_at dksX1_isConsistent_1 14 rfl rfl)
theorem dX1_isConsistent_38 : decode cX1_isConsistent 38 = .ok (.getfield 31, 3) := dk_180 0 31 (dk_at dksX1_isConsistent_1 15 rfl rfl)
theorem dX1_isConsistent_41 : decode cX1_isConsistent 41 = .ok (.iload_n 2, 1) := dk_28 (dk_at dksX1_isConsistent_1 18 rfl rfl)
theorem dX1_isConsistent_42 : decode cX1_isConsistent 42 = .ok (.invokevirtual 212, 3) := dk_182 0 212 (dk_at dksX1_isConsistent_1 19 rfl rfl)
theorem dX1_isConsistent_45 : decode cX1_isConsistent 45 = .ok (.if_icmp .ne 7, 3) := dk_160 0 7 (dk_at dksX1_isConsistent_2 0 rfl rfl)
theorem dX1_isConsistent_48 : decode cX1_isConsistent 48 = .ok (.iconst 1, 1) := dk_4 (dk_at dksX1_isConsistent_2 3 rfl rfl)
theorem dX1_isConsistent_49 : decode cX1_isConsistent 49 = .ok (.goto 4, 3) := dk_167 0 4 (dk_at dksX1_isConsistent_2 4 rfl rfl)
theorem dX1_isConsistent_52 : decode cX1_isConsistent 52 = .ok (.iconst 0, 1) := dk_3 (dk_at dksX1_isConsistent_2 7 rfl rfl)
theorem dX1_isConsistent_53 : decode cX1_isConsistent 53 = .ok (.iand, 1) := dk_126 (dk_at dksX1_isConsistent_2 8 rfl rfl)
theorem dX1_isConsistent_54 : decode cX1_isConsistent 54 = .ok (.istore_n 1, 1) := dk_60 (dk_at dksX1_isConsistent_2 9 rfl rfl)
theorem dX1_isConsistent_55 : decode cX1_isConsistent 55 = .ok (.iinc 2 1, 3) := dk_132 2 1 (dk_at dksX1_isConsistent_2 10 rfl rfl)
theorem dX1_isConsistent_58 : decode cX1_isConsistent 58 = .ok (.goto (-36), 3) := dk_167 255 220 (dk_at dksX1_isConsistent_2 13 rfl rfl)
theorem dX1_isConsistent_61 : decode cX1_isConsistent 61 = .ok (.iconst 0, 1) := dk_3 (dk_at dksX1_isConsistent_2 16 rfl rfl)
theorem dX1_isConsistent_62 : decode cX1_isConsistent 62 = .ok (.istore_n 2, 1) := dk_61 (dk_at dksX1_isConsistent_2 17 rfl rfl)
theorem dX1_isConsistent_63 : decode cX1_isConsistent 63 = .ok (.iload_n 2, 1) := dk_28 (dk_at dksX1_isConsistent_2 18 rfl rfl)
theorem dX1_isConsistent_64 : decode cX1_isConsistent 64 = .ok (.aload_n 0, 1) := dk_42 (dk_at dksX1_isConsistent_2 19 rfl rfl)
theorem dX1_isConsistent_65 : decode cX1_isConsistent 65 = .ok (.getfield 31, 3) := dk_180 0 31 (dk_at dksX1_isConsistent_2 20 rfl rfl)
theorem dX1_isConsistent_68 : decode cX1_isConsistent 68 = .ok (.getfield 111, 3) := dk_180 0 111 (dk_at dksX1_isConsistent_3 0 rfl rfl)
theorem dX1_isConsistent_71 : decode cX1_isConsistent 71 = .ok (.invokevirtual 115, 3) := dk_182 0 115 (dk_at dksX1_isConsistent_3 3 rfl rfl)
theorem dX1_isConsistent_74 : decode cX1_isConsistent 74 = .ok (.if_icmp .ge 71, 3) := dk_162 0 71 (dk_at dksX1_isConsistent_3 6 rfl rfl)
theorem dX1_isConsistent_77 : decode cX1_isConsistent 77 = .ok (.aload_n 0, 1) := dk_42 (dk_at dksX1_isConsistent_3 9 rfl rfl)
theorem dX1_isConsistent_78 : decode cX1_isConsistent 78 = .ok (.getfield 42, 3) := dk_180 0 42 (dk_at dksX1_isConsistent_3 10 rfl rfl)
theorem dX1_isConsistent_81 : decode cX1_isConsistent 81 = .ok (.astore_n 3, 1) := dk_78 (dk_at dksX1_isConsistent_3 13 rfl rfl)
theorem dX1_isConsistent_82 : decode cX1_isConsistent 82 = .ok (.aload_n 3, 1) := dk_45 (dk_at dksX1_isConsistent_3 14 rfl rfl)
theorem dX1_isConsistent_83 : decode cX1_isConsistent 83 = .ok (.arraylength, 1) := dk_190 (dk_at dksX1_isConsistent_3 15 rfl rfl)
theorem dX1_isConsistent_84 : decode cX1_isConsistent 84 = .ok (.istore 4, 2) := dk_54 4 (dk_at dksX1_isConsistent_3 16 rfl rfl)
theorem dX1_isConsistent_86 : decode cX1_isConsistent 86 = .ok (.iconst 0, 1) := dk_3 (dk_at dksX1_isConsistent_3 18 rfl rfl)
theorem dX1_isConsistent_87 : decode cX1_isConsistent 87 = .ok (.istore 5, 2) := dk_54 5 (dk_at dksX1_isConsistent_3 19 rfl rfl)
theorem dX1_isConsistent_89 : decode cX1_isConsistent 89 = .ok (.iload 5, 2) := dk_21 5 (dk_at dksX1_isConsistent_3 21 rfl rfl)
theorem dX1_isConsistent_91 : decode cX1_isConsistent 91 = .ok (.iload 4, 2) := dk_21 4 (dk_at dksX1_isConsistent_4 0 rfl rfl)
theorem dX1_isConsistent_93 : decode cX1_isConsistent 93 = .ok (.if_icmp .ge 46, 3) := dk_162 0 46 (dk_at dksX1_isConsistent_4 2 rfl rfl)
theorem dX1_isConsistent_96 : decode cX1_isConsistent 96 = .ok (.aload_n 3, 1) := dk_45 (dk_at dksX1_isConsistent_4 5 rfl rfl)
theorem dX1_isConsistent_97 : decode cX1_isConsistent 97 = .ok (.iload 5, 2) := dk_21 5 (dk_at dksX1_isConsistent_4 6 rfl rfl)
theorem dX1_isConsistent_99 : decode cX1_isConsistent 99 = .ok (.iaload, 1) := dk_46 (dk_at dksX1_isConsistent_4 8 rfl rfl)
theorem dX1_isConsistent_100 : decode cX1_isConsistent 100 = .ok (.istore 6, 2) := dk_54 6 (dk_at dksX1_isConsistent_4 9 rfl rfl)
theorem dX1_isConsistent_102 : decode cX1_isConsistent 102 = .ok (.iload_n 1, 1) := dk_27 (dk_at dksX1_isConsistent_4 11 rfl rfl)
theorem dX1_isConsistent_103 : decode cX1_isConsistent 103 = .ok (.aload_n 0, 1) := dk_42 (dk_at dksX1_isConsistent_4 12 rfl rfl)
theorem dX1_isConsistent_104 : decode cX1_isConsistent 104 = .ok (.getfield 31, 3) := dk_180 0 31 (dk_at dksX1_isConsistent_4 13 rfl rfl)
theorem dX1_isConsistent_107 : decode cX1_isConsistent 107 = .ok (.iload_n 2, 1) := dk_28 (dk_at dksX1_isConsistent_4 16 rfl rfl)
theorem dX1_isConsistent_108 : decode cX1_isConsistent 108 = .ok (.iload 6, 2) := dk_21 6 (dk_at dksX1_isConsistent_4 17 rfl rfl)
theorem dX1_isConsistent_110 : decode cX1_isConsistent 110 = .ok (.invokevirtual 251, 3) := dk_182 0 251 (dk_at dksX1_isConsistent_4 19 rfl rfl)
theorem dX1_isConsistent_113 : decode cX1_isConsistent 113 = .ok (.aload_n 0, 1) := dk_42 (dk_at dksX1_isConsistent_4 22 rfl rfl)
theorem dX1_isConsistent_114 : decode cX1_isConsistent 114 = .ok (.getfield 31, 3) := dk_180 0 31 (dk_at dksX1_isConsistent_5 0 rfl rfl)
theorem dX1_isConsistent_117 : decode cX1_isConsistent 117 = .ok (.iload_n 2, 1) := dk_28 (dk_at dksX1_isConsistent_5 3 rfl rfl)
theorem dX1_isConsistent_118 : decode cX1_isConsistent 118 = .ok (.iload 6, 2) := dk_21 6 (dk_at dksX1_isConsistent_5 4 rfl rfl)
theorem dX1_isConsistent_120 : decode cX1_isConsistent 120 = .ok (.invokevirtual 254, 3) := dk_182 0 254 (dk_at dksX1_isConsistent_5 6 rfl rfl)
theorem dX1_isConsistent_123 : decode cX1_isConsistent 123 = .ok (.if_icmp .ne 7, 3) := dk_160 0 7 (dk_at dksX1_isConsistent_5 9 rfl rfl)
theorem dX1_isConsistent_126 : decode cX1_isConsistent 126 = .ok (.iconst 1, 1) := dk_4 (dk_at dksX1_isConsistent_5 12 rfl rfl)
theorem dX1_isConsistent_127 : decode cX1_isConsistent 127 = .ok (.goto 4, 3) := dk_167 0 4 (dk_at dksX1_isConsistent_5 13 rfl rfl)
theorem dX1_isConsistent_130 : decode cX1_isConsistent 130 = .ok (.iconst 0, 1) := dk_3 (dk_at dksX1_isConsistent_5 16 rfl rfl)
theorem dX1_isConsistent_131 : decode cX1_isConsistent 131 = .ok (.iand, 1) := dk_126 (dk_at dksX1_isConsistent_5 17 rfl rfl)
theorem dX1_isConsistent_132 : decode cX1_isConsistent 132 = .ok (.istore_n 1, 1) := dk_60 (dk_at dksX1_isConsistent_5 18 rfl rfl)
theorem dX1_isConsistent_133 : decode cX1_isConsistent 133 = .ok (.iinc 5 1, 3) := dk_132 5 1 (dk_at dksX1_isConsistent_5 19 rfl rfl)
theorem dX1_isConsistent_136 : decode cX1_isConsistent 136 = .ok (.goto (-47), 3) := dk_167 255 209 (dk_at dksX1_isConsistent_6 0 rfl rfl)
theorem dX1_isConsistent_139 : decode cX1_isConsistent 139 = .ok (.iinc 2 1, 3) := dk_132 2 1 (dk_at dksX1_isConsistent_6 3 rfl rfl)
theorem dX1_isConsistent_142 : decode cX1_isConsistent 142 = .ok (.goto (-79), 3) := dk_167 255 177 (dk_at dksX1_isConsistent_6 6 rfl rfl)
theorem dX1_isConsistent_145 : decode cX1_isConsistent 145 = .ok (.iload_n 1, 1) := dk_27 (dk_at dksX1_isConsistent_6 9 rfl rfl)
theorem dX1_isConsistent_146 : decode cX1_isConsistent 146 = .ok (.ireturn, 1) := dk_172 (dk_at dksX1_isConsistent_6 10 rfl rfl)
abbrev cX1_areSumsRight : ByteArray := prog_1_method_56_code
def yX1_areSumsRight : MethodName := ⟨RX1, "areSumsRight", "()Z"⟩
def dkwX1_areSumsRight_5 : List UInt8 := [167, 0, 4, 3, 172]
abbrev dktX1_areSumsRight_5 : List UInt8 := dkwX1_areSumsRight_5 ++ []
def dkwX1_areSumsRight_4 : List UInt8 := [42, 180, 0, 31, 180, 1, 27, 160, 0, 18, 28, 42, 180, 0, 31, 180, 1, 30, 160, 0, 7, 4]
abbrev dktX1_areSumsRight_4 : List UInt8 := dkwX1_areSumsRight_4 ++ dktX1_areSumsRight_5
def dkwX1_areSumsRight_3 : List UInt8 := [192, 0, 127, 180, 0, 139, 42, 180, 0, 31, 29, 182, 0, 142, 96, 96, 61, 132, 3, 1, 167, 255, 181, 27]
abbrev dktX1_areSumsRight_3 : List UInt8 := dkwX1_areSumsRight_3 ++ dktX1_areSumsRight_4
def dkwX1_areSumsRight_2 : List UInt8 := [180, 0, 31, 29, 182, 0, 135, 96, 96, 60, 28, 42, 180, 0, 31, 180, 0, 111, 29, 182, 0, 174]
abbrev dktX1_areSumsRight_2 : List UInt8 := dkwX1_areSumsRight_2 ++ dktX1_areSumsRight_3
def dkwX1_areSumsRight_1 : List UInt8 := [162, 0, 67, 27, 42, 180, 0, 31, 180, 0, 111, 29, 182, 0, 174, 192, 0, 127, 180, 0, 126, 42]
abbrev dktX1_areSumsRight_1 : List UInt8 := dkwX1_areSumsRight_1 ++ dktX1_areSumsRight_2
def dkwX1_areSumsRight_0 : List UInt8 := [42, 180, 0, 31, 180, 1, 24, 60, 3, 61, 3, 62, 29, 42, 180, 0, 31, 180, 0, 111, 182, 0, 115]
abbrev dktX1_areSumsRight_0 : List UInt8 := dkwX1_areSumsRight_0 ++ dktX1_areSumsRight_1
theorem dksX1_areSumsRight_0 : cX1_areSumsRight.data.toList.drop 0 = dktX1_areSumsRight_0 := by decide +kernel
theorem dksX1_areSumsRight_1 : cX1_areSumsRight.data.toList.drop 23 = dktX1_areSumsRight_1 := dk_seg dksX1_areSumsRight_0 23 rfl rfl
theorem dksX1_areSumsRight_2 : cX1_areSumsRight.data.toList.drop 45 = dktX1_areSumsRight_2 := dk_seg dksX1_areSumsRight_1 22 rfl rfl
theorem dksX1_areSumsRight_3 : cX1_areSumsRight.data.toList.drop 67 = dktX1_areSumsRight_3 := dk_seg dksX1_areSumsRight_2 22 rfl rfl
theorem dksX1_areSumsRight_4 : cX1_areSumsRight.data.toList.drop 91 = dktX1_areSumsRight_4 := dk_seg dksX1_areSumsRight_3 24 rfl rfl
theorem dksX1_areSumsRight_5 : cX1_areSumsRight.data.toList.drop 113 = dktX1_areSumsRight_5 := dk_seg dksX1_areSumsRight_4 22 rfl rfl
theorem dX1_areSumsRight_0 : decode cX1_areSumsRight 0 = .ok (.aload_n 0, 1) := dk_42 (dk_at dksX1_areSumsRight_0 0 rfl rfl)
theorem dX1_areSumsRight_1 : decode cX1_areSumsRight 1 = .ok (.getfield 31, 3) := dk_180 0 31 (dk_at dksX1_areSumsRight_0 1 rfl rfl)
theorem dX1_areSumsRight_4 : decode cX1_areSumsRight 4 = .ok (.getfield 280, 3) := dk_180 1 24 (dk_at dksX1_areSumsRight_0 4 rfl rfl)
theorem dX1_areSumsRight_7 : decode cX1_areSumsRight 7 = .ok (.istore_n 1, 1) := dk_60 (dk_at dksX1_areSumsRight_0 7 rfl rfl)
theorem dX1_areSumsRight_8 : decode cX1_areSumsRight 8 = .ok (.iconst 0, 1) := dk_3 (dk_at dksX1_areSumsRight_0 8 rfl rfl)
theorem dX1_areSumsRight_9 : decode cX1_areSumsRight 9 = .ok (.istore_n 2, 1) := dk_61 (dk_at dksX1_areSumsRight_0 9 rfl rfl)
theorem dX1_areSumsRight_10 : decode cX1_areSumsRight 10 = .ok (.iconst 0, 1) := dk_3 (dk_at dksX1_areSumsRight_0 10 rfl rfl)
theorem dX1_areSumsRight_11 : decode cX1_areSumsRight 11 = .ok (.istore_n 3, 1) := dk_62 (dk_at dksX1_areSumsRight_0 11 rfl rfl)
theorem dX1_areSumsRight_12 : decode cX1_areSumsRight 12 = .ok (.iload_n 3, 1) := dk_29 (dk_at dksX1_areSumsRight_0 12 rfl rfl)
theorem dX1_areSumsRight_13 : decode cX1_areSumsRight 13 = .ok (.aload_n 0, 1) := dk_42 (dk_at dksX1_areSumsRight_0 13 rfl rfl)
theorem dX1_areSumsRight_14 : decode cX1_areSumsRight 14 = .ok (.getfield 31, 3) := dk_180 0 31 (dk_at dksX1_areSumsRight_0 14 rfl rfl)
theorem dX1_areSumsRight_17 : decode cX1_areSumsRight 17 = .ok (.getfield 111, 3) := dk_180 0 111 (dk_at dksX1_areSumsRight_0 17 rfl rfl)
theorem dX1_areSumsRight_20 : decode cX1_areSumsRight 20 = .ok (.invokevirtual 115, 3) := dk_182 0 115 (dk_at dksX1_areSumsRight_0 20 rfl rfl)
theorem dX1_areSumsRight_23 : decode cX1_areSumsRight 23 = .ok (.if_icmp .ge 67, 3) := dk_162 0 67 (dk_at dksX1_areSumsRight_1 0 rfl rfl)
theorem dX1_areSumsRight_26 : decode cX1_areSumsRight 26 = .ok (.iload_n 1, 1) := dk_27 (dk_at dksX1_areSumsRight_1 3 rfl rfl)
theorem dX1_areSumsRight_27 : decode cX1_areSumsRight 27 = .ok (.aload_n 0, 1) := dk_42 (dk_at dksX1_areSumsRight_1 4 rfl rfl)
theorem dX1_areSumsRight_28 : decode cX1_areSumsRight 28 = .ok (.getfield 31, 3) := dk_180 0 31 (dk_at dksX1_areSumsRight_1 5 rfl rfl)
theorem dX1_areSumsRight_31 : decode cX1_areSumsRight 31 = .ok (.getfield 111, 3) := dk_180 0 111 (dk_at dksX1_areSumsRight_1 8 rfl rfl)
theorem dX1_areSumsRight_34 : decode cX1_areSumsRight 34 = .ok (.iload_n 3, 1) := dk_29 (dk_at dksX1_areSumsRight_1 11 rfl rfl)
theorem dX1_areSumsRight_35 : decode cX1_areSumsRight 35 = .ok (.invokevirtual 174, 3) := dk_182 0 174 (dk_at dksX1_areSumsRight_1 12 rfl rfl)
theorem dX1_areSumsRight_38 : decode cX1_areSumsRight 38 = .ok (.checkcast 127, 3) := dk_192 0 127 (dk_at dksX1_areSumsRight_1 15 rfl rfl)
theorem dX1_areSumsRight_41 : decode cX1_areSumsRight 41 = .ok (.getfield 126, 3) := dk_180 0 126 (dk_at dksX1_areSumsRight_1 18 rfl rfl)
theorem dX1_areSumsRight_44 : decode cX1_areSumsRight 44 = .ok (.aload_n 0, 1) := dk_42 (dk_at dksX1_areSumsRight_1 21 rfl rfl)
theorem dX1_areSumsRight_45 : decode cX1_areSumsRight 45 = .ok (.getfield 31, 3) := dk_180 0 31 (dk_at dksX1_areSumsRight_2 0 rfl rfl)
theorem dX1_areSumsRight_48 : decode cX1_areSumsRight 48 = .ok (.iload_n 3, 1) := dk_29 (dk_at dksX1_areSumsRight_2 3 rfl rfl)
theorem dX1_areSumsRight_49 : decode cX1_areSumsRight 49 = .ok (.invokevirtual 135, 3) := dk_182 0 135 (dk_at dksX1_areSumsRight_2 4 rfl rfl)
theorem dX1_areSumsRight_52 : decode cX1_areSumsRight 52 = .ok (.iadd, 1) := dk_96 (dk_at dksX1_areSumsRight_2 7 rfl rfl)
theorem dX1_areSumsRight_53 : decode cX1_areSumsRight 53 = .ok (.iadd, 1) := dk_96 (dk_at dksX1_areSumsRight_2 8 rfl rfl)
theorem dX1_areSumsRight_54 : decode cX1_areSumsRight 54 = .ok (.istore_n 1, 1) := dk_60 (dk_at dksX1_areSumsRight_2 9 rfl rfl)
theorem dX1_areSumsRight_55 : decode cX1_areSumsRight 55 = .ok (.iload_n 2, 1) := dk_28 (dk_at dksX1_areSumsRight_2 10 rfl rfl)
theorem dX1_areSumsRight_56 : decode cX1_areSumsRight 56 = .ok (.aload_n 0, 1) := dk_42 (dk_at dksX1_areSumsRight_2 11 rfl rfl)
theorem dX1_areSumsRight_57 : decode cX1_areSumsRight 57 = .ok (.getfield 31, 3) := dk_180 0 31 (dk_at dksX1_areSumsRight_2 12 rfl rfl)
theorem dX1_areSumsRight_60 : decode cX1_areSumsRight 60 = .ok (.getfield 111, 3) := dk_180 0 111 (dk_at dksX1_areSumsRight_2 15 rfl rfl)
theorem dX1_areSumsRight_63 : decode cX1_areSumsRight 63 = .ok (.iload_n 3, 1) := dk_29 (dk_at dksX1_areSumsRight_2 18 rfl rfl)
theorem dX1_areSumsRight_64 : decode cX1_areSumsRight 64 = .ok (.invokevirtual 174, 3) := dk_182 0 174 (dk_at dksX1_areSumsRight_2 19 rfl rfl)
theorem dX1_areSumsRight_67 : decode cX1_areSumsRight 67 = .ok (.checkcast 127, 3) := dk_192 0 127 (dk_at dksX1_areSumsRight_3 0 rfl rfl)
theorem dX1_areSumsRight_70 : decode cX1_areSumsRight 70 = .ok (.getfield 139, 3) := dk_180 0 139 (dk_at dksX1_areSumsRight_3 3 rfl rfl)
theorem dX1_areSumsRight_73 : decode cX1_areSumsRight 73 = .ok (.aload_n 0, 1) := dk_42 (dk_at dksX1_areSumsRight_3 6 rfl rfl)
theorem dX1_areSumsRight_74 : decode cX1_areSumsRight 74 = .ok (.getfield 31, 3) := dk_180 0 31 (dk_at dksX1_areSumsRight_3 7 rfl rfl)
theorem dX1_areSumsRight_77 : decode cX1_areSumsRight 77 = .ok (.iload_n 3, 1) := dk_29 (dk_at dksX1_areSumsRight_3 10 rfl rfl)
theorem dX1_areSumsRight_78 : decode cX1_areSumsRight 78 = .ok (.invokevirtual 142, 3) := dk_182 0 142 (dk_at dksX1_areSumsRight_3 11 rfl rfl)
theorem dX1_areSumsRight_81 : decode cX1_areSumsRight 81 = .ok (.iadd, 1) := dk_96 (dk_at dksX1_areSumsRight_3 14 rfl rfl)
theorem dX1_areSumsRight_82 : decode cX1_areSumsRight 82 = .ok (.iadd, 1) := dk_96 (dk_at dksX1_areSumsRight_3 15 rfl rfl)
theorem dX1_areSumsRight_83 : decode cX1_areSumsRight 83 = .ok (.istore_n 2, 1) := dk_61 (dk_at dksX1_areSumsRight_3 16 rfl rfl)
theorem dX1_areSumsRight_84 : decode cX1_areSumsRight 84 = .ok (.iinc 3 1, 3) := dk_132 3 1 (dk_at dksX1_areSumsRight_3 17 rfl rfl)
theorem dX1_areSumsRight_87 : decode cX1_areSumsRight 87 = .ok (.goto (-75), 3) := dk_167 255 181 (dk_at dksX1_areSumsRight_3 20 rfl rfl)
theorem dX1_areSumsRight_90 : decode cX1_areSumsRight 90 = .ok (.iload_n 1, 1) := dk_27 (dk_at dksX1_areSumsRight_3 23 rfl rfl)
theorem dX1_areSumsRight_91 : decode cX1_areSumsRight 91 = .ok (.aload_n 0, 1) := dk_42 (dk_at dksX1_areSumsRight_4 0 rfl rfl)
theorem dX1_areSumsRight_92 : decode cX1_areSumsRight 92 = .ok (.getfield 31, 3) := dk_180 0 31 (dk_at dksX1_areSumsRight_4 1 rfl rfl)
theorem dX1_areSumsRight_95 : decode cX1_areSumsRight 95 = .ok (.getfield 283, 3) := dk_180 1 27 (dk_at dksX1_areSumsRight_4 4 rfl rfl)
theorem dX1_areSumsRight_98 : decode cX1_areSumsRight 98 = .ok (.if_icmp .ne 18, 3) := dk_160 0 18 (dk_at dksX1_areSumsRight_4 7 rfl rfl)
theorem dX1_areSumsRight_101 : decode cX1_areSumsRight 101 = .ok (.iload_n 2, 1) := dk_28 (dk_at dksX1_areSumsRight_4 10 rfl rfl)
theorem dX1_areSumsRight_102 : decode cX1_areSumsRight 102 = .ok (.aload_n 0, 1) := dk_42 (dk_at dksX1_areSumsRight_4 11 rfl rfl)
theorem dX1_areSumsRight_103 : decode cX1_areSumsRight 103 = .ok (.getfield 31, 3) := dk_180 0 31 (dk_at dksX1_areSumsRight_4 12 rfl rfl)
theorem dX1_areSumsRight_106 : decode cX1_areSumsRight 106 = .ok (.getfield 286, 3) := dk_180 1 30 (dk_at dksX1_areSumsRight_4 15 rfl rfl)
theorem dX1_areSumsRight_109 : decode cX1_areSumsRight 109 = .ok (.if_icmp .ne 7, 3) := dk_160 0 7 (dk_at dksX1_areSumsRight_4 18 rfl rfl)
theorem dX1_areSumsRight_112 : decode cX1_areSumsRight 112 = .ok (.iconst 1, 1) := dk_4 (dk_at dksX1_areSumsRight_4 21 rfl rfl)
theorem dX1_areSumsRight_113 : decode cX1_areSumsRight 113 = .ok (.goto 4, 3) := dk_167 0 4 (dk_at dksX1_areSumsRight_5 0 rfl rfl)
theorem dX1_areSumsRight_116 : decode cX1_areSumsRight 116 = .ok (.iconst 0, 1) := dk_3 (dk_at dksX1_areSumsRight_5 3 rfl rfl)
theorem dX1_areSumsRight_117 : decode cX1_areSumsRight 117 = .ok (.ireturn, 1) := dk_172 (dk_at dksX1_areSumsRight_5 4 rfl rfl)
abbrev cX1_isUncrossed : ByteArray := prog_1_method_57_code
def yX1_isUncrossed : MethodName := ⟨RX1, "isUncrossed", "()Z"⟩
def dkwX1_isUncrossed_2 : List UInt8 := [182, 1, 33, 154, 0, 7, 4, 167, 0, 4, 3, 172]
abbrev dktX1_isUncrossed_2 : List UInt8 := dkwX1_isUncrossed_2 ++ []
def dkwX1_isUncrossed_1 : List UInt8 := [154, 0, 30, 44, 182, 0, 185, 154, 0, 23, 43, 182, 0, 191, 192, 0, 153, 44, 182, 0, 191, 192, 0, 153]
abbrev dktX1_isUncrossed_1 : List UInt8 := dkwX1_isUncrossed_1 ++ dktX1_isUncrossed_2
def dkwX1_isUncrossed_0 : List UInt8 := [42, 180, 0, 31, 4, 182, 0, 181, 76, 42, 180, 0, 31, 3, 182, 0, 181, 77, 43, 182, 0, 185]
abbrev dktX1_isUncrossed_0 : List UInt8 := dkwX1_isUncrossed_0 ++ dktX1_isUncrossed_1
theorem dksX1_isUncrossed_0 : cX1_isUncrossed.data.toList.drop 0 = dktX1_isUncrossed_0 := by decide +kernel
theorem dksX1_isUncrossed_1 : cX1_isUncrossed.data.toList.drop 22 = dktX1_isUncrossed_1 := dk_seg dksX1_isUncrossed_0 22 rfl rfl
theorem dksX1_isUncrossed_2 : cX1_isUncrossed.data.toList.drop 46 = dktX1_isUncrossed_2 := dk_seg dksX1_isUncrossed_1 24 rfl rfl
theorem dX1_isUncrossed_0 : decode cX1_isUncrossed 0 = .ok (.aload_n 0, 1) := dk_42 (dk_at dksX1_isUncrossed_0 0 rfl rfl)
theorem dX1_isUncrossed_1 : decode cX1_isUncrossed 1 = .ok (.getfield 31, 3) := dk_180 0 31 (dk_at dksX1_isUncrossed_0 1 rfl rfl)
theorem dX1_isUncrossed_4 : decode cX1_isUncrossed 4 = .ok (.iconst 1, 1) := dk_4 (dk_at dksX1_isUncrossed_0 4 rfl rfl)
theorem dX1_isUncrossed_5 : decode cX1_isUncrossed 5 = .ok (.invokevirtual 181, 3) := dk_182 0 181 (dk_at dksX1_isUncrossed_0 5 rfl rfl)
theorem dX1_isUncrossed_8 : decode cX1_isUncrossed 8 = .ok (.astore_n 1, 1) := dk_76 (dk_at dksX1_isUncrossed_0 8 rfl rfl)
theorem dX1_isUncrossed_9 : decode cX1_isUncrossed 9 = .ok (.aload_n 0, 1) := dk_42 (dk_at dksX1_isUncrossed_0 9 rfl rfl)
theorem dX1_isUncrossed_10 : decode cX1_isUncrossed 10 = .ok (.getfield 31, 3) := dk_180 0 31 (dk_at dksX1_isUncrossed_0 10 rfl rfl)
theorem dX1_isUncrossed_13 : decode cX1_isUncrossed 13 = .ok (.iconst 0, 1) := dk_3 (dk_at dksX1_isUncrossed_0 13 rfl rfl)
theorem dX1_isUncrossed_14 : decode cX1_isUncrossed 14 = .ok (.invokevirtual 181, 3) := dk_182 0 181 (dk_at dksX1_isUncrossed_0 14 rfl rfl)
theorem dX1_isUncrossed_17 : decode cX1_isUncrossed 17 = .ok (.astore_n 2, 1) := dk_77 (dk_at dksX1_isUncrossed_0 17 rfl rfl)
theorem dX1_isUncrossed_18 : decode cX1_isUncrossed 18 = .ok (.aload_n 1, 1) := dk_43 (dk_at dksX1_isUncrossed_0 18 rfl rfl)
theorem dX1_isUncrossed_19 : decode cX1_isUncrossed 19 = .ok (.invokevirtual 185, 3) := dk_182 0 185 (dk_at dksX1_isUncrossed_0 19 rfl rfl)
theorem dX1_isUncrossed_22 : decode cX1_isUncrossed 22 = .ok (.ifCond .ne 30, 3) := dk_154 0 30 (dk_at dksX1_isUncrossed_1 0 rfl rfl)
theorem dX1_isUncrossed_25 : decode cX1_isUncrossed 25 = .ok (.aload_n 2, 1) := dk_44 (dk_at dksX1_isUncrossed_1 3 rfl rfl)
theorem dX1_isUncrossed_26 : decode cX1_isUncrossed 26 = .ok (.invokevirtual 185, 3) := dk_182 0 185 (dk_at dksX1_isUncrossed_1 4 rfl rfl)
theorem dX1_isUncrossed_29 : decode cX1_isUncrossed 29 = .ok (.ifCond .ne 23, 3) := dk_154 0 23 (dk_at dksX1_isUncrossed_1 7 rfl rfl)
theorem dX1_isUncrossed_32 : decode cX1_isUncrossed 32 = .ok (.aload_n 1, 1) := dk_43 (dk_at dksX1_isUncrossed_1 10 rfl rfl)
theorem dX1_isUncrossed_33 : decode cX1_isUncrossed 33 = .ok (.invokevirtual 191, 3) := dk_182 0 191 (dk_at dksX1_isUncrossed_1 11 rfl rfl)
theorem dX1_isUncrossed_36 : decode cX1_isUncrossed 36 = .ok (.checkcast 153, 3) := dk_192 0 153 (dk_at dksX1_isUncrossed_1 14 rfl rfl)
theorem dX1_isUncrossed_39 : decode cX1_isUncrossed 39 = .ok (.aload_n 2, 1) := dk_44 (dk_at dksX1_isUncrossed_1 17 rfl rfl)
theorem dX1_isUncrossed_40 : decode cX1_isUncrossed 40 = .ok (.invokevirtual 191, 3) := dk_182 0 191 (dk_at dksX1_isUncrossed_1 18 rfl rfl)
theorem dX1_isUncrossed_43 : decode cX1_isUncrossed 43 = .ok (.checkcast 153, 3) := dk_192 0 153 (dk_at dksX1_isUncrossed_1 21 rfl rfl)
theorem dX1_isUncrossed_46 : decode cX1_isUncrossed 46 = .ok (.invokevirtual 289, 3) := dk_182 1 33 (dk_at dksX1_isUncrossed_2 0 rfl rfl)
theorem dX1_isUncrossed_49 : decode cX1_isUncrossed 49 = .ok (.ifCond .ne 7, 3) := dk_154 0 7 (dk_at dksX1_isUncrossed_2 3 rfl rfl)
theorem dX1_isUncrossed_52 : decode cX1_isUncrossed 52 = .ok (.iconst 1, 1) := dk_4 (dk_at dksX1_isUncrossed_2 6 rfl rfl)
theorem dX1_isUncrossed_53 : decode cX1_isUncrossed 53 = .ok (.goto 4, 3) := dk_167 0 4 (dk_at dksX1_isUncrossed_2 7 rfl rfl)
theorem dX1_isUncrossed_56 : decode cX1_isUncrossed 56 = .ok (.iconst 0, 1) := dk_3 (dk_at dksX1_isUncrossed_2 10 rfl rfl)
theorem dX1_isUncrossed_57 : decode cX1_isUncrossed 57 = .ok (.ireturn, 1) := dk_172 (dk_at dksX1_isUncrossed_2 11 rfl rfl)
abbrev cX1_writeBook : ByteArray := prog_1_method_60_code
def yX1_writeBook : MethodName := ⟨RX1, "writeBook", "()I"⟩
def dkwX1_writeBook_1 : List UInt8 := [3, 182, 1, 72, 43, 182, 1, 75, 172]
abbrev dktX1_writeBook_1 : List UInt8 := dkwX1_writeBook_1 ++ []
def dkwX1_writeBook_0 : List UInt8 := [42, 180, 0, 49, 3, 182, 1, 69, 42, 4, 182, 1, 72, 42, 180, 0, 49, 16, 124, 182, 1, 66, 76, 42]
abbrev dktX1_writeBook_0 : List UInt8 := dkwX1_writeBook_0 ++ dktX1_writeBook_1
theorem dksX1_writeBook_0 : cX1_writeBook.data.toList.drop 0 = dktX1_writeBook_0 := by decide +kernel
theorem dksX1_writeBook_1 : cX1_writeBook.data.toList.drop 24 = dktX1_writeBook_1 := dk_seg dksX1_writeBook_0 24 rfl rfl
theorem dX1_writeBook_0 : decode cX1_writeBook 0 = .ok (.aload_n 0, 1) := dk_42 (dk_at dksX1_writeBook_0 0 rfl rfl)
theorem dX1_writeBook_1 : decode cX1_writeBook 1 = .ok (.getfield 49, 3) := dk_180 0 49 (dk_at dksX1_writeBook_0 1 rfl rfl)
theorem dX1_writeBook_4 : decode cX1_writeBook 4 = .ok (.iconst 0, 1) := dk_3 (dk_at dksX1_writeBook_0 4 rfl rfl)
theorem dX1_writeBook_5 : decode cX1_writeBook 5 = .ok (.invokevirtual 325, 3) := dk_182 1 69 (dk_at dksX1_writeBook_0 5 rfl rfl)
theorem dX1_writeBook_8 : decode cX1_writeBook 8 = .ok (.aload_n 0, 1) := dk_42 (dk_at dksX1_writeBook_0 8 rfl rfl)
theorem dX1_writeBook_9 : decode cX1_writeBook 9 = .ok (.iconst 1, 1) := dk_4 (dk_at dksX1_writeBook_0 9 rfl rfl)
theorem dX1_writeBook_10 : decode cX1_writeBook 10 = .ok (.invokevirtual 328, 3) := dk_182 1 72 (dk_at dksX1_writeBook_0 10 rfl rfl)
theorem dX1_writeBook_13 : decode cX1_writeBook 13 = .ok (.aload_n 0, 1) := dk_42 (dk_at dksX1_writeBook_0 13 rfl rfl)
theorem dX1_writeBook_14 : decode cX1_writeBook 14 = .ok (.getfield 49, 3) := dk_180 0 49 (dk_at dksX1_writeBook_0 14 rfl rfl)
theorem dX1_writeBook_17 : decode cX1_writeBook 17 = .ok (.bipush 124, 2) := dk_16 124 (dk_at dksX1_writeBook_0 17 rfl rfl)
theorem dX1_writeBook_19 : decode cX1_writeBook 19 = .ok (.invokevirtual 322, 3) := dk_182 1 66 (dk_at dksX1_writeBook_0 19 rfl rfl)
theorem dX1_writeBook_22 : decode cX1_writeBook 22 = .ok (.astore_n 1, 1) := dk_76 (dk_at dksX1_writeBook_0 22 rfl rfl)
theorem dX1_writeBook_23 : decode cX1_writeBook 23 = .ok (.aload_n 0, 1) := dk_42 (dk_at dksX1_writeBook_0 23 rfl rfl)
theorem dX1_writeBook_24 : decode cX1_writeBook 24 = .ok (.iconst 0, 1) := dk_3 (dk_at dksX1_writeBook_1 0 rfl rfl)
theorem dX1_writeBook_25 : decode cX1_writeBook 25 = .ok (.invokevirtual 328, 3) := dk_182 1 72 (dk_at dksX1_writeBook_1 1 rfl rfl)
theorem dX1_writeBook_28 : decode cX1_writeBook 28 = .ok (.aload_n 1, 1) := dk_43 (dk_at dksX1_writeBook_1 4 rfl rfl)
theorem dX1_writeBook_29 : decode cX1_writeBook 29 = .ok (.invokevirtual 331, 3) := dk_182 1 75 (dk_at dksX1_writeBook_1 5 rfl rfl)
theorem dX1_writeBook_32 : decode cX1_writeBook 32 = .ok (.ireturn, 1) := dk_172 (dk_at dksX1_writeBook_1 8 rfl rfl)
abbrev cX1_writeSide : ByteArray := prog_1_method_59_code
def yX1_writeSide : MethodName := ⟨RX1, "writeSide", "(Z)V"⟩
def dkwX1_writeSide_3 : List UInt8 := [16, 64, 182, 1, 66, 25, 5, 180, 0, 160, 182, 1, 63, 77, 3, 62, 167, 255, 190, 177]
abbrev dktX1_writeSide_3 : List UInt8 := dkwX1_writeSide_3 ++ []
def dkwX1_writeSide_2 : List UInt8 := [29, 153, 0, 9, 19, 1, 55, 167, 0, 6, 19, 1, 57, 182, 1, 59, 25, 5, 180, 0, 163, 182, 1, 63]
abbrev dktX1_writeSide_2 : List UInt8 := dkwX1_writeSide_2 ++ dktX1_writeSide_3
def dkwX1_writeSide_1 : List UInt8 := [185, 1, 47, 1, 0, 153, 0, 62, 25, 4, 185, 1, 52, 1, 0, 192, 0, 153, 58, 5, 42, 180, 0, 49]
abbrev dktX1_writeSide_1 : List UInt8 := dkwX1_writeSide_1 ++ dktX1_writeSide_2
def dkwX1_writeSide_0 : List UInt8 := [42, 180, 0, 49, 77, 4, 62, 42, 180, 0, 31, 27, 182, 0, 166, 182, 1, 43, 58, 4, 25, 4]
abbrev dktX1_writeSide_0 : List UInt8 := dkwX1_writeSide_0 ++ dktX1_writeSide_1
theorem dksX1_writeSide_0 : cX1_writeSide.data.toList.drop 0 = dktX1_writeSide_0 := by decide +kernel
theorem dksX1_writeSide_1 : cX1_writeSide.data.toList.drop 22 = dktX1_writeSide_1 := dk_seg dksX1_writeSide_0 22 rfl rfl
theorem dksX1_writeSide_2 : cX1_writeSide.data.toList.drop 46 = dktX1_writeSide_2 := dk_seg dksX1_writeSide_1 24 rfl rfl
theorem dksX1_writeSide_3 : cX1_writeSide.data.toList.drop 70 = dktX1_writeSide_3 := dk_seg dksX1_writeSide_2 24 rfl rfl
theorem dX1_writeSide_0 : decode cX1_writeSide 0 = .ok (.aload_n 0, 1) := dk_42 (dk_at dksX1_writeSide_0 0 rfl rfl)
theorem dX1_writeSide_1 : decode cX1_writeSide 1 = .ok (.getfield 49, 3) := dk_180 0 49 (dk_at dksX1_writeSide_0 1 rfl rfl)
theorem dX1_writeSide_4 : decode cX1_writeSide 4 = .ok (.astore_n 2, 1) := dk_77 (dk_at dksX1_writeSide_0 4 rfl rfl)
theorem dX1_writeSide_5 : decode cX1_writeSide 5 = .ok (.iconst 1, 1) := dk_4 (dk_at dksX1_writeSide_0 5 rfl rfl)
theorem dX1_writeSide_6 : decode cX1_writeSide 6 = .ok (.istore_n 3, 1) := dk_62 (dk_at dksX1_writeSide_0 6 rfl rfl)
theorem dX1_writeSide_7 : decode cX1_writeSide 7 = .ok (.aload_n 0, 1) := dk_42 (dk_at dksX1_writeSide_0 7 rfl rfl)
theorem dX1_writeSide_8 : decode cX1_writeSide 8 = .ok (.getfield 31, 3) := dk_180 0 31 (dk_at dksX1_writeSide_0 8 rfl rfl)
theorem dX1_writeSide_11 : decode cX1_writeSide 11 = .ok (.iload_n 1, 1) := dk_27 (dk_at dksX1_writeSide_0 11 rfl rfl)
theorem dX1_writeSide_12 : decode cX1_writeSide 12 = .ok (.invokevirtual 166, 3) := dk_182 0 166 (dk_at dksX1_writeSide_0 12 rfl rfl)
theorem dX1_writeSide_15 : decode cX1_writeSide 15 = .ok (.invokevirtual 299, 3) := dk_182 1 43 (dk_at dksX1_writeSide_0 15 rfl rfl)
theorem dX1_writeSide_18 : decode cX1_writeSide 18 = .ok (.astore 4, 2) := dk_58 4 (dk_at dksX1_writeSide_0 18 rfl rfl)
theorem dX1_writeSide_20 : decode cX1_writeSide 20 = .ok (.aload 4, 2) := dk_25 4 (dk_at dksX1_writeSide_0 20 rfl rfl)
theorem dX1_writeSide_22 : decode cX1_writeSide 22 = .ok (.invokeinterface 303 1, 5) := by decide +kernel
theorem dX1_writeSide_27 : decode cX1_writeSide 27 = .ok (.ifCond .eq 62, 3) := dk_153 0 62 (dk_at dksX1_writeSide_1 5 rfl rfl)
theorem dX1_writeSide_30 : decode cX1_writeSide 30 = .ok (.aload 4, 2) := dk_25 4 (dk_at dksX1_writeSide_1 8 rfl rfl)
theorem dX1_writeSide_32 : decode cX1_writeSide 32 = .ok (.invokeinterface 308 1, 5) := by decide +kernel
theorem dX1_writeSide_37 : decode cX1_writeSide 37 = .ok (.checkcast 153, 3) := dk_192 0 153 (dk_at dksX1_writeSide_1 15 rfl rfl)
theorem dX1_writeSide_40 : decode cX1_writeSide 40 = .ok (.astore 5, 2) := dk_58 5 (dk_at dksX1_writeSide_1 18 rfl rfl)
theorem dX1_writeSide_42 : decode cX1_writeSide 42 = .ok (.aload_n 0, 1) := dk_42 (dk_at dksX1_writeSide_1 20 rfl rfl)
theorem dX1_writeSide_43 : decode cX1_writeSide 43 = .ok (.getfield 49, 3) := dk_180 0 49 (dk_at dksX1_writeSide_1 21 rfl rfl)
theorem dX1_writeSide_46 : decode cX1_writeSide 46 = .ok (.iload_n 3, 1) := dk_29 (dk_at dksX1_writeSide_2 0 rfl rfl)
theorem dX1_writeSide_47 : decode cX1_writeSide 47 = .ok (.ifCond .eq 9, 3) := dk_153 0 9 (dk_at dksX1_writeSide_2 1 rfl rfl)
theorem dX1_writeSide_50 : decode cX1_writeSide 50 = .ok (.ldc_w 311, 3) := dk_19 1 55 (dk_at dksX1_writeSide_2 4 rfl rfl)
theorem dX1_writeSide_53 : decode cX1_writeSide 53 = .ok (.goto 6, 3) := dk_167 0 6 (dk_at dksX1_writeSide_2 7 rfl rfl)
theorem dX1_writeSide_56 : decode cX1_writeSide 56 = .ok (.ldc_w 313, 3) := dk_19 1 57 (dk_at dksX1_writeSide_2 10 rfl rfl)
theorem dX1_writeSide_59 : decode cX1_writeSide 59 = .ok (.invokevirtual 315, 3) := dk_182 1 59 (dk_at dksX1_writeSide_2 13 rfl rfl)
theorem dX1_writeSide_62 : decode cX1_writeSide 62 = .ok (.aload 5, 2) := dk_25 5 (dk_at dksX1_writeSide_2 16 rfl rfl)
theorem dX1_writeSide_64 : decode cX1_writeSide 64 = .ok (.getfield 163, 3) := dk_180 0 163 (dk_at dksX1_writeSide_2 18 rfl rfl)
theorem dX1_writeSide_67 : decode cX1_writeSide 67 = .ok (.invokevirtual 319, 3) := dk_182 1 63 (dk_at dksX1_writeSide_2 21 rfl rfl)
theorem dX1_writeSide_70 : decode cX1_writeSide 70 = .ok (.bipush 64, 2) := dk_16 64 (dk_at dksX1_writeSide_3 0 rfl rfl)
theorem dX1_writeSide_72 : decode cX1_writeSide 72 = .ok (.invokevirtual 322, 3) := dk_182 1 66 (dk_at dksX1_writeSide_3 2 rfl rfl)
theorem dX1_writeSide_75 : decode cX1_writeSide 75 = .ok (.aload 5, 2) := dk_25 5 (dk_at dksX1_writeSide_3 5 rfl rfl)
theorem dX1_writeSide_77 : decode cX1_writeSide 77 = .ok (.getfield 160, 3) := dk_180 0 160 (dk_at dksX1_writeSide_3 7 rfl rfl)
theorem dX1_writeSide_80 : decode cX1_writeSide 80 = .ok (.invokevirtual 319, 3) := dk_182 1 63 (dk_at dksX1_writeSide_3 10 rfl rfl)
theorem dX1_writeSide_83 : decode cX1_writeSide 83 = .ok (.astore_n 2, 1) := dk_77 (dk_at dksX1_writeSide_3 13 rfl rfl)
theorem dX1_writeSide_84 : decode cX1_writeSide 84 = .ok (.iconst 0, 1) := dk_3 (dk_at dksX1_writeSide_3 14 rfl rfl)
theorem dX1_writeSide_85 : decode cX1_writeSide 85 = .ok (.istore_n 3, 1) := dk_62 (dk_at dksX1_writeSide_3 15 rfl rfl)
theorem dX1_writeSide_86 : decode cX1_writeSide 86 = .ok (.goto (-66), 3) := dk_167 255 190 (dk_at dksX1_writeSide_3 16 rfl rfl)
theorem dX1_writeSide_89 : decode cX1_writeSide 89 = .ok (.return_, 1) := dk_177 (dk_at dksX1_writeSide_3 19 rfl rfl)
abbrev cX1_save : ByteArray := prog_1_method_70_code
def yX1_save : MethodName := ⟨RX1, "save", "()I"⟩
def dkwX1_save_1 : List UInt8 := [182, 0, 115, 172]
abbrev dktX1_save_1 : List UInt8 := dkwX1_save_1 ++ []
def dkwX1_save_0 : List UInt8 := [42, 187, 0, 28, 89, 42, 180, 0, 31, 183, 0, 76, 181, 1, 127, 42, 180, 0, 31, 180, 0, 111]
abbrev dktX1_save_0 : List UInt8 := dkwX1_save_0 ++ dktX1_save_1
theorem dksX1_save_0 : cX1_save.data.toList.drop 0 = dktX1_save_0 := by decide +kernel
theorem dksX1_save_1 : cX1_save.data.toList.drop 22 = dktX1_save_1 := dk_seg dksX1_save_0 22 rfl rfl
theorem dX1_save_0 : decode cX1_save 0 = .ok (.aload_n 0, 1) := dk_42 (dk_at dksX1_save_0 0 rfl rfl)
theorem dX1_save_1 : decode cX1_save 1 = .ok (.new 28, 3) := dk_187 0 28 (dk_at dksX1_save_0 1 rfl rfl)
theorem dX1_save_4 : decode cX1_save 4 = .ok (.dup, 1) := dk_89 (dk_at dksX1_save_0 4 rfl rfl)
theorem dX1_save_5 : decode cX1_save 5 = .ok (.aload_n 0, 1) := dk_42 (dk_at dksX1_save_0 5 rfl rfl)
theorem dX1_save_6 : decode cX1_save 6 = .ok (.getfield 31, 3) := dk_180 0 31 (dk_at dksX1_save_0 6 rfl rfl)
theorem dX1_save_9 : decode cX1_save 9 = .ok (.invokespecial 76, 3) := dk_183 0 76 (dk_at dksX1_save_0 9 rfl rfl)
theorem dX1_save_12 : decode cX1_save 12 = .ok (.putfield 383, 3) := dk_181 1 127 (dk_at dksX1_save_0 12 rfl rfl)
theorem dX1_save_15 : decode cX1_save 15 = .ok (.aload_n 0, 1) := dk_42 (dk_at dksX1_save_0 15 rfl rfl)
theorem dX1_save_16 : decode cX1_save 16 = .ok (.getfield 31, 3) := dk_180 0 31 (dk_at dksX1_save_0 16 rfl rfl)
theorem dX1_save_19 : decode cX1_save 19 = .ok (.getfield 111, 3) := dk_180 0 111 (dk_at dksX1_save_0 19 rfl rfl)
theorem dX1_save_22 : decode cX1_save 22 = .ok (.invokevirtual 115, 3) := dk_182 0 115 (dk_at dksX1_save_1 0 rfl rfl)
theorem dX1_save_25 : decode cX1_save 25 = .ok (.ireturn, 1) := dk_172 (dk_at dksX1_save_1 3 rfl rfl)
abbrev cX1_addTrader : ByteArray := prog_1_method_10_code
def yX1_addTrader : MethodName := ⟨RX1, "addTrader", "(II)I"⟩
def dkwX1_addTrader_0 : List UInt8 := [42, 27, 28, 186, 0, 88, 0, 0, 182, 0, 91, 172]
abbrev dktX1_addTrader_0 : List UInt8 := dkwX1_addTrader_0 ++ []
theorem dksX1_addTrader_0 : cX1_addTrader.data.toList.drop 0 = dktX1_addTrader_0 := by decide +kernel
theorem dX1_addTrader_0 : decode cX1_addTrader 0 = .ok (.aload_n 0, 1) := dk_42 (dk_at dksX1_addTrader_0 0 rfl rfl)
theorem dX1_addTrader_1 : decode cX1_addTrader 1 = .ok (.iload_n 1, 1) := dk_27 (dk_at dksX1_addTrader_0 1 rfl rfl)
theorem dX1_addTrader_2 : decode cX1_addTrader 2 = .ok (.iload_n 2, 1) := dk_28 (dk_at dksX1_addTrader_0 2 rfl rfl)
theorem dX1_addTrader_3 : decode cX1_addTrader 3 = .ok (.invokedynamic 88, 5) := by decide +kernel
theorem dX1_addTrader_8 : decode cX1_addTrader 8 = .ok (.invokevirtual 91, 3) := dk_182 0 91 (dk_at dksX1_addTrader_0 8 rfl rfl)
theorem dX1_addTrader_11 : decode cX1_addTrader 11 = .ok (.ireturn, 1) := dk_172 (dk_at dksX1_addTrader_0 11 rfl rfl)
abbrev cX1_lambda_addTrader_0 : ByteArray := prog_1_method_80_code
def yX1_lambda_addTrader_0 : MethodName := ⟨RX1, "lambda$addTrader$0", "(IILWindowExchange$State;)I"⟩
def dkwX1_lambda_addTrader_0_0 : List UInt8 := [44, 26, 27, 182, 1, 156, 172]
abbrev dktX1_lambda_addTrader_0_0 : List UInt8 := dkwX1_lambda_addTrader_0_0 ++ []
theorem dksX1_lambda_addTrader_0_0 : cX1_lambda_addTrader_0.data.toList.drop 0 = dktX1_lambda_addTrader_0_0 := by decide +kernel
theorem dX1_lambda_addTrader_0_0 : decode cX1_lambda_addTrader_0 0 = .ok (.aload_n 2, 1) := dk_44 (dk_at dksX1_lambda_addTrader_0_0 0 rfl rfl)
theorem dX1_lambda_addTrader_0_1 : decode cX1_lambda_addTrader_0 1 = .ok (.iload_n 0, 1) := dk_26 (dk_at dksX1_lambda_addTrader_0_0 1 rfl rfl)
theorem dX1_lambda_addTrader_0_2 : decode cX1_lambda_addTrader_0 2 = .ok (.iload_n 1, 1) := dk_27 (dk_at dksX1_lambda_addTrader_0_0 2 rfl rfl)
theorem dX1_lambda_addTrader_0_3 : decode cX1_lambda_addTrader_0 3 = .ok (.invokevirtual 412, 3) := dk_182 1 156 (dk_at dksX1_lambda_addTrader_0_0 3 rfl rfl)
theorem dX1_lambda_addTrader_0_6 : decode cX1_lambda_addTrader_0 6 = .ok (.ireturn, 1) := dk_172 (dk_at dksX1_lambda_addTrader_0_0 6 rfl rfl)
abbrev cX1_inRange : ByteArray := prog_1_method_1_code
def yX1_inRange : MethodName := ⟨RX1, "inRange", "(III)Z"⟩
def dkwX1_inRange_0 : List UInt8 := [26, 27, 161, 0, 12, 26, 28, 163, 0, 7, 4, 167, 0, 4, 3, 172]
abbrev dktX1_inRange_0 : List UInt8 := dkwX1_inRange_0 ++ []
theorem dksX1_inRange_0 : cX1_inRange.data.toList.drop 0 = dktX1_inRange_0 := by decide +kernel
theorem dX1_inRange_0 : decode cX1_inRange 0 = .ok (.iload_n 0, 1) := dk_26 (dk_at dksX1_inRange_0 0 rfl rfl)
theorem dX1_inRange_1 : decode cX1_inRange 1 = .ok (.iload_n 1, 1) := dk_27 (dk_at dksX1_inRange_0 1 rfl rfl)
theorem dX1_inRange_2 : decode cX1_inRange 2 = .ok (.if_icmp .lt 12, 3) := dk_161 0 12 (dk_at dksX1_inRange_0 2 rfl rfl)
theorem dX1_inRange_5 : decode cX1_inRange 5 = .ok (.iload_n 0, 1) := dk_26 (dk_at dksX1_inRange_0 5 rfl rfl)
theorem dX1_inRange_6 : decode cX1_inRange 6 = .ok (.iload_n 2, 1) := dk_28 (dk_at dksX1_inRange_0 6 rfl rfl)
theorem dX1_inRange_7 : decode cX1_inRange 7 = .ok (.if_icmp .gt 7, 3) := dk_163 0 7 (dk_at dksX1_inRange_0 7 rfl rfl)
theorem dX1_inRange_10 : decode cX1_inRange 10 = .ok (.iconst 1, 1) := dk_4 (dk_at dksX1_inRange_0 10 rfl rfl)
theorem dX1_inRange_11 : decode cX1_inRange 11 = .ok (.goto 4, 3) := dk_167 0 4 (dk_at dksX1_inRange_0 11 rfl rfl)
theorem dX1_inRange_14 : decode cX1_inRange 14 = .ok (.iconst 0, 1) := dk_3 (dk_at dksX1_inRange_0 14 rfl rfl)
theorem dX1_inRange_15 : decode cX1_inRange 15 = .ok (.ireturn, 1) := dk_172 (dk_at dksX1_inRange_0 15 rfl rfl)
abbrev cX1_checkArgument : ByteArray := prog_1_method_2_code
def yX1_checkArgument : MethodName := ⟨RX1, "checkArgument", "(Z)V"⟩
def dkwX1_checkArgument_0 : List UInt8 := [26, 154, 0, 11, 187, 0, 1, 89, 183, 0, 3, 191, 177]
abbrev dktX1_checkArgument_0 : List UInt8 := dkwX1_checkArgument_0 ++ []
theorem dksX1_checkArgument_0 : cX1_checkArgument.data.toList.drop 0 = dktX1_checkArgument_0 := by decide +kernel
theorem dX1_checkArgument_0 : decode cX1_checkArgument 0 = .ok (.iload_n 0, 1) := dk_26 (dk_at dksX1_checkArgument_0 0 rfl rfl)
theorem dX1_checkArgument_1 : decode cX1_checkArgument 1 = .ok (.ifCond .ne 11, 3) := dk_154 0 11 (dk_at dksX1_checkArgument_0 1 rfl rfl)
theorem dX1_checkArgument_4 : decode cX1_checkArgument 4 = .ok (.new 1, 3) := dk_187 0 1 (dk_at dksX1_checkArgument_0 4 rfl rfl)
theorem dX1_checkArgument_7 : decode cX1_checkArgument 7 = .ok (.dup, 1) := dk_89 (dk_at dksX1_checkArgument_0 7 rfl rfl)
theorem dX1_checkArgument_8 : decode cX1_checkArgument 8 = .ok (.invokespecial 3, 3) := dk_183 0 3 (dk_at dksX1_checkArgument_0 8 rfl rfl)
theorem dX1_checkArgument_11 : decode cX1_checkArgument 11 = .ok (.athrow, 1) := dk_191 (dk_at dksX1_checkArgument_0 11 rfl rfl)
theorem dX1_checkArgument_12 : decode cX1_checkArgument 12 = .ok (.return_, 1) := dk_177 (dk_at dksX1_checkArgument_0 12 rfl rfl)
abbrev cX1_checkState : ByteArray := prog_1_method_3_code
def yX1_checkState : MethodName := ⟨RX1, "checkState", "(Z)V"⟩
def dkwX1_checkState_0 : List UInt8 := [26, 154, 0, 11, 187, 0, 7, 89, 183, 0, 9, 191, 177]
abbrev dktX1_checkState_0 : List UInt8 := dkwX1_checkState_0 ++ []
theorem dksX1_checkState_0 : cX1_checkState.data.toList.drop 0 = dktX1_checkState_0 := by decide +kernel
theorem dX1_checkState_0 : decode cX1_checkState 0 = .ok (.iload_n 0, 1) := dk_26 (dk_at dksX1_checkState_0 0 rfl rfl)
theorem dX1_checkState_1 : decode cX1_checkState 1 = .ok (.ifCond .ne 11, 3) := dk_154 0 11 (dk_at dksX1_checkState_0 1 rfl rfl)
theorem dX1_checkState_4 : decode cX1_checkState 4 = .ok (.new 7, 3) := dk_187 0 7 (dk_at dksX1_checkState_0 4 rfl rfl)
theorem dX1_checkState_7 : decode cX1_checkState 7 = .ok (.dup, 1) := dk_89 (dk_at dksX1_checkState_0 7 rfl rfl)
theorem dX1_checkState_8 : decode cX1_checkState 8 = .ok (.invokespecial 9, 3) := dk_183 0 9 (dk_at dksX1_checkState_0 8 rfl rfl)
theorem dX1_checkState_11 : decode cX1_checkState 11 = .ok (.athrow, 1) := dk_191 (dk_at dksX1_checkState_0 11 rfl rfl)
theorem dX1_checkState_12 : decode cX1_checkState 12 = .ok (.return_, 1) := dk_177 (dk_at dksX1_checkState_0 12 rfl rfl)
abbrev cX1_apply : ByteArray := prog_1_method_9_code
def yX1_apply : MethodName := ⟨RX1, "apply", "(LWindowExchange$Change;)I"⟩
def dkwX1_apply_1 : List UInt8 := [182, 0, 85, 29, 172]
abbrev dktX1_apply_1 : List UInt8 := dkwX1_apply_1 ++ []
def dkwX1_apply_0 : List UInt8 := [187, 0, 28, 89, 42, 180, 0, 31, 183, 0, 76, 77, 43, 44, 185, 0, 79, 2, 0, 62, 42, 44]
abbrev dktX1_apply_0 : List UInt8 := dkwX1_apply_0 ++ dktX1_apply_1
theorem dksX1_apply_0 : cX1_apply.data.toList.drop 0 = dktX1_apply_0 := by decide +kernel
theorem dksX1_apply_1 : cX1_apply.data.toList.drop 22 = dktX1_apply_1 := dk_seg dksX1_apply_0 22 rfl rfl
theorem dX1_apply_0 : decode cX1_apply 0 = .ok (.new 28, 3) := dk_187 0 28 (dk_at dksX1_apply_0 0 rfl rfl)
theorem dX1_apply_3 : decode cX1_apply 3 = .ok (.dup, 1) := dk_89 (dk_at dksX1_apply_0 3 rfl rfl)
theorem dX1_apply_4 : decode cX1_apply 4 = .ok (.aload_n 0, 1) := dk_42 (dk_at dksX1_apply_0 4 rfl rfl)
theorem dX1_apply_5 : decode cX1_apply 5 = .ok (.getfield 31, 3) := dk_180 0 31 (dk_at dksX1_apply_0 5 rfl rfl)
theorem dX1_apply_8 : decode cX1_apply 8 = .ok (.invokespecial 76, 3) := dk_183 0 76 (dk_at dksX1_apply_0 8 rfl rfl)
theorem dX1_apply_11 : decode cX1_apply 11 = .ok (.astore_n 2, 1) := dk_77 (dk_at dksX1_apply_0 11 rfl rfl)
theorem dX1_apply_12 : decode cX1_apply 12 = .ok (.aload_n 1, 1) := dk_43 (dk_at dksX1_apply_0 12 rfl rfl)
theorem dX1_apply_13 : decode cX1_apply 13 = .ok (.aload_n 2, 1) := dk_44 (dk_at dksX1_apply_0 13 rfl rfl)
theorem dX1_apply_14 : decode cX1_apply 14 = .ok (.invokeinterface 79 2, 5) := by decide +kernel
theorem dX1_apply_19 : decode cX1_apply 19 = .ok (.istore_n 3, 1) := dk_62 (dk_at dksX1_apply_0 19 rfl rfl)
theorem dX1_apply_20 : decode cX1_apply 20 = .ok (.aload_n 0, 1) := dk_42 (dk_at dksX1_apply_0 20 rfl rfl)
theorem dX1_apply_21 : decode cX1_apply 21 = .ok (.aload_n 2, 1) := dk_44 (dk_at dksX1_apply_0 21 rfl rfl)
theorem dX1_apply_22 : decode cX1_apply 22 = .ok (.invokevirtual 85, 3) := dk_182 0 85 (dk_at dksX1_apply_1 0 rfl rfl)
theorem dX1_apply_25 : decode cX1_apply 25 = .ok (.iload_n 3, 1) := dk_29 (dk_at dksX1_apply_1 3 rfl rfl)
theorem dX1_apply_26 : decode cX1_apply 26 = .ok (.ireturn, 1) := dk_172 (dk_at dksX1_apply_1 4 rfl rfl)
abbrev cX1_commit : ByteArray := prog_1_method_8_code
def yX1_commit : MethodName := ⟨RX1, "commit", "(LWindowExchange$State;)V"⟩
def dkwX1_commit_1 : List UInt8 := [180, 0, 38, 42, 180, 0, 31, 182, 0, 72, 42, 43, 181, 0, 31, 177]
abbrev dktX1_commit_1 : List UInt8 := dkwX1_commit_1 ++ []
def dkwX1_commit_0 : List UInt8 := [42, 180, 0, 38, 182, 0, 64, 16, 8, 160, 0, 14, 42, 180, 0, 38, 182, 0, 68, 192, 0, 28, 77, 42]
abbrev dktX1_commit_0 : List UInt8 := dkwX1_commit_0 ++ dktX1_commit_1
theorem dksX1_commit_0 : cX1_commit.data.toList.drop 0 = dktX1_commit_0 := by decide +kernel
theorem dksX1_commit_1 : cX1_commit.data.toList.drop 24 = dktX1_commit_1 := dk_seg dksX1_commit_0 24 rfl rfl
theorem dX1_commit_0 : decode cX1_commit 0 = .ok (.aload_n 0, 1) := dk_42 (dk_at dksX1_commit_0 0 rfl rfl)
theorem dX1_commit_1 : decode cX1_commit 1 = .ok (.getfield 38, 3) := dk_180 0 38 (dk_at dksX1_commit_0 1 rfl rfl)
theorem dX1_commit_4 : decode cX1_commit 4 = .ok (.invokevirtual 64, 3) := dk_182 0 64 (dk_at dksX1_commit_0 4 rfl rfl)
theorem dX1_commit_7 : decode cX1_commit 7 = .ok (.bipush 8, 2) := dk_16 8 (dk_at dksX1_commit_0 7 rfl rfl)
theorem dX1_commit_9 : decode cX1_commit 9 = .ok (.if_icmp .ne 14, 3) := dk_160 0 14 (dk_at dksX1_commit_0 9 rfl rfl)
theorem dX1_commit_12 : decode cX1_commit 12 = .ok (.aload_n 0, 1) := dk_42 (dk_at dksX1_commit_0 12 rfl rfl)
theorem dX1_commit_13 : decode cX1_commit 13 = .ok (.getfield 38, 3) := dk_180 0 38 (dk_at dksX1_commit_0 13 rfl rfl)
theorem dX1_commit_16 : decode cX1_commit 16 = .ok (.invokevirtual 68, 3) := dk_182 0 68 (dk_at dksX1_commit_0 16 rfl rfl)
theorem dX1_commit_19 : decode cX1_commit 19 = .ok (.checkcast 28, 3) := dk_192 0 28 (dk_at dksX1_commit_0 19 rfl rfl)
theorem dX1_commit_22 : decode cX1_commit 22 = .ok (.astore_n 2, 1) := dk_77 (dk_at dksX1_commit_0 22 rfl rfl)
theorem dX1_commit_23 : decode cX1_commit 23 = .ok (.aload_n 0, 1) := dk_42 (dk_at dksX1_commit_0 23 rfl rfl)
theorem dX1_commit_24 : decode cX1_commit 24 = .ok (.getfield 38, 3) := dk_180 0 38 (dk_at dksX1_commit_1 0 rfl rfl)
theorem dX1_commit_27 : decode cX1_commit 27 = .ok (.aload_n 0, 1) := dk_42 (dk_at dksX1_commit_1 3 rfl rfl)
theorem dX1_commit_28 : decode cX1_commit 28 = .ok (.getfield 31, 3) := dk_180 0 31 (dk_at dksX1_commit_1 4 rfl rfl)
theorem dX1_commit_31 : decode cX1_commit 31 = .ok (.invokevirtual 72, 3) := dk_182 0 72 (dk_at dksX1_commit_1 7 rfl rfl)
theorem dX1_commit_34 : decode cX1_commit 34 = .ok (.aload_n 0, 1) := dk_42 (dk_at dksX1_commit_1 10 rfl rfl)
theorem dX1_commit_35 : decode cX1_commit 35 = .ok (.aload_n 1, 1) := dk_43 (dk_at dksX1_commit_1 11 rfl rfl)
theorem dX1_commit_36 : decode cX1_commit 36 = .ok (.putfield 31, 3) := dk_181 0 31 (dk_at dksX1_commit_1 12 rfl rfl)
theorem dX1_commit_39 : decode cX1_commit 39 = .ok (.return_, 1) := dk_177 (dk_at dksX1_commit_1 15 rfl rfl)
abbrev cX1_placeBid : ByteArray := prog_1_method_11_code
def yX1_placeBid : MethodName := ⟨RX1, "placeBid", "(III)I"⟩
def dkwX1_placeBid_0 : List UInt8 := [42, 27, 28, 29, 186, 0, 95, 0, 0, 182, 0, 91, 172]
abbrev dktX1_placeBid_0 : List UInt8 := dkwX1_placeBid_0 ++ []
theorem dksX1_placeBid_0 : cX1_placeBid.data.toList.drop 0 = dktX1_placeBid_0 := by decide +kernel
theorem dX1_placeBid_0 : decode cX1_placeBid 0 = .ok (.aload_n 0, 1) := dk_42 (dk_at dksX1_placeBid_0 0 rfl rfl)
theorem dX1_placeBid_1 : decode cX1_placeBid 1 = .ok (.iload_n 1, 1) := dk_27 (dk_at dksX1_placeBid_0 1 rfl rfl)
theorem dX1_placeBid_2 : decode cX1_placeBid 2 = .ok (.iload_n 2, 1) := dk_28 (dk_at dksX1_placeBid_0 2 rfl rfl)
theorem dX1_placeBid_3 : decode cX1_placeBid 3 = .ok (.iload_n 3, 1) := dk_29 (dk_at dksX1_placeBid_0 3 rfl rfl)
theorem dX1_placeBid_4 : decode cX1_placeBid 4 = .ok (.invokedynamic 95, 5) := by decide +kernel
theorem dX1_placeBid_9 : decode cX1_placeBid 9 = .ok (.invokevirtual 91, 3) := dk_182 0 91 (dk_at dksX1_placeBid_0 9 rfl rfl)
theorem dX1_placeBid_12 : decode cX1_placeBid 12 = .ok (.ireturn, 1) := dk_172 (dk_at dksX1_placeBid_0 12 rfl rfl)
abbrev cX1_lambda_placeBid_1 : ByteArray := prog_1_method_79_code
def yX1_lambda_placeBid_1 : MethodName := ⟨RX1, "lambda$placeBid$1", "(IIILWindowExchange$State;)I"⟩
def dkwX1_lambda_placeBid_1_0 : List UInt8 := [45, 26, 4, 27, 28, 182, 1, 152, 172]
abbrev dktX1_lambda_placeBid_1_0 : List UInt8 := dkwX1_lambda_placeBid_1_0 ++ []
theorem dksX1_lambda_placeBid_1_0 : cX1_lambda_placeBid_1.data.toList.drop 0 = dktX1_lambda_placeBid_1_0 := by decide +kernel
theorem dX1_lambda_placeBid_1_0 : decode cX1_lambda_placeBid_1 0 = .ok (.aload_n 3, 1) := dk_45 (dk_at dksX1_lambda_placeBid_1_0 0 rfl rfl)
theorem dX1_lambda_placeBid_1_1 : decode cX1_lambda_placeBid_1 1 = .ok (.iload_n 0, 1) := dk_26 (dk_at dksX1_lambda_placeBid_1_0 1 rfl rfl)
theorem dX1_lambda_placeBid_1_2 : decode cX1_lambda_placeBid_1 2 = .ok (.iconst 1, 1) := dk_4 (dk_at dksX1_lambda_placeBid_1_0 2 rfl rfl)
theorem dX1_lambda_placeBid_1_3 : decode cX1_lambda_placeBid_1 3 = .ok (.iload_n 1, 1) := dk_27 (dk_at dksX1_lambda_placeBid_1_0 3 rfl rfl)
theorem dX1_lambda_placeBid_1_4 : decode cX1_lambda_placeBid_1 4 = .ok (.iload_n 2, 1) := dk_28 (dk_at dksX1_lambda_placeBid_1_0 4 rfl rfl)
theorem dX1_lambda_placeBid_1_5 : decode cX1_lambda_placeBid_1 5 = .ok (.invokevirtual 408, 3) := dk_182 1 152 (dk_at dksX1_lambda_placeBid_1_0 5 rfl rfl)
theorem dX1_lambda_placeBid_1_8 : decode cX1_lambda_placeBid_1 8 = .ok (.ireturn, 1) := dk_172 (dk_at dksX1_lambda_placeBid_1_0 8 rfl rfl)
abbrev cX1_checkIndex : ByteArray := prog_1_method_4_code
def yX1_checkIndex : MethodName := ⟨RX1, "checkIndex", "(II)V"⟩
def dkwX1_checkIndex_0 : List UInt8 := [26, 3, 27, 4, 100, 184, 0, 10, 154, 0, 11, 187, 0, 16, 89, 183, 0, 18, 191, 177]
abbrev dktX1_checkIndex_0 : List UInt8 := dkwX1_checkIndex_0 ++ []
theorem dksX1_checkIndex_0 : cX1_checkIndex.data.toList.drop 0 = dktX1_checkIndex_0 := by decide +kernel
theorem dX1_checkIndex_0 : decode cX1_checkIndex 0 = .ok (.iload_n 0, 1) := dk_26 (dk_at dksX1_checkIndex_0 0 rfl rfl)
theorem dX1_checkIndex_1 : decode cX1_checkIndex 1 = .ok (.iconst 0, 1) := dk_3 (dk_at dksX1_checkIndex_0 1 rfl rfl)
theorem dX1_checkIndex_2 : decode cX1_checkIndex 2 = .ok (.iload_n 1, 1) := dk_27 (dk_at dksX1_checkIndex_0 2 rfl rfl)
theorem dX1_checkIndex_3 : decode cX1_checkIndex 3 = .ok (.iconst 1, 1) := dk_4 (dk_at dksX1_checkIndex_0 3 rfl rfl)
theorem dX1_checkIndex_4 : decode cX1_checkIndex 4 = .ok (.isub, 1) := dk_100 (dk_at dksX1_checkIndex_0 4 rfl rfl)
theorem dX1_checkIndex_5 : decode cX1_checkIndex 5 = .ok (.invokestatic 10, 3) := dk_184 0 10 (dk_at dksX1_checkIndex_0 5 rfl rfl)
theorem dX1_checkIndex_8 : decode cX1_checkIndex 8 = .ok (.ifCond .ne 11, 3) := dk_154 0 11 (dk_at dksX1_checkIndex_0 8 rfl rfl)
theorem dX1_checkIndex_11 : decode cX1_checkIndex 11 = .ok (.new 16, 3) := dk_187 0 16 (dk_at dksX1_checkIndex_0 11 rfl rfl)
theorem dX1_checkIndex_14 : decode cX1_checkIndex 14 = .ok (.dup, 1) := dk_89 (dk_at dksX1_checkIndex_0 14 rfl rfl)
theorem dX1_checkIndex_15 : decode cX1_checkIndex 15 = .ok (.invokespecial 18, 3) := dk_183 0 18 (dk_at dksX1_checkIndex_0 15 rfl rfl)
theorem dX1_checkIndex_18 : decode cX1_checkIndex 18 = .ok (.athrow, 1) := dk_191 (dk_at dksX1_checkIndex_0 18 rfl rfl)
theorem dX1_checkIndex_19 : decode cX1_checkIndex 19 = .ok (.return_, 1) := dk_177 (dk_at dksX1_checkIndex_0 19 rfl rfl)
abbrev cX1_checkSupported : ByteArray := prog_1_method_6_code
def yX1_checkSupported : MethodName := ⟨RX1, "checkSupported", "(Z)V"⟩
def dkwX1_checkSupported_0 : List UInt8 := [26, 154, 0, 11, 187, 0, 22, 89, 183, 0, 24, 191, 177]
abbrev dktX1_checkSupported_0 : List UInt8 := dkwX1_checkSupported_0 ++ []
theorem dksX1_checkSupported_0 : cX1_checkSupported.data.toList.drop 0 = dktX1_checkSupported_0 := by decide +kernel
theorem dX1_checkSupported_0 : decode cX1_checkSupported 0 = .ok (.iload_n 0, 1) := dk_26 (dk_at dksX1_checkSupported_0 0 rfl rfl)
theorem dX1_checkSupported_1 : decode cX1_checkSupported 1 = .ok (.ifCond .ne 11, 3) := dk_154 0 11 (dk_at dksX1_checkSupported_0 1 rfl rfl)
theorem dX1_checkSupported_4 : decode cX1_checkSupported 4 = .ok (.new 22, 3) := dk_187 0 22 (dk_at dksX1_checkSupported_0 4 rfl rfl)
theorem dX1_checkSupported_7 : decode cX1_checkSupported 7 = .ok (.dup, 1) := dk_89 (dk_at dksX1_checkSupported_0 7 rfl rfl)
theorem dX1_checkSupported_8 : decode cX1_checkSupported 8 = .ok (.invokespecial 24, 3) := dk_183 0 24 (dk_at dksX1_checkSupported_0 8 rfl rfl)
theorem dX1_checkSupported_11 : decode cX1_checkSupported 11 = .ok (.athrow, 1) := dk_191 (dk_at dksX1_checkSupported_0 11 rfl rfl)
theorem dX1_checkSupported_12 : decode cX1_checkSupported 12 = .ok (.return_, 1) := dk_177 (dk_at dksX1_checkSupported_0 12 rfl rfl)
abbrev cX1_placeAsk : ByteArray := prog_1_method_12_code
def yX1_placeAsk : MethodName := ⟨RX1, "placeAsk", "(III)I"⟩
def dkwX1_placeAsk_0 : List UInt8 := [42, 27, 28, 29, 186, 0, 98, 0, 0, 182, 0, 91, 172]
abbrev dktX1_placeAsk_0 : List UInt8 := dkwX1_placeAsk_0 ++ []
theorem dksX1_placeAsk_0 : cX1_placeAsk.data.toList.drop 0 = dktX1_placeAsk_0 := by decide +kernel
theorem dX1_placeAsk_0 : decode cX1_placeAsk 0 = .ok (.aload_n 0, 1) := dk_42 (dk_at dksX1_placeAsk_0 0 rfl rfl)
theorem dX1_placeAsk_1 : decode cX1_placeAsk 1 = .ok (.iload_n 1, 1) := dk_27 (dk_at dksX1_placeAsk_0 1 rfl rfl)
theorem dX1_placeAsk_2 : decode cX1_placeAsk 2 = .ok (.iload_n 2, 1) := dk_28 (dk_at dksX1_placeAsk_0 2 rfl rfl)
theorem dX1_placeAsk_3 : decode cX1_placeAsk 3 = .ok (.iload_n 3, 1) := dk_29 (dk_at dksX1_placeAsk_0 3 rfl rfl)
theorem dX1_placeAsk_4 : decode cX1_placeAsk 4 = .ok (.invokedynamic 98, 5) := by decide +kernel
theorem dX1_placeAsk_9 : decode cX1_placeAsk 9 = .ok (.invokevirtual 91, 3) := dk_182 0 91 (dk_at dksX1_placeAsk_0 9 rfl rfl)
theorem dX1_placeAsk_12 : decode cX1_placeAsk 12 = .ok (.ireturn, 1) := dk_172 (dk_at dksX1_placeAsk_0 12 rfl rfl)
abbrev cX1_lambda_placeAsk_2 : ByteArray := prog_1_method_78_code
def yX1_lambda_placeAsk_2 : MethodName := ⟨RX1, "lambda$placeAsk$2", "(IIILWindowExchange$State;)I"⟩
def dkwX1_lambda_placeAsk_2_0 : List UInt8 := [45, 26, 3, 27, 28, 182, 1, 152, 172]
abbrev dktX1_lambda_placeAsk_2_0 : List UInt8 := dkwX1_lambda_placeAsk_2_0 ++ []
theorem dksX1_lambda_placeAsk_2_0 : cX1_lambda_placeAsk_2.data.toList.drop 0 = dktX1_lambda_placeAsk_2_0 := by decide +kernel
theorem dX1_lambda_placeAsk_2_0 : decode cX1_lambda_placeAsk_2 0 = .ok (.aload_n 3, 1) := dk_45 (dk_at dksX1_lambda_placeAsk_2_0 0 rfl rfl)
theorem dX1_lambda_placeAsk_2_1 : decode cX1_lambda_placeAsk_2 1 = .ok (.iload_n 0, 1) := dk_26 (dk_at dksX1_lambda_placeAsk_2_0 1 rfl rfl)
theorem dX1_lambda_placeAsk_2_2 : decode cX1_lambda_placeAsk_2 2 = .ok (.iconst 0, 1) := dk_3 (dk_at dksX1_lambda_placeAsk_2_0 2 rfl rfl)
theorem dX1_lambda_placeAsk_2_3 : decode cX1_lambda_placeAsk_2 3 = .ok (.iload_n 1, 1) := dk_27 (dk_at dksX1_lambda_placeAsk_2_0 3 rfl rfl)
theorem dX1_lambda_placeAsk_2_4 : decode cX1_lambda_placeAsk_2 4 = .ok (.iload_n 2, 1) := dk_28 (dk_at dksX1_lambda_placeAsk_2_0 4 rfl rfl)
theorem dX1_lambda_placeAsk_2_5 : decode cX1_lambda_placeAsk_2 5 = .ok (.invokevirtual 408, 3) := dk_182 1 152 (dk_at dksX1_lambda_placeAsk_2_0 5 rfl rfl)
theorem dX1_lambda_placeAsk_2_8 : decode cX1_lambda_placeAsk_2 8 = .ok (.ireturn, 1) := dk_172 (dk_at dksX1_lambda_placeAsk_2_0 8 rfl rfl)
abbrev cX1_cancelOrder : ByteArray := prog_1_method_13_code
def yX1_cancelOrder : MethodName := ⟨RX1, "cancelOrder", "(I)I"⟩
def dkwX1_cancelOrder_0 : List UInt8 := [42, 27, 186, 0, 99, 0, 0, 182, 0, 91, 172]
abbrev dktX1_cancelOrder_0 : List UInt8 := dkwX1_cancelOrder_0 ++ []
theorem dksX1_cancelOrder_0 : cX1_cancelOrder.data.toList.drop 0 = dktX1_cancelOrder_0 := by decide +kernel
theorem dX1_cancelOrder_0 : decode cX1_cancelOrder 0 = .ok (.aload_n 0, 1) := dk_42 (dk_at dksX1_cancelOrder_0 0 rfl rfl)
theorem dX1_cancelOrder_1 : decode cX1_cancelOrder 1 = .ok (.iload_n 1, 1) := dk_27 (dk_at dksX1_cancelOrder_0 1 rfl rfl)
theorem dX1_cancelOrder_2 : decode cX1_cancelOrder 2 = .ok (.invokedynamic 99, 5) := by decide +kernel
theorem dX1_cancelOrder_7 : decode cX1_cancelOrder 7 = .ok (.invokevirtual 91, 3) := dk_182 0 91 (dk_at dksX1_cancelOrder_0 7 rfl rfl)
theorem dX1_cancelOrder_10 : decode cX1_cancelOrder 10 = .ok (.ireturn, 1) := dk_172 (dk_at dksX1_cancelOrder_0 10 rfl rfl)
abbrev cX1_lambda_cancelOrder_3 : ByteArray := prog_1_method_77_code
def yX1_lambda_cancelOrder_3 : MethodName := ⟨RX1, "lambda$cancelOrder$3", "(ILWindowExchange$State;)I"⟩
def dkwX1_lambda_cancelOrder_3_0 : List UInt8 := [43, 26, 182, 1, 149, 172]
abbrev dktX1_lambda_cancelOrder_3_0 : List UInt8 := dkwX1_lambda_cancelOrder_3_0 ++ []
theorem dksX1_lambda_cancelOrder_3_0 : cX1_lambda_cancelOrder_3.data.toList.drop 0 = dktX1_lambda_cancelOrder_3_0 := by decide +kernel
theorem dX1_lambda_cancelOrder_3_0 : decode cX1_lambda_cancelOrder_3 0 = .ok (.aload_n 1, 1) := dk_43 (dk_at dksX1_lambda_cancelOrder_3_0 0 rfl rfl)
theorem dX1_lambda_cancelOrder_3_1 : decode cX1_lambda_cancelOrder_3 1 = .ok (.iload_n 0, 1) := dk_26 (dk_at dksX1_lambda_cancelOrder_3_0 1 rfl rfl)
theorem dX1_lambda_cancelOrder_3_2 : decode cX1_lambda_cancelOrder_3 2 = .ok (.invokevirtual 405, 3) := dk_182 1 149 (dk_at dksX1_lambda_cancelOrder_3_0 2 rfl rfl)
theorem dX1_lambda_cancelOrder_3_5 : decode cX1_lambda_cancelOrder_3 5 = .ok (.ireturn, 1) := dk_172 (dk_at dksX1_lambda_cancelOrder_3_0 5 rfl rfl)
abbrev cX1_checkElement : ByteArray := prog_1_method_5_code
def yX1_checkElement : MethodName := ⟨RX1, "checkElement", "(Z)V"⟩
def dkwX1_checkElement_0 : List UInt8 := [26, 154, 0, 11, 187, 0, 19, 89, 183, 0, 21, 191, 177]
abbrev dktX1_checkElement_0 : List UInt8 := dkwX1_checkElement_0 ++ []
theorem dksX1_checkElement_0 : cX1_checkElement.data.toList.drop 0 = dktX1_checkElement_0 := by decide +kernel
theorem dX1_checkElement_0 : decode cX1_checkElement 0 = .ok (.iload_n 0, 1) := dk_26 (dk_at dksX1_checkElement_0 0 rfl rfl)
theorem dX1_checkElement_1 : decode cX1_checkElement 1 = .ok (.ifCond .ne 11, 3) := dk_154 0 11 (dk_at dksX1_checkElement_0 1 rfl rfl)
theorem dX1_checkElement_4 : decode cX1_checkElement 4 = .ok (.new 19, 3) := dk_187 0 19 (dk_at dksX1_checkElement_0 4 rfl rfl)
theorem dX1_checkElement_7 : decode cX1_checkElement 7 = .ok (.dup, 1) := dk_89 (dk_at dksX1_checkElement_0 7 rfl rfl)
theorem dX1_checkElement_8 : decode cX1_checkElement 8 = .ok (.invokespecial 21, 3) := dk_183 0 21 (dk_at dksX1_checkElement_0 8 rfl rfl)
theorem dX1_checkElement_11 : decode cX1_checkElement 11 = .ok (.athrow, 1) := dk_191 (dk_at dksX1_checkElement_0 11 rfl rfl)
theorem dX1_checkElement_12 : decode cX1_checkElement 12 = .ok (.return_, 1) := dk_177 (dk_at dksX1_checkElement_0 12 rfl rfl)
abbrev cX1_agree : ByteArray := prog_1_method_14_code
def yX1_agree : MethodName := ⟨RX1, "agree", "(IIIII)I"⟩
def dkwX1_agree_0 : List UInt8 := [42, 27, 28, 29, 21, 4, 21, 5, 186, 0, 102, 0, 0, 182, 0, 91, 172]
abbrev dktX1_agree_0 : List UInt8 := dkwX1_agree_0 ++ []
theorem dksX1_agree_0 : cX1_agree.data.toList.drop 0 = dktX1_agree_0 := by decide +kernel
theorem dX1_agree_0 : decode cX1_agree 0 = .ok (.aload_n 0, 1) := dk_42 (dk_at dksX1_agree_0 0 rfl rfl)
theorem dX1_agree_1 : decode cX1_agree 1 = .ok (.iload_n 1, 1) := dk_27 (dk_at dksX1_agree_0 1 rfl rfl)
theorem dX1_agree_2 : decode cX1_agree 2 = .ok (.iload_n 2, 1) := dk_28 (dk_at dksX1_agree_0 2 rfl rfl)
theorem dX1_agree_3 : decode cX1_agree 3 = .ok (.iload_n 3, 1) := dk_29 (dk_at dksX1_agree_0 3 rfl rfl)
theorem dX1_agree_4 : decode cX1_agree 4 = .ok (.iload 4, 2) := dk_21 4 (dk_at dksX1_agree_0 4 rfl rfl)
theorem dX1_agree_6 : decode cX1_agree 6 = .ok (.iload 5, 2) := dk_21 5 (dk_at dksX1_agree_0 6 rfl rfl)
theorem dX1_agree_8 : decode cX1_agree 8 = .ok (.invokedynamic 102, 5) := by decide +kernel
theorem dX1_agree_13 : decode cX1_agree 13 = .ok (.invokevirtual 91, 3) := dk_182 0 91 (dk_at dksX1_agree_0 13 rfl rfl)
theorem dX1_agree_16 : decode cX1_agree 16 = .ok (.ireturn, 1) := dk_172 (dk_at dksX1_agree_0 16 rfl rfl)
abbrev cX1_lambda_agree_4 : ByteArray := prog_1_method_76_code
def yX1_lambda_agree_4 : MethodName := ⟨RX1, "lambda$agree$4", "(IIIIILWindowExchange$State;)I"⟩
def dkwX1_lambda_agree_4_0 : List UInt8 := [25, 5, 26, 27, 28, 29, 21, 4, 182, 1, 145, 172]
abbrev dktX1_lambda_agree_4_0 : List UInt8 := dkwX1_lambda_agree_4_0 ++ []
theorem dksX1_lambda_agree_4_0 : cX1_lambda_agree_4.data.toList.drop 0 = dktX1_lambda_agree_4_0 := by decide +kernel
theorem dX1_lambda_agree_4_0 : decode cX1_lambda_agree_4 0 = .ok (.aload 5, 2) := dk_25 5 (dk_at dksX1_lambda_agree_4_0 0 rfl rfl)
theorem dX1_lambda_agree_4_2 : decode cX1_lambda_agree_4 2 = .ok (.iload_n 0, 1) := dk_26 (dk_at dksX1_lambda_agree_4_0 2 rfl rfl)
theorem dX1_lambda_agree_4_3 : decode cX1_lambda_agree_4 3 = .ok (.iload_n 1, 1) := dk_27 (dk_at dksX1_lambda_agree_4_0 3 rfl rfl)
theorem dX1_lambda_agree_4_4 : decode cX1_lambda_agree_4 4 = .ok (.iload_n 2, 1) := dk_28 (dk_at dksX1_lambda_agree_4_0 4 rfl rfl)
theorem dX1_lambda_agree_4_5 : decode cX1_lambda_agree_4 5 = .ok (.iload_n 3, 1) := dk_29 (dk_at dksX1_lambda_agree_4_0 5 rfl rfl)
theorem dX1_lambda_agree_4_6 : decode cX1_lambda_agree_4 6 = .ok (.iload 4, 2) := dk_21 4 (dk_at dksX1_lambda_agree_4_0 6 rfl rfl)
theorem dX1_lambda_agree_4_8 : decode cX1_lambda_agree_4 8 = .ok (.invokevirtual 401, 3) := dk_182 1 145 (dk_at dksX1_lambda_agree_4_0 8 rfl rfl)
theorem dX1_lambda_agree_4_11 : decode cX1_lambda_agree_4 11 = .ok (.ireturn, 1) := dk_172 (dk_at dksX1_lambda_agree_4_0 11 rfl rfl)
abbrev cX1_advance : ByteArray := prog_1_method_15_code
def yX1_advance : MethodName := ⟨RX1, "advance", "(I)I"⟩
def dkwX1_advance_0 : List UInt8 := [42, 27, 186, 0, 105, 0, 0, 182, 0, 91, 172]
abbrev dktX1_advance_0 : List UInt8 := dkwX1_advance_0 ++ []
theorem dksX1_advance_0 : cX1_advance.data.toList.drop 0 = dktX1_advance_0 := by decide +kernel
theorem dX1_advance_0 : decode cX1_advance 0 = .ok (.aload_n 0, 1) := dk_42 (dk_at dksX1_advance_0 0 rfl rfl)
theorem dX1_advance_1 : decode cX1_advance 1 = .ok (.iload_n 1, 1) := dk_27 (dk_at dksX1_advance_0 1 rfl rfl)
theorem dX1_advance_2 : decode cX1_advance 2 = .ok (.invokedynamic 105, 5) := by decide +kernel
theorem dX1_advance_7 : decode cX1_advance 7 = .ok (.invokevirtual 91, 3) := dk_182 0 91 (dk_at dksX1_advance_0 7 rfl rfl)
theorem dX1_advance_10 : decode cX1_advance 10 = .ok (.ireturn, 1) := dk_172 (dk_at dksX1_advance_0 10 rfl rfl)
abbrev cX1_lambda_advance_5 : ByteArray := prog_1_method_75_code
def yX1_lambda_advance_5 : MethodName := ⟨RX1, "lambda$advance$5", "(ILWindowExchange$State;)I"⟩
def dkwX1_lambda_advance_5_0 : List UInt8 := [43, 26, 182, 1, 142, 172]
abbrev dktX1_lambda_advance_5_0 : List UInt8 := dkwX1_lambda_advance_5_0 ++ []
theorem dksX1_lambda_advance_5_0 : cX1_lambda_advance_5.data.toList.drop 0 = dktX1_lambda_advance_5_0 := by decide +kernel
theorem dX1_lambda_advance_5_0 : decode cX1_lambda_advance_5 0 = .ok (.aload_n 1, 1) := dk_43 (dk_at dksX1_lambda_advance_5_0 0 rfl rfl)
theorem dX1_lambda_advance_5_1 : decode cX1_lambda_advance_5 1 = .ok (.iload_n 0, 1) := dk_26 (dk_at dksX1_lambda_advance_5_0 1 rfl rfl)
theorem dX1_lambda_advance_5_2 : decode cX1_lambda_advance_5 2 = .ok (.invokevirtual 398, 3) := dk_182 1 142 (dk_at dksX1_lambda_advance_5_0 2 rfl rfl)
theorem dX1_lambda_advance_5_5 : decode cX1_lambda_advance_5 5 = .ok (.ireturn, 1) := dk_172 (dk_at dksX1_lambda_advance_5_0 5 rfl rfl)
abbrev cX1_openAuction : ByteArray := prog_1_method_16_code
def yX1_openAuction : MethodName := ⟨RX1, "openAuction", "(II)I"⟩
def dkwX1_openAuction_0 : List UInt8 := [42, 27, 28, 186, 0, 106, 0, 0, 182, 0, 91, 172]
abbrev dktX1_openAuction_0 : List UInt8 := dkwX1_openAuction_0 ++ []
theorem dksX1_openAuction_0 : cX1_openAuction.data.toList.drop 0 = dktX1_openAuction_0 := by decide +kernel
theorem dX1_openAuction_0 : decode cX1_openAuction 0 = .ok (.aload_n 0, 1) := dk_42 (dk_at dksX1_openAuction_0 0 rfl rfl)
theorem dX1_openAuction_1 : decode cX1_openAuction 1 = .ok (.iload_n 1, 1) := dk_27 (dk_at dksX1_openAuction_0 1 rfl rfl)
theorem dX1_openAuction_2 : decode cX1_openAuction 2 = .ok (.iload_n 2, 1) := dk_28 (dk_at dksX1_openAuction_0 2 rfl rfl)
theorem dX1_openAuction_3 : decode cX1_openAuction 3 = .ok (.invokedynamic 106, 5) := by decide +kernel
theorem dX1_openAuction_8 : decode cX1_openAuction 8 = .ok (.invokevirtual 91, 3) := dk_182 0 91 (dk_at dksX1_openAuction_0 8 rfl rfl)
theorem dX1_openAuction_11 : decode cX1_openAuction 11 = .ok (.ireturn, 1) := dk_172 (dk_at dksX1_openAuction_0 11 rfl rfl)
abbrev cX1_lambda_openAuction_6 : ByteArray := prog_1_method_74_code
def yX1_lambda_openAuction_6 : MethodName := ⟨RX1, "lambda$openAuction$6", "(IILWindowExchange$State;)I"⟩
def dkwX1_lambda_openAuction_6_0 : List UInt8 := [44, 26, 27, 182, 1, 139, 172]
abbrev dktX1_lambda_openAuction_6_0 : List UInt8 := dkwX1_lambda_openAuction_6_0 ++ []
theorem dksX1_lambda_openAuction_6_0 : cX1_lambda_openAuction_6.data.toList.drop 0 = dktX1_lambda_openAuction_6_0 := by decide +kernel
theorem dX1_lambda_openAuction_6_0 : decode cX1_lambda_openAuction_6 0 = .ok (.aload_n 2, 1) := dk_44 (dk_at dksX1_lambda_openAuction_6_0 0 rfl rfl)
theorem dX1_lambda_openAuction_6_1 : decode cX1_lambda_openAuction_6 1 = .ok (.iload_n 0, 1) := dk_26 (dk_at dksX1_lambda_openAuction_6_0 1 rfl rfl)
theorem dX1_lambda_openAuction_6_2 : decode cX1_lambda_openAuction_6 2 = .ok (.iload_n 1, 1) := dk_27 (dk_at dksX1_lambda_openAuction_6_0 2 rfl rfl)
theorem dX1_lambda_openAuction_6_3 : decode cX1_lambda_openAuction_6 3 = .ok (.invokevirtual 395, 3) := dk_182 1 139 (dk_at dksX1_lambda_openAuction_6_0 3 rfl rfl)
theorem dX1_lambda_openAuction_6_6 : decode cX1_lambda_openAuction_6 6 = .ok (.ireturn, 1) := dk_172 (dk_at dksX1_lambda_openAuction_6_0 6 rfl rfl)
abbrev cX1_sealBid : ByteArray := prog_1_method_17_code
def yX1_sealBid : MethodName := ⟨RX1, "sealBid", "(II)I"⟩
def dkwX1_sealBid_0 : List UInt8 := [42, 27, 28, 186, 0, 107, 0, 0, 182, 0, 91, 172]
abbrev dktX1_sealBid_0 : List UInt8 := dkwX1_sealBid_0 ++ []
theorem dksX1_sealBid_0 : cX1_sealBid.data.toList.drop 0 = dktX1_sealBid_0 := by decide +kernel
theorem dX1_sealBid_0 : decode cX1_sealBid 0 = .ok (.aload_n 0, 1) := dk_42 (dk_at dksX1_sealBid_0 0 rfl rfl)
theorem dX1_sealBid_1 : decode cX1_sealBid 1 = .ok (.iload_n 1, 1) := dk_27 (dk_at dksX1_sealBid_0 1 rfl rfl)
theorem dX1_sealBid_2 : decode cX1_sealBid 2 = .ok (.iload_n 2, 1) := dk_28 (dk_at dksX1_sealBid_0 2 rfl rfl)
theorem dX1_sealBid_3 : decode cX1_sealBid 3 = .ok (.invokedynamic 107, 5) := by decide +kernel
theorem dX1_sealBid_8 : decode cX1_sealBid 8 = .ok (.invokevirtual 91, 3) := dk_182 0 91 (dk_at dksX1_sealBid_0 8 rfl rfl)
theorem dX1_sealBid_11 : decode cX1_sealBid 11 = .ok (.ireturn, 1) := dk_172 (dk_at dksX1_sealBid_0 11 rfl rfl)
abbrev cX1_lambda_sealBid_7 : ByteArray := prog_1_method_73_code
def yX1_lambda_sealBid_7 : MethodName := ⟨RX1, "lambda$sealBid$7", "(IILWindowExchange$State;)I"⟩
def dkwX1_lambda_sealBid_7_0 : List UInt8 := [44, 26, 27, 182, 1, 136, 172]
abbrev dktX1_lambda_sealBid_7_0 : List UInt8 := dkwX1_lambda_sealBid_7_0 ++ []
theorem dksX1_lambda_sealBid_7_0 : cX1_lambda_sealBid_7.data.toList.drop 0 = dktX1_lambda_sealBid_7_0 := by decide +kernel
theorem dX1_lambda_sealBid_7_0 : decode cX1_lambda_sealBid_7 0 = .ok (.aload_n 2, 1) := dk_44 (dk_at dksX1_lambda_sealBid_7_0 0 rfl rfl)
theorem dX1_lambda_sealBid_7_1 : decode cX1_lambda_sealBid_7 1 = .ok (.iload_n 0, 1) := dk_26 (dk_at dksX1_lambda_sealBid_7_0 1 rfl rfl)
theorem dX1_lambda_sealBid_7_2 : decode cX1_lambda_sealBid_7 2 = .ok (.iload_n 1, 1) := dk_27 (dk_at dksX1_lambda_sealBid_7_0 2 rfl rfl)
theorem dX1_lambda_sealBid_7_3 : decode cX1_lambda_sealBid_7 3 = .ok (.invokevirtual 392, 3) := dk_182 1 136 (dk_at dksX1_lambda_sealBid_7_0 3 rfl rfl)
theorem dX1_lambda_sealBid_7_6 : decode cX1_lambda_sealBid_7 6 = .ok (.ireturn, 1) := dk_172 (dk_at dksX1_lambda_sealBid_7_0 6 rfl rfl)
abbrev cX1_closeAuction : ByteArray := prog_1_method_18_code
def yX1_closeAuction : MethodName := ⟨RX1, "closeAuction", "()I"⟩
def dkwX1_closeAuction_0 : List UInt8 := [42, 186, 0, 108, 0, 0, 182, 0, 91, 172]
abbrev dktX1_closeAuction_0 : List UInt8 := dkwX1_closeAuction_0 ++ []
theorem dksX1_closeAuction_0 : cX1_closeAuction.data.toList.drop 0 = dktX1_closeAuction_0 := by decide +kernel
theorem dX1_closeAuction_0 : decode cX1_closeAuction 0 = .ok (.aload_n 0, 1) := dk_42 (dk_at dksX1_closeAuction_0 0 rfl rfl)
theorem dX1_closeAuction_1 : decode cX1_closeAuction 1 = .ok (.invokedynamic 108, 5) := by decide +kernel
theorem dX1_closeAuction_6 : decode cX1_closeAuction 6 = .ok (.invokevirtual 91, 3) := dk_182 0 91 (dk_at dksX1_closeAuction_0 6 rfl rfl)
theorem dX1_closeAuction_9 : decode cX1_closeAuction 9 = .ok (.ireturn, 1) := dk_172 (dk_at dksX1_closeAuction_0 9 rfl rfl)
abbrev cX1_lambda_closeAuction_8 : ByteArray := prog_1_method_72_code
def yX1_lambda_closeAuction_8 : MethodName := ⟨RX1, "lambda$closeAuction$8", "(LWindowExchange$State;)I"⟩
theorem dX1_lambda_closeAuction_8_0 : decode cX1_lambda_closeAuction_8 0 = .ok (.aload_n 0, 1) := by decide +kernel
theorem dX1_lambda_closeAuction_8_1 : decode cX1_lambda_closeAuction_8 1 = .ok (.invokevirtual 389, 3) := by decide +kernel
theorem dX1_lambda_closeAuction_8_4 : decode cX1_lambda_closeAuction_8 4 = .ok (.ireturn, 1) := by decide +kernel
abbrev cX1_cash : ByteArray := prog_1_method_21_code
def yX1_cash : MethodName := ⟨RX1, "cash", "(I)I"⟩
def dkwX1_cash_0 : List UInt8 := [42, 180, 0, 31, 27, 182, 0, 122, 180, 0, 126, 172]
abbrev dktX1_cash_0 : List UInt8 := dkwX1_cash_0 ++ []
theorem dksX1_cash_0 : cX1_cash.data.toList.drop 0 = dktX1_cash_0 := by decide +kernel
theorem dX1_cash_0 : decode cX1_cash 0 = .ok (.aload_n 0, 1) := dk_42 (dk_at dksX1_cash_0 0 rfl rfl)
theorem dX1_cash_1 : decode cX1_cash 1 = .ok (.getfield 31, 3) := dk_180 0 31 (dk_at dksX1_cash_0 1 rfl rfl)
theorem dX1_cash_4 : decode cX1_cash 4 = .ok (.iload_n 1, 1) := dk_27 (dk_at dksX1_cash_0 4 rfl rfl)
theorem dX1_cash_5 : decode cX1_cash 5 = .ok (.invokevirtual 122, 3) := dk_182 0 122 (dk_at dksX1_cash_0 5 rfl rfl)
theorem dX1_cash_8 : decode cX1_cash 8 = .ok (.getfield 126, 3) := dk_180 0 126 (dk_at dksX1_cash_0 8 rfl rfl)
theorem dX1_cash_11 : decode cX1_cash 11 = .ok (.ireturn, 1) := dk_172 (dk_at dksX1_cash_0 11 rfl rfl)
abbrev cX1_reservedCash : ByteArray := prog_1_method_22_code
def yX1_reservedCash : MethodName := ⟨RX1, "reservedCash", "(I)I"⟩
def dkwX1_reservedCash_0 : List UInt8 := [42, 27, 182, 0, 131, 42, 180, 0, 31, 27, 182, 0, 135, 172]
abbrev dktX1_reservedCash_0 : List UInt8 := dkwX1_reservedCash_0 ++ []
theorem dksX1_reservedCash_0 : cX1_reservedCash.data.toList.drop 0 = dktX1_reservedCash_0 := by decide +kernel
theorem dX1_reservedCash_0 : decode cX1_reservedCash 0 = .ok (.aload_n 0, 1) := dk_42 (dk_at dksX1_reservedCash_0 0 rfl rfl)
theorem dX1_reservedCash_1 : decode cX1_reservedCash 1 = .ok (.iload_n 1, 1) := dk_27 (dk_at dksX1_reservedCash_0 1 rfl rfl)
theorem dX1_reservedCash_2 : decode cX1_reservedCash 2 = .ok (.invokevirtual 131, 3) := dk_182 0 131 (dk_at dksX1_reservedCash_0 2 rfl rfl)
theorem dX1_reservedCash_5 : decode cX1_reservedCash 5 = .ok (.aload_n 0, 1) := dk_42 (dk_at dksX1_reservedCash_0 5 rfl rfl)
theorem dX1_reservedCash_6 : decode cX1_reservedCash 6 = .ok (.getfield 31, 3) := dk_180 0 31 (dk_at dksX1_reservedCash_0 6 rfl rfl)
theorem dX1_reservedCash_9 : decode cX1_reservedCash 9 = .ok (.iload_n 1, 1) := dk_27 (dk_at dksX1_reservedCash_0 9 rfl rfl)
theorem dX1_reservedCash_10 : decode cX1_reservedCash 10 = .ok (.invokevirtual 135, 3) := dk_182 0 135 (dk_at dksX1_reservedCash_0 10 rfl rfl)
theorem dX1_reservedCash_13 : decode cX1_reservedCash 13 = .ok (.ireturn, 1) := dk_172 (dk_at dksX1_reservedCash_0 13 rfl rfl)
abbrev cX1_checkTrader : ByteArray := prog_1_method_20_code
def yX1_checkTrader : MethodName := ⟨RX1, "checkTrader", "(I)V"⟩
def dkwX1_checkTrader_0 : List UInt8 := [27, 42, 180, 0, 31, 180, 0, 111, 182, 0, 115, 184, 0, 118, 177]
abbrev dktX1_checkTrader_0 : List UInt8 := dkwX1_checkTrader_0 ++ []
theorem dksX1_checkTrader_0 : cX1_checkTrader.data.toList.drop 0 = dktX1_checkTrader_0 := by decide +kernel
theorem dX1_checkTrader_0 : decode cX1_checkTrader 0 = .ok (.iload_n 1, 1) := dk_27 (dk_at dksX1_checkTrader_0 0 rfl rfl)
theorem dX1_checkTrader_1 : decode cX1_checkTrader 1 = .ok (.aload_n 0, 1) := dk_42 (dk_at dksX1_checkTrader_0 1 rfl rfl)
theorem dX1_checkTrader_2 : decode cX1_checkTrader 2 = .ok (.getfield 31, 3) := dk_180 0 31 (dk_at dksX1_checkTrader_0 2 rfl rfl)
theorem dX1_checkTrader_5 : decode cX1_checkTrader 5 = .ok (.getfield 111, 3) := dk_180 0 111 (dk_at dksX1_checkTrader_0 5 rfl rfl)
theorem dX1_checkTrader_8 : decode cX1_checkTrader 8 = .ok (.invokevirtual 115, 3) := dk_182 0 115 (dk_at dksX1_checkTrader_0 8 rfl rfl)
theorem dX1_checkTrader_11 : decode cX1_checkTrader 11 = .ok (.invokestatic 118, 3) := dk_184 0 118 (dk_at dksX1_checkTrader_0 11 rfl rfl)
theorem dX1_checkTrader_14 : decode cX1_checkTrader 14 = .ok (.return_, 1) := dk_177 (dk_at dksX1_checkTrader_0 14 rfl rfl)
abbrev cX1_windows : ByteArray := prog_1_method_23_code
def yX1_windows : MethodName := ⟨RX1, "windows", "(I)I"⟩
def dkwX1_windows_0 : List UInt8 := [42, 180, 0, 31, 27, 182, 0, 122, 180, 0, 139, 172]
abbrev dktX1_windows_0 : List UInt8 := dkwX1_windows_0 ++ []
theorem dksX1_windows_0 : cX1_windows.data.toList.drop 0 = dktX1_windows_0 := by decide +kernel
theorem dX1_windows_0 : decode cX1_windows 0 = .ok (.aload_n 0, 1) := dk_42 (dk_at dksX1_windows_0 0 rfl rfl)
theorem dX1_windows_1 : decode cX1_windows 1 = .ok (.getfield 31, 3) := dk_180 0 31 (dk_at dksX1_windows_0 1 rfl rfl)
theorem dX1_windows_4 : decode cX1_windows 4 = .ok (.iload_n 1, 1) := dk_27 (dk_at dksX1_windows_0 4 rfl rfl)
theorem dX1_windows_5 : decode cX1_windows 5 = .ok (.invokevirtual 122, 3) := dk_182 0 122 (dk_at dksX1_windows_0 5 rfl rfl)
theorem dX1_windows_8 : decode cX1_windows 8 = .ok (.getfield 139, 3) := dk_180 0 139 (dk_at dksX1_windows_0 8 rfl rfl)
theorem dX1_windows_11 : decode cX1_windows 11 = .ok (.ireturn, 1) := dk_172 (dk_at dksX1_windows_0 11 rfl rfl)
abbrev cX1_reservedWindows : ByteArray := prog_1_method_24_code
def yX1_reservedWindows : MethodName := ⟨RX1, "reservedWindows", "(I)I"⟩
def dkwX1_reservedWindows_0 : List UInt8 := [42, 27, 182, 0, 131, 42, 180, 0, 31, 27, 182, 0, 142, 172]
abbrev dktX1_reservedWindows_0 : List UInt8 := dkwX1_reservedWindows_0 ++ []
theorem dksX1_reservedWindows_0 : cX1_reservedWindows.data.toList.drop 0 = dktX1_reservedWindows_0 := by decide +kernel
theorem dX1_reservedWindows_0 : decode cX1_reservedWindows 0 = .ok (.aload_n 0, 1) := dk_42 (dk_at dksX1_reservedWindows_0 0 rfl rfl)
theorem dX1_reservedWindows_1 : decode cX1_reservedWindows 1 = .ok (.iload_n 1, 1) := dk_27 (dk_at dksX1_reservedWindows_0 1 rfl rfl)
theorem dX1_reservedWindows_2 : decode cX1_reservedWindows 2 = .ok (.invokevirtual 131, 3) := dk_182 0 131 (dk_at dksX1_reservedWindows_0 2 rfl rfl)
theorem dX1_reservedWindows_5 : decode cX1_reservedWindows 5 = .ok (.aload_n 0, 1) := dk_42 (dk_at dksX1_reservedWindows_0 5 rfl rfl)
theorem dX1_reservedWindows_6 : decode cX1_reservedWindows 6 = .ok (.getfield 31, 3) := dk_180 0 31 (dk_at dksX1_reservedWindows_0 6 rfl rfl)
theorem dX1_reservedWindows_9 : decode cX1_reservedWindows 9 = .ok (.iload_n 1, 1) := dk_27 (dk_at dksX1_reservedWindows_0 9 rfl rfl)
theorem dX1_reservedWindows_10 : decode cX1_reservedWindows 10 = .ok (.invokevirtual 142, 3) := dk_182 0 142 (dk_at dksX1_reservedWindows_0 10 rfl rfl)
theorem dX1_reservedWindows_13 : decode cX1_reservedWindows 13 = .ok (.ireturn, 1) := dk_172 (dk_at dksX1_reservedWindows_0 13 rfl rfl)
abbrev cX1_traderOf : ByteArray := prog_1_method_26_code
def yX1_traderOf : MethodName := ⟨RX1, "traderOf", "(I)I"⟩
def dkwX1_traderOf_0 : List UInt8 := [42, 180, 0, 31, 27, 182, 0, 148, 180, 0, 152, 172]
abbrev dktX1_traderOf_0 : List UInt8 := dkwX1_traderOf_0 ++ []
theorem dksX1_traderOf_0 : cX1_traderOf.data.toList.drop 0 = dktX1_traderOf_0 := by decide +kernel
theorem dX1_traderOf_0 : decode cX1_traderOf 0 = .ok (.aload_n 0, 1) := dk_42 (dk_at dksX1_traderOf_0 0 rfl rfl)
theorem dX1_traderOf_1 : decode cX1_traderOf 1 = .ok (.getfield 31, 3) := dk_180 0 31 (dk_at dksX1_traderOf_0 1 rfl rfl)
theorem dX1_traderOf_4 : decode cX1_traderOf 4 = .ok (.iload_n 1, 1) := dk_27 (dk_at dksX1_traderOf_0 4 rfl rfl)
theorem dX1_traderOf_5 : decode cX1_traderOf 5 = .ok (.invokevirtual 148, 3) := dk_182 0 148 (dk_at dksX1_traderOf_0 5 rfl rfl)
theorem dX1_traderOf_8 : decode cX1_traderOf 8 = .ok (.getfield 152, 3) := dk_180 0 152 (dk_at dksX1_traderOf_0 8 rfl rfl)
theorem dX1_traderOf_11 : decode cX1_traderOf 11 = .ok (.ireturn, 1) := dk_172 (dk_at dksX1_traderOf_0 11 rfl rfl)
abbrev cX1_isBid : ByteArray := prog_1_method_27_code
def yX1_isBid : MethodName := ⟨RX1, "isBid", "(I)Z"⟩
def dkwX1_isBid_0 : List UInt8 := [42, 180, 0, 31, 27, 182, 0, 148, 180, 0, 156, 172]
abbrev dktX1_isBid_0 : List UInt8 := dkwX1_isBid_0 ++ []
theorem dksX1_isBid_0 : cX1_isBid.data.toList.drop 0 = dktX1_isBid_0 := by decide +kernel
theorem dX1_isBid_0 : decode cX1_isBid 0 = .ok (.aload_n 0, 1) := dk_42 (dk_at dksX1_isBid_0 0 rfl rfl)
theorem dX1_isBid_1 : decode cX1_isBid 1 = .ok (.getfield 31, 3) := dk_180 0 31 (dk_at dksX1_isBid_0 1 rfl rfl)
theorem dX1_isBid_4 : decode cX1_isBid 4 = .ok (.iload_n 1, 1) := dk_27 (dk_at dksX1_isBid_0 4 rfl rfl)
theorem dX1_isBid_5 : decode cX1_isBid 5 = .ok (.invokevirtual 148, 3) := dk_182 0 148 (dk_at dksX1_isBid_0 5 rfl rfl)
theorem dX1_isBid_8 : decode cX1_isBid 8 = .ok (.getfield 156, 3) := dk_180 0 156 (dk_at dksX1_isBid_0 8 rfl rfl)
theorem dX1_isBid_11 : decode cX1_isBid 11 = .ok (.ireturn, 1) := dk_172 (dk_at dksX1_isBid_0 11 rfl rfl)
abbrev cX1_priceOf : ByteArray := prog_1_method_28_code
def yX1_priceOf : MethodName := ⟨RX1, "priceOf", "(I)I"⟩
def dkwX1_priceOf_0 : List UInt8 := [42, 180, 0, 31, 27, 182, 0, 148, 180, 0, 160, 172]
abbrev dktX1_priceOf_0 : List UInt8 := dkwX1_priceOf_0 ++ []
theorem dksX1_priceOf_0 : cX1_priceOf.data.toList.drop 0 = dktX1_priceOf_0 := by decide +kernel
theorem dX1_priceOf_0 : decode cX1_priceOf 0 = .ok (.aload_n 0, 1) := dk_42 (dk_at dksX1_priceOf_0 0 rfl rfl)
theorem dX1_priceOf_1 : decode cX1_priceOf 1 = .ok (.getfield 31, 3) := dk_180 0 31 (dk_at dksX1_priceOf_0 1 rfl rfl)
theorem dX1_priceOf_4 : decode cX1_priceOf 4 = .ok (.iload_n 1, 1) := dk_27 (dk_at dksX1_priceOf_0 4 rfl rfl)
theorem dX1_priceOf_5 : decode cX1_priceOf 5 = .ok (.invokevirtual 148, 3) := dk_182 0 148 (dk_at dksX1_priceOf_0 5 rfl rfl)
theorem dX1_priceOf_8 : decode cX1_priceOf 8 = .ok (.getfield 160, 3) := dk_180 0 160 (dk_at dksX1_priceOf_0 8 rfl rfl)
theorem dX1_priceOf_11 : decode cX1_priceOf 11 = .ok (.ireturn, 1) := dk_172 (dk_at dksX1_priceOf_0 11 rfl rfl)
abbrev cX1_unitsOf : ByteArray := prog_1_method_29_code
def yX1_unitsOf : MethodName := ⟨RX1, "unitsOf", "(I)I"⟩
def dkwX1_unitsOf_0 : List UInt8 := [42, 180, 0, 31, 27, 182, 0, 148, 180, 0, 163, 172]
abbrev dktX1_unitsOf_0 : List UInt8 := dkwX1_unitsOf_0 ++ []
theorem dksX1_unitsOf_0 : cX1_unitsOf.data.toList.drop 0 = dktX1_unitsOf_0 := by decide +kernel
theorem dX1_unitsOf_0 : decode cX1_unitsOf 0 = .ok (.aload_n 0, 1) := dk_42 (dk_at dksX1_unitsOf_0 0 rfl rfl)
theorem dX1_unitsOf_1 : decode cX1_unitsOf 1 = .ok (.getfield 31, 3) := dk_180 0 31 (dk_at dksX1_unitsOf_0 1 rfl rfl)
theorem dX1_unitsOf_4 : decode cX1_unitsOf 4 = .ok (.iload_n 1, 1) := dk_27 (dk_at dksX1_unitsOf_0 4 rfl rfl)
theorem dX1_unitsOf_5 : decode cX1_unitsOf 5 = .ok (.invokevirtual 148, 3) := dk_182 0 148 (dk_at dksX1_unitsOf_0 5 rfl rfl)
theorem dX1_unitsOf_8 : decode cX1_unitsOf 8 = .ok (.getfield 163, 3) := dk_180 0 163 (dk_at dksX1_unitsOf_0 8 rfl rfl)
theorem dX1_unitsOf_11 : decode cX1_unitsOf 11 = .ok (.ireturn, 1) := dk_172 (dk_at dksX1_unitsOf_0 11 rfl rfl)
abbrev cX1_orderAt : ByteArray := prog_1_method_30_code
def yX1_orderAt : MethodName := ⟨RX1, "orderAt", "(ZI)I"⟩
def dkwX1_orderAt_1 : List UInt8 := [28, 182, 0, 174, 192, 0, 153, 180, 0, 178, 172]
abbrev dktX1_orderAt_1 : List UInt8 := dkwX1_orderAt_1 ++ []
def dkwX1_orderAt_0 : List UInt8 := [42, 180, 0, 31, 27, 182, 0, 166, 78, 28, 3, 45, 182, 0, 115, 4, 100, 184, 0, 10, 184, 0, 170, 45]
abbrev dktX1_orderAt_0 : List UInt8 := dkwX1_orderAt_0 ++ dktX1_orderAt_1
theorem dksX1_orderAt_0 : cX1_orderAt.data.toList.drop 0 = dktX1_orderAt_0 := by decide +kernel
theorem dksX1_orderAt_1 : cX1_orderAt.data.toList.drop 24 = dktX1_orderAt_1 := dk_seg dksX1_orderAt_0 24 rfl rfl
theorem dX1_orderAt_0 : decode cX1_orderAt 0 = .ok (.aload_n 0, 1) := dk_42 (dk_at dksX1_orderAt_0 0 rfl rfl)
theorem dX1_orderAt_1 : decode cX1_orderAt 1 = .ok (.getfield 31, 3) := dk_180 0 31 (dk_at dksX1_orderAt_0 1 rfl rfl)
theorem dX1_orderAt_4 : decode cX1_orderAt 4 = .ok (.iload_n 1, 1) := dk_27 (dk_at dksX1_orderAt_0 4 rfl rfl)
theorem dX1_orderAt_5 : decode cX1_orderAt 5 = .ok (.invokevirtual 166, 3) := dk_182 0 166 (dk_at dksX1_orderAt_0 5 rfl rfl)
theorem dX1_orderAt_8 : decode cX1_orderAt 8 = .ok (.astore_n 3, 1) := dk_78 (dk_at dksX1_orderAt_0 8 rfl rfl)
theorem dX1_orderAt_9 : decode cX1_orderAt 9 = .ok (.iload_n 2, 1) := dk_28 (dk_at dksX1_orderAt_0 9 rfl rfl)
theorem dX1_orderAt_10 : decode cX1_orderAt 10 = .ok (.iconst 0, 1) := dk_3 (dk_at dksX1_orderAt_0 10 rfl rfl)
theorem dX1_orderAt_11 : decode cX1_orderAt 11 = .ok (.aload_n 3, 1) := dk_45 (dk_at dksX1_orderAt_0 11 rfl rfl)
theorem dX1_orderAt_12 : decode cX1_orderAt 12 = .ok (.invokevirtual 115, 3) := dk_182 0 115 (dk_at dksX1_orderAt_0 12 rfl rfl)
theorem dX1_orderAt_15 : decode cX1_orderAt 15 = .ok (.iconst 1, 1) := dk_4 (dk_at dksX1_orderAt_0 15 rfl rfl)
theorem dX1_orderAt_16 : decode cX1_orderAt 16 = .ok (.isub, 1) := dk_100 (dk_at dksX1_orderAt_0 16 rfl rfl)
theorem dX1_orderAt_17 : decode cX1_orderAt 17 = .ok (.invokestatic 10, 3) := dk_184 0 10 (dk_at dksX1_orderAt_0 17 rfl rfl)
theorem dX1_orderAt_20 : decode cX1_orderAt 20 = .ok (.invokestatic 170, 3) := dk_184 0 170 (dk_at dksX1_orderAt_0 20 rfl rfl)
theorem dX1_orderAt_23 : decode cX1_orderAt 23 = .ok (.aload_n 3, 1) := dk_45 (dk_at dksX1_orderAt_0 23 rfl rfl)
theorem dX1_orderAt_24 : decode cX1_orderAt 24 = .ok (.iload_n 2, 1) := dk_28 (dk_at dksX1_orderAt_1 0 rfl rfl)
theorem dX1_orderAt_25 : decode cX1_orderAt 25 = .ok (.invokevirtual 174, 3) := dk_182 0 174 (dk_at dksX1_orderAt_1 1 rfl rfl)
theorem dX1_orderAt_28 : decode cX1_orderAt 28 = .ok (.checkcast 153, 3) := dk_192 0 153 (dk_at dksX1_orderAt_1 4 rfl rfl)
theorem dX1_orderAt_31 : decode cX1_orderAt 31 = .ok (.getfield 178, 3) := dk_180 0 178 (dk_at dksX1_orderAt_1 7 rfl rfl)
theorem dX1_orderAt_34 : decode cX1_orderAt 34 = .ok (.ireturn, 1) := dk_172 (dk_at dksX1_orderAt_1 10 rfl rfl)
abbrev cX1_bestBid : ByteArray := prog_1_method_32_code
def yX1_bestBid : MethodName := ⟨RX1, "bestBid", "()I"⟩
def dkwX1_bestBid_0 : List UInt8 := [42, 4, 182, 0, 194, 172]
abbrev dktX1_bestBid_0 : List UInt8 := dkwX1_bestBid_0 ++ []
theorem dksX1_bestBid_0 : cX1_bestBid.data.toList.drop 0 = dktX1_bestBid_0 := by decide +kernel
theorem dX1_bestBid_0 : decode cX1_bestBid 0 = .ok (.aload_n 0, 1) := dk_42 (dk_at dksX1_bestBid_0 0 rfl rfl)
theorem dX1_bestBid_1 : decode cX1_bestBid 1 = .ok (.iconst 1, 1) := dk_4 (dk_at dksX1_bestBid_0 1 rfl rfl)
theorem dX1_bestBid_2 : decode cX1_bestBid 2 = .ok (.invokevirtual 194, 3) := dk_182 0 194 (dk_at dksX1_bestBid_0 2 rfl rfl)
theorem dX1_bestBid_5 : decode cX1_bestBid 5 = .ok (.ireturn, 1) := dk_172 (dk_at dksX1_bestBid_0 5 rfl rfl)
abbrev cX1_bestPrice : ByteArray := prog_1_method_31_code
def yX1_bestPrice : MethodName := ⟨RX1, "bestPrice", "(Z)I"⟩
def dkwX1_bestPrice_1 : List UInt8 := [44, 182, 0, 191, 192, 0, 153, 180, 0, 160, 172]
abbrev dktX1_bestPrice_1 : List UInt8 := dkwX1_bestPrice_1 ++ []
def dkwX1_bestPrice_0 : List UInt8 := [42, 180, 0, 31, 27, 182, 0, 181, 77, 44, 182, 0, 185, 154, 0, 7, 4, 167, 0, 4, 3, 184, 0, 170]
abbrev dktX1_bestPrice_0 : List UInt8 := dkwX1_bestPrice_0 ++ dktX1_bestPrice_1
theorem dksX1_bestPrice_0 : cX1_bestPrice.data.toList.drop 0 = dktX1_bestPrice_0 := by decide +kernel
theorem dksX1_bestPrice_1 : cX1_bestPrice.data.toList.drop 24 = dktX1_bestPrice_1 := dk_seg dksX1_bestPrice_0 24 rfl rfl
theorem dX1_bestPrice_0 : decode cX1_bestPrice 0 = .ok (.aload_n 0, 1) := dk_42 (dk_at dksX1_bestPrice_0 0 rfl rfl)
theorem dX1_bestPrice_1 : decode cX1_bestPrice 1 = .ok (.getfield 31, 3) := dk_180 0 31 (dk_at dksX1_bestPrice_0 1 rfl rfl)
theorem dX1_bestPrice_4 : decode cX1_bestPrice 4 = .ok (.iload_n 1, 1) := dk_27 (dk_at dksX1_bestPrice_0 4 rfl rfl)
theorem dX1_bestPrice_5 : decode cX1_bestPrice 5 = .ok (.invokevirtual 181, 3) := dk_182 0 181 (dk_at dksX1_bestPrice_0 5 rfl rfl)
theorem dX1_bestPrice_8 : decode cX1_bestPrice 8 = .ok (.astore_n 2, 1) := dk_77 (dk_at dksX1_bestPrice_0 8 rfl rfl)
theorem dX1_bestPrice_9 : decode cX1_bestPrice 9 = .ok (.aload_n 2, 1) := dk_44 (dk_at dksX1_bestPrice_0 9 rfl rfl)
theorem dX1_bestPrice_10 : decode cX1_bestPrice 10 = .ok (.invokevirtual 185, 3) := dk_182 0 185 (dk_at dksX1_bestPrice_0 10 rfl rfl)
theorem dX1_bestPrice_13 : decode cX1_bestPrice 13 = .ok (.ifCond .ne 7, 3) := dk_154 0 7 (dk_at dksX1_bestPrice_0 13 rfl rfl)
theorem dX1_bestPrice_16 : decode cX1_bestPrice 16 = .ok (.iconst 1, 1) := dk_4 (dk_at dksX1_bestPrice_0 16 rfl rfl)
theorem dX1_bestPrice_17 : decode cX1_bestPrice 17 = .ok (.goto 4, 3) := dk_167 0 4 (dk_at dksX1_bestPrice_0 17 rfl rfl)
theorem dX1_bestPrice_20 : decode cX1_bestPrice 20 = .ok (.iconst 0, 1) := dk_3 (dk_at dksX1_bestPrice_0 20 rfl rfl)
theorem dX1_bestPrice_21 : decode cX1_bestPrice 21 = .ok (.invokestatic 170, 3) := dk_184 0 170 (dk_at dksX1_bestPrice_0 21 rfl rfl)
theorem dX1_bestPrice_24 : decode cX1_bestPrice 24 = .ok (.aload_n 2, 1) := dk_44 (dk_at dksX1_bestPrice_1 0 rfl rfl)
theorem dX1_bestPrice_25 : decode cX1_bestPrice 25 = .ok (.invokevirtual 191, 3) := dk_182 0 191 (dk_at dksX1_bestPrice_1 1 rfl rfl)
theorem dX1_bestPrice_28 : decode cX1_bestPrice 28 = .ok (.checkcast 153, 3) := dk_192 0 153 (dk_at dksX1_bestPrice_1 4 rfl rfl)
theorem dX1_bestPrice_31 : decode cX1_bestPrice 31 = .ok (.getfield 160, 3) := dk_180 0 160 (dk_at dksX1_bestPrice_1 7 rfl rfl)
theorem dX1_bestPrice_34 : decode cX1_bestPrice 34 = .ok (.ireturn, 1) := dk_172 (dk_at dksX1_bestPrice_1 10 rfl rfl)
abbrev cX1_bestAsk : ByteArray := prog_1_method_33_code
def yX1_bestAsk : MethodName := ⟨RX1, "bestAsk", "()I"⟩
def dkwX1_bestAsk_0 : List UInt8 := [42, 3, 182, 0, 194, 172]
abbrev dktX1_bestAsk_0 : List UInt8 := dkwX1_bestAsk_0 ++ []
theorem dksX1_bestAsk_0 : cX1_bestAsk.data.toList.drop 0 = dktX1_bestAsk_0 := by decide +kernel
theorem dX1_bestAsk_0 : decode cX1_bestAsk 0 = .ok (.aload_n 0, 1) := dk_42 (dk_at dksX1_bestAsk_0 0 rfl rfl)
theorem dX1_bestAsk_1 : decode cX1_bestAsk 1 = .ok (.iconst 0, 1) := dk_3 (dk_at dksX1_bestAsk_0 1 rfl rfl)
theorem dX1_bestAsk_2 : decode cX1_bestAsk 2 = .ok (.invokevirtual 194, 3) := dk_182 0 194 (dk_at dksX1_bestAsk_0 2 rfl rfl)
theorem dX1_bestAsk_5 : decode cX1_bestAsk 5 = .ok (.ireturn, 1) := dk_172 (dk_at dksX1_bestAsk_0 5 rfl rfl)
abbrev cX1_costToBuy : ByteArray := prog_1_method_36_code
def yX1_costToBuy : MethodName := ⟨RX1, "costToBuy", "(I)I"⟩
def dkwX1_costToBuy_0 : List UInt8 := [27, 42, 180, 0, 31, 27, 182, 0, 205, 184, 0, 208, 172]
abbrev dktX1_costToBuy_0 : List UInt8 := dkwX1_costToBuy_0 ++ []
theorem dksX1_costToBuy_0 : cX1_costToBuy.data.toList.drop 0 = dktX1_costToBuy_0 := by decide +kernel
theorem dX1_costToBuy_0 : decode cX1_costToBuy 0 = .ok (.iload_n 1, 1) := dk_27 (dk_at dksX1_costToBuy_0 0 rfl rfl)
theorem dX1_costToBuy_1 : decode cX1_costToBuy 1 = .ok (.aload_n 0, 1) := dk_42 (dk_at dksX1_costToBuy_0 1 rfl rfl)
theorem dX1_costToBuy_2 : decode cX1_costToBuy 2 = .ok (.getfield 31, 3) := dk_180 0 31 (dk_at dksX1_costToBuy_0 2 rfl rfl)
theorem dX1_costToBuy_5 : decode cX1_costToBuy 5 = .ok (.iload_n 1, 1) := dk_27 (dk_at dksX1_costToBuy_0 5 rfl rfl)
theorem dX1_costToBuy_6 : decode cX1_costToBuy 6 = .ok (.invokevirtual 205, 3) := dk_182 0 205 (dk_at dksX1_costToBuy_0 6 rfl rfl)
theorem dX1_costToBuy_9 : decode cX1_costToBuy 9 = .ok (.invokestatic 208, 3) := dk_184 0 208 (dk_at dksX1_costToBuy_0 9 rfl rfl)
theorem dX1_costToBuy_12 : decode cX1_costToBuy 12 = .ok (.ireturn, 1) := dk_172 (dk_at dksX1_costToBuy_0 12 rfl rfl)
abbrev cX1_checkedCost : ByteArray := prog_1_method_35_code
def yX1_checkedCost : MethodName := ⟨RX1, "checkedCost", "(II)I"⟩
def dkwX1_checkedCost_1 : List UInt8 := [27, 172]
abbrev dktX1_checkedCost_1 : List UInt8 := dkwX1_checkedCost_1 ++ []
def dkwX1_checkedCost_0 : List UInt8 := [26, 4, 17, 3, 231, 184, 0, 10, 184, 0, 202, 27, 2, 159, 0, 7, 4, 167, 0, 4, 3, 184, 0, 170]
abbrev dktX1_checkedCost_0 : List UInt8 := dkwX1_checkedCost_0 ++ dktX1_checkedCost_1
theorem dksX1_checkedCost_0 : cX1_checkedCost.data.toList.drop 0 = dktX1_checkedCost_0 := by decide +kernel
theorem dksX1_checkedCost_1 : cX1_checkedCost.data.toList.drop 24 = dktX1_checkedCost_1 := dk_seg dksX1_checkedCost_0 24 rfl rfl
theorem dX1_checkedCost_0 : decode cX1_checkedCost 0 = .ok (.iload_n 0, 1) := dk_26 (dk_at dksX1_checkedCost_0 0 rfl rfl)
theorem dX1_checkedCost_1 : decode cX1_checkedCost 1 = .ok (.iconst 1, 1) := dk_4 (dk_at dksX1_checkedCost_0 1 rfl rfl)
theorem dX1_checkedCost_2 : decode cX1_checkedCost 2 = .ok (.sipush 999, 3) := dk_17 3 231 (dk_at dksX1_checkedCost_0 2 rfl rfl)
theorem dX1_checkedCost_5 : decode cX1_checkedCost 5 = .ok (.invokestatic 10, 3) := dk_184 0 10 (dk_at dksX1_checkedCost_0 5 rfl rfl)
theorem dX1_checkedCost_8 : decode cX1_checkedCost 8 = .ok (.invokestatic 202, 3) := dk_184 0 202 (dk_at dksX1_checkedCost_0 8 rfl rfl)
theorem dX1_checkedCost_11 : decode cX1_checkedCost 11 = .ok (.iload_n 1, 1) := dk_27 (dk_at dksX1_checkedCost_0 11 rfl rfl)
theorem dX1_checkedCost_12 : decode cX1_checkedCost 12 = .ok (.iconst (-1), 1) := dk_2 (dk_at dksX1_checkedCost_0 12 rfl rfl)
theorem dX1_checkedCost_13 : decode cX1_checkedCost 13 = .ok (.if_icmp .eq 7, 3) := dk_159 0 7 (dk_at dksX1_checkedCost_0 13 rfl rfl)
theorem dX1_checkedCost_16 : decode cX1_checkedCost 16 = .ok (.iconst 1, 1) := dk_4 (dk_at dksX1_checkedCost_0 16 rfl rfl)
theorem dX1_checkedCost_17 : decode cX1_checkedCost 17 = .ok (.goto 4, 3) := dk_167 0 4 (dk_at dksX1_checkedCost_0 17 rfl rfl)
theorem dX1_checkedCost_20 : decode cX1_checkedCost 20 = .ok (.iconst 0, 1) := dk_3 (dk_at dksX1_checkedCost_0 20 rfl rfl)
theorem dX1_checkedCost_21 : decode cX1_checkedCost 21 = .ok (.invokestatic 170, 3) := dk_184 0 170 (dk_at dksX1_checkedCost_0 21 rfl rfl)
theorem dX1_checkedCost_24 : decode cX1_checkedCost 24 = .ok (.iload_n 1, 1) := dk_27 (dk_at dksX1_checkedCost_1 0 rfl rfl)
theorem dX1_checkedCost_25 : decode cX1_checkedCost 25 = .ok (.ireturn, 1) := dk_172 (dk_at dksX1_checkedCost_1 1 rfl rfl)
abbrev cX1_costToBuyByPrices : ByteArray := prog_1_method_37_code
def yX1_costToBuyByPrices : MethodName := ⟨RX1, "costToBuyByPrices", "(I)I"⟩
def dkwX1_costToBuyByPrices_0 : List UInt8 := [27, 42, 180, 0, 31, 27, 182, 0, 212, 184, 0, 208, 172]
abbrev dktX1_costToBuyByPrices_0 : List UInt8 := dkwX1_costToBuyByPrices_0 ++ []
theorem dksX1_costToBuyByPrices_0 : cX1_costToBuyByPrices.data.toList.drop 0 = dktX1_costToBuyByPrices_0 := by decide +kernel
theorem dX1_costToBuyByPrices_0 : decode cX1_costToBuyByPrices 0 = .ok (.iload_n 1, 1) := dk_27 (dk_at dksX1_costToBuyByPrices_0 0 rfl rfl)
theorem dX1_costToBuyByPrices_1 : decode cX1_costToBuyByPrices 1 = .ok (.aload_n 0, 1) := dk_42 (dk_at dksX1_costToBuyByPrices_0 1 rfl rfl)
theorem dX1_costToBuyByPrices_2 : decode cX1_costToBuyByPrices 2 = .ok (.getfield 31, 3) := dk_180 0 31 (dk_at dksX1_costToBuyByPrices_0 2 rfl rfl)
theorem dX1_costToBuyByPrices_5 : decode cX1_costToBuyByPrices 5 = .ok (.iload_n 1, 1) := dk_27 (dk_at dksX1_costToBuyByPrices_0 5 rfl rfl)
theorem dX1_costToBuyByPrices_6 : decode cX1_costToBuyByPrices 6 = .ok (.invokevirtual 212, 3) := dk_182 0 212 (dk_at dksX1_costToBuyByPrices_0 6 rfl rfl)
theorem dX1_costToBuyByPrices_9 : decode cX1_costToBuyByPrices 9 = .ok (.invokestatic 208, 3) := dk_184 0 208 (dk_at dksX1_costToBuyByPrices_0 9 rfl rfl)
theorem dX1_costToBuyByPrices_12 : decode cX1_costToBuyByPrices 12 = .ok (.ireturn, 1) := dk_172 (dk_at dksX1_costToBuyByPrices_0 12 rfl rfl)
abbrev cX1_lastPrice : ByteArray := prog_1_method_38_code
def yX1_lastPrice : MethodName := ⟨RX1, "lastPrice", "()I"⟩
def dkwX1_lastPrice_1 : List UInt8 := [180, 0, 215, 172]
abbrev dktX1_lastPrice_1 : List UInt8 := dkwX1_lastPrice_1 ++ []
def dkwX1_lastPrice_0 : List UInt8 := [42, 180, 0, 31, 180, 0, 215, 2, 159, 0, 7, 4, 167, 0, 4, 3, 184, 0, 170, 42, 180, 0, 31]
abbrev dktX1_lastPrice_0 : List UInt8 := dkwX1_lastPrice_0 ++ dktX1_lastPrice_1
theorem dksX1_lastPrice_0 : cX1_lastPrice.data.toList.drop 0 = dktX1_lastPrice_0 := by decide +kernel
theorem dksX1_lastPrice_1 : cX1_lastPrice.data.toList.drop 23 = dktX1_lastPrice_1 := dk_seg dksX1_lastPrice_0 23 rfl rfl
theorem dX1_lastPrice_0 : decode cX1_lastPrice 0 = .ok (.aload_n 0, 1) := dk_42 (dk_at dksX1_lastPrice_0 0 rfl rfl)
theorem dX1_lastPrice_1 : decode cX1_lastPrice 1 = .ok (.getfield 31, 3) := dk_180 0 31 (dk_at dksX1_lastPrice_0 1 rfl rfl)
theorem dX1_lastPrice_4 : decode cX1_lastPrice 4 = .ok (.getfield 215, 3) := dk_180 0 215 (dk_at dksX1_lastPrice_0 4 rfl rfl)
theorem dX1_lastPrice_7 : decode cX1_lastPrice 7 = .ok (.iconst (-1), 1) := dk_2 (dk_at dksX1_lastPrice_0 7 rfl rfl)
theorem dX1_lastPrice_8 : decode cX1_lastPrice 8 = .ok (.if_icmp .eq 7, 3) := dk_159 0 7 (dk_at dksX1_lastPrice_0 8 rfl rfl)
theorem dX1_lastPrice_11 : decode cX1_lastPrice 11 = .ok (.iconst 1, 1) := dk_4 (dk_at dksX1_lastPrice_0 11 rfl rfl)
theorem dX1_lastPrice_12 : decode cX1_lastPrice 12 = .ok (.goto 4, 3) := dk_167 0 4 (dk_at dksX1_lastPrice_0 12 rfl rfl)
theorem dX1_lastPrice_15 : decode cX1_lastPrice 15 = .ok (.iconst 0, 1) := dk_3 (dk_at dksX1_lastPrice_0 15 rfl rfl)
theorem dX1_lastPrice_16 : decode cX1_lastPrice 16 = .ok (.invokestatic 170, 3) := dk_184 0 170 (dk_at dksX1_lastPrice_0 16 rfl rfl)
theorem dX1_lastPrice_19 : decode cX1_lastPrice 19 = .ok (.aload_n 0, 1) := dk_42 (dk_at dksX1_lastPrice_0 19 rfl rfl)
theorem dX1_lastPrice_20 : decode cX1_lastPrice 20 = .ok (.getfield 31, 3) := dk_180 0 31 (dk_at dksX1_lastPrice_0 20 rfl rfl)
theorem dX1_lastPrice_23 : decode cX1_lastPrice 23 = .ok (.getfield 215, 3) := dk_180 0 215 (dk_at dksX1_lastPrice_1 0 rfl rfl)
theorem dX1_lastPrice_26 : decode cX1_lastPrice 26 = .ok (.ireturn, 1) := dk_172 (dk_at dksX1_lastPrice_1 3 rfl rfl)
abbrev cX1_meanPrice : ByteArray := prog_1_method_40_code
def yX1_meanPrice : MethodName := ⟨RX1, "meanPrice", "()D"⟩
def dkwX1_meanPrice_1 : List UInt8 := [180, 0, 224, 135, 42, 180, 0, 31, 180, 0, 218, 135, 111, 175]
abbrev dktX1_meanPrice_1 : List UInt8 := dkwX1_meanPrice_1 ++ []
def dkwX1_meanPrice_0 : List UInt8 := [42, 180, 0, 31, 180, 0, 218, 154, 0, 11, 187, 0, 221, 89, 183, 0, 223, 191, 42, 180, 0, 31]
abbrev dktX1_meanPrice_0 : List UInt8 := dkwX1_meanPrice_0 ++ dktX1_meanPrice_1
theorem dksX1_meanPrice_0 : cX1_meanPrice.data.toList.drop 0 = dktX1_meanPrice_0 := by decide +kernel
theorem dksX1_meanPrice_1 : cX1_meanPrice.data.toList.drop 22 = dktX1_meanPrice_1 := dk_seg dksX1_meanPrice_0 22 rfl rfl
theorem dX1_meanPrice_0 : decode cX1_meanPrice 0 = .ok (.aload_n 0, 1) := dk_42 (dk_at dksX1_meanPrice_0 0 rfl rfl)
theorem dX1_meanPrice_1 : decode cX1_meanPrice 1 = .ok (.getfield 31, 3) := dk_180 0 31 (dk_at dksX1_meanPrice_0 1 rfl rfl)
theorem dX1_meanPrice_4 : decode cX1_meanPrice 4 = .ok (.getfield 218, 3) := dk_180 0 218 (dk_at dksX1_meanPrice_0 4 rfl rfl)
theorem dX1_meanPrice_7 : decode cX1_meanPrice 7 = .ok (.ifCond .ne 11, 3) := dk_154 0 11 (dk_at dksX1_meanPrice_0 7 rfl rfl)
theorem dX1_meanPrice_10 : decode cX1_meanPrice 10 = .ok (.new 221, 3) := dk_187 0 221 (dk_at dksX1_meanPrice_0 10 rfl rfl)
theorem dX1_meanPrice_13 : decode cX1_meanPrice 13 = .ok (.dup, 1) := dk_89 (dk_at dksX1_meanPrice_0 13 rfl rfl)
theorem dX1_meanPrice_14 : decode cX1_meanPrice 14 = .ok (.invokespecial 223, 3) := dk_183 0 223 (dk_at dksX1_meanPrice_0 14 rfl rfl)
theorem dX1_meanPrice_17 : decode cX1_meanPrice 17 = .ok (.athrow, 1) := dk_191 (dk_at dksX1_meanPrice_0 17 rfl rfl)
theorem dX1_meanPrice_18 : decode cX1_meanPrice 18 = .ok (.aload_n 0, 1) := dk_42 (dk_at dksX1_meanPrice_0 18 rfl rfl)
theorem dX1_meanPrice_19 : decode cX1_meanPrice 19 = .ok (.getfield 31, 3) := dk_180 0 31 (dk_at dksX1_meanPrice_0 19 rfl rfl)
theorem dX1_meanPrice_22 : decode cX1_meanPrice 22 = .ok (.getfield 224, 3) := dk_180 0 224 (dk_at dksX1_meanPrice_1 0 rfl rfl)
theorem dX1_meanPrice_25 : decode cX1_meanPrice 25 = .ok (.i2d, 1) := dk_135 (dk_at dksX1_meanPrice_1 3 rfl rfl)
theorem dX1_meanPrice_26 : decode cX1_meanPrice 26 = .ok (.aload_n 0, 1) := dk_42 (dk_at dksX1_meanPrice_1 4 rfl rfl)
theorem dX1_meanPrice_27 : decode cX1_meanPrice 27 = .ok (.getfield 31, 3) := dk_180 0 31 (dk_at dksX1_meanPrice_1 5 rfl rfl)
theorem dX1_meanPrice_30 : decode cX1_meanPrice 30 = .ok (.getfield 218, 3) := dk_180 0 218 (dk_at dksX1_meanPrice_1 8 rfl rfl)
theorem dX1_meanPrice_33 : decode cX1_meanPrice 33 = .ok (.i2d, 1) := dk_135 (dk_at dksX1_meanPrice_1 11 rfl rfl)
theorem dX1_meanPrice_34 : decode cX1_meanPrice 34 = .ok (.ddiv, 1) := dk_111 (dk_at dksX1_meanPrice_1 12 rfl rfl)
theorem dX1_meanPrice_35 : decode cX1_meanPrice 35 = .ok (.dreturn, 1) := dk_175 (dk_at dksX1_meanPrice_1 13 rfl rfl)
abbrev cX1_daysLeft : ByteArray := prog_1_method_43_code
def yX1_daysLeft : MethodName := ⟨RX1, "daysLeft", "(I)I"⟩
def dkwX1_daysLeft_0 : List UInt8 := [42, 180, 0, 31, 27, 182, 0, 233, 182, 0, 237, 42, 180, 0, 31, 180, 0, 227, 100, 172]
abbrev dktX1_daysLeft_0 : List UInt8 := dkwX1_daysLeft_0 ++ []
theorem dksX1_daysLeft_0 : cX1_daysLeft.data.toList.drop 0 = dktX1_daysLeft_0 := by decide +kernel
theorem dX1_daysLeft_0 : decode cX1_daysLeft 0 = .ok (.aload_n 0, 1) := dk_42 (dk_at dksX1_daysLeft_0 0 rfl rfl)
theorem dX1_daysLeft_1 : decode cX1_daysLeft 1 = .ok (.getfield 31, 3) := dk_180 0 31 (dk_at dksX1_daysLeft_0 1 rfl rfl)
theorem dX1_daysLeft_4 : decode cX1_daysLeft 4 = .ok (.iload_n 1, 1) := dk_27 (dk_at dksX1_daysLeft_0 4 rfl rfl)
theorem dX1_daysLeft_5 : decode cX1_daysLeft 5 = .ok (.invokevirtual 233, 3) := dk_182 0 233 (dk_at dksX1_daysLeft_0 5 rfl rfl)
theorem dX1_daysLeft_8 : decode cX1_daysLeft 8 = .ok (.invokevirtual 237, 3) := dk_182 0 237 (dk_at dksX1_daysLeft_0 8 rfl rfl)
theorem dX1_daysLeft_11 : decode cX1_daysLeft 11 = .ok (.aload_n 0, 1) := dk_42 (dk_at dksX1_daysLeft_0 11 rfl rfl)
theorem dX1_daysLeft_12 : decode cX1_daysLeft 12 = .ok (.getfield 31, 3) := dk_180 0 31 (dk_at dksX1_daysLeft_0 12 rfl rfl)
theorem dX1_daysLeft_15 : decode cX1_daysLeft 15 = .ok (.getfield 227, 3) := dk_180 0 227 (dk_at dksX1_daysLeft_0 15 rfl rfl)
theorem dX1_daysLeft_18 : decode cX1_daysLeft 18 = .ok (.isub, 1) := dk_100 (dk_at dksX1_daysLeft_0 18 rfl rfl)
theorem dX1_daysLeft_19 : decode cX1_daysLeft 19 = .ok (.ireturn, 1) := dk_172 (dk_at dksX1_daysLeft_0 19 rfl rfl)
abbrev cX1_gain : ByteArray := prog_1_method_45_code
def yX1_gain : MethodName := ⟨RX1, "gain", "(II)I"⟩
def dkwX1_gain_0 : List UInt8 := [42, 180, 0, 31, 27, 182, 0, 233, 78, 28, 184, 0, 242, 45, 28, 182, 0, 245, 172]
abbrev dktX1_gain_0 : List UInt8 := dkwX1_gain_0 ++ []
theorem dksX1_gain_0 : cX1_gain.data.toList.drop 0 = dktX1_gain_0 := by decide +kernel
theorem dX1_gain_0 : decode cX1_gain 0 = .ok (.aload_n 0, 1) := dk_42 (dk_at dksX1_gain_0 0 rfl rfl)
theorem dX1_gain_1 : decode cX1_gain 1 = .ok (.getfield 31, 3) := dk_180 0 31 (dk_at dksX1_gain_0 1 rfl rfl)
theorem dX1_gain_4 : decode cX1_gain 4 = .ok (.iload_n 1, 1) := dk_27 (dk_at dksX1_gain_0 4 rfl rfl)
theorem dX1_gain_5 : decode cX1_gain 5 = .ok (.invokevirtual 233, 3) := dk_182 0 233 (dk_at dksX1_gain_0 5 rfl rfl)
theorem dX1_gain_8 : decode cX1_gain 8 = .ok (.astore_n 3, 1) := dk_78 (dk_at dksX1_gain_0 8 rfl rfl)
theorem dX1_gain_9 : decode cX1_gain 9 = .ok (.iload_n 2, 1) := dk_28 (dk_at dksX1_gain_0 9 rfl rfl)
theorem dX1_gain_10 : decode cX1_gain 10 = .ok (.invokestatic 242, 3) := dk_184 0 242 (dk_at dksX1_gain_0 10 rfl rfl)
theorem dX1_gain_13 : decode cX1_gain 13 = .ok (.aload_n 3, 1) := dk_45 (dk_at dksX1_gain_0 13 rfl rfl)
theorem dX1_gain_14 : decode cX1_gain 14 = .ok (.iload_n 2, 1) := dk_28 (dk_at dksX1_gain_0 14 rfl rfl)
theorem dX1_gain_15 : decode cX1_gain 15 = .ok (.invokevirtual 245, 3) := dk_182 0 245 (dk_at dksX1_gain_0 15 rfl rfl)
theorem dX1_gain_18 : decode cX1_gain 18 = .ok (.ireturn, 1) := dk_172 (dk_at dksX1_gain_0 18 rfl rfl)
abbrev cX1_checkPrice : ByteArray := prog_1_method_44_code
def yX1_checkPrice : MethodName := ⟨RX1, "checkPrice", "(I)V"⟩
def dkwX1_checkPrice_0 : List UInt8 := [26, 3, 16, 99, 184, 0, 10, 184, 0, 202, 177]
abbrev dktX1_checkPrice_0 : List UInt8 := dkwX1_checkPrice_0 ++ []
theorem dksX1_checkPrice_0 : cX1_checkPrice.data.toList.drop 0 = dktX1_checkPrice_0 := by decide +kernel
theorem dX1_checkPrice_0 : decode cX1_checkPrice 0 = .ok (.iload_n 0, 1) := dk_26 (dk_at dksX1_checkPrice_0 0 rfl rfl)
theorem dX1_checkPrice_1 : decode cX1_checkPrice 1 = .ok (.iconst 0, 1) := dk_3 (dk_at dksX1_checkPrice_0 1 rfl rfl)
theorem dX1_checkPrice_2 : decode cX1_checkPrice 2 = .ok (.bipush 99, 2) := dk_16 99 (dk_at dksX1_checkPrice_0 2 rfl rfl)
theorem dX1_checkPrice_4 : decode cX1_checkPrice 4 = .ok (.invokestatic 10, 3) := dk_184 0 10 (dk_at dksX1_checkPrice_0 4 rfl rfl)
theorem dX1_checkPrice_7 : decode cX1_checkPrice 7 = .ok (.invokestatic 202, 3) := dk_184 0 202 (dk_at dksX1_checkPrice_0 7 rfl rfl)
theorem dX1_checkPrice_10 : decode cX1_checkPrice 10 = .ok (.return_, 1) := dk_177 (dk_at dksX1_checkPrice_0 10 rfl rfl)
abbrev cX1_exposure : ByteArray := prog_1_method_46_code
def yX1_exposure : MethodName := ⟨RX1, "exposure", "(I)I"⟩
def dkwX1_exposure_0 : List UInt8 := [42, 27, 182, 0, 131, 42, 180, 0, 31, 27, 182, 0, 248, 172]
abbrev dktX1_exposure_0 : List UInt8 := dkwX1_exposure_0 ++ []
theorem dksX1_exposure_0 : cX1_exposure.data.toList.drop 0 = dktX1_exposure_0 := by decide +kernel
theorem dX1_exposure_0 : decode cX1_exposure 0 = .ok (.aload_n 0, 1) := dk_42 (dk_at dksX1_exposure_0 0 rfl rfl)
theorem dX1_exposure_1 : decode cX1_exposure 1 = .ok (.iload_n 1, 1) := dk_27 (dk_at dksX1_exposure_0 1 rfl rfl)
theorem dX1_exposure_2 : decode cX1_exposure 2 = .ok (.invokevirtual 131, 3) := dk_182 0 131 (dk_at dksX1_exposure_0 2 rfl rfl)
theorem dX1_exposure_5 : decode cX1_exposure 5 = .ok (.aload_n 0, 1) := dk_42 (dk_at dksX1_exposure_0 5 rfl rfl)
theorem dX1_exposure_6 : decode cX1_exposure 6 = .ok (.getfield 31, 3) := dk_180 0 31 (dk_at dksX1_exposure_0 6 rfl rfl)
theorem dX1_exposure_9 : decode cX1_exposure 9 = .ok (.iload_n 1, 1) := dk_27 (dk_at dksX1_exposure_0 9 rfl rfl)
theorem dX1_exposure_10 : decode cX1_exposure 10 = .ok (.invokevirtual 248, 3) := dk_182 0 248 (dk_at dksX1_exposure_0 10 rfl rfl)
theorem dX1_exposure_13 : decode cX1_exposure 13 = .ok (.ireturn, 1) := dk_172 (dk_at dksX1_exposure_0 13 rfl rfl)
abbrev cX1_value : ByteArray := prog_1_method_47_code
def yX1_value : MethodName := ⟨RX1, "value", "(II)I"⟩
def dkwX1_value_0 : List UInt8 := [42, 27, 182, 0, 131, 28, 184, 0, 242, 42, 180, 0, 31, 27, 28, 182, 0, 251, 172]
abbrev dktX1_value_0 : List UInt8 := dkwX1_value_0 ++ []
theorem dksX1_value_0 : cX1_value.data.toList.drop 0 = dktX1_value_0 := by decide +kernel
theorem dX1_value_0 : decode cX1_value 0 = .ok (.aload_n 0, 1) := dk_42 (dk_at dksX1_value_0 0 rfl rfl)
theorem dX1_value_1 : decode cX1_value 1 = .ok (.iload_n 1, 1) := dk_27 (dk_at dksX1_value_0 1 rfl rfl)
theorem dX1_value_2 : decode cX1_value 2 = .ok (.invokevirtual 131, 3) := dk_182 0 131 (dk_at dksX1_value_0 2 rfl rfl)
theorem dX1_value_5 : decode cX1_value 5 = .ok (.iload_n 2, 1) := dk_28 (dk_at dksX1_value_0 5 rfl rfl)
theorem dX1_value_6 : decode cX1_value 6 = .ok (.invokestatic 242, 3) := dk_184 0 242 (dk_at dksX1_value_0 6 rfl rfl)
theorem dX1_value_9 : decode cX1_value 9 = .ok (.aload_n 0, 1) := dk_42 (dk_at dksX1_value_0 9 rfl rfl)
theorem dX1_value_10 : decode cX1_value 10 = .ok (.getfield 31, 3) := dk_180 0 31 (dk_at dksX1_value_0 10 rfl rfl)
theorem dX1_value_13 : decode cX1_value 13 = .ok (.iload_n 1, 1) := dk_27 (dk_at dksX1_value_0 13 rfl rfl)
theorem dX1_value_14 : decode cX1_value 14 = .ok (.iload_n 2, 1) := dk_28 (dk_at dksX1_value_0 14 rfl rfl)
theorem dX1_value_15 : decode cX1_value 15 = .ok (.invokevirtual 251, 3) := dk_182 0 251 (dk_at dksX1_value_0 15 rfl rfl)
theorem dX1_value_18 : decode cX1_value 18 = .ok (.ireturn, 1) := dk_172 (dk_at dksX1_value_0 18 rfl rfl)
abbrev cX1_valueByExposure : ByteArray := prog_1_method_48_code
def yX1_valueByExposure : MethodName := ⟨RX1, "valueByExposure", "(II)I"⟩
def dkwX1_valueByExposure_0 : List UInt8 := [42, 27, 182, 0, 131, 28, 184, 0, 242, 42, 180, 0, 31, 27, 28, 182, 0, 254, 172]
abbrev dktX1_valueByExposure_0 : List UInt8 := dkwX1_valueByExposure_0 ++ []
theorem dksX1_valueByExposure_0 : cX1_valueByExposure.data.toList.drop 0 = dktX1_valueByExposure_0 := by decide +kernel
theorem dX1_valueByExposure_0 : decode cX1_valueByExposure 0 = .ok (.aload_n 0, 1) := dk_42 (dk_at dksX1_valueByExposure_0 0 rfl rfl)
theorem dX1_valueByExposure_1 : decode cX1_valueByExposure 1 = .ok (.iload_n 1, 1) := dk_27 (dk_at dksX1_valueByExposure_0 1 rfl rfl)
theorem dX1_valueByExposure_2 : decode cX1_valueByExposure 2 = .ok (.invokevirtual 131, 3) := dk_182 0 131 (dk_at dksX1_valueByExposure_0 2 rfl rfl)
theorem dX1_valueByExposure_5 : decode cX1_valueByExposure 5 = .ok (.iload_n 2, 1) := dk_28 (dk_at dksX1_valueByExposure_0 5 rfl rfl)
theorem dX1_valueByExposure_6 : decode cX1_valueByExposure 6 = .ok (.invokestatic 242, 3) := dk_184 0 242 (dk_at dksX1_valueByExposure_0 6 rfl rfl)
theorem dX1_valueByExposure_9 : decode cX1_valueByExposure 9 = .ok (.aload_n 0, 1) := dk_42 (dk_at dksX1_valueByExposure_0 9 rfl rfl)
theorem dX1_valueByExposure_10 : decode cX1_valueByExposure 10 = .ok (.getfield 31, 3) := dk_180 0 31 (dk_at dksX1_valueByExposure_0 10 rfl rfl)
theorem dX1_valueByExposure_13 : decode cX1_valueByExposure 13 = .ok (.iload_n 1, 1) := dk_27 (dk_at dksX1_valueByExposure_0 13 rfl rfl)
theorem dX1_valueByExposure_14 : decode cX1_valueByExposure 14 = .ok (.iload_n 2, 1) := dk_28 (dk_at dksX1_valueByExposure_0 14 rfl rfl)
theorem dX1_valueByExposure_15 : decode cX1_valueByExposure 15 = .ok (.invokevirtual 254, 3) := dk_182 0 254 (dk_at dksX1_valueByExposure_0 15 rfl rfl)
theorem dX1_valueByExposure_18 : decode cX1_valueByExposure 18 = .ok (.ireturn, 1) := dk_172 (dk_at dksX1_valueByExposure_0 18 rfl rfl)
abbrev cX1_defaultRate : ByteArray := prog_1_method_50_code
def yX1_defaultRate : MethodName := ⟨RX1, "defaultRate", "()F"⟩
def dkwX1_defaultRate_1 : List UInt8 := [180, 1, 1, 134, 42, 180, 0, 31, 180, 1, 4, 134, 110, 174]
abbrev dktX1_defaultRate_1 : List UInt8 := dkwX1_defaultRate_1 ++ []
def dkwX1_defaultRate_0 : List UInt8 := [42, 180, 0, 31, 180, 1, 4, 154, 0, 11, 187, 0, 221, 89, 183, 0, 223, 191, 42, 180, 0, 31]
abbrev dktX1_defaultRate_0 : List UInt8 := dkwX1_defaultRate_0 ++ dktX1_defaultRate_1
theorem dksX1_defaultRate_0 : cX1_defaultRate.data.toList.drop 0 = dktX1_defaultRate_0 := by decide +kernel
theorem dksX1_defaultRate_1 : cX1_defaultRate.data.toList.drop 22 = dktX1_defaultRate_1 := dk_seg dksX1_defaultRate_0 22 rfl rfl
theorem dX1_defaultRate_0 : decode cX1_defaultRate 0 = .ok (.aload_n 0, 1) := dk_42 (dk_at dksX1_defaultRate_0 0 rfl rfl)
theorem dX1_defaultRate_1 : decode cX1_defaultRate 1 = .ok (.getfield 31, 3) := dk_180 0 31 (dk_at dksX1_defaultRate_0 1 rfl rfl)
theorem dX1_defaultRate_4 : decode cX1_defaultRate 4 = .ok (.getfield 260, 3) := dk_180 1 4 (dk_at dksX1_defaultRate_0 4 rfl rfl)
theorem dX1_defaultRate_7 : decode cX1_defaultRate 7 = .ok (.ifCond .ne 11, 3) := dk_154 0 11 (dk_at dksX1_defaultRate_0 7 rfl rfl)
theorem dX1_defaultRate_10 : decode cX1_defaultRate 10 = .ok (.new 221, 3) := dk_187 0 221 (dk_at dksX1_defaultRate_0 10 rfl rfl)
theorem dX1_defaultRate_13 : decode cX1_defaultRate 13 = .ok (.dup, 1) := dk_89 (dk_at dksX1_defaultRate_0 13 rfl rfl)
theorem dX1_defaultRate_14 : decode cX1_defaultRate 14 = .ok (.invokespecial 223, 3) := dk_183 0 223 (dk_at dksX1_defaultRate_0 14 rfl rfl)
theorem dX1_defaultRate_17 : decode cX1_defaultRate 17 = .ok (.athrow, 1) := dk_191 (dk_at dksX1_defaultRate_0 17 rfl rfl)
theorem dX1_defaultRate_18 : decode cX1_defaultRate 18 = .ok (.aload_n 0, 1) := dk_42 (dk_at dksX1_defaultRate_0 18 rfl rfl)
theorem dX1_defaultRate_19 : decode cX1_defaultRate 19 = .ok (.getfield 31, 3) := dk_180 0 31 (dk_at dksX1_defaultRate_0 19 rfl rfl)
theorem dX1_defaultRate_22 : decode cX1_defaultRate 22 = .ok (.getfield 257, 3) := dk_180 1 1 (dk_at dksX1_defaultRate_1 0 rfl rfl)
theorem dX1_defaultRate_25 : decode cX1_defaultRate 25 = .ok (.i2f, 1) := dk_134 (dk_at dksX1_defaultRate_1 3 rfl rfl)
theorem dX1_defaultRate_26 : decode cX1_defaultRate 26 = .ok (.aload_n 0, 1) := dk_42 (dk_at dksX1_defaultRate_1 4 rfl rfl)
theorem dX1_defaultRate_27 : decode cX1_defaultRate 27 = .ok (.getfield 31, 3) := dk_180 0 31 (dk_at dksX1_defaultRate_1 5 rfl rfl)
theorem dX1_defaultRate_30 : decode cX1_defaultRate 30 = .ok (.getfield 260, 3) := dk_180 1 4 (dk_at dksX1_defaultRate_1 8 rfl rfl)
theorem dX1_defaultRate_33 : decode cX1_defaultRate 33 = .ok (.i2f, 1) := dk_134 (dk_at dksX1_defaultRate_1 11 rfl rfl)
theorem dX1_defaultRate_34 : decode cX1_defaultRate 34 = .ok (.fdiv, 1) := dk_110 (dk_at dksX1_defaultRate_1 12 rfl rfl)
theorem dX1_defaultRate_35 : decode cX1_defaultRate 35 = .ok (.freturn, 1) := dk_174 (dk_at dksX1_defaultRate_1 13 rfl rfl)
abbrev cX1_holder : ByteArray := prog_1_method_52_code
def yX1_holder : MethodName := ⟨RX1, "holder", "(I)I"⟩
def dkwX1_holder_1 : List UInt8 := [184, 0, 170, 42, 180, 0, 31, 180, 1, 11, 27, 46, 172]
abbrev dktX1_holder_1 : List UInt8 := dkwX1_holder_1 ++ []
def dkwX1_holder_0 : List UInt8 := [27, 7, 184, 0, 118, 42, 180, 0, 31, 180, 1, 11, 27, 46, 2, 159, 0, 7, 4, 167, 0, 4, 3]
abbrev dktX1_holder_0 : List UInt8 := dkwX1_holder_0 ++ dktX1_holder_1
theorem dksX1_holder_0 : cX1_holder.data.toList.drop 0 = dktX1_holder_0 := by decide +kernel
theorem dksX1_holder_1 : cX1_holder.data.toList.drop 23 = dktX1_holder_1 := dk_seg dksX1_holder_0 23 rfl rfl
theorem dX1_holder_0 : decode cX1_holder 0 = .ok (.iload_n 1, 1) := dk_27 (dk_at dksX1_holder_0 0 rfl rfl)
theorem dX1_holder_1 : decode cX1_holder 1 = .ok (.iconst 4, 1) := dk_7 (dk_at dksX1_holder_0 1 rfl rfl)
theorem dX1_holder_2 : decode cX1_holder 2 = .ok (.invokestatic 118, 3) := dk_184 0 118 (dk_at dksX1_holder_0 2 rfl rfl)
theorem dX1_holder_5 : decode cX1_holder 5 = .ok (.aload_n 0, 1) := dk_42 (dk_at dksX1_holder_0 5 rfl rfl)
theorem dX1_holder_6 : decode cX1_holder 6 = .ok (.getfield 31, 3) := dk_180 0 31 (dk_at dksX1_holder_0 6 rfl rfl)
theorem dX1_holder_9 : decode cX1_holder 9 = .ok (.getfield 267, 3) := dk_180 1 11 (dk_at dksX1_holder_0 9 rfl rfl)
theorem dX1_holder_12 : decode cX1_holder 12 = .ok (.iload_n 1, 1) := dk_27 (dk_at dksX1_holder_0 12 rfl rfl)
theorem dX1_holder_13 : decode cX1_holder 13 = .ok (.iaload, 1) := dk_46 (dk_at dksX1_holder_0 13 rfl rfl)
theorem dX1_holder_14 : decode cX1_holder 14 = .ok (.iconst (-1), 1) := dk_2 (dk_at dksX1_holder_0 14 rfl rfl)
theorem dX1_holder_15 : decode cX1_holder 15 = .ok (.if_icmp .eq 7, 3) := dk_159 0 7 (dk_at dksX1_holder_0 15 rfl rfl)
theorem dX1_holder_18 : decode cX1_holder 18 = .ok (.iconst 1, 1) := dk_4 (dk_at dksX1_holder_0 18 rfl rfl)
theorem dX1_holder_19 : decode cX1_holder 19 = .ok (.goto 4, 3) := dk_167 0 4 (dk_at dksX1_holder_0 19 rfl rfl)
theorem dX1_holder_22 : decode cX1_holder 22 = .ok (.iconst 0, 1) := dk_3 (dk_at dksX1_holder_0 22 rfl rfl)
theorem dX1_holder_23 : decode cX1_holder 23 = .ok (.invokestatic 170, 3) := dk_184 0 170 (dk_at dksX1_holder_1 0 rfl rfl)
theorem dX1_holder_26 : decode cX1_holder 26 = .ok (.aload_n 0, 1) := dk_42 (dk_at dksX1_holder_1 3 rfl rfl)
theorem dX1_holder_27 : decode cX1_holder 27 = .ok (.getfield 31, 3) := dk_180 0 31 (dk_at dksX1_holder_1 4 rfl rfl)
theorem dX1_holder_30 : decode cX1_holder 30 = .ok (.getfield 267, 3) := dk_180 1 11 (dk_at dksX1_holder_1 7 rfl rfl)
theorem dX1_holder_33 : decode cX1_holder 33 = .ok (.iload_n 1, 1) := dk_27 (dk_at dksX1_holder_1 10 rfl rfl)
theorem dX1_holder_34 : decode cX1_holder 34 = .ok (.iaload, 1) := dk_46 (dk_at dksX1_holder_1 11 rfl rfl)
theorem dX1_holder_35 : decode cX1_holder 35 = .ok (.ireturn, 1) := dk_172 (dk_at dksX1_holder_1 12 rfl rfl)
abbrev cX1_winner : ByteArray := prog_1_method_53_code
def yX1_winner : MethodName := ⟨RX1, "winner", "()I"⟩
def dkwX1_winner_1 : List UInt8 := [182, 1, 17, 60, 27, 2, 159, 0, 7, 4, 167, 0, 4, 3, 184, 0, 170, 27, 172]
abbrev dktX1_winner_1 : List UInt8 := dkwX1_winner_1 ++ []
def dkwX1_winner_0 : List UInt8 := [42, 180, 0, 31, 180, 1, 7, 198, 0, 7, 4, 167, 0, 4, 3, 184, 1, 14, 42, 180, 0, 31]
abbrev dktX1_winner_0 : List UInt8 := dkwX1_winner_0 ++ dktX1_winner_1
theorem dksX1_winner_0 : cX1_winner.data.toList.drop 0 = dktX1_winner_0 := by decide +kernel
theorem dksX1_winner_1 : cX1_winner.data.toList.drop 22 = dktX1_winner_1 := dk_seg dksX1_winner_0 22 rfl rfl
theorem dX1_winner_0 : decode cX1_winner 0 = .ok (.aload_n 0, 1) := dk_42 (dk_at dksX1_winner_0 0 rfl rfl)
theorem dX1_winner_1 : decode cX1_winner 1 = .ok (.getfield 31, 3) := dk_180 0 31 (dk_at dksX1_winner_0 1 rfl rfl)
theorem dX1_winner_4 : decode cX1_winner 4 = .ok (.getfield 263, 3) := dk_180 1 7 (dk_at dksX1_winner_0 4 rfl rfl)
theorem dX1_winner_7 : decode cX1_winner 7 = .ok (.ifnull 7, 3) := dk_198 0 7 (dk_at dksX1_winner_0 7 rfl rfl)
theorem dX1_winner_10 : decode cX1_winner 10 = .ok (.iconst 1, 1) := dk_4 (dk_at dksX1_winner_0 10 rfl rfl)
theorem dX1_winner_11 : decode cX1_winner 11 = .ok (.goto 4, 3) := dk_167 0 4 (dk_at dksX1_winner_0 11 rfl rfl)
theorem dX1_winner_14 : decode cX1_winner 14 = .ok (.iconst 0, 1) := dk_3 (dk_at dksX1_winner_0 14 rfl rfl)
theorem dX1_winner_15 : decode cX1_winner 15 = .ok (.invokestatic 270, 3) := dk_184 1 14 (dk_at dksX1_winner_0 15 rfl rfl)
theorem dX1_winner_18 : decode cX1_winner 18 = .ok (.aload_n 0, 1) := dk_42 (dk_at dksX1_winner_0 18 rfl rfl)
theorem dX1_winner_19 : decode cX1_winner 19 = .ok (.getfield 31, 3) := dk_180 0 31 (dk_at dksX1_winner_0 19 rfl rfl)
theorem dX1_winner_22 : decode cX1_winner 22 = .ok (.invokevirtual 273, 3) := dk_182 1 17 (dk_at dksX1_winner_1 0 rfl rfl)
theorem dX1_winner_25 : decode cX1_winner 25 = .ok (.istore_n 1, 1) := dk_60 (dk_at dksX1_winner_1 3 rfl rfl)
theorem dX1_winner_26 : decode cX1_winner 26 = .ok (.iload_n 1, 1) := dk_27 (dk_at dksX1_winner_1 4 rfl rfl)
theorem dX1_winner_27 : decode cX1_winner 27 = .ok (.iconst (-1), 1) := dk_2 (dk_at dksX1_winner_1 5 rfl rfl)
theorem dX1_winner_28 : decode cX1_winner 28 = .ok (.if_icmp .eq 7, 3) := dk_159 0 7 (dk_at dksX1_winner_1 6 rfl rfl)
theorem dX1_winner_31 : decode cX1_winner 31 = .ok (.iconst 1, 1) := dk_4 (dk_at dksX1_winner_1 9 rfl rfl)
theorem dX1_winner_32 : decode cX1_winner 32 = .ok (.goto 4, 3) := dk_167 0 4 (dk_at dksX1_winner_1 10 rfl rfl)
theorem dX1_winner_35 : decode cX1_winner 35 = .ok (.iconst 0, 1) := dk_3 (dk_at dksX1_winner_1 13 rfl rfl)
theorem dX1_winner_36 : decode cX1_winner 36 = .ok (.invokestatic 170, 3) := dk_184 0 170 (dk_at dksX1_winner_1 14 rfl rfl)
theorem dX1_winner_39 : decode cX1_winner 39 = .ok (.iload_n 1, 1) := dk_27 (dk_at dksX1_winner_1 17 rfl rfl)
theorem dX1_winner_40 : decode cX1_winner 40 = .ok (.ireturn, 1) := dk_172 (dk_at dksX1_winner_1 18 rfl rfl)
abbrev cX1_winnerPays : ByteArray := prog_1_method_54_code
def yX1_winnerPays : MethodName := ⟨RX1, "winnerPays", "()I"⟩
def dkwX1_winnerPays_0 : List UInt8 := [42, 180, 0, 31, 42, 182, 1, 20, 182, 1, 21, 172]
abbrev dktX1_winnerPays_0 : List UInt8 := dkwX1_winnerPays_0 ++ []
theorem dksX1_winnerPays_0 : cX1_winnerPays.data.toList.drop 0 = dktX1_winnerPays_0 := by decide +kernel
theorem dX1_winnerPays_0 : decode cX1_winnerPays 0 = .ok (.aload_n 0, 1) := dk_42 (dk_at dksX1_winnerPays_0 0 rfl rfl)
theorem dX1_winnerPays_1 : decode cX1_winnerPays 1 = .ok (.getfield 31, 3) := dk_180 0 31 (dk_at dksX1_winnerPays_0 1 rfl rfl)
theorem dX1_winnerPays_4 : decode cX1_winnerPays 4 = .ok (.aload_n 0, 1) := dk_42 (dk_at dksX1_winnerPays_0 4 rfl rfl)
theorem dX1_winnerPays_5 : decode cX1_winnerPays 5 = .ok (.invokevirtual 276, 3) := dk_182 1 20 (dk_at dksX1_winnerPays_0 5 rfl rfl)
theorem dX1_winnerPays_8 : decode cX1_winnerPays 8 = .ok (.invokevirtual 277, 3) := dk_182 1 21 (dk_at dksX1_winnerPays_0 8 rfl rfl)
theorem dX1_winnerPays_11 : decode cX1_winnerPays 11 = .ok (.ireturn, 1) := dk_172 (dk_at dksX1_winnerPays_0 11 rfl rfl)
abbrev cX1_writeTrader : ByteArray := prog_1_method_62_code
def yX1_writeTrader : MethodName := ⟨RX1, "writeTrader", "(I)I"⟩
def dkwX1_writeTrader_6 : List UInt8 := [45, 182, 1, 75, 172]
abbrev dktX1_writeTrader_6 : List UInt8 := dkwX1_writeTrader_6 ++ []
def dkwX1_writeTrader_5 : List UInt8 := [21, 4, 182, 1, 63, 182, 1, 80, 167, 0, 6, 19, 1, 55, 182, 1, 59, 78, 132, 4, 1, 167, 255, 198]
abbrev dktX1_writeTrader_5 : List UInt8 := dkwX1_writeTrader_5 ++ dktX1_writeTrader_6
def dkwX1_writeTrader_4 : List UInt8 := [180, 1, 11, 21, 4, 46, 27, 160, 0, 27, 187, 0, 46, 89, 183, 0, 48, 19, 1, 90, 182, 1, 59]
abbrev dktX1_writeTrader_4 : List UInt8 := dkwX1_writeTrader_4 ++ dktX1_writeTrader_5
def dkwX1_writeTrader_3 : List UInt8 := [184, 1, 84, 182, 1, 59, 78, 3, 54, 4, 21, 4, 7, 162, 0, 58, 42, 180, 0, 49, 42, 180, 0, 31]
abbrev dktX1_writeTrader_3 : List UInt8 := dkwX1_writeTrader_3 ++ dktX1_writeTrader_4
def dkwX1_writeTrader_2 : List UInt8 := [180, 0, 49, 19, 1, 88, 182, 1, 59, 44, 180, 0, 139, 182, 1, 63, 42, 180, 0, 31, 27, 182, 0, 142]
abbrev dktX1_writeTrader_2 : List UInt8 := dkwX1_writeTrader_2 ++ dktX1_writeTrader_3
def dkwX1_writeTrader_1 : List UInt8 := [180, 0, 126, 182, 1, 63, 42, 180, 0, 31, 27, 182, 0, 135, 184, 1, 84, 182, 1, 59, 78, 42]
abbrev dktX1_writeTrader_1 : List UInt8 := dkwX1_writeTrader_1 ++ dktX1_writeTrader_2
def dkwX1_writeTrader_0 : List UInt8 := [42, 180, 0, 31, 27, 182, 0, 122, 77, 42, 180, 0, 49, 3, 182, 1, 69, 42, 180, 0, 49, 44]
abbrev dktX1_writeTrader_0 : List UInt8 := dkwX1_writeTrader_0 ++ dktX1_writeTrader_1
theorem dksX1_writeTrader_0 : cX1_writeTrader.data.toList.drop 0 = dktX1_writeTrader_0 := by decide +kernel
theorem dksX1_writeTrader_1 : cX1_writeTrader.data.toList.drop 22 = dktX1_writeTrader_1 := dk_seg dksX1_writeTrader_0 22 rfl rfl
theorem dksX1_writeTrader_2 : cX1_writeTrader.data.toList.drop 44 = dktX1_writeTrader_2 := dk_seg dksX1_writeTrader_1 22 rfl rfl
theorem dksX1_writeTrader_3 : cX1_writeTrader.data.toList.drop 68 = dktX1_writeTrader_3 := dk_seg dksX1_writeTrader_2 24 rfl rfl
theorem dksX1_writeTrader_4 : cX1_writeTrader.data.toList.drop 92 = dktX1_writeTrader_4 := dk_seg dksX1_writeTrader_3 24 rfl rfl
theorem dksX1_writeTrader_5 : cX1_writeTrader.data.toList.drop 115 = dktX1_writeTrader_5 := dk_seg dksX1_writeTrader_4 23 rfl rfl
theorem dksX1_writeTrader_6 : cX1_writeTrader.data.toList.drop 139 = dktX1_writeTrader_6 := dk_seg dksX1_writeTrader_5 24 rfl rfl
theorem dX1_writeTrader_0 : decode cX1_writeTrader 0 = .ok (.aload_n 0, 1) := dk_42 (dk_at dksX1_writeTrader_0 0 rfl rfl)
theorem dX1_writeTrader_1 : decode cX1_writeTrader 1 = .ok (.getfield 31, 3) := dk_180 0 31 (dk_at dksX1_writeTrader_0 1 rfl rfl)
theorem dX1_writeTrader_4 : decode cX1_writeTrader 4 = .ok (.iload_n 1, 1) := dk_27 (dk_at dksX1_writeTrader_0 4 rfl rfl)
theorem dX1_writeTrader_5 : decode cX1_writeTrader 5 = .ok (.invokevirtual 122, 3) := dk_182 0 122 (dk_at dksX1_writeTrader_0 5 rfl rfl)
theorem dX1_writeTrader_8 : decode cX1_writeTrader 8 = .ok (.astore_n 2, 1) := dk_77 (dk_at dksX1_writeTrader_0 8 rfl rfl)
theorem dX1_writeTrader_9 : decode cX1_writeTrader 9 = .ok (.aload_n 0, 1) := dk_42 (dk_at dksX1_writeTrader_0 9 rfl rfl)
theorem dX1_writeTrader_10 : decode cX1_writeTrader 10 = .ok (.getfield 49, 3) := dk_180 0 49 (dk_at dksX1_writeTrader_0 10 rfl rfl)
theorem dX1_writeTrader_13 : decode cX1_writeTrader 13 = .ok (.iconst 0, 1) := dk_3 (dk_at dksX1_writeTrader_0 13 rfl rfl)
theorem dX1_writeTrader_14 : decode cX1_writeTrader 14 = .ok (.invokevirtual 325, 3) := dk_182 1 69 (dk_at dksX1_writeTrader_0 14 rfl rfl)
theorem dX1_writeTrader_17 : decode cX1_writeTrader 17 = .ok (.aload_n 0, 1) := dk_42 (dk_at dksX1_writeTrader_0 17 rfl rfl)
theorem dX1_writeTrader_18 : decode cX1_writeTrader 18 = .ok (.getfield 49, 3) := dk_180 0 49 (dk_at dksX1_writeTrader_0 18 rfl rfl)
theorem dX1_writeTrader_21 : decode cX1_writeTrader 21 = .ok (.aload_n 2, 1) := dk_44 (dk_at dksX1_writeTrader_0 21 rfl rfl)
theorem dX1_writeTrader_22 : decode cX1_writeTrader 22 = .ok (.getfield 126, 3) := dk_180 0 126 (dk_at dksX1_writeTrader_1 0 rfl rfl)
theorem dX1_writeTrader_25 : decode cX1_writeTrader 25 = .ok (.invokevirtual 319, 3) := dk_182 1 63 (dk_at dksX1_writeTrader_1 3 rfl rfl)
theorem dX1_writeTrader_28 : decode cX1_writeTrader 28 = .ok (.aload_n 0, 1) := dk_42 (dk_at dksX1_writeTrader_1 6 rfl rfl)
theorem dX1_writeTrader_29 : decode cX1_writeTrader 29 = .ok (.getfield 31, 3) := dk_180 0 31 (dk_at dksX1_writeTrader_1 7 rfl rfl)
theorem dX1_writeTrader_32 : decode cX1_writeTrader 32 = .ok (.iload_n 1, 1) := dk_27 (dk_at dksX1_writeTrader_1 10 rfl rfl)
theorem dX1_writeTrader_33 : decode cX1_writeTrader 33 = .ok (.invokevirtual 135, 3) := dk_182 0 135 (dk_at dksX1_writeTrader_1 11 rfl rfl)
theorem dX1_writeTrader_36 : decode cX1_writeTrader 36 = .ok (.invokestatic 340, 3) := dk_184 1 84 (dk_at dksX1_writeTrader_1 14 rfl rfl)
theorem dX1_writeTrader_39 : decode cX1_writeTrader 39 = .ok (.invokevirtual 315, 3) := dk_182 1 59 (dk_at dksX1_writeTrader_1 17 rfl rfl)
theorem dX1_writeTrader_42 : decode cX1_writeTrader 42 = .ok (.astore_n 3, 1) := dk_78 (dk_at dksX1_writeTrader_1 20 rfl rfl)
theorem dX1_writeTrader_43 : decode cX1_writeTrader 43 = .ok (.aload_n 0, 1) := dk_42 (dk_at dksX1_writeTrader_1 21 rfl rfl)
theorem dX1_writeTrader_44 : decode cX1_writeTrader 44 = .ok (.getfield 49, 3) := dk_180 0 49 (dk_at dksX1_writeTrader_2 0 rfl rfl)
theorem dX1_writeTrader_47 : decode cX1_writeTrader 47 = .ok (.ldc_w 344, 3) := dk_19 1 88 (dk_at dksX1_writeTrader_2 3 rfl rfl)
theorem dX1_writeTrader_50 : decode cX1_writeTrader 50 = .ok (.invokevirtual 315, 3) := dk_182 1 59 (dk_at dksX1_writeTrader_2 6 rfl rfl)
theorem dX1_writeTrader_53 : decode cX1_writeTrader 53 = .ok (.aload_n 2, 1) := dk_44 (dk_at dksX1_writeTrader_2 9 rfl rfl)
theorem dX1_writeTrader_54 : decode cX1_writeTrader 54 = .ok (.getfield 139, 3) := dk_180 0 139 (dk_at dksX1_writeTrader_2 10 rfl rfl)
theorem dX1_writeTrader_57 : decode cX1_writeTrader 57 = .ok (.invokevirtual 319, 3) := dk_182 1 63 (dk_at dksX1_writeTrader_2 13 rfl rfl)
theorem dX1_writeTrader_60 : decode cX1_writeTrader 60 = .ok (.aload_n 0, 1) := dk_42 (dk_at dksX1_writeTrader_2 16 rfl rfl)
theorem dX1_writeTrader_61 : decode cX1_writeTrader 61 = .ok (.getfield 31, 3) := dk_180 0 31 (dk_at dksX1_writeTrader_2 17 rfl rfl)
theorem dX1_writeTrader_64 : decode cX1_writeTrader 64 = .ok (.iload_n 1, 1) := dk_27 (dk_at dksX1_writeTrader_2 20 rfl rfl)
theorem dX1_writeTrader_65 : decode cX1_writeTrader 65 = .ok (.invokevirtual 142, 3) := dk_182 0 142 (dk_at dksX1_writeTrader_2 21 rfl rfl)
theorem dX1_writeTrader_68 : decode cX1_writeTrader 68 = .ok (.invokestatic 340, 3) := dk_184 1 84 (dk_at dksX1_writeTrader_3 0 rfl rfl)
theorem dX1_writeTrader_71 : decode cX1_writeTrader 71 = .ok (.invokevirtual 315, 3) := dk_182 1 59 (dk_at dksX1_writeTrader_3 3 rfl rfl)
theorem dX1_writeTrader_74 : decode cX1_writeTrader 74 = .ok (.astore_n 3, 1) := dk_78 (dk_at dksX1_writeTrader_3 6 rfl rfl)
theorem dX1_writeTrader_75 : decode cX1_writeTrader 75 = .ok (.iconst 0, 1) := dk_3 (dk_at dksX1_writeTrader_3 7 rfl rfl)
theorem dX1_writeTrader_76 : decode cX1_writeTrader 76 = .ok (.istore 4, 2) := dk_54 4 (dk_at dksX1_writeTrader_3 8 rfl rfl)
theorem dX1_writeTrader_78 : decode cX1_writeTrader 78 = .ok (.iload 4, 2) := dk_21 4 (dk_at dksX1_writeTrader_3 10 rfl rfl)
theorem dX1_writeTrader_80 : decode cX1_writeTrader 80 = .ok (.iconst 4, 1) := dk_7 (dk_at dksX1_writeTrader_3 12 rfl rfl)
theorem dX1_writeTrader_81 : decode cX1_writeTrader 81 = .ok (.if_icmp .ge 58, 3) := dk_162 0 58 (dk_at dksX1_writeTrader_3 13 rfl rfl)
theorem dX1_writeTrader_84 : decode cX1_writeTrader 84 = .ok (.aload_n 0, 1) := dk_42 (dk_at dksX1_writeTrader_3 16 rfl rfl)
theorem dX1_writeTrader_85 : decode cX1_writeTrader 85 = .ok (.getfield 49, 3) := dk_180 0 49 (dk_at dksX1_writeTrader_3 17 rfl rfl)
theorem dX1_writeTrader_88 : decode cX1_writeTrader 88 = .ok (.aload_n 0, 1) := dk_42 (dk_at dksX1_writeTrader_3 20 rfl rfl)
theorem dX1_writeTrader_89 : decode cX1_writeTrader 89 = .ok (.getfield 31, 3) := dk_180 0 31 (dk_at dksX1_writeTrader_3 21 rfl rfl)
theorem dX1_writeTrader_92 : decode cX1_writeTrader 92 = .ok (.getfield 267, 3) := dk_180 1 11 (dk_at dksX1_writeTrader_4 0 rfl rfl)
theorem dX1_writeTrader_95 : decode cX1_writeTrader 95 = .ok (.iload 4, 2) := dk_21 4 (dk_at dksX1_writeTrader_4 3 rfl rfl)
theorem dX1_writeTrader_97 : decode cX1_writeTrader 97 = .ok (.iaload, 1) := dk_46 (dk_at dksX1_writeTrader_4 5 rfl rfl)
theorem dX1_writeTrader_98 : decode cX1_writeTrader 98 = .ok (.iload_n 1, 1) := dk_27 (dk_at dksX1_writeTrader_4 6 rfl rfl)
theorem dX1_writeTrader_99 : decode cX1_writeTrader 99 = .ok (.if_icmp .ne 27, 3) := dk_160 0 27 (dk_at dksX1_writeTrader_4 7 rfl rfl)
theorem dX1_writeTrader_102 : decode cX1_writeTrader 102 = .ok (.new 46, 3) := dk_187 0 46 (dk_at dksX1_writeTrader_4 10 rfl rfl)
theorem dX1_writeTrader_105 : decode cX1_writeTrader 105 = .ok (.dup, 1) := dk_89 (dk_at dksX1_writeTrader_4 13 rfl rfl)
theorem dX1_writeTrader_106 : decode cX1_writeTrader 106 = .ok (.invokespecial 48, 3) := dk_183 0 48 (dk_at dksX1_writeTrader_4 14 rfl rfl)
theorem dX1_writeTrader_109 : decode cX1_writeTrader 109 = .ok (.ldc_w 346, 3) := dk_19 1 90 (dk_at dksX1_writeTrader_4 17 rfl rfl)
theorem dX1_writeTrader_112 : decode cX1_writeTrader 112 = .ok (.invokevirtual 315, 3) := dk_182 1 59 (dk_at dksX1_writeTrader_4 20 rfl rfl)
theorem dX1_writeTrader_115 : decode cX1_writeTrader 115 = .ok (.iload 4, 2) := dk_21 4 (dk_at dksX1_writeTrader_5 0 rfl rfl)
theorem dX1_writeTrader_117 : decode cX1_writeTrader 117 = .ok (.invokevirtual 319, 3) := dk_182 1 63 (dk_at dksX1_writeTrader_5 2 rfl rfl)
theorem dX1_writeTrader_120 : decode cX1_writeTrader 120 = .ok (.invokevirtual 336, 3) := dk_182 1 80 (dk_at dksX1_writeTrader_5 5 rfl rfl)
theorem dX1_writeTrader_123 : decode cX1_writeTrader 123 = .ok (.goto 6, 3) := dk_167 0 6 (dk_at dksX1_writeTrader_5 8 rfl rfl)
theorem dX1_writeTrader_126 : decode cX1_writeTrader 126 = .ok (.ldc_w 311, 3) := dk_19 1 55 (dk_at dksX1_writeTrader_5 11 rfl rfl)
theorem dX1_writeTrader_129 : decode cX1_writeTrader 129 = .ok (.invokevirtual 315, 3) := dk_182 1 59 (dk_at dksX1_writeTrader_5 14 rfl rfl)
theorem dX1_writeTrader_132 : decode cX1_writeTrader 132 = .ok (.astore_n 3, 1) := dk_78 (dk_at dksX1_writeTrader_5 17 rfl rfl)
theorem dX1_writeTrader_133 : decode cX1_writeTrader 133 = .ok (.iinc 4 1, 3) := dk_132 4 1 (dk_at dksX1_writeTrader_5 18 rfl rfl)
theorem dX1_writeTrader_136 : decode cX1_writeTrader 136 = .ok (.goto (-58), 3) := dk_167 255 198 (dk_at dksX1_writeTrader_5 21 rfl rfl)
theorem dX1_writeTrader_139 : decode cX1_writeTrader 139 = .ok (.aload_n 3, 1) := dk_45 (dk_at dksX1_writeTrader_6 0 rfl rfl)
theorem dX1_writeTrader_140 : decode cX1_writeTrader 140 = .ok (.invokevirtual 331, 3) := dk_182 1 75 (dk_at dksX1_writeTrader_6 1 rfl rfl)
theorem dX1_writeTrader_143 : decode cX1_writeTrader 143 = .ok (.ireturn, 1) := dk_172 (dk_at dksX1_writeTrader_6 4 rfl rfl)
abbrev cX1_reserve : ByteArray := prog_1_method_61_code
def yX1_reserve : MethodName := ⟨RX1, "reserve", "(I)Ljava/lang/String;"⟩
def dkwX1_reserve_1 : List UInt8 := [167, 0, 6, 19, 1, 55, 176]
abbrev dktX1_reserve_1 : List UInt8 := dkwX1_reserve_1 ++ []
def dkwX1_reserve_0 : List UInt8 := [26, 158, 0, 26, 187, 0, 46, 89, 183, 0, 48, 19, 1, 78, 182, 1, 59, 26, 182, 1, 63, 182, 1, 80]
abbrev dktX1_reserve_0 : List UInt8 := dkwX1_reserve_0 ++ dktX1_reserve_1
theorem dksX1_reserve_0 : cX1_reserve.data.toList.drop 0 = dktX1_reserve_0 := by decide +kernel
theorem dksX1_reserve_1 : cX1_reserve.data.toList.drop 24 = dktX1_reserve_1 := dk_seg dksX1_reserve_0 24 rfl rfl
theorem dX1_reserve_0 : decode cX1_reserve 0 = .ok (.iload_n 0, 1) := dk_26 (dk_at dksX1_reserve_0 0 rfl rfl)
theorem dX1_reserve_1 : decode cX1_reserve 1 = .ok (.ifCond .le 26, 3) := dk_158 0 26 (dk_at dksX1_reserve_0 1 rfl rfl)
theorem dX1_reserve_4 : decode cX1_reserve 4 = .ok (.new 46, 3) := dk_187 0 46 (dk_at dksX1_reserve_0 4 rfl rfl)
theorem dX1_reserve_7 : decode cX1_reserve 7 = .ok (.dup, 1) := dk_89 (dk_at dksX1_reserve_0 7 rfl rfl)
theorem dX1_reserve_8 : decode cX1_reserve 8 = .ok (.invokespecial 48, 3) := dk_183 0 48 (dk_at dksX1_reserve_0 8 rfl rfl)
theorem dX1_reserve_11 : decode cX1_reserve 11 = .ok (.ldc_w 334, 3) := dk_19 1 78 (dk_at dksX1_reserve_0 11 rfl rfl)
theorem dX1_reserve_14 : decode cX1_reserve 14 = .ok (.invokevirtual 315, 3) := dk_182 1 59 (dk_at dksX1_reserve_0 14 rfl rfl)
theorem dX1_reserve_17 : decode cX1_reserve 17 = .ok (.iload_n 0, 1) := dk_26 (dk_at dksX1_reserve_0 17 rfl rfl)
theorem dX1_reserve_18 : decode cX1_reserve 18 = .ok (.invokevirtual 319, 3) := dk_182 1 63 (dk_at dksX1_reserve_0 18 rfl rfl)
theorem dX1_reserve_21 : decode cX1_reserve 21 = .ok (.invokevirtual 336, 3) := dk_182 1 80 (dk_at dksX1_reserve_0 21 rfl rfl)
theorem dX1_reserve_24 : decode cX1_reserve 24 = .ok (.goto 6, 3) := dk_167 0 6 (dk_at dksX1_reserve_1 0 rfl rfl)
theorem dX1_reserve_27 : decode cX1_reserve 27 = .ok (.ldc_w 311, 3) := dk_19 1 55 (dk_at dksX1_reserve_1 3 rfl rfl)
theorem dX1_reserve_30 : decode cX1_reserve 30 = .ok (.areturn, 1) := dk_176 (dk_at dksX1_reserve_1 6 rfl rfl)
abbrev cX1_charAt : ByteArray := prog_1_method_63_code
def yX1_charAt : MethodName := ⟨RX1, "charAt", "(I)C"⟩
def dkwX1_charAt_0 : List UInt8 := [27, 42, 180, 0, 49, 182, 1, 75, 184, 0, 118, 42, 180, 0, 49, 27, 182, 1, 92, 172]
abbrev dktX1_charAt_0 : List UInt8 := dkwX1_charAt_0 ++ []
theorem dksX1_charAt_0 : cX1_charAt.data.toList.drop 0 = dktX1_charAt_0 := by decide +kernel
theorem dX1_charAt_0 : decode cX1_charAt 0 = .ok (.iload_n 1, 1) := dk_27 (dk_at dksX1_charAt_0 0 rfl rfl)
theorem dX1_charAt_1 : decode cX1_charAt 1 = .ok (.aload_n 0, 1) := dk_42 (dk_at dksX1_charAt_0 1 rfl rfl)
theorem dX1_charAt_2 : decode cX1_charAt 2 = .ok (.getfield 49, 3) := dk_180 0 49 (dk_at dksX1_charAt_0 2 rfl rfl)
theorem dX1_charAt_5 : decode cX1_charAt 5 = .ok (.invokevirtual 331, 3) := dk_182 1 75 (dk_at dksX1_charAt_0 5 rfl rfl)
theorem dX1_charAt_8 : decode cX1_charAt 8 = .ok (.invokestatic 118, 3) := dk_184 0 118 (dk_at dksX1_charAt_0 8 rfl rfl)
theorem dX1_charAt_11 : decode cX1_charAt 11 = .ok (.aload_n 0, 1) := dk_42 (dk_at dksX1_charAt_0 11 rfl rfl)
theorem dX1_charAt_12 : decode cX1_charAt 12 = .ok (.getfield 49, 3) := dk_180 0 49 (dk_at dksX1_charAt_0 12 rfl rfl)
theorem dX1_charAt_15 : decode cX1_charAt 15 = .ok (.iload_n 1, 1) := dk_27 (dk_at dksX1_charAt_0 15 rfl rfl)
theorem dX1_charAt_16 : decode cX1_charAt 16 = .ok (.invokevirtual 348, 3) := dk_182 1 92 (dk_at dksX1_charAt_0 16 rfl rfl)
theorem dX1_charAt_19 : decode cX1_charAt 19 = .ok (.ireturn, 1) := dk_172 (dk_at dksX1_charAt_0 19 rfl rfl)
abbrev cX1_type : ByteArray := prog_1_method_64_code
def yX1_type : MethodName := ⟨RX1, "type", "(C)I"⟩
def dkwX1_type_1 : List UInt8 := [180, 1, 96, 27, 85, 42, 89, 180, 1, 96, 4, 96, 181, 1, 96, 42, 180, 1, 96, 172]
abbrev dktX1_type_1 : List UInt8 := dkwX1_type_1 ++ []
def dkwX1_type_0 : List UInt8 := [42, 180, 1, 96, 16, 60, 162, 0, 7, 4, 167, 0, 4, 3, 184, 1, 14, 42, 180, 0, 53, 42]
abbrev dktX1_type_0 : List UInt8 := dkwX1_type_0 ++ dktX1_type_1
theorem dksX1_type_0 : cX1_type.data.toList.drop 0 = dktX1_type_0 := by decide +kernel
theorem dksX1_type_1 : cX1_type.data.toList.drop 22 = dktX1_type_1 := dk_seg dksX1_type_0 22 rfl rfl
theorem dX1_type_0 : decode cX1_type 0 = .ok (.aload_n 0, 1) := dk_42 (dk_at dksX1_type_0 0 rfl rfl)
theorem dX1_type_1 : decode cX1_type 1 = .ok (.getfield 352, 3) := dk_180 1 96 (dk_at dksX1_type_0 1 rfl rfl)
theorem dX1_type_4 : decode cX1_type 4 = .ok (.bipush 60, 2) := dk_16 60 (dk_at dksX1_type_0 4 rfl rfl)
theorem dX1_type_6 : decode cX1_type 6 = .ok (.if_icmp .ge 7, 3) := dk_162 0 7 (dk_at dksX1_type_0 6 rfl rfl)
theorem dX1_type_9 : decode cX1_type 9 = .ok (.iconst 1, 1) := dk_4 (dk_at dksX1_type_0 9 rfl rfl)
theorem dX1_type_10 : decode cX1_type 10 = .ok (.goto 4, 3) := dk_167 0 4 (dk_at dksX1_type_0 10 rfl rfl)
theorem dX1_type_13 : decode cX1_type 13 = .ok (.iconst 0, 1) := dk_3 (dk_at dksX1_type_0 13 rfl rfl)
theorem dX1_type_14 : decode cX1_type 14 = .ok (.invokestatic 270, 3) := dk_184 1 14 (dk_at dksX1_type_0 14 rfl rfl)
theorem dX1_type_17 : decode cX1_type 17 = .ok (.aload_n 0, 1) := dk_42 (dk_at dksX1_type_0 17 rfl rfl)
theorem dX1_type_18 : decode cX1_type 18 = .ok (.getfield 53, 3) := dk_180 0 53 (dk_at dksX1_type_0 18 rfl rfl)
theorem dX1_type_21 : decode cX1_type 21 = .ok (.aload_n 0, 1) := dk_42 (dk_at dksX1_type_0 21 rfl rfl)
theorem dX1_type_22 : decode cX1_type 22 = .ok (.getfield 352, 3) := dk_180 1 96 (dk_at dksX1_type_1 0 rfl rfl)
theorem dX1_type_25 : decode cX1_type 25 = .ok (.iload_n 1, 1) := dk_27 (dk_at dksX1_type_1 3 rfl rfl)
theorem dX1_type_26 : decode cX1_type 26 = .ok (.castore, 1) := dk_85 (dk_at dksX1_type_1 4 rfl rfl)
theorem dX1_type_27 : decode cX1_type 27 = .ok (.aload_n 0, 1) := dk_42 (dk_at dksX1_type_1 5 rfl rfl)
theorem dX1_type_28 : decode cX1_type 28 = .ok (.dup, 1) := dk_89 (dk_at dksX1_type_1 6 rfl rfl)
theorem dX1_type_29 : decode cX1_type 29 = .ok (.getfield 352, 3) := dk_180 1 96 (dk_at dksX1_type_1 7 rfl rfl)
theorem dX1_type_32 : decode cX1_type 32 = .ok (.iconst 1, 1) := dk_4 (dk_at dksX1_type_1 10 rfl rfl)
theorem dX1_type_33 : decode cX1_type 33 = .ok (.iadd, 1) := dk_96 (dk_at dksX1_type_1 11 rfl rfl)
theorem dX1_type_34 : decode cX1_type 34 = .ok (.putfield 352, 3) := dk_181 1 96 (dk_at dksX1_type_1 12 rfl rfl)
theorem dX1_type_37 : decode cX1_type 37 = .ok (.aload_n 0, 1) := dk_42 (dk_at dksX1_type_1 15 rfl rfl)
theorem dX1_type_38 : decode cX1_type 38 = .ok (.getfield 352, 3) := dk_180 1 96 (dk_at dksX1_type_1 16 rfl rfl)
theorem dX1_type_41 : decode cX1_type 41 = .ok (.ireturn, 1) := dk_172 (dk_at dksX1_type_1 19 rfl rfl)
abbrev cX1_run : ByteArray := prog_1_method_66_code
def yX1_run : MethodName := ⟨RX1, "run", "()I"⟩
def dkwX1_run_1 : List UInt8 := [42, 43, 180, 1, 120, 181, 0, 57, 187, 0, 1, 89, 183, 0, 3, 191, 77, 42, 3, 181, 1, 96, 44, 191]
abbrev dktX1_run_1 : List UInt8 := dkwX1_run_1 ++ []
def dkwX1_run_0 : List UInt8 := [42, 187, 1, 105, 89, 42, 183, 1, 107, 182, 1, 110, 182, 1, 114, 60, 42, 3, 181, 1, 96, 27, 172, 76]
abbrev dktX1_run_0 : List UInt8 := dkwX1_run_0 ++ dktX1_run_1
theorem dksX1_run_0 : cX1_run.data.toList.drop 0 = dktX1_run_0 := by decide +kernel
theorem dksX1_run_1 : cX1_run.data.toList.drop 24 = dktX1_run_1 := dk_seg dksX1_run_0 24 rfl rfl
theorem dX1_run_0 : decode cX1_run 0 = .ok (.aload_n 0, 1) := dk_42 (dk_at dksX1_run_0 0 rfl rfl)
theorem dX1_run_1 : decode cX1_run 1 = .ok (.new 361, 3) := dk_187 1 105 (dk_at dksX1_run_0 1 rfl rfl)
theorem dX1_run_4 : decode cX1_run 4 = .ok (.dup, 1) := dk_89 (dk_at dksX1_run_0 4 rfl rfl)
theorem dX1_run_5 : decode cX1_run 5 = .ok (.aload_n 0, 1) := dk_42 (dk_at dksX1_run_0 5 rfl rfl)
theorem dX1_run_6 : decode cX1_run 6 = .ok (.invokespecial 363, 3) := dk_183 1 107 (dk_at dksX1_run_0 6 rfl rfl)
theorem dX1_run_9 : decode cX1_run 9 = .ok (.invokevirtual 366, 3) := dk_182 1 110 (dk_at dksX1_run_0 9 rfl rfl)
theorem dX1_run_12 : decode cX1_run 12 = .ok (.invokevirtual 370, 3) := dk_182 1 114 (dk_at dksX1_run_0 12 rfl rfl)
theorem dX1_run_15 : decode cX1_run 15 = .ok (.istore_n 1, 1) := dk_60 (dk_at dksX1_run_0 15 rfl rfl)
theorem dX1_run_16 : decode cX1_run 16 = .ok (.aload_n 0, 1) := dk_42 (dk_at dksX1_run_0 16 rfl rfl)
theorem dX1_run_17 : decode cX1_run 17 = .ok (.iconst 0, 1) := dk_3 (dk_at dksX1_run_0 17 rfl rfl)
theorem dX1_run_18 : decode cX1_run 18 = .ok (.putfield 352, 3) := dk_181 1 96 (dk_at dksX1_run_0 18 rfl rfl)
theorem dX1_run_21 : decode cX1_run 21 = .ok (.iload_n 1, 1) := dk_27 (dk_at dksX1_run_0 21 rfl rfl)
theorem dX1_run_22 : decode cX1_run 22 = .ok (.ireturn, 1) := dk_172 (dk_at dksX1_run_0 22 rfl rfl)
theorem dX1_run_23 : decode cX1_run 23 = .ok (.astore_n 1, 1) := dk_76 (dk_at dksX1_run_0 23 rfl rfl)
theorem dX1_run_24 : decode cX1_run 24 = .ok (.aload_n 0, 1) := dk_42 (dk_at dksX1_run_1 0 rfl rfl)
theorem dX1_run_25 : decode cX1_run 25 = .ok (.aload_n 1, 1) := dk_43 (dk_at dksX1_run_1 1 rfl rfl)
theorem dX1_run_26 : decode cX1_run 26 = .ok (.getfield 376, 3) := dk_180 1 120 (dk_at dksX1_run_1 2 rfl rfl)
theorem dX1_run_29 : decode cX1_run 29 = .ok (.putfield 57, 3) := dk_181 0 57 (dk_at dksX1_run_1 5 rfl rfl)
theorem dX1_run_32 : decode cX1_run 32 = .ok (.new 1, 3) := dk_187 0 1 (dk_at dksX1_run_1 8 rfl rfl)
theorem dX1_run_35 : decode cX1_run 35 = .ok (.dup, 1) := dk_89 (dk_at dksX1_run_1 11 rfl rfl)
theorem dX1_run_36 : decode cX1_run 36 = .ok (.invokespecial 3, 3) := dk_183 0 3 (dk_at dksX1_run_1 12 rfl rfl)
theorem dX1_run_39 : decode cX1_run 39 = .ok (.athrow, 1) := dk_191 (dk_at dksX1_run_1 15 rfl rfl)
theorem dX1_run_40 : decode cX1_run 40 = .ok (.astore_n 2, 1) := dk_77 (dk_at dksX1_run_1 16 rfl rfl)
theorem dX1_run_41 : decode cX1_run 41 = .ok (.aload_n 0, 1) := dk_42 (dk_at dksX1_run_1 17 rfl rfl)
theorem dX1_run_42 : decode cX1_run 42 = .ok (.iconst 0, 1) := dk_3 (dk_at dksX1_run_1 18 rfl rfl)
theorem dX1_run_43 : decode cX1_run 43 = .ok (.putfield 352, 3) := dk_181 1 96 (dk_at dksX1_run_1 19 rfl rfl)
theorem dX1_run_46 : decode cX1_run 46 = .ok (.aload_n 2, 1) := dk_44 (dk_at dksX1_run_1 22 rfl rfl)
theorem dX1_run_47 : decode cX1_run 47 = .ok (.athrow, 1) := dk_191 (dk_at dksX1_run_1 23 rfl rfl)
abbrev cX1_execute : ByteArray := prog_1_method_65_code
def yX1_execute : MethodName := ⟨RX1, "execute", "(Ljava/util/ArrayList;)I"⟩
def dkwX1_execute_3 : List UInt8 := [181, 0, 61, 187, 0, 22, 89, 183, 0, 24, 191, 42, 44, 182, 0, 85, 29, 172]
abbrev dktX1_execute_3 : List UInt8 := dkwX1_execute_3 ++ []
def dkwX1_execute_2 : List UInt8 := [180, 1, 101, 44, 185, 0, 79, 2, 0, 54, 4, 132, 3, 1, 167, 255, 218, 167, 0, 18, 58, 5, 42, 29]
abbrev dktX1_execute_2 : List UInt8 := dkwX1_execute_2 ++ dktX1_execute_3
def dkwX1_execute_1 : List UInt8 := [25, 5, 185, 1, 47, 1, 0, 153, 0, 34, 25, 5, 185, 1, 52, 1, 0, 192, 1, 99, 58, 6, 25, 6]
abbrev dktX1_execute_1 : List UInt8 := dkwX1_execute_1 ++ dktX1_execute_2
def dkwX1_execute_0 : List UInt8 := [187, 0, 28, 89, 42, 180, 0, 31, 183, 0, 76, 77, 3, 62, 3, 54, 4, 43, 182, 1, 43, 58, 5]
abbrev dktX1_execute_0 : List UInt8 := dkwX1_execute_0 ++ dktX1_execute_1
theorem dksX1_execute_0 : cX1_execute.data.toList.drop 0 = dktX1_execute_0 := by decide +kernel
theorem dksX1_execute_1 : cX1_execute.data.toList.drop 23 = dktX1_execute_1 := dk_seg dksX1_execute_0 23 rfl rfl
theorem dksX1_execute_2 : cX1_execute.data.toList.drop 47 = dktX1_execute_2 := dk_seg dksX1_execute_1 24 rfl rfl
theorem dksX1_execute_3 : cX1_execute.data.toList.drop 71 = dktX1_execute_3 := dk_seg dksX1_execute_2 24 rfl rfl
theorem dX1_execute_0 : decode cX1_execute 0 = .ok (.new 28, 3) := dk_187 0 28 (dk_at dksX1_execute_0 0 rfl rfl)
theorem dX1_execute_3 : decode cX1_execute 3 = .ok (.dup, 1) := dk_89 (dk_at dksX1_execute_0 3 rfl rfl)
theorem dX1_execute_4 : decode cX1_execute 4 = .ok (.aload_n 0, 1) := dk_42 (dk_at dksX1_execute_0 4 rfl rfl)
theorem dX1_execute_5 : decode cX1_execute 5 = .ok (.getfield 31, 3) := dk_180 0 31 (dk_at dksX1_execute_0 5 rfl rfl)
theorem dX1_execute_8 : decode cX1_execute 8 = .ok (.invokespecial 76, 3) := dk_183 0 76 (dk_at dksX1_execute_0 8 rfl rfl)
theorem dX1_execute_11 : decode cX1_execute 11 = .ok (.astore_n 2, 1) := dk_77 (dk_at dksX1_execute_0 11 rfl rfl)
theorem dX1_execute_12 : decode cX1_execute 12 = .ok (.iconst 0, 1) := dk_3 (dk_at dksX1_execute_0 12 rfl rfl)
theorem dX1_execute_13 : decode cX1_execute 13 = .ok (.istore_n 3, 1) := dk_62 (dk_at dksX1_execute_0 13 rfl rfl)
theorem dX1_execute_14 : decode cX1_execute 14 = .ok (.iconst 0, 1) := dk_3 (dk_at dksX1_execute_0 14 rfl rfl)
theorem dX1_execute_15 : decode cX1_execute 15 = .ok (.istore 4, 2) := dk_54 4 (dk_at dksX1_execute_0 15 rfl rfl)
theorem dX1_execute_17 : decode cX1_execute 17 = .ok (.aload_n 1, 1) := dk_43 (dk_at dksX1_execute_0 17 rfl rfl)
theorem dX1_execute_18 : decode cX1_execute 18 = .ok (.invokevirtual 299, 3) := dk_182 1 43 (dk_at dksX1_execute_0 18 rfl rfl)
theorem dX1_execute_21 : decode cX1_execute 21 = .ok (.astore 5, 2) := dk_58 5 (dk_at dksX1_execute_0 21 rfl rfl)
theorem dX1_execute_23 : decode cX1_execute 23 = .ok (.aload 5, 2) := dk_25 5 (dk_at dksX1_execute_1 0 rfl rfl)
theorem dX1_execute_25 : decode cX1_execute 25 = .ok (.invokeinterface 303 1, 5) := by decide +kernel
theorem dX1_execute_30 : decode cX1_execute 30 = .ok (.ifCond .eq 34, 3) := dk_153 0 34 (dk_at dksX1_execute_1 7 rfl rfl)
theorem dX1_execute_33 : decode cX1_execute 33 = .ok (.aload 5, 2) := dk_25 5 (dk_at dksX1_execute_1 10 rfl rfl)
theorem dX1_execute_35 : decode cX1_execute 35 = .ok (.invokeinterface 308 1, 5) := by decide +kernel
theorem dX1_execute_40 : decode cX1_execute 40 = .ok (.checkcast 355, 3) := dk_192 1 99 (dk_at dksX1_execute_1 17 rfl rfl)
theorem dX1_execute_43 : decode cX1_execute 43 = .ok (.astore 6, 2) := dk_58 6 (dk_at dksX1_execute_1 20 rfl rfl)
theorem dX1_execute_45 : decode cX1_execute 45 = .ok (.aload 6, 2) := dk_25 6 (dk_at dksX1_execute_1 22 rfl rfl)
theorem dX1_execute_47 : decode cX1_execute 47 = .ok (.getfield 357, 3) := dk_180 1 101 (dk_at dksX1_execute_2 0 rfl rfl)
theorem dX1_execute_50 : decode cX1_execute 50 = .ok (.aload_n 2, 1) := dk_44 (dk_at dksX1_execute_2 3 rfl rfl)
theorem dX1_execute_51 : decode cX1_execute 51 = .ok (.invokeinterface 79 2, 5) := by decide +kernel
theorem dX1_execute_56 : decode cX1_execute 56 = .ok (.istore 4, 2) := dk_54 4 (dk_at dksX1_execute_2 9 rfl rfl)
theorem dX1_execute_58 : decode cX1_execute 58 = .ok (.iinc 3 1, 3) := dk_132 3 1 (dk_at dksX1_execute_2 11 rfl rfl)
theorem dX1_execute_61 : decode cX1_execute 61 = .ok (.goto (-38), 3) := dk_167 255 218 (dk_at dksX1_execute_2 14 rfl rfl)
theorem dX1_execute_64 : decode cX1_execute 64 = .ok (.goto 18, 3) := dk_167 0 18 (dk_at dksX1_execute_2 17 rfl rfl)
theorem dX1_execute_67 : decode cX1_execute 67 = .ok (.astore 5, 2) := dk_58 5 (dk_at dksX1_execute_2 20 rfl rfl)
theorem dX1_execute_69 : decode cX1_execute 69 = .ok (.aload_n 0, 1) := dk_42 (dk_at dksX1_execute_2 22 rfl rfl)
theorem dX1_execute_70 : decode cX1_execute 70 = .ok (.iload_n 3, 1) := dk_29 (dk_at dksX1_execute_2 23 rfl rfl)
theorem dX1_execute_71 : decode cX1_execute 71 = .ok (.putfield 61, 3) := dk_181 0 61 (dk_at dksX1_execute_3 0 rfl rfl)
theorem dX1_execute_74 : decode cX1_execute 74 = .ok (.new 22, 3) := dk_187 0 22 (dk_at dksX1_execute_3 3 rfl rfl)
theorem dX1_execute_77 : decode cX1_execute 77 = .ok (.dup, 1) := dk_89 (dk_at dksX1_execute_3 6 rfl rfl)
theorem dX1_execute_78 : decode cX1_execute 78 = .ok (.invokespecial 24, 3) := dk_183 0 24 (dk_at dksX1_execute_3 7 rfl rfl)
theorem dX1_execute_81 : decode cX1_execute 81 = .ok (.athrow, 1) := dk_191 (dk_at dksX1_execute_3 10 rfl rfl)
theorem dX1_execute_82 : decode cX1_execute 82 = .ok (.aload_n 0, 1) := dk_42 (dk_at dksX1_execute_3 11 rfl rfl)
theorem dX1_execute_83 : decode cX1_execute 83 = .ok (.aload_n 2, 1) := dk_44 (dk_at dksX1_execute_3 12 rfl rfl)
theorem dX1_execute_84 : decode cX1_execute 84 = .ok (.invokevirtual 85, 3) := dk_182 0 85 (dk_at dksX1_execute_3 13 rfl rfl)
theorem dX1_execute_87 : decode cX1_execute 87 = .ok (.iload_n 3, 1) := dk_29 (dk_at dksX1_execute_3 16 rfl rfl)
theorem dX1_execute_88 : decode cX1_execute 88 = .ok (.ireturn, 1) := dk_172 (dk_at dksX1_execute_3 17 rfl rfl)
abbrev cX1_errorPosition : ByteArray := prog_1_method_67_code
def yX1_errorPosition : MethodName := ⟨RX1, "errorPosition", "()I"⟩
def dkwX1_errorPosition_0 : List UInt8 := [42, 180, 0, 57, 2, 159, 0, 7, 4, 167, 0, 4, 3, 184, 0, 170, 42, 180, 0, 57, 172]
abbrev dktX1_errorPosition_0 : List UInt8 := dkwX1_errorPosition_0 ++ []
theorem dksX1_errorPosition_0 : cX1_errorPosition.data.toList.drop 0 = dktX1_errorPosition_0 := by decide +kernel
theorem dX1_errorPosition_0 : decode cX1_errorPosition 0 = .ok (.aload_n 0, 1) := dk_42 (dk_at dksX1_errorPosition_0 0 rfl rfl)
theorem dX1_errorPosition_1 : decode cX1_errorPosition 1 = .ok (.getfield 57, 3) := dk_180 0 57 (dk_at dksX1_errorPosition_0 1 rfl rfl)
theorem dX1_errorPosition_4 : decode cX1_errorPosition 4 = .ok (.iconst (-1), 1) := dk_2 (dk_at dksX1_errorPosition_0 4 rfl rfl)
theorem dX1_errorPosition_5 : decode cX1_errorPosition 5 = .ok (.if_icmp .eq 7, 3) := dk_159 0 7 (dk_at dksX1_errorPosition_0 5 rfl rfl)
theorem dX1_errorPosition_8 : decode cX1_errorPosition 8 = .ok (.iconst 1, 1) := dk_4 (dk_at dksX1_errorPosition_0 8 rfl rfl)
theorem dX1_errorPosition_9 : decode cX1_errorPosition 9 = .ok (.goto 4, 3) := dk_167 0 4 (dk_at dksX1_errorPosition_0 9 rfl rfl)
theorem dX1_errorPosition_12 : decode cX1_errorPosition 12 = .ok (.iconst 0, 1) := dk_3 (dk_at dksX1_errorPosition_0 12 rfl rfl)
theorem dX1_errorPosition_13 : decode cX1_errorPosition 13 = .ok (.invokestatic 170, 3) := dk_184 0 170 (dk_at dksX1_errorPosition_0 13 rfl rfl)
theorem dX1_errorPosition_16 : decode cX1_errorPosition 16 = .ok (.aload_n 0, 1) := dk_42 (dk_at dksX1_errorPosition_0 16 rfl rfl)
theorem dX1_errorPosition_17 : decode cX1_errorPosition 17 = .ok (.getfield 57, 3) := dk_180 0 57 (dk_at dksX1_errorPosition_0 17 rfl rfl)
theorem dX1_errorPosition_20 : decode cX1_errorPosition 20 = .ok (.ireturn, 1) := dk_172 (dk_at dksX1_errorPosition_0 20 rfl rfl)
abbrev cX1_failedCommand : ByteArray := prog_1_method_68_code
def yX1_failedCommand : MethodName := ⟨RX1, "failedCommand", "()I"⟩
def dkwX1_failedCommand_0 : List UInt8 := [42, 180, 0, 61, 2, 159, 0, 7, 4, 167, 0, 4, 3, 184, 0, 170, 42, 180, 0, 61, 172]
abbrev dktX1_failedCommand_0 : List UInt8 := dkwX1_failedCommand_0 ++ []
theorem dksX1_failedCommand_0 : cX1_failedCommand.data.toList.drop 0 = dktX1_failedCommand_0 := by decide +kernel
theorem dX1_failedCommand_0 : decode cX1_failedCommand 0 = .ok (.aload_n 0, 1) := dk_42 (dk_at dksX1_failedCommand_0 0 rfl rfl)
theorem dX1_failedCommand_1 : decode cX1_failedCommand 1 = .ok (.getfield 61, 3) := dk_180 0 61 (dk_at dksX1_failedCommand_0 1 rfl rfl)
theorem dX1_failedCommand_4 : decode cX1_failedCommand 4 = .ok (.iconst (-1), 1) := dk_2 (dk_at dksX1_failedCommand_0 4 rfl rfl)
theorem dX1_failedCommand_5 : decode cX1_failedCommand 5 = .ok (.if_icmp .eq 7, 3) := dk_159 0 7 (dk_at dksX1_failedCommand_0 5 rfl rfl)
theorem dX1_failedCommand_8 : decode cX1_failedCommand 8 = .ok (.iconst 1, 1) := dk_4 (dk_at dksX1_failedCommand_0 8 rfl rfl)
theorem dX1_failedCommand_9 : decode cX1_failedCommand 9 = .ok (.goto 4, 3) := dk_167 0 4 (dk_at dksX1_failedCommand_0 9 rfl rfl)
theorem dX1_failedCommand_12 : decode cX1_failedCommand 12 = .ok (.iconst 0, 1) := dk_3 (dk_at dksX1_failedCommand_0 12 rfl rfl)
theorem dX1_failedCommand_13 : decode cX1_failedCommand 13 = .ok (.invokestatic 170, 3) := dk_184 0 170 (dk_at dksX1_failedCommand_0 13 rfl rfl)
theorem dX1_failedCommand_16 : decode cX1_failedCommand 16 = .ok (.aload_n 0, 1) := dk_42 (dk_at dksX1_failedCommand_0 16 rfl rfl)
theorem dX1_failedCommand_17 : decode cX1_failedCommand 17 = .ok (.getfield 61, 3) := dk_180 0 61 (dk_at dksX1_failedCommand_0 17 rfl rfl)
theorem dX1_failedCommand_20 : decode cX1_failedCommand 20 = .ok (.ireturn, 1) := dk_172 (dk_at dksX1_failedCommand_0 20 rfl rfl)
abbrev cX1_undo : ByteArray := prog_1_method_69_code
def yX1_undo : MethodName := ⟨RX1, "undo", "()I"⟩
def dkwX1_undo_1 : List UInt8 := [182, 1, 124, 192, 0, 28, 181, 0, 31, 42, 180, 0, 38, 182, 0, 64, 172]
abbrev dktX1_undo_1 : List UInt8 := dkwX1_undo_1 ++ []
def dkwX1_undo_0 : List UInt8 := [42, 180, 0, 38, 182, 1, 123, 154, 0, 7, 4, 167, 0, 4, 3, 184, 1, 14, 42, 42, 180, 0, 38]
abbrev dktX1_undo_0 : List UInt8 := dkwX1_undo_0 ++ dktX1_undo_1
theorem dksX1_undo_0 : cX1_undo.data.toList.drop 0 = dktX1_undo_0 := by decide +kernel
theorem dksX1_undo_1 : cX1_undo.data.toList.drop 23 = dktX1_undo_1 := dk_seg dksX1_undo_0 23 rfl rfl
theorem dX1_undo_0 : decode cX1_undo 0 = .ok (.aload_n 0, 1) := dk_42 (dk_at dksX1_undo_0 0 rfl rfl)
theorem dX1_undo_1 : decode cX1_undo 1 = .ok (.getfield 38, 3) := dk_180 0 38 (dk_at dksX1_undo_0 1 rfl rfl)
theorem dX1_undo_4 : decode cX1_undo 4 = .ok (.invokevirtual 379, 3) := dk_182 1 123 (dk_at dksX1_undo_0 4 rfl rfl)
theorem dX1_undo_7 : decode cX1_undo 7 = .ok (.ifCond .ne 7, 3) := dk_154 0 7 (dk_at dksX1_undo_0 7 rfl rfl)
theorem dX1_undo_10 : decode cX1_undo 10 = .ok (.iconst 1, 1) := dk_4 (dk_at dksX1_undo_0 10 rfl rfl)
theorem dX1_undo_11 : decode cX1_undo 11 = .ok (.goto 4, 3) := dk_167 0 4 (dk_at dksX1_undo_0 11 rfl rfl)
theorem dX1_undo_14 : decode cX1_undo 14 = .ok (.iconst 0, 1) := dk_3 (dk_at dksX1_undo_0 14 rfl rfl)
theorem dX1_undo_15 : decode cX1_undo 15 = .ok (.invokestatic 270, 3) := dk_184 1 14 (dk_at dksX1_undo_0 15 rfl rfl)
theorem dX1_undo_18 : decode cX1_undo 18 = .ok (.aload_n 0, 1) := dk_42 (dk_at dksX1_undo_0 18 rfl rfl)
theorem dX1_undo_19 : decode cX1_undo 19 = .ok (.aload_n 0, 1) := dk_42 (dk_at dksX1_undo_0 19 rfl rfl)
theorem dX1_undo_20 : decode cX1_undo 20 = .ok (.getfield 38, 3) := dk_180 0 38 (dk_at dksX1_undo_0 20 rfl rfl)
theorem dX1_undo_23 : decode cX1_undo 23 = .ok (.invokevirtual 380, 3) := dk_182 1 124 (dk_at dksX1_undo_1 0 rfl rfl)
theorem dX1_undo_26 : decode cX1_undo 26 = .ok (.checkcast 28, 3) := dk_192 0 28 (dk_at dksX1_undo_1 3 rfl rfl)
theorem dX1_undo_29 : decode cX1_undo 29 = .ok (.putfield 31, 3) := dk_181 0 31 (dk_at dksX1_undo_1 6 rfl rfl)
theorem dX1_undo_32 : decode cX1_undo 32 = .ok (.aload_n 0, 1) := dk_42 (dk_at dksX1_undo_1 9 rfl rfl)
theorem dX1_undo_33 : decode cX1_undo 33 = .ok (.getfield 38, 3) := dk_180 0 38 (dk_at dksX1_undo_1 10 rfl rfl)
theorem dX1_undo_36 : decode cX1_undo 36 = .ok (.invokevirtual 64, 3) := dk_182 0 64 (dk_at dksX1_undo_1 13 rfl rfl)
theorem dX1_undo_39 : decode cX1_undo 39 = .ok (.ireturn, 1) := dk_172 (dk_at dksX1_undo_1 16 rfl rfl)
abbrev cX1_restore : ByteArray := prog_1_method_71_code
def yX1_restore : MethodName := ⟨RX1, "restore", "()I"⟩
def dkwX1_restore_1 : List UInt8 := [183, 0, 76, 181, 0, 31, 42, 180, 0, 38, 182, 1, 130, 42, 180, 0, 31, 180, 0, 111, 182, 0, 115, 172]
abbrev dktX1_restore_1 : List UInt8 := dkwX1_restore_1 ++ []
def dkwX1_restore_0 : List UInt8 := [42, 180, 1, 127, 198, 0, 7, 4, 167, 0, 4, 3, 184, 1, 14, 42, 187, 0, 28, 89, 42, 180, 1, 127]
abbrev dktX1_restore_0 : List UInt8 := dkwX1_restore_0 ++ dktX1_restore_1
theorem dksX1_restore_0 : cX1_restore.data.toList.drop 0 = dktX1_restore_0 := by decide +kernel
theorem dksX1_restore_1 : cX1_restore.data.toList.drop 24 = dktX1_restore_1 := dk_seg dksX1_restore_0 24 rfl rfl
theorem dX1_restore_0 : decode cX1_restore 0 = .ok (.aload_n 0, 1) := dk_42 (dk_at dksX1_restore_0 0 rfl rfl)
theorem dX1_restore_1 : decode cX1_restore 1 = .ok (.getfield 383, 3) := dk_180 1 127 (dk_at dksX1_restore_0 1 rfl rfl)
theorem dX1_restore_4 : decode cX1_restore 4 = .ok (.ifnull 7, 3) := dk_198 0 7 (dk_at dksX1_restore_0 4 rfl rfl)
theorem dX1_restore_7 : decode cX1_restore 7 = .ok (.iconst 1, 1) := dk_4 (dk_at dksX1_restore_0 7 rfl rfl)
theorem dX1_restore_8 : decode cX1_restore 8 = .ok (.goto 4, 3) := dk_167 0 4 (dk_at dksX1_restore_0 8 rfl rfl)
theorem dX1_restore_11 : decode cX1_restore 11 = .ok (.iconst 0, 1) := dk_3 (dk_at dksX1_restore_0 11 rfl rfl)
theorem dX1_restore_12 : decode cX1_restore 12 = .ok (.invokestatic 270, 3) := dk_184 1 14 (dk_at dksX1_restore_0 12 rfl rfl)
theorem dX1_restore_15 : decode cX1_restore 15 = .ok (.aload_n 0, 1) := dk_42 (dk_at dksX1_restore_0 15 rfl rfl)
theorem dX1_restore_16 : decode cX1_restore 16 = .ok (.new 28, 3) := dk_187 0 28 (dk_at dksX1_restore_0 16 rfl rfl)
theorem dX1_restore_19 : decode cX1_restore 19 = .ok (.dup, 1) := dk_89 (dk_at dksX1_restore_0 19 rfl rfl)
theorem dX1_restore_20 : decode cX1_restore 20 = .ok (.aload_n 0, 1) := dk_42 (dk_at dksX1_restore_0 20 rfl rfl)
theorem dX1_restore_21 : decode cX1_restore 21 = .ok (.getfield 383, 3) := dk_180 1 127 (dk_at dksX1_restore_0 21 rfl rfl)
theorem dX1_restore_24 : decode cX1_restore 24 = .ok (.invokespecial 76, 3) := dk_183 0 76 (dk_at dksX1_restore_1 0 rfl rfl)
theorem dX1_restore_27 : decode cX1_restore 27 = .ok (.putfield 31, 3) := dk_181 0 31 (dk_at dksX1_restore_1 3 rfl rfl)
theorem dX1_restore_30 : decode cX1_restore 30 = .ok (.aload_n 0, 1) := dk_42 (dk_at dksX1_restore_1 6 rfl rfl)
theorem dX1_restore_31 : decode cX1_restore 31 = .ok (.getfield 38, 3) := dk_180 0 38 (dk_at dksX1_restore_1 7 rfl rfl)
theorem dX1_restore_34 : decode cX1_restore 34 = .ok (.invokevirtual 386, 3) := dk_182 1 130 (dk_at dksX1_restore_1 10 rfl rfl)
theorem dX1_restore_37 : decode cX1_restore 37 = .ok (.aload_n 0, 1) := dk_42 (dk_at dksX1_restore_1 13 rfl rfl)
theorem dX1_restore_38 : decode cX1_restore 38 = .ok (.getfield 31, 3) := dk_180 0 31 (dk_at dksX1_restore_1 14 rfl rfl)
theorem dX1_restore_41 : decode cX1_restore 41 = .ok (.getfield 111, 3) := dk_180 0 111 (dk_at dksX1_restore_1 17 rfl rfl)
theorem dX1_restore_44 : decode cX1_restore 44 = .ok (.invokevirtual 115, 3) := dk_182 0 115 (dk_at dksX1_restore_1 20 rfl rfl)
theorem dX1_restore_47 : decode cX1_restore 47 = .ok (.ireturn, 1) := dk_172 (dk_at dksX1_restore_1 23 rfl rfl)
theorem q94 : (Jvm.Cond.initialized "WindowExchange") ∈ lw_all := lw_g (lw_at lw_m1 1 rfl) rfl
theorem q152 : (Jvm.Cond.instantiable "WindowExchange" (9 : Nat)) ∈ lw_all := lw_g (lw_at lw_m1 59 rfl) rfl
theorem q154 : (Jvm.Cond.instanceMethod ({ cls := "WindowExchange", name := "<init>", desc := "()V" } : Jvm.MethodName)) ∈ lw_all := lw_g (lw_at lw_m1 61 rfl) rfl
theorem q155 : (Jvm.Cond.code ({ cls := "WindowExchange", name := "<init>", desc := "()V" } : Jvm.MethodName) prog_1_method_7_code (1 : Nat) (Option.none : Option Jvm.ClassFile.FieldType)) ∈ lw_all := lw_g (lw_at lw_m1 62 rfl) rfl
theorem q156 : (Jvm.Cond.methodLink "WindowExchange" (25 : Nat) ({ cls := "java/lang/Object", name := "<init>", desc := "()V" } : Jvm.MethodName)) ∈ lw_all := lw_g (lw_at lw_m1 63 rfl) rfl
theorem q159 : (Jvm.Cond.classLink "WindowExchange" (28 : Nat) "WindowExchange$State") ∈ lw_all := lw_g (lw_at lw_m1 66 rfl) rfl
theorem q161 : (Jvm.Cond.methodLink "WindowExchange" (30 : Nat) ({ cls := "WindowExchange$State", name := "<init>", desc := "()V" } : Jvm.MethodName)) ∈ lw_all := lw_g (lw_at lw_m1 68 rfl) rfl
theorem q197 : (Jvm.Cond.fieldLinkNest "WindowExchange" (227 : Nat) "WindowExchange$State" "day" "I" "WindowExchange") ∈ lw_tbl := lw_at lw_m1 104 rfl
theorem q199 : (Jvm.Cond.fieldLinkNest "WindowExchange" (215 : Nat) "WindowExchange$State" "lastPrice" "I" "WindowExchange") ∈ lw_tbl := lw_at lw_m1 106 rfl
theorem q201 : (Jvm.Cond.fieldLinkNest "WindowExchange" (218 : Nat) "WindowExchange$State" "tradedUnits" "I" "WindowExchange") ∈ lw_tbl := lw_at lw_m1 108 rfl
theorem q203 : (Jvm.Cond.fieldLinkNest "WindowExchange" (224 : Nat) "WindowExchange$State" "turnover" "I" "WindowExchange") ∈ lw_tbl := lw_at lw_m1 110 rfl
theorem q205 : (Jvm.Cond.fieldLinkNest "WindowExchange" (260 : Nat) "WindowExchange$State" "settled" "I" "WindowExchange") ∈ lw_tbl := lw_at lw_m1 112 rfl
theorem q207 : (Jvm.Cond.fieldLinkNest "WindowExchange" (257 : Nat) "WindowExchange$State" "defaults" "I" "WindowExchange") ∈ lw_tbl := lw_at lw_m1 114 rfl
theorem q209 : (Jvm.Cond.fieldLinkNest "WindowExchange" (280 : Nat) "WindowExchange$State" "till" "I" "WindowExchange") ∈ lw_tbl := lw_at lw_m1 116 rfl
theorem q211 : (Jvm.Cond.fieldLinkNest "WindowExchange" (283 : Nat) "WindowExchange$State" "givenCash" "I" "WindowExchange") ∈ lw_tbl := lw_at lw_m1 118 rfl
theorem q213 : (Jvm.Cond.fieldLinkNest "WindowExchange" (286 : Nat) "WindowExchange$State" "givenWindows" "I" "WindowExchange") ∈ lw_tbl := lw_at lw_m1 120 rfl
theorem q215 : (Jvm.Cond.fieldLinkNest "WindowExchange" (267 : Nat) "WindowExchange$State" "holders" "[I" "WindowExchange") ∈ lw_tbl := lw_at lw_m1 122 rfl
theorem q217 : (Jvm.Cond.fieldLinkNest "WindowExchange" (111 : Nat) "WindowExchange$State" "traders" "Ljava/util/ArrayList;" "WindowExchange") ∈ lw_tbl := lw_at lw_m1 124 rfl
theorem q219 : (Jvm.Cond.fieldLinkNest "WindowExchange" (145 : Nat) "WindowExchange$State" "orders" "Ljava/util/ArrayList;" "WindowExchange") ∈ lw_tbl := lw_at lw_m1 126 rfl
theorem q221 : (Jvm.Cond.fieldLinkNest "WindowExchange" (230 : Nat) "WindowExchange$State" "contracts" "Ljava/util/ArrayList;" "WindowExchange") ∈ lw_tbl := lw_at lw_m1 128 rfl
theorem q223 : (Jvm.Cond.fieldLinkNest "WindowExchange" (263 : Nat) "WindowExchange$State" "auction" "LWindowExchange$Auction;" "WindowExchange") ∈ lw_tbl := lw_at lw_m1 130 rfl
theorem q255 : (Jvm.Cond.classLink "WindowExchange" (35 : Nat) "java/util/ArrayDeque") ∈ lw_all := lw_g (lw_at lw_m1 162 rfl) rfl
theorem q257 : (Jvm.Cond.methodLink "WindowExchange" (37 : Nat) ({ cls := "java/util/ArrayDeque", name := "<init>", desc := "()V" } : Jvm.MethodName)) ∈ lw_all := lw_g (lw_at lw_m1 164 rfl) rfl
theorem q275 : (Jvm.Cond.classLink "WindowExchange" (46 : Nat) "java/lang/StringBuilder") ∈ lw_all := lw_g (lw_at lw_m1 182 rfl) rfl
theorem q277 : (Jvm.Cond.methodLink "WindowExchange" (48 : Nat) ({ cls := "java/lang/StringBuilder", name := "<init>", desc := "()V" } : Jvm.MethodName)) ∈ lw_all := lw_g (lw_at lw_m1 184 rfl) rfl
theorem q308 : (Jvm.Cond.fieldLink "WindowExchange" (31 : Nat) "WindowExchange" "state" "LWindowExchange$State;") ∈ lw_all := lw_g (lw_at lw_m1 215 rfl) rfl
theorem q309 : (Jvm.Cond.fieldLink "WindowExchange" (383 : Nat) "WindowExchange" "saved" "LWindowExchange$State;") ∈ lw_all := lw_g (lw_at lw_m1 216 rfl) rfl
theorem q310 : (Jvm.Cond.fieldLink "WindowExchange" (38 : Nat) "WindowExchange" "history" "Ljava/util/ArrayDeque;") ∈ lw_all := lw_g (lw_at lw_m1 217 rfl) rfl
theorem q311 : (Jvm.Cond.fieldLink "WindowExchange" (42 : Nat) "WindowExchange" "checkedPrices" "[I") ∈ lw_all := lw_g (lw_at lw_m1 218 rfl) rfl
theorem q312 : (Jvm.Cond.fieldLink "WindowExchange" (49 : Nat) "WindowExchange" "line" "Ljava/lang/StringBuilder;") ∈ lw_all := lw_g (lw_at lw_m1 219 rfl) rfl
theorem q314 : (Jvm.Cond.fieldLink "WindowExchange" (53 : Nat) "WindowExchange" "text" "[C") ∈ lw_all := lw_g (lw_at lw_m1 221 rfl) rfl
theorem q316 : (Jvm.Cond.fieldLink "WindowExchange" (352 : Nat) "WindowExchange" "textLength" "I") ∈ lw_all := lw_g (lw_at lw_m1 223 rfl) rfl
theorem q317 : (Jvm.Cond.fieldLink "WindowExchange" (57 : Nat) "WindowExchange" "errorPosition" "I") ∈ lw_all := lw_g (lw_at lw_m1 224 rfl) rfl
theorem q318 : (Jvm.Cond.fieldLink "WindowExchange" (61 : Nat) "WindowExchange" "failedCommand" "I") ∈ lw_all := lw_g (lw_at lw_m1 225 rfl) rfl
theorem q319 : (Jvm.Cond.lays "WindowExchange" "WindowExchange" "state" "LWindowExchange$State;") ∈ lw_all := lw_g (lw_at lw_m1 226 rfl) rfl
theorem q320 : (Jvm.Cond.soleField "WindowExchange" "state") ∈ lw_all := lw_g (lw_at lw_m1 227 rfl) rfl
theorem q321 : (Jvm.Cond.lays "WindowExchange" "WindowExchange" "saved" "LWindowExchange$State;") ∈ lw_all := lw_g (lw_at lw_m1 228 rfl) rfl
theorem q322 : (Jvm.Cond.soleField "WindowExchange" "saved") ∈ lw_all := lw_g (lw_at lw_m1 229 rfl) rfl
theorem q323 : (Jvm.Cond.laysFinal "WindowExchange" "WindowExchange" "history" "Ljava/util/ArrayDeque;") ∈ lw_all := lw_g (lw_at lw_m1 230 rfl) rfl
theorem q324 : (Jvm.Cond.soleField "WindowExchange" "history") ∈ lw_all := lw_g (lw_at lw_m1 231 rfl) rfl
theorem q325 : (Jvm.Cond.laysFinal "WindowExchange" "WindowExchange" "checkedPrices" "[I") ∈ lw_all := lw_g (lw_at lw_m1 232 rfl) rfl
theorem q326 : (Jvm.Cond.soleField "WindowExchange" "checkedPrices") ∈ lw_all := lw_g (lw_at lw_m1 233 rfl) rfl
theorem q327 : (Jvm.Cond.laysFinal "WindowExchange" "WindowExchange" "line" "Ljava/lang/StringBuilder;") ∈ lw_all := lw_g (lw_at lw_m1 234 rfl) rfl
theorem q328 : (Jvm.Cond.soleField "WindowExchange" "line") ∈ lw_all := lw_g (lw_at lw_m1 235 rfl) rfl
theorem q329 : (Jvm.Cond.laysFinal "WindowExchange" "WindowExchange" "text" "[C") ∈ lw_all := lw_g (lw_at lw_m1 236 rfl) rfl
theorem q330 : (Jvm.Cond.soleField "WindowExchange" "text") ∈ lw_all := lw_g (lw_at lw_m1 237 rfl) rfl
theorem q331 : (Jvm.Cond.lays "WindowExchange" "WindowExchange" "textLength" "I") ∈ lw_all := lw_g (lw_at lw_m1 238 rfl) rfl
theorem q332 : (Jvm.Cond.soleField "WindowExchange" "textLength") ∈ lw_all := lw_g (lw_at lw_m1 239 rfl) rfl
theorem q333 : (Jvm.Cond.lays "WindowExchange" "WindowExchange" "errorPosition" "I") ∈ lw_all := lw_g (lw_at lw_m2 0 rfl) rfl
theorem q334 : (Jvm.Cond.soleField "WindowExchange" "errorPosition") ∈ lw_all := lw_g (lw_at lw_m2 1 rfl) rfl
theorem q335 : (Jvm.Cond.lays "WindowExchange" "WindowExchange" "failedCommand" "I") ∈ lw_all := lw_g (lw_at lw_m2 2 rfl) rfl
theorem q336 : (Jvm.Cond.soleField "WindowExchange" "failedCommand") ∈ lw_all := lw_g (lw_at lw_m2 3 rfl) rfl
theorem q337 : (Jvm.Cond.superclass "WindowExchange" "java/lang/Object") ∈ lw_all := lw_g (lw_at lw_m2 4 rfl) rfl
theorem q340 : (Jvm.Cond.instanceMethod ({ cls := "WindowExchange", name := "traders", desc := "()I" } : Jvm.MethodName)) ∈ lw_all := lw_g (lw_at lw_m2 7 rfl) rfl
theorem q341 : (Jvm.Cond.selects "WindowExchange" ({ cls := "WindowExchange", name := "traders", desc := "()I" } : Jvm.MethodName) ({ cls := "WindowExchange", name := "traders", desc := "()I" } : Jvm.MethodName)) ∈ lw_all := lw_g (lw_at lw_m2 8 rfl) rfl
theorem q342 : (Jvm.Cond.code ({ cls := "WindowExchange", name := "traders", desc := "()I" } : Jvm.MethodName) prog_1_method_19_code (1 : Nat) (Option.some Jvm.ClassFile.FieldType.int)) ∈ lw_all := lw_g (lw_at lw_m2 9 rfl) rfl
theorem q343 : (Jvm.Cond.methodLink "WindowExchange" (115 : Nat) ({ cls := "java/util/ArrayList", name := "size", desc := "()I" } : Jvm.MethodName)) ∈ lw_all := lw_g (lw_at lw_m2 10 rfl) rfl
theorem q348 : (Jvm.Cond.instanceMethod ({ cls := "WindowExchange", name := "openOrders", desc := "()I" } : Jvm.MethodName)) ∈ lw_all := lw_g (lw_at lw_m2 15 rfl) rfl
theorem q349 : (Jvm.Cond.selects "WindowExchange" ({ cls := "WindowExchange", name := "openOrders", desc := "()I" } : Jvm.MethodName) ({ cls := "WindowExchange", name := "openOrders", desc := "()I" } : Jvm.MethodName)) ∈ lw_all := lw_g (lw_at lw_m2 16 rfl) rfl
theorem q350 : (Jvm.Cond.code ({ cls := "WindowExchange", name := "openOrders", desc := "()I" } : Jvm.MethodName) prog_1_method_25_code (1 : Nat) (Option.some Jvm.ClassFile.FieldType.int)) ∈ lw_all := lw_g (lw_at lw_m2 17 rfl) rfl
theorem q352 : (Jvm.Cond.instanceMethod ({ cls := "WindowExchange", name := "depth", desc := "(ZI)I" } : Jvm.MethodName)) ∈ lw_all := lw_g (lw_at lw_m2 19 rfl) rfl
theorem q353 : (Jvm.Cond.selects "WindowExchange" ({ cls := "WindowExchange", name := "depth", desc := "(ZI)I" } : Jvm.MethodName) ({ cls := "WindowExchange", name := "depth", desc := "(ZI)I" } : Jvm.MethodName)) ∈ lw_all := lw_g (lw_at lw_m2 20 rfl) rfl
theorem q354 : (Jvm.Cond.code ({ cls := "WindowExchange", name := "depth", desc := "(ZI)I" } : Jvm.MethodName) prog_1_method_34_code (3 : Nat) (Option.some Jvm.ClassFile.FieldType.int)) ∈ lw_all := lw_g (lw_at lw_m2 21 rfl) rfl
theorem q355 : (Jvm.Cond.methodLink "WindowExchange" (198 : Nat) ({ cls := "WindowExchange$State", name := "depth", desc := "(ZI)I" } : Jvm.MethodName)) ∈ lw_all := lw_g (lw_at lw_m2 22 rfl) rfl
theorem q561 : (Jvm.Cond.instanceMethod ({ cls := "WindowExchange", name := "tradedUnits", desc := "()I" } : Jvm.MethodName)) ∈ lw_all := lw_g (lw_at lw_m2 228 rfl) rfl
theorem q562 : (Jvm.Cond.selects "WindowExchange" ({ cls := "WindowExchange", name := "tradedUnits", desc := "()I" } : Jvm.MethodName) ({ cls := "WindowExchange", name := "tradedUnits", desc := "()I" } : Jvm.MethodName)) ∈ lw_all := lw_g (lw_at lw_m2 229 rfl) rfl
theorem q563 : (Jvm.Cond.code ({ cls := "WindowExchange", name := "tradedUnits", desc := "()I" } : Jvm.MethodName) prog_1_method_39_code (1 : Nat) (Option.some Jvm.ClassFile.FieldType.int)) ∈ lw_all := lw_g (lw_at lw_m2 230 rfl) rfl
theorem q565 : (Jvm.Cond.instanceMethod ({ cls := "WindowExchange", name := "day", desc := "()I" } : Jvm.MethodName)) ∈ lw_all := lw_g (lw_at lw_m2 232 rfl) rfl
theorem q566 : (Jvm.Cond.selects "WindowExchange" ({ cls := "WindowExchange", name := "day", desc := "()I" } : Jvm.MethodName) ({ cls := "WindowExchange", name := "day", desc := "()I" } : Jvm.MethodName)) ∈ lw_all := lw_g (lw_at lw_m2 233 rfl) rfl
theorem q567 : (Jvm.Cond.code ({ cls := "WindowExchange", name := "day", desc := "()I" } : Jvm.MethodName) prog_1_method_41_code (1 : Nat) (Option.some Jvm.ClassFile.FieldType.int)) ∈ lw_all := lw_g (lw_at lw_m2 234 rfl) rfl
theorem q569 : (Jvm.Cond.instanceMethod ({ cls := "WindowExchange", name := "contracts", desc := "()I" } : Jvm.MethodName)) ∈ lw_all := lw_g (lw_at lw_m2 236 rfl) rfl
theorem q570 : (Jvm.Cond.selects "WindowExchange" ({ cls := "WindowExchange", name := "contracts", desc := "()I" } : Jvm.MethodName) ({ cls := "WindowExchange", name := "contracts", desc := "()I" } : Jvm.MethodName)) ∈ lw_all := lw_g (lw_at lw_m2 237 rfl) rfl
theorem q571 : (Jvm.Cond.code ({ cls := "WindowExchange", name := "contracts", desc := "()I" } : Jvm.MethodName) prog_1_method_42_code (1 : Nat) (Option.some Jvm.ClassFile.FieldType.int)) ∈ lw_all := lw_g (lw_at lw_m2 238 rfl) rfl
theorem q573 : (Jvm.Cond.instanceMethod ({ cls := "WindowExchange", name := "defaults", desc := "()I" } : Jvm.MethodName)) ∈ lw_all := lw_g (lw_at lw_m3 0 rfl) rfl
theorem q574 : (Jvm.Cond.selects "WindowExchange" ({ cls := "WindowExchange", name := "defaults", desc := "()I" } : Jvm.MethodName) ({ cls := "WindowExchange", name := "defaults", desc := "()I" } : Jvm.MethodName)) ∈ lw_all := lw_g (lw_at lw_m3 1 rfl) rfl
theorem q575 : (Jvm.Cond.code ({ cls := "WindowExchange", name := "defaults", desc := "()I" } : Jvm.MethodName) prog_1_method_49_code (1 : Nat) (Option.some Jvm.ClassFile.FieldType.int)) ∈ lw_all := lw_g (lw_at lw_m3 2 rfl) rfl
theorem q577 : (Jvm.Cond.instanceMethod ({ cls := "WindowExchange", name := "isAuctionOpen", desc := "()Z" } : Jvm.MethodName)) ∈ lw_all := lw_g (lw_at lw_m3 4 rfl) rfl
theorem q578 : (Jvm.Cond.selects "WindowExchange" ({ cls := "WindowExchange", name := "isAuctionOpen", desc := "()Z" } : Jvm.MethodName) ({ cls := "WindowExchange", name := "isAuctionOpen", desc := "()Z" } : Jvm.MethodName)) ∈ lw_all := lw_g (lw_at lw_m3 5 rfl) rfl
theorem q579 : (Jvm.Cond.code ({ cls := "WindowExchange", name := "isAuctionOpen", desc := "()Z" } : Jvm.MethodName) prog_1_method_51_code (1 : Nat) (Option.some Jvm.ClassFile.FieldType.boolean)) ∈ lw_all := lw_g (lw_at lw_m3 6 rfl) rfl
theorem q581 : (Jvm.Cond.instanceMethod ({ cls := "WindowExchange", name := "till", desc := "()I" } : Jvm.MethodName)) ∈ lw_all := lw_g (lw_at lw_m3 8 rfl) rfl
theorem q582 : (Jvm.Cond.selects "WindowExchange" ({ cls := "WindowExchange", name := "till", desc := "()I" } : Jvm.MethodName) ({ cls := "WindowExchange", name := "till", desc := "()I" } : Jvm.MethodName)) ∈ lw_all := lw_g (lw_at lw_m3 9 rfl) rfl
theorem q583 : (Jvm.Cond.code ({ cls := "WindowExchange", name := "till", desc := "()I" } : Jvm.MethodName) prog_1_method_55_code (1 : Nat) (Option.some Jvm.ClassFile.FieldType.int)) ∈ lw_all := lw_g (lw_at lw_m3 10 rfl) rfl
theorem q585 : (Jvm.Cond.instanceMethod ({ cls := "WindowExchange", name := "isConsistent", desc := "()Z" } : Jvm.MethodName)) ∈ lw_all := lw_g (lw_at lw_m3 12 rfl) rfl
theorem q586 : (Jvm.Cond.selects "WindowExchange" ({ cls := "WindowExchange", name := "isConsistent", desc := "()Z" } : Jvm.MethodName) ({ cls := "WindowExchange", name := "isConsistent", desc := "()Z" } : Jvm.MethodName)) ∈ lw_all := lw_g (lw_at lw_m3 13 rfl) rfl
theorem q587 : (Jvm.Cond.code ({ cls := "WindowExchange", name := "isConsistent", desc := "()Z" } : Jvm.MethodName) prog_1_method_58_code (7 : Nat) (Option.some Jvm.ClassFile.FieldType.boolean)) ∈ lw_all := lw_g (lw_at lw_m3 14 rfl) rfl
theorem q588 : (Jvm.Cond.methodLink "WindowExchange" (293 : Nat) ({ cls := "WindowExchange", name := "areSumsRight", desc := "()Z" } : Jvm.MethodName)) ∈ lw_all := lw_g (lw_at lw_m3 15 rfl) rfl
theorem q589 : (Jvm.Cond.privateMethod ({ cls := "WindowExchange", name := "areSumsRight", desc := "()Z" } : Jvm.MethodName)) ∈ lw_tbl := lw_at lw_m3 16 rfl
theorem q590 : (Jvm.Cond.instanceMethod ({ cls := "WindowExchange", name := "areSumsRight", desc := "()Z" } : Jvm.MethodName)) ∈ lw_all := lw_g (lw_at lw_m3 17 rfl) rfl
theorem q591 : (Jvm.Cond.code ({ cls := "WindowExchange", name := "areSumsRight", desc := "()Z" } : Jvm.MethodName) prog_1_method_56_code (4 : Nat) (Option.some Jvm.ClassFile.FieldType.boolean)) ∈ lw_all := lw_g (lw_at lw_m3 18 rfl) rfl
theorem q592 : (Jvm.Cond.methodLink "WindowExchange" (174 : Nat) ({ cls := "java/util/ArrayList", name := "get", desc := "(I)Ljava/lang/Object;" } : Jvm.MethodName)) ∈ lw_all := lw_g (lw_at lw_m3 19 rfl) rfl
theorem q606 : (Jvm.Cond.classLink "WindowExchange" (127 : Nat) "WindowExchange$Trader") ∈ lw_all := lw_g (lw_at lw_m3 33 rfl) rfl
theorem q607 : (Jvm.Cond.methodLink "WindowExchange" (135 : Nat) ({ cls := "WindowExchange$State", name := "reservedCash", desc := "(I)I" } : Jvm.MethodName)) ∈ lw_all := lw_g (lw_at lw_m3 34 rfl) rfl
theorem q613 : (Jvm.Cond.methodLink "WindowExchange" (142 : Nat) ({ cls := "WindowExchange$State", name := "reservedWindows", desc := "(I)I" } : Jvm.MethodName)) ∈ lw_all := lw_g (lw_at lw_m3 40 rfl) rfl
theorem q619 : (Jvm.Cond.methodLink "WindowExchange" (296 : Nat) ({ cls := "WindowExchange", name := "isUncrossed", desc := "()Z" } : Jvm.MethodName)) ∈ lw_all := lw_g (lw_at lw_m3 46 rfl) rfl
theorem q620 : (Jvm.Cond.privateMethod ({ cls := "WindowExchange", name := "isUncrossed", desc := "()Z" } : Jvm.MethodName)) ∈ lw_tbl := lw_at lw_m3 47 rfl
theorem q621 : (Jvm.Cond.instanceMethod ({ cls := "WindowExchange", name := "isUncrossed", desc := "()Z" } : Jvm.MethodName)) ∈ lw_all := lw_g (lw_at lw_m3 48 rfl) rfl
theorem q622 : (Jvm.Cond.code ({ cls := "WindowExchange", name := "isUncrossed", desc := "()Z" } : Jvm.MethodName) prog_1_method_57_code (3 : Nat) (Option.some Jvm.ClassFile.FieldType.boolean)) ∈ lw_all := lw_g (lw_at lw_m3 49 rfl) rfl
theorem q623 : (Jvm.Cond.methodLink "WindowExchange" (181 : Nat) ({ cls := "WindowExchange$State", name := "side", desc := "(Z)Ljava/util/PriorityQueue;" } : Jvm.MethodName)) ∈ lw_all := lw_g (lw_at lw_m3 50 rfl) rfl
theorem q709 : (Jvm.Cond.selects "WindowExchange" ({ cls := "java/lang/Object", name := "getClass", desc := "()Ljava/lang/Class;" } : Jvm.MethodName) ({ cls := "java/lang/Object", name := "getClass", desc := "()Ljava/lang/Class;" } : Jvm.MethodName)) ∈ lw_all := lw_g (lw_at lw_m3 136 rfl) rfl
theorem q1005 : (Jvm.Cond.methodLink "WindowExchange" (185 : Nat) ({ cls := "java/util/PriorityQueue", name := "isEmpty", desc := "()Z" } : Jvm.MethodName)) ∈ lw_all := lw_g (lw_at lw_m4 192 rfl) rfl
theorem q1031 : (Jvm.Cond.methodLink "WindowExchange" (191 : Nat) ({ cls := "java/util/PriorityQueue", name := "peek", desc := "()Ljava/lang/Object;" } : Jvm.MethodName)) ∈ lw_all := lw_g (lw_at lw_m4 218 rfl) rfl
theorem q1035 : (Jvm.Cond.classLink "WindowExchange" (153 : Nat) "WindowExchange$Order") ∈ lw_all := lw_g (lw_at lw_m4 222 rfl) rfl
theorem q1036 : (Jvm.Cond.methodLink "WindowExchange" (289 : Nat) ({ cls := "WindowExchange$Order", name := "matches", desc := "(LWindowExchange$Order;)Z" } : Jvm.MethodName)) ∈ lw_all := lw_g (lw_at lw_m4 223 rfl) rfl
theorem q1040 : (Jvm.Cond.methodLink "WindowExchange" (205 : Nat) ({ cls := "WindowExchange$State", name := "costToBuy", desc := "(I)I" } : Jvm.MethodName)) ∈ lw_all := lw_g (lw_at lw_m4 227 rfl) rfl
theorem q1057 : (Jvm.Cond.methodLink "WindowExchange" (212 : Nat) ({ cls := "WindowExchange$State", name := "costToBuyByPrices", desc := "(I)I" } : Jvm.MethodName)) ∈ lw_all := lw_g (lw_at lw_m5 4 rfl) rfl
theorem q1292 : (Jvm.Cond.methodLink "WindowExchange" (251 : Nat) ({ cls := "WindowExchange$State", name := "value", desc := "(II)I" } : Jvm.MethodName)) ∈ lw_all := lw_g (lw_at lw_m5 239 rfl) rfl
theorem q1319 : (Jvm.Cond.methodLink "WindowExchange" (254 : Nat) ({ cls := "WindowExchange$State", name := "valueByExposure", desc := "(II)I" } : Jvm.MethodName)) ∈ lw_all := lw_g (lw_at lw_m6 26 rfl) rfl
theorem q1335 : (Jvm.Cond.instanceMethod ({ cls := "WindowExchange", name := "writeBook", desc := "()I" } : Jvm.MethodName)) ∈ lw_all := lw_g (lw_at lw_m6 42 rfl) rfl
theorem q1336 : (Jvm.Cond.selects "WindowExchange" ({ cls := "WindowExchange", name := "writeBook", desc := "()I" } : Jvm.MethodName) ({ cls := "WindowExchange", name := "writeBook", desc := "()I" } : Jvm.MethodName)) ∈ lw_all := lw_g (lw_at lw_m6 43 rfl) rfl
theorem q1337 : (Jvm.Cond.code ({ cls := "WindowExchange", name := "writeBook", desc := "()I" } : Jvm.MethodName) prog_1_method_60_code (2 : Nat) (Option.some Jvm.ClassFile.FieldType.int)) ∈ lw_all := lw_g (lw_at lw_m6 44 rfl) rfl
theorem q1338 : (Jvm.Cond.methodLink "WindowExchange" (325 : Nat) ({ cls := "java/lang/StringBuilder", name := "setLength", desc := "(I)V" } : Jvm.MethodName)) ∈ lw_all := lw_g (lw_at lw_m6 45 rfl) rfl
theorem q1585 : (Jvm.Cond.methodLink "WindowExchange" (328 : Nat) ({ cls := "WindowExchange", name := "writeSide", desc := "(Z)V" } : Jvm.MethodName)) ∈ lw_all := lw_g (lw_at lw_m7 52 rfl) rfl
theorem q1586 : (Jvm.Cond.privateMethod ({ cls := "WindowExchange", name := "writeSide", desc := "(Z)V" } : Jvm.MethodName)) ∈ lw_tbl := lw_at lw_m7 53 rfl
theorem q1587 : (Jvm.Cond.instanceMethod ({ cls := "WindowExchange", name := "writeSide", desc := "(Z)V" } : Jvm.MethodName)) ∈ lw_all := lw_g (lw_at lw_m7 54 rfl) rfl
theorem q1588 : (Jvm.Cond.code ({ cls := "WindowExchange", name := "writeSide", desc := "(Z)V" } : Jvm.MethodName) prog_1_method_59_code (6 : Nat) (Option.none : Option Jvm.ClassFile.FieldType)) ∈ lw_all := lw_g (lw_at lw_m7 55 rfl) rfl
theorem q1589 : (Jvm.Cond.methodLink "WindowExchange" (166 : Nat) ({ cls := "WindowExchange$State", name := "sorted", desc := "(Z)Ljava/util/ArrayList;" } : Jvm.MethodName)) ∈ lw_all := lw_g (lw_at lw_m7 56 rfl) rfl
theorem q1613 : (Jvm.Cond.methodLink "WindowExchange" (299 : Nat) ({ cls := "java/util/ArrayList", name := "iterator", desc := "()Ljava/util/Iterator;" } : Jvm.MethodName)) ∈ lw_all := lw_g (lw_at lw_m7 80 rfl) rfl
theorem q1614 : (Jvm.Cond.interfaceEntry "WindowExchange" (303 : Nat)) ∈ lw_tbl := lw_at lw_m7 81 rfl
theorem q1615 : (Jvm.Cond.methodLink "WindowExchange" (303 : Nat) ({ cls := "java/util/Iterator", name := "hasNext", desc := "()Z" } : Jvm.MethodName)) ∈ lw_all := lw_g (lw_at lw_m7 82 rfl) rfl
theorem q1616 : (Jvm.Cond.interfaceEntry "WindowExchange" (308 : Nat)) ∈ lw_tbl := lw_at lw_m7 83 rfl
theorem q1617 : (Jvm.Cond.methodLink "WindowExchange" (308 : Nat) ({ cls := "java/util/Iterator", name := "next", desc := "()Ljava/lang/Object;" } : Jvm.MethodName)) ∈ lw_all := lw_g (lw_at lw_m7 84 rfl) rfl
theorem q1618 : (Jvm.Cond.stringRef "WindowExchange" (311 : Nat) "") ∈ lw_tbl := lw_at lw_m7 85 rfl
theorem q1619 : (Jvm.Cond.stringRef "WindowExchange" (313 : Nat) " ") ∈ lw_tbl := lw_at lw_m7 86 rfl
theorem q1620 : (Jvm.Cond.methodLink "WindowExchange" (315 : Nat) ({ cls := "java/lang/StringBuilder", name := "append", desc := "(Ljava/lang/String;)Ljava/lang/StringBuilder;" } : Jvm.MethodName)) ∈ lw_all := lw_g (lw_at lw_m7 87 rfl) rfl
theorem q1621 : (Jvm.Cond.methodLink "WindowExchange" (319 : Nat) ({ cls := "java/lang/StringBuilder", name := "append", desc := "(I)Ljava/lang/StringBuilder;" } : Jvm.MethodName)) ∈ lw_all := lw_g (lw_at lw_m7 88 rfl) rfl
theorem q1622 : (Jvm.Cond.methodLink "WindowExchange" (322 : Nat) ({ cls := "java/lang/StringBuilder", name := "append", desc := "(C)Ljava/lang/StringBuilder;" } : Jvm.MethodName)) ∈ lw_all := lw_g (lw_at lw_m7 89 rfl) rfl
theorem q1642 : (Jvm.Cond.methodLink "WindowExchange" (331 : Nat) ({ cls := "java/lang/StringBuilder", name := "length", desc := "()I" } : Jvm.MethodName)) ∈ lw_all := lw_g (lw_at lw_m7 109 rfl) rfl
theorem q1644 : (Jvm.Cond.instanceMethod ({ cls := "WindowExchange", name := "save", desc := "()I" } : Jvm.MethodName)) ∈ lw_all := lw_g (lw_at lw_m7 111 rfl) rfl
theorem q1645 : (Jvm.Cond.selects "WindowExchange" ({ cls := "WindowExchange", name := "save", desc := "()I" } : Jvm.MethodName) ({ cls := "WindowExchange", name := "save", desc := "()I" } : Jvm.MethodName)) ∈ lw_all := lw_g (lw_at lw_m7 112 rfl) rfl
theorem q1646 : (Jvm.Cond.code ({ cls := "WindowExchange", name := "save", desc := "()I" } : Jvm.MethodName) prog_1_method_70_code (1 : Nat) (Option.some Jvm.ClassFile.FieldType.int)) ∈ lw_all := lw_g (lw_at lw_m7 113 rfl) rfl
theorem q1647 : (Jvm.Cond.methodLink "WindowExchange" (76 : Nat) ({ cls := "WindowExchange$State", name := "<init>", desc := "(LWindowExchange$State;)V" } : Jvm.MethodName)) ∈ lw_all := lw_g (lw_at lw_m7 114 rfl) rfl
theorem q1661 : (Jvm.Cond.fieldLinkNest "WindowExchange" (126 : Nat) "WindowExchange$Trader" "cash" "I" "WindowExchange") ∈ lw_tbl := lw_at lw_m7 128 rfl
theorem q1664 : (Jvm.Cond.fieldLinkNest "WindowExchange" (139 : Nat) "WindowExchange$Trader" "windows" "I" "WindowExchange") ∈ lw_tbl := lw_at lw_m7 131 rfl
theorem q1681 : (Jvm.Cond.fieldLinkNest "WindowExchange" (178 : Nat) "WindowExchange$Order" "number" "I" "WindowExchange") ∈ lw_tbl := lw_at lw_m7 148 rfl
theorem q1684 : (Jvm.Cond.fieldLinkNest "WindowExchange" (152 : Nat) "WindowExchange$Order" "trader" "I" "WindowExchange") ∈ lw_tbl := lw_at lw_m7 151 rfl
theorem q1687 : (Jvm.Cond.fieldLinkNest "WindowExchange" (156 : Nat) "WindowExchange$Order" "isBid" "Z" "WindowExchange") ∈ lw_tbl := lw_at lw_m7 154 rfl
theorem q1691 : (Jvm.Cond.fieldLinkNest "WindowExchange" (160 : Nat) "WindowExchange$Order" "price" "I" "WindowExchange") ∈ lw_tbl := lw_at lw_m7 158 rfl
theorem q1694 : (Jvm.Cond.fieldLinkNest "WindowExchange" (163 : Nat) "WindowExchange$Order" "units" "I" "WindowExchange") ∈ lw_tbl := lw_at lw_m7 161 rfl
theorem q1843 : (Jvm.Cond.instanceMethod ({ cls := "WindowExchange", name := "addTrader", desc := "(II)I" } : Jvm.MethodName)) ∈ lw_all := lw_g (lw_at lw_m8 70 rfl) rfl
theorem q1844 : (Jvm.Cond.selects "WindowExchange" ({ cls := "WindowExchange", name := "addTrader", desc := "(II)I" } : Jvm.MethodName) ({ cls := "WindowExchange", name := "addTrader", desc := "(II)I" } : Jvm.MethodName)) ∈ lw_all := lw_g (lw_at lw_m8 71 rfl) rfl
theorem q1845 : (Jvm.Cond.code ({ cls := "WindowExchange", name := "addTrader", desc := "(II)I" } : Jvm.MethodName) prog_1_method_10_code (3 : Nat) (Option.some Jvm.ClassFile.FieldType.int)) ∈ lw_all := lw_g (lw_at lw_m8 72 rfl) rfl
theorem q1846 : (Jvm.Cond.static ({ cls := "WindowExchange", name := "lambda$addTrader$0", desc := "(IILWindowExchange$State;)I" } : Jvm.MethodName)) ∈ lw_all := lw_g (lw_at lw_m8 73 rfl) rfl
theorem q1847 : (Jvm.Cond.code ({ cls := "WindowExchange", name := "lambda$addTrader$0", desc := "(IILWindowExchange$State;)I" } : Jvm.MethodName) prog_1_method_80_code (3 : Nat) (Option.some Jvm.ClassFile.FieldType.int)) ∈ lw_all := lw_g (lw_at lw_m8 74 rfl) rfl
theorem q1848 : (Jvm.Cond.methodLink "WindowExchange" (412 : Nat) ({ cls := "WindowExchange$State", name := "addTrader", desc := "(II)I" } : Jvm.MethodName)) ∈ lw_all := lw_g (lw_at lw_m8 75 rfl) rfl
theorem q1853 : (Jvm.Cond.static ({ cls := "WindowExchange", name := "inRange", desc := "(III)Z" } : Jvm.MethodName)) ∈ lw_all := lw_g (lw_at lw_m8 80 rfl) rfl
theorem q1854 : (Jvm.Cond.code ({ cls := "WindowExchange", name := "inRange", desc := "(III)Z" } : Jvm.MethodName) prog_1_method_1_code (3 : Nat) (Option.some Jvm.ClassFile.FieldType.boolean)) ∈ lw_all := lw_g (lw_at lw_m8 81 rfl) rfl
theorem q1856 : (Jvm.Cond.static ({ cls := "WindowExchange", name := "checkArgument", desc := "(Z)V" } : Jvm.MethodName)) ∈ lw_all := lw_g (lw_at lw_m8 83 rfl) rfl
theorem q1857 : (Jvm.Cond.code ({ cls := "WindowExchange", name := "checkArgument", desc := "(Z)V" } : Jvm.MethodName) prog_1_method_2_code (1 : Nat) (Option.none : Option Jvm.ClassFile.FieldType)) ∈ lw_all := lw_g (lw_at lw_m8 84 rfl) rfl
theorem q1858 : (Jvm.Cond.classLink "WindowExchange" (1 : Nat) "java/lang/IllegalArgumentException") ∈ lw_all := lw_g (lw_at lw_m8 85 rfl) rfl
theorem q1859 : (Jvm.Cond.methodLink "WindowExchange" (3 : Nat) ({ cls := "java/lang/IllegalArgumentException", name := "<init>", desc := "()V" } : Jvm.MethodName)) ∈ lw_all := lw_g (lw_at lw_m8 86 rfl) rfl
theorem q1862 : (Jvm.Cond.static ({ cls := "WindowExchange", name := "checkState", desc := "(Z)V" } : Jvm.MethodName)) ∈ lw_all := lw_g (lw_at lw_m8 89 rfl) rfl
theorem q1863 : (Jvm.Cond.code ({ cls := "WindowExchange", name := "checkState", desc := "(Z)V" } : Jvm.MethodName) prog_1_method_3_code (1 : Nat) (Option.none : Option Jvm.ClassFile.FieldType)) ∈ lw_all := lw_g (lw_at lw_m8 90 rfl) rfl
theorem q1864 : (Jvm.Cond.classLink "WindowExchange" (7 : Nat) "java/lang/IllegalStateException") ∈ lw_all := lw_g (lw_at lw_m8 91 rfl) rfl
theorem q1873 : (Jvm.Cond.methodLink "WindowExchange" (9 : Nat) ({ cls := "java/lang/IllegalStateException", name := "<init>", desc := "()V" } : Jvm.MethodName)) ∈ lw_all := lw_g (lw_at lw_m8 100 rfl) rfl
theorem q1880 : (Jvm.Cond.methodLink "WindowExchange" (91 : Nat) ({ cls := "WindowExchange", name := "apply", desc := "(LWindowExchange$Change;)I" } : Jvm.MethodName)) ∈ lw_all := lw_g (lw_at lw_m8 107 rfl) rfl
theorem q1881 : (Jvm.Cond.privateMethod ({ cls := "WindowExchange", name := "apply", desc := "(LWindowExchange$Change;)I" } : Jvm.MethodName)) ∈ lw_tbl := lw_at lw_m8 108 rfl
theorem q1882 : (Jvm.Cond.instanceMethod ({ cls := "WindowExchange", name := "apply", desc := "(LWindowExchange$Change;)I" } : Jvm.MethodName)) ∈ lw_all := lw_g (lw_at lw_m8 109 rfl) rfl
theorem q1883 : (Jvm.Cond.code ({ cls := "WindowExchange", name := "apply", desc := "(LWindowExchange$Change;)I" } : Jvm.MethodName) prog_1_method_9_code (4 : Nat) (Option.some Jvm.ClassFile.FieldType.int)) ∈ lw_all := lw_g (lw_at lw_m8 110 rfl) rfl
theorem q1884 : (Jvm.Cond.interfaceEntry "WindowExchange" (79 : Nat)) ∈ lw_tbl := lw_at lw_m8 111 rfl
theorem q1885 : (Jvm.Cond.methodLink "WindowExchange" (79 : Nat) ({ cls := "WindowExchange$Change", name := "applyTo", desc := "(LWindowExchange$State;)I" } : Jvm.MethodName)) ∈ lw_all := lw_g (lw_at lw_m8 112 rfl) rfl
theorem q1888 : (Jvm.Cond.methodLink "WindowExchange" (85 : Nat) ({ cls := "WindowExchange", name := "commit", desc := "(LWindowExchange$State;)V" } : Jvm.MethodName)) ∈ lw_all := lw_g (lw_at lw_m8 115 rfl) rfl
theorem q1889 : (Jvm.Cond.privateMethod ({ cls := "WindowExchange", name := "commit", desc := "(LWindowExchange$State;)V" } : Jvm.MethodName)) ∈ lw_tbl := lw_at lw_m8 116 rfl
theorem q1890 : (Jvm.Cond.instanceMethod ({ cls := "WindowExchange", name := "commit", desc := "(LWindowExchange$State;)V" } : Jvm.MethodName)) ∈ lw_all := lw_g (lw_at lw_m8 117 rfl) rfl
theorem q1891 : (Jvm.Cond.code ({ cls := "WindowExchange", name := "commit", desc := "(LWindowExchange$State;)V" } : Jvm.MethodName) prog_1_method_8_code (3 : Nat) (Option.none : Option Jvm.ClassFile.FieldType)) ∈ lw_all := lw_g (lw_at lw_m8 118 rfl) rfl
theorem q1892 : (Jvm.Cond.methodLink "WindowExchange" (64 : Nat) ({ cls := "java/util/ArrayDeque", name := "size", desc := "()I" } : Jvm.MethodName)) ∈ lw_all := lw_g (lw_at lw_m8 119 rfl) rfl
theorem q1893 : (Jvm.Cond.methodLink "WindowExchange" (68 : Nat) ({ cls := "java/util/ArrayDeque", name := "removeFirst", desc := "()Ljava/lang/Object;" } : Jvm.MethodName)) ∈ lw_all := lw_g (lw_at lw_m8 120 rfl) rfl
theorem q1899 : (Jvm.Cond.methodLink "WindowExchange" (72 : Nat) ({ cls := "java/util/ArrayDeque", name := "addLast", desc := "(Ljava/lang/Object;)V" } : Jvm.MethodName)) ∈ lw_all := lw_g (lw_at lw_m8 126 rfl) rfl
theorem q1928 : (Jvm.Cond.instanceMethod ({ cls := "WindowExchange", name := "placeBid", desc := "(III)I" } : Jvm.MethodName)) ∈ lw_all := lw_g (lw_at lw_m8 155 rfl) rfl
theorem q1929 : (Jvm.Cond.selects "WindowExchange" ({ cls := "WindowExchange", name := "placeBid", desc := "(III)I" } : Jvm.MethodName) ({ cls := "WindowExchange", name := "placeBid", desc := "(III)I" } : Jvm.MethodName)) ∈ lw_all := lw_g (lw_at lw_m8 156 rfl) rfl
theorem q1930 : (Jvm.Cond.code ({ cls := "WindowExchange", name := "placeBid", desc := "(III)I" } : Jvm.MethodName) prog_1_method_11_code (4 : Nat) (Option.some Jvm.ClassFile.FieldType.int)) ∈ lw_all := lw_g (lw_at lw_m8 157 rfl) rfl
theorem q1931 : (Jvm.Cond.static ({ cls := "WindowExchange", name := "lambda$placeBid$1", desc := "(IIILWindowExchange$State;)I" } : Jvm.MethodName)) ∈ lw_all := lw_g (lw_at lw_m8 158 rfl) rfl
theorem q1932 : (Jvm.Cond.code ({ cls := "WindowExchange", name := "lambda$placeBid$1", desc := "(IIILWindowExchange$State;)I" } : Jvm.MethodName) prog_1_method_79_code (4 : Nat) (Option.some Jvm.ClassFile.FieldType.int)) ∈ lw_all := lw_g (lw_at lw_m8 159 rfl) rfl
theorem q1933 : (Jvm.Cond.methodLink "WindowExchange" (408 : Nat) ({ cls := "WindowExchange$State", name := "place", desc := "(IZII)I" } : Jvm.MethodName)) ∈ lw_all := lw_g (lw_at lw_m8 160 rfl) rfl
theorem q1942 : (Jvm.Cond.static ({ cls := "WindowExchange", name := "checkIndex", desc := "(II)V" } : Jvm.MethodName)) ∈ lw_all := lw_g (lw_at lw_m8 169 rfl) rfl
theorem q1943 : (Jvm.Cond.code ({ cls := "WindowExchange", name := "checkIndex", desc := "(II)V" } : Jvm.MethodName) prog_1_method_4_code (2 : Nat) (Option.none : Option Jvm.ClassFile.FieldType)) ∈ lw_all := lw_g (lw_at lw_m8 170 rfl) rfl
theorem q1944 : (Jvm.Cond.methodLink "WindowExchange" (10 : Nat) ({ cls := "WindowExchange", name := "inRange", desc := "(III)Z" } : Jvm.MethodName)) ∈ lw_all := lw_g (lw_at lw_m8 171 rfl) rfl
theorem q1945 : (Jvm.Cond.classLink "WindowExchange" (16 : Nat) "java/lang/IndexOutOfBoundsException") ∈ lw_all := lw_g (lw_at lw_m8 172 rfl) rfl
theorem q1954 : (Jvm.Cond.methodLink "WindowExchange" (18 : Nat) ({ cls := "java/lang/IndexOutOfBoundsException", name := "<init>", desc := "()V" } : Jvm.MethodName)) ∈ lw_all := lw_g (lw_at lw_m8 181 rfl) rfl
theorem q1962 : (Jvm.Cond.static ({ cls := "WindowExchange", name := "checkSupported", desc := "(Z)V" } : Jvm.MethodName)) ∈ lw_all := lw_g (lw_at lw_m8 189 rfl) rfl
theorem q1963 : (Jvm.Cond.code ({ cls := "WindowExchange", name := "checkSupported", desc := "(Z)V" } : Jvm.MethodName) prog_1_method_6_code (1 : Nat) (Option.none : Option Jvm.ClassFile.FieldType)) ∈ lw_all := lw_g (lw_at lw_m8 190 rfl) rfl
theorem q1964 : (Jvm.Cond.classLink "WindowExchange" (22 : Nat) "java/lang/UnsupportedOperationException") ∈ lw_all := lw_g (lw_at lw_m8 191 rfl) rfl
theorem q1973 : (Jvm.Cond.methodLink "WindowExchange" (24 : Nat) ({ cls := "java/lang/UnsupportedOperationException", name := "<init>", desc := "()V" } : Jvm.MethodName)) ∈ lw_all := lw_g (lw_at lw_m8 200 rfl) rfl
theorem q2011 : (Jvm.Cond.instanceMethod ({ cls := "WindowExchange", name := "placeAsk", desc := "(III)I" } : Jvm.MethodName)) ∈ lw_all := lw_g (lw_at lw_m8 238 rfl) rfl
theorem q2012 : (Jvm.Cond.selects "WindowExchange" ({ cls := "WindowExchange", name := "placeAsk", desc := "(III)I" } : Jvm.MethodName) ({ cls := "WindowExchange", name := "placeAsk", desc := "(III)I" } : Jvm.MethodName)) ∈ lw_all := lw_g (lw_at lw_m8 239 rfl) rfl
theorem q2013 : (Jvm.Cond.code ({ cls := "WindowExchange", name := "placeAsk", desc := "(III)I" } : Jvm.MethodName) prog_1_method_12_code (4 : Nat) (Option.some Jvm.ClassFile.FieldType.int)) ∈ lw_all := lw_g (lw_at lw_m9 0 rfl) rfl
theorem q2014 : (Jvm.Cond.static ({ cls := "WindowExchange", name := "lambda$placeAsk$2", desc := "(IIILWindowExchange$State;)I" } : Jvm.MethodName)) ∈ lw_all := lw_g (lw_at lw_m9 1 rfl) rfl
theorem q2015 : (Jvm.Cond.code ({ cls := "WindowExchange", name := "lambda$placeAsk$2", desc := "(IIILWindowExchange$State;)I" } : Jvm.MethodName) prog_1_method_78_code (4 : Nat) (Option.some Jvm.ClassFile.FieldType.int)) ∈ lw_all := lw_g (lw_at lw_m9 2 rfl) rfl
theorem q2021 : (Jvm.Cond.instanceMethod ({ cls := "WindowExchange", name := "cancelOrder", desc := "(I)I" } : Jvm.MethodName)) ∈ lw_all := lw_g (lw_at lw_m9 8 rfl) rfl
theorem q2022 : (Jvm.Cond.selects "WindowExchange" ({ cls := "WindowExchange", name := "cancelOrder", desc := "(I)I" } : Jvm.MethodName) ({ cls := "WindowExchange", name := "cancelOrder", desc := "(I)I" } : Jvm.MethodName)) ∈ lw_all := lw_g (lw_at lw_m9 9 rfl) rfl
theorem q2023 : (Jvm.Cond.code ({ cls := "WindowExchange", name := "cancelOrder", desc := "(I)I" } : Jvm.MethodName) prog_1_method_13_code (2 : Nat) (Option.some Jvm.ClassFile.FieldType.int)) ∈ lw_all := lw_g (lw_at lw_m9 10 rfl) rfl
theorem q2024 : (Jvm.Cond.static ({ cls := "WindowExchange", name := "lambda$cancelOrder$3", desc := "(ILWindowExchange$State;)I" } : Jvm.MethodName)) ∈ lw_all := lw_g (lw_at lw_m9 11 rfl) rfl
theorem q2025 : (Jvm.Cond.code ({ cls := "WindowExchange", name := "lambda$cancelOrder$3", desc := "(ILWindowExchange$State;)I" } : Jvm.MethodName) prog_1_method_77_code (2 : Nat) (Option.some Jvm.ClassFile.FieldType.int)) ∈ lw_all := lw_g (lw_at lw_m9 12 rfl) rfl
theorem q2026 : (Jvm.Cond.methodLink "WindowExchange" (405 : Nat) ({ cls := "WindowExchange$State", name := "cancelOrder", desc := "(I)I" } : Jvm.MethodName)) ∈ lw_all := lw_g (lw_at lw_m9 13 rfl) rfl
theorem q2035 : (Jvm.Cond.static ({ cls := "WindowExchange", name := "checkElement", desc := "(Z)V" } : Jvm.MethodName)) ∈ lw_all := lw_g (lw_at lw_m9 22 rfl) rfl
theorem q2036 : (Jvm.Cond.code ({ cls := "WindowExchange", name := "checkElement", desc := "(Z)V" } : Jvm.MethodName) prog_1_method_5_code (1 : Nat) (Option.none : Option Jvm.ClassFile.FieldType)) ∈ lw_all := lw_g (lw_at lw_m9 23 rfl) rfl
theorem q2037 : (Jvm.Cond.classLink "WindowExchange" (19 : Nat) "java/util/NoSuchElementException") ∈ lw_all := lw_g (lw_at lw_m9 24 rfl) rfl
theorem q2038 : (Jvm.Cond.methodLink "WindowExchange" (21 : Nat) ({ cls := "java/util/NoSuchElementException", name := "<init>", desc := "()V" } : Jvm.MethodName)) ∈ lw_all := lw_g (lw_at lw_m9 25 rfl) rfl
theorem q2043 : (Jvm.Cond.instanceMethod ({ cls := "WindowExchange", name := "agree", desc := "(IIIII)I" } : Jvm.MethodName)) ∈ lw_all := lw_g (lw_at lw_m9 30 rfl) rfl
theorem q2044 : (Jvm.Cond.selects "WindowExchange" ({ cls := "WindowExchange", name := "agree", desc := "(IIIII)I" } : Jvm.MethodName) ({ cls := "WindowExchange", name := "agree", desc := "(IIIII)I" } : Jvm.MethodName)) ∈ lw_all := lw_g (lw_at lw_m9 31 rfl) rfl
theorem q2045 : (Jvm.Cond.code ({ cls := "WindowExchange", name := "agree", desc := "(IIIII)I" } : Jvm.MethodName) prog_1_method_14_code (6 : Nat) (Option.some Jvm.ClassFile.FieldType.int)) ∈ lw_all := lw_g (lw_at lw_m9 32 rfl) rfl
theorem q2046 : (Jvm.Cond.static ({ cls := "WindowExchange", name := "lambda$agree$4", desc := "(IIIIILWindowExchange$State;)I" } : Jvm.MethodName)) ∈ lw_all := lw_g (lw_at lw_m9 33 rfl) rfl
theorem q2047 : (Jvm.Cond.code ({ cls := "WindowExchange", name := "lambda$agree$4", desc := "(IIIIILWindowExchange$State;)I" } : Jvm.MethodName) prog_1_method_76_code (6 : Nat) (Option.some Jvm.ClassFile.FieldType.int)) ∈ lw_all := lw_g (lw_at lw_m9 34 rfl) rfl
theorem q2048 : (Jvm.Cond.methodLink "WindowExchange" (401 : Nat) ({ cls := "WindowExchange$State", name := "agree", desc := "(IIIII)I" } : Jvm.MethodName)) ∈ lw_all := lw_g (lw_at lw_m9 35 rfl) rfl
theorem q2080 : (Jvm.Cond.instanceMethod ({ cls := "WindowExchange", name := "advance", desc := "(I)I" } : Jvm.MethodName)) ∈ lw_all := lw_g (lw_at lw_m9 67 rfl) rfl
theorem q2081 : (Jvm.Cond.selects "WindowExchange" ({ cls := "WindowExchange", name := "advance", desc := "(I)I" } : Jvm.MethodName) ({ cls := "WindowExchange", name := "advance", desc := "(I)I" } : Jvm.MethodName)) ∈ lw_all := lw_g (lw_at lw_m9 68 rfl) rfl
theorem q2082 : (Jvm.Cond.code ({ cls := "WindowExchange", name := "advance", desc := "(I)I" } : Jvm.MethodName) prog_1_method_15_code (2 : Nat) (Option.some Jvm.ClassFile.FieldType.int)) ∈ lw_all := lw_g (lw_at lw_m9 69 rfl) rfl
theorem q2083 : (Jvm.Cond.static ({ cls := "WindowExchange", name := "lambda$advance$5", desc := "(ILWindowExchange$State;)I" } : Jvm.MethodName)) ∈ lw_all := lw_g (lw_at lw_m9 70 rfl) rfl
theorem q2084 : (Jvm.Cond.code ({ cls := "WindowExchange", name := "lambda$advance$5", desc := "(ILWindowExchange$State;)I" } : Jvm.MethodName) prog_1_method_75_code (2 : Nat) (Option.some Jvm.ClassFile.FieldType.int)) ∈ lw_all := lw_g (lw_at lw_m9 71 rfl) rfl
theorem q2085 : (Jvm.Cond.methodLink "WindowExchange" (398 : Nat) ({ cls := "WindowExchange$State", name := "advance", desc := "(I)I" } : Jvm.MethodName)) ∈ lw_all := lw_g (lw_at lw_m9 72 rfl) rfl
theorem q2116 : (Jvm.Cond.instanceMethod ({ cls := "WindowExchange", name := "openAuction", desc := "(II)I" } : Jvm.MethodName)) ∈ lw_all := lw_g (lw_at lw_m9 103 rfl) rfl
theorem q2117 : (Jvm.Cond.selects "WindowExchange" ({ cls := "WindowExchange", name := "openAuction", desc := "(II)I" } : Jvm.MethodName) ({ cls := "WindowExchange", name := "openAuction", desc := "(II)I" } : Jvm.MethodName)) ∈ lw_all := lw_g (lw_at lw_m9 104 rfl) rfl
theorem q2118 : (Jvm.Cond.code ({ cls := "WindowExchange", name := "openAuction", desc := "(II)I" } : Jvm.MethodName) prog_1_method_16_code (3 : Nat) (Option.some Jvm.ClassFile.FieldType.int)) ∈ lw_all := lw_g (lw_at lw_m9 105 rfl) rfl
theorem q2119 : (Jvm.Cond.static ({ cls := "WindowExchange", name := "lambda$openAuction$6", desc := "(IILWindowExchange$State;)I" } : Jvm.MethodName)) ∈ lw_all := lw_g (lw_at lw_m9 106 rfl) rfl
theorem q2120 : (Jvm.Cond.code ({ cls := "WindowExchange", name := "lambda$openAuction$6", desc := "(IILWindowExchange$State;)I" } : Jvm.MethodName) prog_1_method_74_code (3 : Nat) (Option.some Jvm.ClassFile.FieldType.int)) ∈ lw_all := lw_g (lw_at lw_m9 107 rfl) rfl
theorem q2121 : (Jvm.Cond.methodLink "WindowExchange" (395 : Nat) ({ cls := "WindowExchange$State", name := "openAuction", desc := "(II)I" } : Jvm.MethodName)) ∈ lw_all := lw_g (lw_at lw_m9 108 rfl) rfl
theorem q2134 : (Jvm.Cond.instanceMethod ({ cls := "WindowExchange", name := "sealBid", desc := "(II)I" } : Jvm.MethodName)) ∈ lw_all := lw_g (lw_at lw_m9 121 rfl) rfl
theorem q2135 : (Jvm.Cond.selects "WindowExchange" ({ cls := "WindowExchange", name := "sealBid", desc := "(II)I" } : Jvm.MethodName) ({ cls := "WindowExchange", name := "sealBid", desc := "(II)I" } : Jvm.MethodName)) ∈ lw_all := lw_g (lw_at lw_m9 122 rfl) rfl
theorem q2136 : (Jvm.Cond.code ({ cls := "WindowExchange", name := "sealBid", desc := "(II)I" } : Jvm.MethodName) prog_1_method_17_code (3 : Nat) (Option.some Jvm.ClassFile.FieldType.int)) ∈ lw_all := lw_g (lw_at lw_m9 123 rfl) rfl
theorem q2137 : (Jvm.Cond.static ({ cls := "WindowExchange", name := "lambda$sealBid$7", desc := "(IILWindowExchange$State;)I" } : Jvm.MethodName)) ∈ lw_all := lw_g (lw_at lw_m9 124 rfl) rfl
theorem q2138 : (Jvm.Cond.code ({ cls := "WindowExchange", name := "lambda$sealBid$7", desc := "(IILWindowExchange$State;)I" } : Jvm.MethodName) prog_1_method_73_code (3 : Nat) (Option.some Jvm.ClassFile.FieldType.int)) ∈ lw_all := lw_g (lw_at lw_m9 125 rfl) rfl
theorem q2139 : (Jvm.Cond.methodLink "WindowExchange" (392 : Nat) ({ cls := "WindowExchange$State", name := "sealBid", desc := "(II)I" } : Jvm.MethodName)) ∈ lw_all := lw_g (lw_at lw_m9 126 rfl) rfl
theorem q2151 : (Jvm.Cond.instanceMethod ({ cls := "WindowExchange", name := "closeAuction", desc := "()I" } : Jvm.MethodName)) ∈ lw_all := lw_g (lw_at lw_m9 138 rfl) rfl
theorem q2152 : (Jvm.Cond.selects "WindowExchange" ({ cls := "WindowExchange", name := "closeAuction", desc := "()I" } : Jvm.MethodName) ({ cls := "WindowExchange", name := "closeAuction", desc := "()I" } : Jvm.MethodName)) ∈ lw_all := lw_g (lw_at lw_m9 139 rfl) rfl
theorem q2153 : (Jvm.Cond.code ({ cls := "WindowExchange", name := "closeAuction", desc := "()I" } : Jvm.MethodName) prog_1_method_18_code (1 : Nat) (Option.some Jvm.ClassFile.FieldType.int)) ∈ lw_all := lw_g (lw_at lw_m9 140 rfl) rfl
theorem q2154 : (Jvm.Cond.static ({ cls := "WindowExchange", name := "lambda$closeAuction$8", desc := "(LWindowExchange$State;)I" } : Jvm.MethodName)) ∈ lw_all := lw_g (lw_at lw_m9 141 rfl) rfl
theorem q2155 : (Jvm.Cond.code ({ cls := "WindowExchange", name := "lambda$closeAuction$8", desc := "(LWindowExchange$State;)I" } : Jvm.MethodName) prog_1_method_72_code (1 : Nat) (Option.some Jvm.ClassFile.FieldType.int)) ∈ lw_all := lw_g (lw_at lw_m9 142 rfl) rfl
theorem q2156 : (Jvm.Cond.methodLink "WindowExchange" (389 : Nat) ({ cls := "WindowExchange$State", name := "closeAuction", desc := "()I" } : Jvm.MethodName)) ∈ lw_all := lw_g (lw_at lw_m9 143 rfl) rfl
theorem q2177 : (Jvm.Cond.instanceMethod ({ cls := "WindowExchange", name := "cash", desc := "(I)I" } : Jvm.MethodName)) ∈ lw_all := lw_g (lw_at lw_m9 164 rfl) rfl
theorem q2178 : (Jvm.Cond.selects "WindowExchange" ({ cls := "WindowExchange", name := "cash", desc := "(I)I" } : Jvm.MethodName) ({ cls := "WindowExchange", name := "cash", desc := "(I)I" } : Jvm.MethodName)) ∈ lw_all := lw_g (lw_at lw_m9 165 rfl) rfl
theorem q2179 : (Jvm.Cond.code ({ cls := "WindowExchange", name := "cash", desc := "(I)I" } : Jvm.MethodName) prog_1_method_21_code (2 : Nat) (Option.some Jvm.ClassFile.FieldType.int)) ∈ lw_all := lw_g (lw_at lw_m9 166 rfl) rfl
theorem q2180 : (Jvm.Cond.methodLink "WindowExchange" (122 : Nat) ({ cls := "WindowExchange$State", name := "trader", desc := "(I)LWindowExchange$Trader;" } : Jvm.MethodName)) ∈ lw_all := lw_g (lw_at lw_m9 167 rfl) rfl
theorem q2185 : (Jvm.Cond.instanceMethod ({ cls := "WindowExchange", name := "reservedCash", desc := "(I)I" } : Jvm.MethodName)) ∈ lw_all := lw_g (lw_at lw_m9 172 rfl) rfl
theorem q2186 : (Jvm.Cond.selects "WindowExchange" ({ cls := "WindowExchange", name := "reservedCash", desc := "(I)I" } : Jvm.MethodName) ({ cls := "WindowExchange", name := "reservedCash", desc := "(I)I" } : Jvm.MethodName)) ∈ lw_all := lw_g (lw_at lw_m9 173 rfl) rfl
theorem q2187 : (Jvm.Cond.code ({ cls := "WindowExchange", name := "reservedCash", desc := "(I)I" } : Jvm.MethodName) prog_1_method_22_code (2 : Nat) (Option.some Jvm.ClassFile.FieldType.int)) ∈ lw_all := lw_g (lw_at lw_m9 174 rfl) rfl
theorem q2188 : (Jvm.Cond.methodLink "WindowExchange" (131 : Nat) ({ cls := "WindowExchange", name := "checkTrader", desc := "(I)V" } : Jvm.MethodName)) ∈ lw_all := lw_g (lw_at lw_m9 175 rfl) rfl
theorem q2189 : (Jvm.Cond.privateMethod ({ cls := "WindowExchange", name := "checkTrader", desc := "(I)V" } : Jvm.MethodName)) ∈ lw_tbl := lw_at lw_m9 176 rfl
theorem q2190 : (Jvm.Cond.instanceMethod ({ cls := "WindowExchange", name := "checkTrader", desc := "(I)V" } : Jvm.MethodName)) ∈ lw_all := lw_g (lw_at lw_m9 177 rfl) rfl
theorem q2191 : (Jvm.Cond.code ({ cls := "WindowExchange", name := "checkTrader", desc := "(I)V" } : Jvm.MethodName) prog_1_method_20_code (2 : Nat) (Option.none : Option Jvm.ClassFile.FieldType)) ∈ lw_all := lw_g (lw_at lw_m9 178 rfl) rfl
theorem q2192 : (Jvm.Cond.methodLink "WindowExchange" (118 : Nat) ({ cls := "WindowExchange", name := "checkIndex", desc := "(II)V" } : Jvm.MethodName)) ∈ lw_all := lw_g (lw_at lw_m9 179 rfl) rfl
theorem q2197 : (Jvm.Cond.instanceMethod ({ cls := "WindowExchange", name := "windows", desc := "(I)I" } : Jvm.MethodName)) ∈ lw_all := lw_g (lw_at lw_m9 184 rfl) rfl
theorem q2198 : (Jvm.Cond.selects "WindowExchange" ({ cls := "WindowExchange", name := "windows", desc := "(I)I" } : Jvm.MethodName) ({ cls := "WindowExchange", name := "windows", desc := "(I)I" } : Jvm.MethodName)) ∈ lw_all := lw_g (lw_at lw_m9 185 rfl) rfl
theorem q2199 : (Jvm.Cond.code ({ cls := "WindowExchange", name := "windows", desc := "(I)I" } : Jvm.MethodName) prog_1_method_23_code (2 : Nat) (Option.some Jvm.ClassFile.FieldType.int)) ∈ lw_all := lw_g (lw_at lw_m9 186 rfl) rfl
theorem q2204 : (Jvm.Cond.instanceMethod ({ cls := "WindowExchange", name := "reservedWindows", desc := "(I)I" } : Jvm.MethodName)) ∈ lw_all := lw_g (lw_at lw_m9 191 rfl) rfl
theorem q2205 : (Jvm.Cond.selects "WindowExchange" ({ cls := "WindowExchange", name := "reservedWindows", desc := "(I)I" } : Jvm.MethodName) ({ cls := "WindowExchange", name := "reservedWindows", desc := "(I)I" } : Jvm.MethodName)) ∈ lw_all := lw_g (lw_at lw_m9 192 rfl) rfl
theorem q2206 : (Jvm.Cond.code ({ cls := "WindowExchange", name := "reservedWindows", desc := "(I)I" } : Jvm.MethodName) prog_1_method_24_code (2 : Nat) (Option.some Jvm.ClassFile.FieldType.int)) ∈ lw_all := lw_g (lw_at lw_m9 193 rfl) rfl
theorem q2211 : (Jvm.Cond.instanceMethod ({ cls := "WindowExchange", name := "traderOf", desc := "(I)I" } : Jvm.MethodName)) ∈ lw_all := lw_g (lw_at lw_m9 198 rfl) rfl
theorem q2212 : (Jvm.Cond.selects "WindowExchange" ({ cls := "WindowExchange", name := "traderOf", desc := "(I)I" } : Jvm.MethodName) ({ cls := "WindowExchange", name := "traderOf", desc := "(I)I" } : Jvm.MethodName)) ∈ lw_all := lw_g (lw_at lw_m9 199 rfl) rfl
theorem q2213 : (Jvm.Cond.code ({ cls := "WindowExchange", name := "traderOf", desc := "(I)I" } : Jvm.MethodName) prog_1_method_26_code (2 : Nat) (Option.some Jvm.ClassFile.FieldType.int)) ∈ lw_all := lw_g (lw_at lw_m9 200 rfl) rfl
theorem q2214 : (Jvm.Cond.methodLink "WindowExchange" (148 : Nat) ({ cls := "WindowExchange$State", name := "order", desc := "(I)LWindowExchange$Order;" } : Jvm.MethodName)) ∈ lw_all := lw_g (lw_at lw_m9 201 rfl) rfl
theorem q2219 : (Jvm.Cond.instanceMethod ({ cls := "WindowExchange", name := "isBid", desc := "(I)Z" } : Jvm.MethodName)) ∈ lw_all := lw_g (lw_at lw_m9 206 rfl) rfl
theorem q2220 : (Jvm.Cond.selects "WindowExchange" ({ cls := "WindowExchange", name := "isBid", desc := "(I)Z" } : Jvm.MethodName) ({ cls := "WindowExchange", name := "isBid", desc := "(I)Z" } : Jvm.MethodName)) ∈ lw_all := lw_g (lw_at lw_m9 207 rfl) rfl
theorem q2221 : (Jvm.Cond.code ({ cls := "WindowExchange", name := "isBid", desc := "(I)Z" } : Jvm.MethodName) prog_1_method_27_code (2 : Nat) (Option.some Jvm.ClassFile.FieldType.boolean)) ∈ lw_all := lw_g (lw_at lw_m9 208 rfl) rfl
theorem q2226 : (Jvm.Cond.instanceMethod ({ cls := "WindowExchange", name := "priceOf", desc := "(I)I" } : Jvm.MethodName)) ∈ lw_all := lw_g (lw_at lw_m9 213 rfl) rfl
theorem q2227 : (Jvm.Cond.selects "WindowExchange" ({ cls := "WindowExchange", name := "priceOf", desc := "(I)I" } : Jvm.MethodName) ({ cls := "WindowExchange", name := "priceOf", desc := "(I)I" } : Jvm.MethodName)) ∈ lw_all := lw_g (lw_at lw_m9 214 rfl) rfl
theorem q2228 : (Jvm.Cond.code ({ cls := "WindowExchange", name := "priceOf", desc := "(I)I" } : Jvm.MethodName) prog_1_method_28_code (2 : Nat) (Option.some Jvm.ClassFile.FieldType.int)) ∈ lw_all := lw_g (lw_at lw_m9 215 rfl) rfl
theorem q2233 : (Jvm.Cond.instanceMethod ({ cls := "WindowExchange", name := "unitsOf", desc := "(I)I" } : Jvm.MethodName)) ∈ lw_all := lw_g (lw_at lw_m9 220 rfl) rfl
theorem q2234 : (Jvm.Cond.selects "WindowExchange" ({ cls := "WindowExchange", name := "unitsOf", desc := "(I)I" } : Jvm.MethodName) ({ cls := "WindowExchange", name := "unitsOf", desc := "(I)I" } : Jvm.MethodName)) ∈ lw_all := lw_g (lw_at lw_m9 221 rfl) rfl
theorem q2235 : (Jvm.Cond.code ({ cls := "WindowExchange", name := "unitsOf", desc := "(I)I" } : Jvm.MethodName) prog_1_method_29_code (2 : Nat) (Option.some Jvm.ClassFile.FieldType.int)) ∈ lw_all := lw_g (lw_at lw_m9 222 rfl) rfl
theorem q2240 : (Jvm.Cond.instanceMethod ({ cls := "WindowExchange", name := "orderAt", desc := "(ZI)I" } : Jvm.MethodName)) ∈ lw_all := lw_g (lw_at lw_m9 227 rfl) rfl
theorem q2241 : (Jvm.Cond.selects "WindowExchange" ({ cls := "WindowExchange", name := "orderAt", desc := "(ZI)I" } : Jvm.MethodName) ({ cls := "WindowExchange", name := "orderAt", desc := "(ZI)I" } : Jvm.MethodName)) ∈ lw_all := lw_g (lw_at lw_m9 228 rfl) rfl
theorem q2242 : (Jvm.Cond.code ({ cls := "WindowExchange", name := "orderAt", desc := "(ZI)I" } : Jvm.MethodName) prog_1_method_30_code (4 : Nat) (Option.some Jvm.ClassFile.FieldType.int)) ∈ lw_all := lw_g (lw_at lw_m9 229 rfl) rfl
theorem q2243 : (Jvm.Cond.methodLink "WindowExchange" (170 : Nat) ({ cls := "WindowExchange", name := "checkElement", desc := "(Z)V" } : Jvm.MethodName)) ∈ lw_all := lw_g (lw_at lw_m9 230 rfl) rfl
theorem q2248 : (Jvm.Cond.instanceMethod ({ cls := "WindowExchange", name := "bestBid", desc := "()I" } : Jvm.MethodName)) ∈ lw_all := lw_g (lw_at lw_m9 235 rfl) rfl
theorem q2249 : (Jvm.Cond.selects "WindowExchange" ({ cls := "WindowExchange", name := "bestBid", desc := "()I" } : Jvm.MethodName) ({ cls := "WindowExchange", name := "bestBid", desc := "()I" } : Jvm.MethodName)) ∈ lw_all := lw_g (lw_at lw_m9 236 rfl) rfl
theorem q2250 : (Jvm.Cond.code ({ cls := "WindowExchange", name := "bestBid", desc := "()I" } : Jvm.MethodName) prog_1_method_32_code (1 : Nat) (Option.some Jvm.ClassFile.FieldType.int)) ∈ lw_all := lw_g (lw_at lw_m9 237 rfl) rfl
theorem q2251 : (Jvm.Cond.methodLink "WindowExchange" (194 : Nat) ({ cls := "WindowExchange", name := "bestPrice", desc := "(Z)I" } : Jvm.MethodName)) ∈ lw_all := lw_g (lw_at lw_m9 238 rfl) rfl
theorem q2252 : (Jvm.Cond.privateMethod ({ cls := "WindowExchange", name := "bestPrice", desc := "(Z)I" } : Jvm.MethodName)) ∈ lw_tbl := lw_at lw_m9 239 rfl
theorem q2253 : (Jvm.Cond.instanceMethod ({ cls := "WindowExchange", name := "bestPrice", desc := "(Z)I" } : Jvm.MethodName)) ∈ lw_all := lw_g (lw_at lw_m10 0 rfl) rfl
theorem q2254 : (Jvm.Cond.code ({ cls := "WindowExchange", name := "bestPrice", desc := "(Z)I" } : Jvm.MethodName) prog_1_method_31_code (3 : Nat) (Option.some Jvm.ClassFile.FieldType.int)) ∈ lw_all := lw_g (lw_at lw_m10 1 rfl) rfl
theorem q2259 : (Jvm.Cond.instanceMethod ({ cls := "WindowExchange", name := "bestAsk", desc := "()I" } : Jvm.MethodName)) ∈ lw_all := lw_g (lw_at lw_m10 6 rfl) rfl
theorem q2260 : (Jvm.Cond.selects "WindowExchange" ({ cls := "WindowExchange", name := "bestAsk", desc := "()I" } : Jvm.MethodName) ({ cls := "WindowExchange", name := "bestAsk", desc := "()I" } : Jvm.MethodName)) ∈ lw_all := lw_g (lw_at lw_m10 7 rfl) rfl
theorem q2261 : (Jvm.Cond.code ({ cls := "WindowExchange", name := "bestAsk", desc := "()I" } : Jvm.MethodName) prog_1_method_33_code (1 : Nat) (Option.some Jvm.ClassFile.FieldType.int)) ∈ lw_all := lw_g (lw_at lw_m10 8 rfl) rfl
theorem q2266 : (Jvm.Cond.instanceMethod ({ cls := "WindowExchange", name := "costToBuy", desc := "(I)I" } : Jvm.MethodName)) ∈ lw_all := lw_g (lw_at lw_m10 13 rfl) rfl
theorem q2267 : (Jvm.Cond.selects "WindowExchange" ({ cls := "WindowExchange", name := "costToBuy", desc := "(I)I" } : Jvm.MethodName) ({ cls := "WindowExchange", name := "costToBuy", desc := "(I)I" } : Jvm.MethodName)) ∈ lw_all := lw_g (lw_at lw_m10 14 rfl) rfl
theorem q2268 : (Jvm.Cond.code ({ cls := "WindowExchange", name := "costToBuy", desc := "(I)I" } : Jvm.MethodName) prog_1_method_36_code (2 : Nat) (Option.some Jvm.ClassFile.FieldType.int)) ∈ lw_all := lw_g (lw_at lw_m10 15 rfl) rfl
theorem q2269 : (Jvm.Cond.methodLink "WindowExchange" (208 : Nat) ({ cls := "WindowExchange", name := "checkedCost", desc := "(II)I" } : Jvm.MethodName)) ∈ lw_all := lw_g (lw_at lw_m10 16 rfl) rfl
theorem q2270 : (Jvm.Cond.static ({ cls := "WindowExchange", name := "checkedCost", desc := "(II)I" } : Jvm.MethodName)) ∈ lw_all := lw_g (lw_at lw_m10 17 rfl) rfl
theorem q2271 : (Jvm.Cond.code ({ cls := "WindowExchange", name := "checkedCost", desc := "(II)I" } : Jvm.MethodName) prog_1_method_35_code (2 : Nat) (Option.some Jvm.ClassFile.FieldType.int)) ∈ lw_all := lw_g (lw_at lw_m10 18 rfl) rfl
theorem q2272 : (Jvm.Cond.methodLink "WindowExchange" (202 : Nat) ({ cls := "WindowExchange", name := "checkArgument", desc := "(Z)V" } : Jvm.MethodName)) ∈ lw_all := lw_g (lw_at lw_m10 19 rfl) rfl
theorem q2277 : (Jvm.Cond.instanceMethod ({ cls := "WindowExchange", name := "costToBuyByPrices", desc := "(I)I" } : Jvm.MethodName)) ∈ lw_all := lw_g (lw_at lw_m10 24 rfl) rfl
theorem q2278 : (Jvm.Cond.selects "WindowExchange" ({ cls := "WindowExchange", name := "costToBuyByPrices", desc := "(I)I" } : Jvm.MethodName) ({ cls := "WindowExchange", name := "costToBuyByPrices", desc := "(I)I" } : Jvm.MethodName)) ∈ lw_all := lw_g (lw_at lw_m10 25 rfl) rfl
theorem q2279 : (Jvm.Cond.code ({ cls := "WindowExchange", name := "costToBuyByPrices", desc := "(I)I" } : Jvm.MethodName) prog_1_method_37_code (2 : Nat) (Option.some Jvm.ClassFile.FieldType.int)) ∈ lw_all := lw_g (lw_at lw_m10 26 rfl) rfl
theorem q2284 : (Jvm.Cond.instanceMethod ({ cls := "WindowExchange", name := "lastPrice", desc := "()I" } : Jvm.MethodName)) ∈ lw_all := lw_g (lw_at lw_m10 31 rfl) rfl
theorem q2285 : (Jvm.Cond.selects "WindowExchange" ({ cls := "WindowExchange", name := "lastPrice", desc := "()I" } : Jvm.MethodName) ({ cls := "WindowExchange", name := "lastPrice", desc := "()I" } : Jvm.MethodName)) ∈ lw_all := lw_g (lw_at lw_m10 32 rfl) rfl
theorem q2286 : (Jvm.Cond.code ({ cls := "WindowExchange", name := "lastPrice", desc := "()I" } : Jvm.MethodName) prog_1_method_38_code (1 : Nat) (Option.some Jvm.ClassFile.FieldType.int)) ∈ lw_all := lw_g (lw_at lw_m10 33 rfl) rfl
theorem q2305 : (Jvm.Cond.instanceMethod ({ cls := "WindowExchange", name := "meanPrice", desc := "()D" } : Jvm.MethodName)) ∈ lw_all := lw_g (lw_at lw_m10 52 rfl) rfl
theorem q2306 : (Jvm.Cond.selects "WindowExchange" ({ cls := "WindowExchange", name := "meanPrice", desc := "()D" } : Jvm.MethodName) ({ cls := "WindowExchange", name := "meanPrice", desc := "()D" } : Jvm.MethodName)) ∈ lw_all := lw_g (lw_at lw_m10 53 rfl) rfl
theorem q2307 : (Jvm.Cond.code ({ cls := "WindowExchange", name := "meanPrice", desc := "()D" } : Jvm.MethodName) prog_1_method_40_code (1 : Nat) (Option.some Jvm.ClassFile.FieldType.double)) ∈ lw_all := lw_g (lw_at lw_m10 54 rfl) rfl
theorem q2308 : (Jvm.Cond.classLink "WindowExchange" (221 : Nat) "java/lang/ArithmeticException") ∈ lw_all := lw_g (lw_at lw_m10 55 rfl) rfl
theorem q2309 : (Jvm.Cond.methodLink "WindowExchange" (223 : Nat) ({ cls := "java/lang/ArithmeticException", name := "<init>", desc := "()V" } : Jvm.MethodName)) ∈ lw_all := lw_g (lw_at lw_m10 56 rfl) rfl
theorem q2317 : (Jvm.Cond.instanceMethod ({ cls := "WindowExchange", name := "daysLeft", desc := "(I)I" } : Jvm.MethodName)) ∈ lw_all := lw_g (lw_at lw_m10 64 rfl) rfl
theorem q2318 : (Jvm.Cond.selects "WindowExchange" ({ cls := "WindowExchange", name := "daysLeft", desc := "(I)I" } : Jvm.MethodName) ({ cls := "WindowExchange", name := "daysLeft", desc := "(I)I" } : Jvm.MethodName)) ∈ lw_all := lw_g (lw_at lw_m10 65 rfl) rfl
theorem q2319 : (Jvm.Cond.code ({ cls := "WindowExchange", name := "daysLeft", desc := "(I)I" } : Jvm.MethodName) prog_1_method_43_code (2 : Nat) (Option.some Jvm.ClassFile.FieldType.int)) ∈ lw_all := lw_g (lw_at lw_m10 66 rfl) rfl
theorem q2320 : (Jvm.Cond.methodLink "WindowExchange" (233 : Nat) ({ cls := "WindowExchange$State", name := "contract", desc := "(I)LWindowExchange$Contract;" } : Jvm.MethodName)) ∈ lw_all := lw_g (lw_at lw_m10 67 rfl) rfl
theorem q2324 : (Jvm.Cond.methodLink "WindowExchange" (237 : Nat) ({ cls := "WindowExchange$Contract", name := "settlementDay", desc := "()I" } : Jvm.MethodName)) ∈ lw_all := lw_g (lw_at lw_m10 71 rfl) rfl
theorem q2329 : (Jvm.Cond.instanceMethod ({ cls := "WindowExchange", name := "gain", desc := "(II)I" } : Jvm.MethodName)) ∈ lw_all := lw_g (lw_at lw_m10 76 rfl) rfl
theorem q2330 : (Jvm.Cond.selects "WindowExchange" ({ cls := "WindowExchange", name := "gain", desc := "(II)I" } : Jvm.MethodName) ({ cls := "WindowExchange", name := "gain", desc := "(II)I" } : Jvm.MethodName)) ∈ lw_all := lw_g (lw_at lw_m10 77 rfl) rfl
theorem q2331 : (Jvm.Cond.code ({ cls := "WindowExchange", name := "gain", desc := "(II)I" } : Jvm.MethodName) prog_1_method_45_code (4 : Nat) (Option.some Jvm.ClassFile.FieldType.int)) ∈ lw_all := lw_g (lw_at lw_m10 78 rfl) rfl
theorem q2332 : (Jvm.Cond.methodLink "WindowExchange" (242 : Nat) ({ cls := "WindowExchange", name := "checkPrice", desc := "(I)V" } : Jvm.MethodName)) ∈ lw_all := lw_g (lw_at lw_m10 79 rfl) rfl
theorem q2333 : (Jvm.Cond.static ({ cls := "WindowExchange", name := "checkPrice", desc := "(I)V" } : Jvm.MethodName)) ∈ lw_all := lw_g (lw_at lw_m10 80 rfl) rfl
theorem q2334 : (Jvm.Cond.code ({ cls := "WindowExchange", name := "checkPrice", desc := "(I)V" } : Jvm.MethodName) prog_1_method_44_code (1 : Nat) (Option.none : Option Jvm.ClassFile.FieldType)) ∈ lw_all := lw_g (lw_at lw_m10 81 rfl) rfl
theorem q2335 : (Jvm.Cond.methodLink "WindowExchange" (245 : Nat) ({ cls := "WindowExchange$Contract", name := "gainAt", desc := "(I)I" } : Jvm.MethodName)) ∈ lw_all := lw_g (lw_at lw_m10 82 rfl) rfl
theorem q2340 : (Jvm.Cond.instanceMethod ({ cls := "WindowExchange", name := "exposure", desc := "(I)I" } : Jvm.MethodName)) ∈ lw_all := lw_g (lw_at lw_m10 87 rfl) rfl
theorem q2341 : (Jvm.Cond.selects "WindowExchange" ({ cls := "WindowExchange", name := "exposure", desc := "(I)I" } : Jvm.MethodName) ({ cls := "WindowExchange", name := "exposure", desc := "(I)I" } : Jvm.MethodName)) ∈ lw_all := lw_g (lw_at lw_m10 88 rfl) rfl
theorem q2342 : (Jvm.Cond.code ({ cls := "WindowExchange", name := "exposure", desc := "(I)I" } : Jvm.MethodName) prog_1_method_46_code (2 : Nat) (Option.some Jvm.ClassFile.FieldType.int)) ∈ lw_all := lw_g (lw_at lw_m10 89 rfl) rfl
theorem q2343 : (Jvm.Cond.methodLink "WindowExchange" (248 : Nat) ({ cls := "WindowExchange$State", name := "exposure", desc := "(I)I" } : Jvm.MethodName)) ∈ lw_all := lw_g (lw_at lw_m10 90 rfl) rfl
theorem q2348 : (Jvm.Cond.instanceMethod ({ cls := "WindowExchange", name := "value", desc := "(II)I" } : Jvm.MethodName)) ∈ lw_all := lw_g (lw_at lw_m10 95 rfl) rfl
theorem q2349 : (Jvm.Cond.selects "WindowExchange" ({ cls := "WindowExchange", name := "value", desc := "(II)I" } : Jvm.MethodName) ({ cls := "WindowExchange", name := "value", desc := "(II)I" } : Jvm.MethodName)) ∈ lw_all := lw_g (lw_at lw_m10 96 rfl) rfl
theorem q2350 : (Jvm.Cond.code ({ cls := "WindowExchange", name := "value", desc := "(II)I" } : Jvm.MethodName) prog_1_method_47_code (3 : Nat) (Option.some Jvm.ClassFile.FieldType.int)) ∈ lw_all := lw_g (lw_at lw_m10 97 rfl) rfl
theorem q2355 : (Jvm.Cond.instanceMethod ({ cls := "WindowExchange", name := "valueByExposure", desc := "(II)I" } : Jvm.MethodName)) ∈ lw_all := lw_g (lw_at lw_m10 102 rfl) rfl
theorem q2356 : (Jvm.Cond.selects "WindowExchange" ({ cls := "WindowExchange", name := "valueByExposure", desc := "(II)I" } : Jvm.MethodName) ({ cls := "WindowExchange", name := "valueByExposure", desc := "(II)I" } : Jvm.MethodName)) ∈ lw_all := lw_g (lw_at lw_m10 103 rfl) rfl
theorem q2357 : (Jvm.Cond.code ({ cls := "WindowExchange", name := "valueByExposure", desc := "(II)I" } : Jvm.MethodName) prog_1_method_48_code (3 : Nat) (Option.some Jvm.ClassFile.FieldType.int)) ∈ lw_all := lw_g (lw_at lw_m10 104 rfl) rfl
theorem q2362 : (Jvm.Cond.instanceMethod ({ cls := "WindowExchange", name := "defaultRate", desc := "()F" } : Jvm.MethodName)) ∈ lw_all := lw_g (lw_at lw_m10 109 rfl) rfl
theorem q2363 : (Jvm.Cond.selects "WindowExchange" ({ cls := "WindowExchange", name := "defaultRate", desc := "()F" } : Jvm.MethodName) ({ cls := "WindowExchange", name := "defaultRate", desc := "()F" } : Jvm.MethodName)) ∈ lw_all := lw_g (lw_at lw_m10 110 rfl) rfl
theorem q2364 : (Jvm.Cond.code ({ cls := "WindowExchange", name := "defaultRate", desc := "()F" } : Jvm.MethodName) prog_1_method_50_code (1 : Nat) (Option.some Jvm.ClassFile.FieldType.float)) ∈ lw_all := lw_g (lw_at lw_m10 111 rfl) rfl
theorem q2369 : (Jvm.Cond.instanceMethod ({ cls := "WindowExchange", name := "holder", desc := "(I)I" } : Jvm.MethodName)) ∈ lw_all := lw_g (lw_at lw_m10 116 rfl) rfl
theorem q2370 : (Jvm.Cond.selects "WindowExchange" ({ cls := "WindowExchange", name := "holder", desc := "(I)I" } : Jvm.MethodName) ({ cls := "WindowExchange", name := "holder", desc := "(I)I" } : Jvm.MethodName)) ∈ lw_all := lw_g (lw_at lw_m10 117 rfl) rfl
theorem q2371 : (Jvm.Cond.code ({ cls := "WindowExchange", name := "holder", desc := "(I)I" } : Jvm.MethodName) prog_1_method_52_code (2 : Nat) (Option.some Jvm.ClassFile.FieldType.int)) ∈ lw_all := lw_g (lw_at lw_m10 118 rfl) rfl
theorem q2376 : (Jvm.Cond.instanceMethod ({ cls := "WindowExchange", name := "winner", desc := "()I" } : Jvm.MethodName)) ∈ lw_all := lw_g (lw_at lw_m10 123 rfl) rfl
theorem q2377 : (Jvm.Cond.selects "WindowExchange" ({ cls := "WindowExchange", name := "winner", desc := "()I" } : Jvm.MethodName) ({ cls := "WindowExchange", name := "winner", desc := "()I" } : Jvm.MethodName)) ∈ lw_all := lw_g (lw_at lw_m10 124 rfl) rfl
theorem q2378 : (Jvm.Cond.code ({ cls := "WindowExchange", name := "winner", desc := "()I" } : Jvm.MethodName) prog_1_method_53_code (2 : Nat) (Option.some Jvm.ClassFile.FieldType.int)) ∈ lw_all := lw_g (lw_at lw_m10 125 rfl) rfl
theorem q2379 : (Jvm.Cond.methodLink "WindowExchange" (270 : Nat) ({ cls := "WindowExchange", name := "checkState", desc := "(Z)V" } : Jvm.MethodName)) ∈ lw_all := lw_g (lw_at lw_m10 126 rfl) rfl
theorem q2380 : (Jvm.Cond.methodLink "WindowExchange" (273 : Nat) ({ cls := "WindowExchange$State", name := "winner", desc := "()I" } : Jvm.MethodName)) ∈ lw_all := lw_g (lw_at lw_m10 127 rfl) rfl
theorem q2385 : (Jvm.Cond.instanceMethod ({ cls := "WindowExchange", name := "winnerPays", desc := "()I" } : Jvm.MethodName)) ∈ lw_all := lw_g (lw_at lw_m10 132 rfl) rfl
theorem q2386 : (Jvm.Cond.selects "WindowExchange" ({ cls := "WindowExchange", name := "winnerPays", desc := "()I" } : Jvm.MethodName) ({ cls := "WindowExchange", name := "winnerPays", desc := "()I" } : Jvm.MethodName)) ∈ lw_all := lw_g (lw_at lw_m10 133 rfl) rfl
theorem q2387 : (Jvm.Cond.code ({ cls := "WindowExchange", name := "winnerPays", desc := "()I" } : Jvm.MethodName) prog_1_method_54_code (1 : Nat) (Option.some Jvm.ClassFile.FieldType.int)) ∈ lw_all := lw_g (lw_at lw_m10 134 rfl) rfl
theorem q2388 : (Jvm.Cond.methodLink "WindowExchange" (276 : Nat) ({ cls := "WindowExchange", name := "winner", desc := "()I" } : Jvm.MethodName)) ∈ lw_all := lw_g (lw_at lw_m10 135 rfl) rfl
theorem q2389 : (Jvm.Cond.methodLink "WindowExchange" (277 : Nat) ({ cls := "WindowExchange$State", name := "priceFor", desc := "(I)I" } : Jvm.MethodName)) ∈ lw_all := lw_g (lw_at lw_m10 136 rfl) rfl
theorem q2394 : (Jvm.Cond.instanceMethod ({ cls := "WindowExchange", name := "writeTrader", desc := "(I)I" } : Jvm.MethodName)) ∈ lw_all := lw_g (lw_at lw_m10 141 rfl) rfl
theorem q2395 : (Jvm.Cond.selects "WindowExchange" ({ cls := "WindowExchange", name := "writeTrader", desc := "(I)I" } : Jvm.MethodName) ({ cls := "WindowExchange", name := "writeTrader", desc := "(I)I" } : Jvm.MethodName)) ∈ lw_all := lw_g (lw_at lw_m10 142 rfl) rfl
theorem q2396 : (Jvm.Cond.code ({ cls := "WindowExchange", name := "writeTrader", desc := "(I)I" } : Jvm.MethodName) prog_1_method_62_code (5 : Nat) (Option.some Jvm.ClassFile.FieldType.int)) ∈ lw_all := lw_g (lw_at lw_m10 143 rfl) rfl
theorem q2397 : (Jvm.Cond.methodLink "WindowExchange" (340 : Nat) ({ cls := "WindowExchange", name := "reserve", desc := "(I)Ljava/lang/String;" } : Jvm.MethodName)) ∈ lw_all := lw_g (lw_at lw_m10 144 rfl) rfl
theorem q2398 : (Jvm.Cond.static ({ cls := "WindowExchange", name := "reserve", desc := "(I)Ljava/lang/String;" } : Jvm.MethodName)) ∈ lw_all := lw_g (lw_at lw_m10 145 rfl) rfl
theorem q2399 : (Jvm.Cond.code ({ cls := "WindowExchange", name := "reserve", desc := "(I)Ljava/lang/String;" } : Jvm.MethodName) prog_1_method_61_code (1 : Nat) (Option.some (Jvm.ClassFile.FieldType.object "java/lang/String"))) ∈ lw_all := lw_g (lw_at lw_m10 146 rfl) rfl
theorem q2400 : (Jvm.Cond.stringRef "WindowExchange" (334 : Nat) "+") ∈ lw_tbl := lw_at lw_m10 147 rfl
theorem q2401 : (Jvm.Cond.methodLink "WindowExchange" (336 : Nat) ({ cls := "java/lang/StringBuilder", name := "toString", desc := "()Ljava/lang/String;" } : Jvm.MethodName)) ∈ lw_all := lw_g (lw_at lw_m10 148 rfl) rfl
theorem q2402 : (Jvm.Cond.stringRef "WindowExchange" (344 : Nat) " w") ∈ lw_tbl := lw_at lw_m10 149 rfl
theorem q2403 : (Jvm.Cond.stringRef "WindowExchange" (346 : Nat) " v") ∈ lw_tbl := lw_at lw_m10 150 rfl
theorem q2408 : (Jvm.Cond.instanceMethod ({ cls := "WindowExchange", name := "charAt", desc := "(I)C" } : Jvm.MethodName)) ∈ lw_all := lw_g (lw_at lw_m10 155 rfl) rfl
theorem q2409 : (Jvm.Cond.selects "WindowExchange" ({ cls := "WindowExchange", name := "charAt", desc := "(I)C" } : Jvm.MethodName) ({ cls := "WindowExchange", name := "charAt", desc := "(I)C" } : Jvm.MethodName)) ∈ lw_all := lw_g (lw_at lw_m10 156 rfl) rfl
theorem q2410 : (Jvm.Cond.code ({ cls := "WindowExchange", name := "charAt", desc := "(I)C" } : Jvm.MethodName) prog_1_method_63_code (2 : Nat) (Option.some Jvm.ClassFile.FieldType.char)) ∈ lw_all := lw_g (lw_at lw_m10 157 rfl) rfl
theorem q2411 : (Jvm.Cond.methodLink "WindowExchange" (348 : Nat) ({ cls := "java/lang/StringBuilder", name := "charAt", desc := "(I)C" } : Jvm.MethodName)) ∈ lw_all := lw_g (lw_at lw_m10 158 rfl) rfl
theorem q2425 : (Jvm.Cond.instanceMethod ({ cls := "WindowExchange", name := "type", desc := "(C)I" } : Jvm.MethodName)) ∈ lw_all := lw_g (lw_at lw_m10 172 rfl) rfl
theorem q2426 : (Jvm.Cond.selects "WindowExchange" ({ cls := "WindowExchange", name := "type", desc := "(C)I" } : Jvm.MethodName) ({ cls := "WindowExchange", name := "type", desc := "(C)I" } : Jvm.MethodName)) ∈ lw_all := lw_g (lw_at lw_m10 173 rfl) rfl
theorem q2427 : (Jvm.Cond.code ({ cls := "WindowExchange", name := "type", desc := "(C)I" } : Jvm.MethodName) prog_1_method_64_code (2 : Nat) (Option.some Jvm.ClassFile.FieldType.int)) ∈ lw_all := lw_g (lw_at lw_m10 174 rfl) rfl
theorem q2432 : (Jvm.Cond.instanceMethod ({ cls := "WindowExchange", name := "run", desc := "()I" } : Jvm.MethodName)) ∈ lw_all := lw_g (lw_at lw_m10 179 rfl) rfl
theorem q2433 : (Jvm.Cond.selects "WindowExchange" ({ cls := "WindowExchange", name := "run", desc := "()I" } : Jvm.MethodName) ({ cls := "WindowExchange", name := "run", desc := "()I" } : Jvm.MethodName)) ∈ lw_all := lw_g (lw_at lw_m10 180 rfl) rfl
theorem q2434 : (Jvm.Cond.codeWith ({ cls := "WindowExchange", name := "run", desc := "()I" } : Jvm.MethodName) prog_1_method_66_code (3 : Nat) (Option.some Jvm.ClassFile.FieldType.int) [((0 : Nat), (16 : Nat), (23 : Nat), (374 : Nat)), ((0 : Nat), (16 : Nat), (40 : Nat), (0 : Nat)), ((23 : Nat), (41 : Nat), (40 : Nat), (0 : Nat))]) ∈ lw_all := lw_g (lw_at lw_m10 181 rfl) rfl
theorem q2435 : (Jvm.Cond.classLink "WindowExchange" (374 : Nat) "WindowExchange$SyntaxException") ∈ lw_all := lw_g (lw_at lw_m10 182 rfl) rfl
theorem q2436 : (Jvm.Cond.classLink "WindowExchange" (361 : Nat) "WindowExchange$Parser") ∈ lw_all := lw_g (lw_at lw_m10 183 rfl) rfl
theorem q2438 : (Jvm.Cond.methodLinkNest "WindowExchange" (363 : Nat) ({ cls := "WindowExchange$Parser", name := "<init>", desc := "(LWindowExchange;)V" } : Jvm.MethodName) "WindowExchange") ∈ lw_tbl := lw_at lw_m10 185 rfl
theorem q2449 : (Jvm.Cond.methodLink "WindowExchange" (366 : Nat) ({ cls := "WindowExchange$Parser", name := "program", desc := "()Ljava/util/ArrayList;" } : Jvm.MethodName)) ∈ lw_all := lw_g (lw_at lw_m10 196 rfl) rfl
theorem q2535 : (Jvm.Cond.fieldLinkNest "WindowExchange" (376 : Nat) "WindowExchange$SyntaxException" "position" "I" "WindowExchange") ∈ lw_tbl := lw_at lw_m11 42 rfl
theorem q2593 : (Jvm.Cond.fieldLinkNest "WindowExchange" (357 : Nat) "WindowExchange$Command" "change" "LWindowExchange$Change;" "WindowExchange") ∈ lw_tbl := lw_at lw_m11 100 rfl
theorem q2665 : (Jvm.Cond.methodLink "WindowExchange" (370 : Nat) ({ cls := "WindowExchange", name := "execute", desc := "(Ljava/util/ArrayList;)I" } : Jvm.MethodName)) ∈ lw_all := lw_g (lw_at lw_m11 172 rfl) rfl
theorem q2666 : (Jvm.Cond.privateMethod ({ cls := "WindowExchange", name := "execute", desc := "(Ljava/util/ArrayList;)I" } : Jvm.MethodName)) ∈ lw_tbl := lw_at lw_m11 173 rfl
theorem q2667 : (Jvm.Cond.instanceMethod ({ cls := "WindowExchange", name := "execute", desc := "(Ljava/util/ArrayList;)I" } : Jvm.MethodName)) ∈ lw_all := lw_g (lw_at lw_m11 174 rfl) rfl
theorem q2668 : (Jvm.Cond.codeWith ({ cls := "WindowExchange", name := "execute", desc := "(Ljava/util/ArrayList;)I" } : Jvm.MethodName) prog_1_method_65_code (7 : Nat) (Option.some Jvm.ClassFile.FieldType.int) [((17 : Nat), (64 : Nat), (67 : Nat), (16 : Nat)), ((17 : Nat), (64 : Nat), (67 : Nat), (1 : Nat)), ((17 : Nat), (64 : Nat), (67 : Nat), (7 : Nat)), ((17 : Nat), (64 : Nat), (67 : Nat), (19 : Nat)), ((17 : Nat), (64 : Nat), (67 : Nat), (22 : Nat))]) ∈ lw_all := lw_g (lw_at lw_m11 175 rfl) rfl
theorem q2669 : (Jvm.Cond.classLink "WindowExchange" (355 : Nat) "WindowExchange$Command") ∈ lw_all := lw_g (lw_at lw_m11 176 rfl) rfl
theorem q2674 : (Jvm.Cond.instanceMethod ({ cls := "WindowExchange", name := "errorPosition", desc := "()I" } : Jvm.MethodName)) ∈ lw_all := lw_g (lw_at lw_m11 181 rfl) rfl
theorem q2675 : (Jvm.Cond.selects "WindowExchange" ({ cls := "WindowExchange", name := "errorPosition", desc := "()I" } : Jvm.MethodName) ({ cls := "WindowExchange", name := "errorPosition", desc := "()I" } : Jvm.MethodName)) ∈ lw_all := lw_g (lw_at lw_m11 182 rfl) rfl
theorem q2676 : (Jvm.Cond.code ({ cls := "WindowExchange", name := "errorPosition", desc := "()I" } : Jvm.MethodName) prog_1_method_67_code (1 : Nat) (Option.some Jvm.ClassFile.FieldType.int)) ∈ lw_all := lw_g (lw_at lw_m11 183 rfl) rfl
theorem q2681 : (Jvm.Cond.instanceMethod ({ cls := "WindowExchange", name := "failedCommand", desc := "()I" } : Jvm.MethodName)) ∈ lw_all := lw_g (lw_at lw_m11 188 rfl) rfl
theorem q2682 : (Jvm.Cond.selects "WindowExchange" ({ cls := "WindowExchange", name := "failedCommand", desc := "()I" } : Jvm.MethodName) ({ cls := "WindowExchange", name := "failedCommand", desc := "()I" } : Jvm.MethodName)) ∈ lw_all := lw_g (lw_at lw_m11 189 rfl) rfl
theorem q2683 : (Jvm.Cond.code ({ cls := "WindowExchange", name := "failedCommand", desc := "()I" } : Jvm.MethodName) prog_1_method_68_code (1 : Nat) (Option.some Jvm.ClassFile.FieldType.int)) ∈ lw_all := lw_g (lw_at lw_m11 190 rfl) rfl
theorem q2688 : (Jvm.Cond.instanceMethod ({ cls := "WindowExchange", name := "undo", desc := "()I" } : Jvm.MethodName)) ∈ lw_all := lw_g (lw_at lw_m11 195 rfl) rfl
theorem q2689 : (Jvm.Cond.selects "WindowExchange" ({ cls := "WindowExchange", name := "undo", desc := "()I" } : Jvm.MethodName) ({ cls := "WindowExchange", name := "undo", desc := "()I" } : Jvm.MethodName)) ∈ lw_all := lw_g (lw_at lw_m11 196 rfl) rfl
theorem q2690 : (Jvm.Cond.code ({ cls := "WindowExchange", name := "undo", desc := "()I" } : Jvm.MethodName) prog_1_method_69_code (1 : Nat) (Option.some Jvm.ClassFile.FieldType.int)) ∈ lw_all := lw_g (lw_at lw_m11 197 rfl) rfl
theorem q2691 : (Jvm.Cond.methodLink "WindowExchange" (379 : Nat) ({ cls := "java/util/ArrayDeque", name := "isEmpty", desc := "()Z" } : Jvm.MethodName)) ∈ lw_all := lw_g (lw_at lw_m11 198 rfl) rfl
theorem q2692 : (Jvm.Cond.methodLink "WindowExchange" (380 : Nat) ({ cls := "java/util/ArrayDeque", name := "removeLast", desc := "()Ljava/lang/Object;" } : Jvm.MethodName)) ∈ lw_all := lw_g (lw_at lw_m11 199 rfl) rfl
theorem q2707 : (Jvm.Cond.instanceMethod ({ cls := "WindowExchange", name := "restore", desc := "()I" } : Jvm.MethodName)) ∈ lw_all := lw_g (lw_at lw_m11 214 rfl) rfl
theorem q2708 : (Jvm.Cond.selects "WindowExchange" ({ cls := "WindowExchange", name := "restore", desc := "()I" } : Jvm.MethodName) ({ cls := "WindowExchange", name := "restore", desc := "()I" } : Jvm.MethodName)) ∈ lw_all := lw_g (lw_at lw_m11 215 rfl) rfl
theorem q2709 : (Jvm.Cond.code ({ cls := "WindowExchange", name := "restore", desc := "()I" } : Jvm.MethodName) prog_1_method_71_code (1 : Nat) (Option.some Jvm.ClassFile.FieldType.int)) ∈ lw_all := lw_g (lw_at lw_m11 216 rfl) rfl
theorem q2710 : (Jvm.Cond.methodLink "WindowExchange" (386 : Nat) ({ cls := "java/util/ArrayDeque", name := "clear", desc := "()V" } : Jvm.MethodName)) ∈ lw_all := lw_g (lw_at lw_m11 217 rfl) rfl
theorem q3221 : (Jvm.Cond.castable "WindowExchange" "java/lang/Object") ∈ lw_tbl := lw_at lw_m14 8 rfl
theorem in_X1 : ∀ w ∈ wsX10, w ∈ lw_all := lw_in wsX10 [319, 321, 323, 325, 327, 329, 331, 333, 335] (by decide +kernel) (by decide +kernel)
