/-! FACTS OF LINKS, by program out of the words: fl_ fn_ fields, nw_ objects made, ck_ casts, mv_ ms_ mi_ calls -/
theorem fl_X1_31 : FL RX1 31 0 0 (.object "WindowExchange$State") false := ⟨RX1, TX1, 9, "WindowExchange", tyX1, cl_X1, in_X1, tyX1_ok, nmX1, by decide, q308, Or.inl rfl, rfl, rfl, fun h => nomatch h⟩
theorem fl_X1_38 : FL RX1 38 0 2 (.object "java/util/ArrayDeque") true := ⟨RX1, TX1, 9, "WindowExchange", tyX1, cl_X1, in_X1, tyX1_ok, nmX1, by decide, q310, Or.inl rfl, rfl, rfl, fun _ => rfl⟩
theorem fl_X1_42 : FL RX1 42 0 3 (.array .int) true := ⟨RX1, TX1, 9, "WindowExchange", tyX1, cl_X1, in_X1, tyX1_ok, nmX1, by decide, q311, Or.inl rfl, rfl, rfl, fun _ => rfl⟩
theorem fl_X1_49 : FL RX1 49 0 4 (.object "java/lang/StringBuilder") true := ⟨RX1, TX1, 9, "WindowExchange", tyX1, cl_X1, in_X1, tyX1_ok, nmX1, by decide, q312, Or.inl rfl, rfl, rfl, fun _ => rfl⟩
theorem fl_X1_53 : FL RX1 53 0 5 (.array .char) true := ⟨RX1, TX1, 9, "WindowExchange", tyX1, cl_X1, in_X1, tyX1_ok, nmX1, by decide, q314, Or.inl rfl, rfl, rfl, fun _ => rfl⟩
theorem fl_X1_57 : FL RX1 57 0 7 (.int) false := ⟨RX1, TX1, 9, "WindowExchange", tyX1, cl_X1, in_X1, tyX1_ok, nmX1, by decide, q317, Or.inl rfl, rfl, rfl, fun h => nomatch h⟩
theorem fl_X1_61 : FL RX1 61 0 8 (.int) false := ⟨RX1, TX1, 9, "WindowExchange", tyX1, cl_X1, in_X1, tyX1_ok, nmX1, by decide, q318, Or.inl rfl, rfl, rfl, fun h => nomatch h⟩
theorem fl_X1_352 : FL RX1 352 0 6 (.int) false := ⟨RX1, TX1, 9, "WindowExchange", tyX1, cl_X1, in_X1, tyX1_ok, nmX1, by decide, q316, Or.inl rfl, rfl, rfl, fun h => nomatch h⟩
theorem fl_X1_383 : FL RX1 383 0 1 (.object "WindowExchange$State") false := ⟨RX1, TX1, 9, "WindowExchange", tyX1, cl_X1, in_X1, tyX1_ok, nmX1, by decide, q309, Or.inl rfl, rfl, rfl, fun h => nomatch h⟩
theorem fl_X6_9 : FL RX6 9 5 2 (.array .int) true := ⟨RX6, TX6, 3, "WindowExchange$Auction", tyX6, cl_X6, in_X6, tyX6_ok, nmX6, by decide, q1827, Or.inl rfl, rfl, rfl, fun _ => rfl⟩
theorem fl_X6_15 : FL RX6 15 5 0 (.int) true := ⟨RX6, TX6, 3, "WindowExchange$Auction", tyX6, cl_X6, in_X6, tyX6_ok, nmX6, by decide, q1823, Or.inl rfl, rfl, rfl, fun _ => rfl⟩
theorem fl_X6_19 : FL RX6 19 5 1 (.int) true := ⟨RX6, TX6, 3, "WindowExchange$Auction", tyX6, cl_X6, in_X6, tyX6_ok, nmX6, by decide, q1825, Or.inl rfl, rfl, rfl, fun _ => rfl⟩
theorem fl_X7_7 : FL RX7 7 6 0 (.boolean) true := ⟨RX7, TX7, 1, "WindowExchange$ByPriority", tyX7, cl_X7, in_X7, tyX7_ok, nmX7, by decide, q635, Or.inl rfl, rfl, rfl, fun _ => rfl⟩
theorem fl_X11_7 : FL RX11 7 10 0 (.object "WindowExchange$Change") true := ⟨RX11, TX11, 1, "WindowExchange$Command", tyX11, cl_X11, in_X11, tyX11_ok, nmX11, by decide, q2592, Or.inl rfl, rfl, rfl, fun _ => rfl⟩
theorem fl_X8_7 : FL RX8 7 7 0 (.int) true := ⟨RX8, TX8, 5, "WindowExchange$Contract", tyX8, cl_X8, in_X8, tyX8_ok, nmX8, by decide, q2060, Or.inl rfl, rfl, rfl, fun _ => rfl⟩
theorem fl_X8_13 : FL RX8 13 7 1 (.int) true := ⟨RX8, TX8, 5, "WindowExchange$Contract", tyX8, cl_X8, in_X8, tyX8_ok, nmX8, by decide, q2061, Or.inl rfl, rfl, rfl, fun _ => rfl⟩
theorem fl_X8_16 : FL RX8 16 7 2 (.int) true := ⟨RX8, TX8, 5, "WindowExchange$Contract", tyX8, cl_X8, in_X8, tyX8_ok, nmX8, by decide, q2062, Or.inl rfl, rfl, rfl, fun _ => rfl⟩
theorem fl_X8_19 : FL RX8 19 7 3 (.int) true := ⟨RX8, TX8, 5, "WindowExchange$Contract", tyX8, cl_X8, in_X8, tyX8_ok, nmX8, by decide, q2063, Or.inl rfl, rfl, rfl, fun _ => rfl⟩
theorem fl_X8_22 : FL RX8 22 7 4 (.int) true := ⟨RX8, TX8, 5, "WindowExchange$Contract", tyX8, cl_X8, in_X8, tyX8_ok, nmX8, by decide, q2064, Or.inl rfl, rfl, rfl, fun _ => rfl⟩
theorem fl_X5_7 : FL RX5 7 4 0 (.int) true := ⟨RX5, TX5, 5, "WindowExchange$Order", tyX5, cl_X5, in_X5, tyX5_ok, nmX5, by decide, q1678, Or.inl rfl, rfl, rfl, fun _ => rfl⟩
theorem fl_X5_13 : FL RX5 13 4 1 (.int) true := ⟨RX5, TX5, 5, "WindowExchange$Order", tyX5, cl_X5, in_X5, tyX5_ok, nmX5, by decide, q1682, Or.inl rfl, rfl, rfl, fun _ => rfl⟩
theorem fl_X5_16 : FL RX5 16 4 2 (.boolean) true := ⟨RX5, TX5, 5, "WindowExchange$Order", tyX5, cl_X5, in_X5, tyX5_ok, nmX5, by decide, q1685, Or.inl rfl, rfl, rfl, fun _ => rfl⟩
theorem fl_X5_20 : FL RX5 20 4 3 (.int) true := ⟨RX5, TX5, 5, "WindowExchange$Order", tyX5, cl_X5, in_X5, tyX5_ok, nmX5, by decide, q1688, Or.inl rfl, rfl, rfl, fun _ => rfl⟩
theorem fl_X5_23 : FL RX5 23 4 4 (.int) false := ⟨RX5, TX5, 5, "WindowExchange$Order", tyX5, cl_X5, in_X5, tyX5_ok, nmX5, by decide, q1692, Or.inl rfl, rfl, rfl, fun h => nomatch h⟩
theorem fl_X9_3 : FL RX9 3 8 1 (.object "WindowExchange") true := ⟨RX9, TX9, 2, "WindowExchange$Parser", tyX9, cl_X9, in_X9, tyX9_ok, nmX9, by decide, q2443, Or.inl rfl, rfl, rfl, fun _ => rfl⟩
theorem fl_X9_17 : FL RX9 17 8 0 (.int) false := ⟨RX9, TX9, 2, "WindowExchange$Parser", tyX9, cl_X9, in_X9, tyX9_ok, nmX9, by decide, q2442, Or.inl rfl, rfl, rfl, fun h => nomatch h⟩
theorem fl_X2_9 : FL RX2 9 1 2 (.int) false := ⟨RX2, TX2, 15, "WindowExchange$State", tyX2, cl_X2, in_X2, tyX2_ok, nmX2, by decide, q198, Or.inl rfl, rfl, rfl, fun h => nomatch h⟩
theorem fl_X2_15 : FL RX2 15 1 10 (.array .int) true := ⟨RX2, TX2, 15, "WindowExchange$State", tyX2, cl_X2, in_X2, tyX2_ok, nmX2, by decide, q214, Or.inl rfl, rfl, rfl, fun _ => rfl⟩
theorem fl_X2_22 : FL RX2 22 1 11 (.object "java/util/ArrayList") true := ⟨RX2, TX2, 15, "WindowExchange$State", tyX2, cl_X2, in_X2, tyX2_ok, nmX2, by decide, q216, Or.inl rfl, rfl, rfl, fun _ => rfl⟩
theorem fl_X2_26 : FL RX2 26 1 12 (.object "java/util/ArrayList") true := ⟨RX2, TX2, 15, "WindowExchange$State", tyX2, cl_X2, in_X2, tyX2_ok, nmX2, by decide, q218, Or.inl rfl, rfl, rfl, fun _ => rfl⟩
theorem fl_X2_29 : FL RX2 29 1 13 (.object "java/util/ArrayList") true := ⟨RX2, TX2, 15, "WindowExchange$State", tyX2, cl_X2, in_X2, tyX2_ok, nmX2, by decide, q220, Or.inl rfl, rfl, rfl, fun _ => rfl⟩
theorem fl_X2_32 : FL RX2 32 1 0 (.int) false := ⟨RX2, TX2, 15, "WindowExchange$State", tyX2, cl_X2, in_X2, tyX2_ok, nmX2, by decide, q195, Or.inl rfl, rfl, rfl, fun h => nomatch h⟩
theorem fl_X2_35 : FL RX2 35 1 1 (.int) false := ⟨RX2, TX2, 15, "WindowExchange$State", tyX2, cl_X2, in_X2, tyX2_ok, nmX2, by decide, q196, Or.inl rfl, rfl, rfl, fun h => nomatch h⟩
theorem fl_X2_38 : FL RX2 38 1 3 (.int) false := ⟨RX2, TX2, 15, "WindowExchange$State", tyX2, cl_X2, in_X2, tyX2_ok, nmX2, by decide, q200, Or.inl rfl, rfl, rfl, fun h => nomatch h⟩
theorem fl_X2_41 : FL RX2 41 1 4 (.int) false := ⟨RX2, TX2, 15, "WindowExchange$State", tyX2, cl_X2, in_X2, tyX2_ok, nmX2, by decide, q202, Or.inl rfl, rfl, rfl, fun h => nomatch h⟩
theorem fl_X2_44 : FL RX2 44 1 5 (.int) false := ⟨RX2, TX2, 15, "WindowExchange$State", tyX2, cl_X2, in_X2, tyX2_ok, nmX2, by decide, q204, Or.inl rfl, rfl, rfl, fun h => nomatch h⟩
theorem fl_X2_47 : FL RX2 47 1 6 (.int) false := ⟨RX2, TX2, 15, "WindowExchange$State", tyX2, cl_X2, in_X2, tyX2_ok, nmX2, by decide, q206, Or.inl rfl, rfl, rfl, fun h => nomatch h⟩
theorem fl_X2_50 : FL RX2 50 1 7 (.int) false := ⟨RX2, TX2, 15, "WindowExchange$State", tyX2, cl_X2, in_X2, tyX2_ok, nmX2, by decide, q208, Or.inl rfl, rfl, rfl, fun h => nomatch h⟩
theorem fl_X2_53 : FL RX2 53 1 8 (.int) false := ⟨RX2, TX2, 15, "WindowExchange$State", tyX2, cl_X2, in_X2, tyX2_ok, nmX2, by decide, q210, Or.inl rfl, rfl, rfl, fun h => nomatch h⟩
theorem fl_X2_56 : FL RX2 56 1 9 (.int) false := ⟨RX2, TX2, 15, "WindowExchange$State", tyX2, cl_X2, in_X2, tyX2_ok, nmX2, by decide, q212, Or.inl rfl, rfl, rfl, fun h => nomatch h⟩
theorem fl_X2_97 : FL RX2 97 1 14 (.object "WindowExchange$Auction") false := ⟨RX2, TX2, 15, "WindowExchange$State", tyX2, cl_X2, in_X2, tyX2_ok, nmX2, by decide, q222, Or.inl rfl, rfl, rfl, fun h => nomatch h⟩
theorem fl_X10_7 : FL RX10 7 9 6 (.int) true := ⟨RX10, TX10, 7, "WindowExchange$SyntaxException", tyX10, cl_X10, in_X10, tyX10_ok, nmX10, by decide, q2534, Or.inl rfl, rfl, rfl, fun _ => rfl⟩
theorem fl_X4_7 : FL RX4 7 3 0 (.int) false := ⟨RX4, TX4, 2, "WindowExchange$Trader", tyX4, cl_X4, in_X4, tyX4_ok, nmX4, by decide, q1659, Or.inl rfl, rfl, rfl, fun h => nomatch h⟩
theorem fl_X4_13 : FL RX4 13 3 1 (.int) false := ⟨RX4, TX4, 2, "WindowExchange$Trader", tyX4, cl_X4, in_X4, tyX4_ok, nmX4, by decide, q1662, Or.inl rfl, rfl, rfl, fun h => nomatch h⟩
theorem fl_X3_9 : FL RX3 9 2 0 (.array .int) true := ⟨RX3, TX3, 20, "WindowExchangeModel", tyX3, cl_X3, in_X3, tyX3_ok, nmX3, by decide, q2723, Or.inl rfl, rfl, rfl, fun _ => rfl⟩
theorem fl_X3_13 : FL RX3 13 2 1 (.array .int) true := ⟨RX3, TX3, 20, "WindowExchangeModel", tyX3, cl_X3, in_X3, tyX3_ok, nmX3, by decide, q2724, Or.inl rfl, rfl, rfl, fun _ => rfl⟩
theorem fl_X3_16 : FL RX3 16 2 2 (.array .int) true := ⟨RX3, TX3, 20, "WindowExchangeModel", tyX3, cl_X3, in_X3, tyX3_ok, nmX3, by decide, q2725, Or.inl rfl, rfl, rfl, fun _ => rfl⟩
theorem fl_X3_19 : FL RX3 19 2 4 (.array .int) true := ⟨RX3, TX3, 20, "WindowExchangeModel", tyX3, cl_X3, in_X3, tyX3_ok, nmX3, by decide, q2727, Or.inl rfl, rfl, rfl, fun _ => rfl⟩
theorem fl_X3_22 : FL RX3 22 2 6 (.int) false := ⟨RX3, TX3, 20, "WindowExchangeModel", tyX3, cl_X3, in_X3, tyX3_ok, nmX3, by decide, q2729, Or.inl rfl, rfl, rfl, fun h => nomatch h⟩
theorem fl_X3_26 : FL RX3 26 2 7 (.int) false := ⟨RX3, TX3, 20, "WindowExchangeModel", tyX3, cl_X3, in_X3, tyX3_ok, nmX3, by decide, q2730, Or.inl rfl, rfl, rfl, fun h => nomatch h⟩
theorem fl_X3_29 : FL RX3 29 2 9 (.array .int) true := ⟨RX3, TX3, 20, "WindowExchangeModel", tyX3, cl_X3, in_X3, tyX3_ok, nmX3, by decide, q2732, Or.inl rfl, rfl, rfl, fun _ => rfl⟩
theorem fl_X3_32 : FL RX3 32 2 11 (.array .int) true := ⟨RX3, TX3, 20, "WindowExchangeModel", tyX3, cl_X3, in_X3, tyX3_ok, nmX3, by decide, q2734, Or.inl rfl, rfl, rfl, fun _ => rfl⟩
theorem fl_X3_35 : FL RX3 35 2 13 (.array .char) true := ⟨RX3, TX3, 20, "WindowExchangeModel", tyX3, cl_X3, in_X3, tyX3_ok, nmX3, by decide, q2736, Or.inl rfl, rfl, rfl, fun _ => rfl⟩
theorem fl_X3_39 : FL RX3 39 2 14 (.array .int) true := ⟨RX3, TX3, 20, "WindowExchangeModel", tyX3, cl_X3, in_X3, tyX3_ok, nmX3, by decide, q2737, Or.inl rfl, rfl, rfl, fun _ => rfl⟩
theorem fl_X3_42 : FL RX3 42 2 15 (.array .int) true := ⟨RX3, TX3, 20, "WindowExchangeModel", tyX3, cl_X3, in_X3, tyX3_ok, nmX3, by decide, q2738, Or.inl rfl, rfl, rfl, fun _ => rfl⟩
theorem fl_X3_45 : FL RX3 45 2 8 (.int) false := ⟨RX3, TX3, 20, "WindowExchangeModel", tyX3, cl_X3, in_X3, tyX3_ok, nmX3, by decide, q2731, Or.inl rfl, rfl, rfl, fun h => nomatch h⟩
theorem fl_X3_48 : FL RX3 48 2 5 (.int) false := ⟨RX3, TX3, 20, "WindowExchangeModel", tyX3, cl_X3, in_X3, tyX3_ok, nmX3, by decide, q2728, Or.inl rfl, rfl, rfl, fun h => nomatch h⟩
theorem fl_X3_200 : FL RX3 200 2 12 (.int) false := ⟨RX3, TX3, 20, "WindowExchangeModel", tyX3, cl_X3, in_X3, tyX3_ok, nmX3, by decide, q2735, Or.inl rfl, rfl, rfl, fun h => nomatch h⟩
theorem fl_X3_216 : FL RX3 216 2 10 (.int) false := ⟨RX3, TX3, 20, "WindowExchangeModel", tyX3, cl_X3, in_X3, tyX3_ok, nmX3, by decide, q2733, Or.inl rfl, rfl, rfl, fun h => nomatch h⟩
theorem fl_X3_219 : FL RX3 219 2 17 (.int) false := ⟨RX3, TX3, 20, "WindowExchangeModel", tyX3, cl_X3, in_X3, tyX3_ok, nmX3, by decide, q2740, Or.inl rfl, rfl, rfl, fun h => nomatch h⟩
theorem fl_X3_222 : FL RX3 222 2 18 (.int) false := ⟨RX3, TX3, 20, "WindowExchangeModel", tyX3, cl_X3, in_X3, tyX3_ok, nmX3, by decide, q2741, Or.inl rfl, rfl, rfl, fun h => nomatch h⟩
theorem fl_X3_225 : FL RX3 225 2 19 (.boolean) false := ⟨RX3, TX3, 20, "WindowExchangeModel", tyX3, cl_X3, in_X3, tyX3_ok, nmX3, by decide, q2742, Or.inl rfl, rfl, rfl, fun h => nomatch h⟩
theorem fl_X3_248 : FL RX3 248 2 16 (.int) false := ⟨RX3, TX3, 20, "WindowExchangeModel", tyX3, cl_X3, in_X3, tyX3_ok, nmX3, by decide, q2739, Or.inl rfl, rfl, rfl, fun h => nomatch h⟩
theorem fl_X3_264 : FL RX3 264 2 3 (.boolean) false := ⟨RX3, TX3, 20, "WindowExchangeModel", tyX3, cl_X3, in_X3, tyX3_ok, nmX3, by decide, q2726, Or.inl rfl, rfl, rfl, fun h => nomatch h⟩
theorem fl_J4_15 : FL RJ4 15 13 0 (.array .byte) false := ⟨RJ5, TJ5, 4, "java/lang/AbstractStringBuilder", tyJ5, cl_J5, in_J5, tyJ5_ok, nmJ5, by decide, q293, Or.inl rfl, rfl, rfl, fun h => nomatch h⟩
theorem fl_J4_22 : FL RJ4 22 13 1 (.byte) false := ⟨RJ5, TJ5, 4, "java/lang/AbstractStringBuilder", tyJ5, cl_J5, in_J5, tyJ5_ok, nmJ5, by decide, q294, Or.inl rfl, rfl, rfl, fun h => nomatch h⟩
theorem fl_J4_73 : FL RJ4 73 13 2 (.boolean) false := ⟨RJ5, TJ5, 4, "java/lang/AbstractStringBuilder", tyJ5, cl_J5, in_J5, tyJ5_ok, nmJ5, by decide, q295, Or.inl rfl, rfl, rfl, fun h => nomatch h⟩
theorem fl_J4_79 : FL RJ4 79 13 3 (.int) false := ⟨RJ5, TJ5, 4, "java/lang/AbstractStringBuilder", tyJ5, cl_J5, in_J5, tyJ5_ok, nmJ5, by decide, q297, Or.inl rfl, rfl, rfl, fun h => nomatch h⟩
theorem fl_J21_205 : FL RJ21 205 17 0 (.int) true := ⟨RJ21, TJ21, 1, "java/lang/Integer", tyJ21, cl_J21, in_J21, tyJ21_ok, nmJ21, by decide, q1110, Or.inl rfl, rfl, rfl, fun _ => rfl⟩
theorem fl_J6_9 : FL RJ6 9 14 0 (.array .byte) true := ⟨RJ6, TJ6, 4, "java/lang/String", tyJ6, cl_J6, in_J6, tyJ6_ok, nmJ6, by decide, q1524, Or.inl rfl, rfl, rfl, fun _ => rfl⟩
theorem fl_J6_15 : FL RJ6 15 14 1 (.byte) true := ⟨RJ6, TJ6, 4, "java/lang/String", tyJ6, cl_J6, in_J6, tyJ6_ok, nmJ6, by decide, q1525, Or.inl rfl, rfl, rfl, fun _ => rfl⟩
theorem fl_J6_1048 : FL RJ6 1048 13 2 (.boolean) false := ⟨RJ5, TJ5, 4, "java/lang/AbstractStringBuilder", tyJ5, cl_J5, in_J5, tyJ5_ok, nmJ5, by decide, q296, Or.inl rfl, rfl, rfl, fun h => nomatch h⟩
theorem fl_J8_7 : FL RJ8 7 28 0 (.object "java/lang/Throwable") false := ⟨RJ8, TJ8, 5, "java/lang/Throwable", tyJ8, cl_J8, in_J8, tyJ8_ok, nmJ8, by decide, q488, Or.inl rfl, rfl, rfl, fun h => nomatch h⟩
theorem fl_J8_7_X10 : FL RJ8 7 9 0 (.object "java/lang/Throwable") false := ⟨RX10, TX10, 7, "java/lang/Throwable", tyX10, cl_X10, in_X10, tyX10_ok, nmX10, by decide, q488, Or.inl rfl, rfl, rfl, fun h => nomatch h⟩
theorem fl_J8_17 : FL RJ8 17 28 1 (.array (.object "java/lang/StackTraceElement")) false := ⟨RJ8, TJ8, 5, "java/lang/Throwable", tyJ8, cl_J8, in_J8, tyJ8_ok, nmJ8, by decide, q489, Or.inl rfl, rfl, rfl, fun h => nomatch h⟩
theorem fl_J8_17_X10 : FL RJ8 17 9 1 (.array (.object "java/lang/StackTraceElement")) false := ⟨RX10, TX10, 7, "java/lang/Throwable", tyX10, cl_X10, in_X10, tyX10_ok, nmX10, by decide, q489, Or.inl rfl, rfl, rfl, fun h => nomatch h⟩
theorem fl_J8_24 : FL RJ8 24 28 2 (.object "java/util/List") false := ⟨RJ8, TJ8, 5, "java/lang/Throwable", tyJ8, cl_J8, in_J8, tyJ8_ok, nmJ8, by decide, q490, Or.inl rfl, rfl, rfl, fun h => nomatch h⟩
theorem fl_J8_24_X10 : FL RJ8 24 9 2 (.object "java/util/List") false := ⟨RX10, TX10, 7, "java/lang/Throwable", tyX10, cl_X10, in_X10, tyX10_ok, nmX10, by decide, q490, Or.inl rfl, rfl, rfl, fun h => nomatch h⟩
theorem fl_J8_31 : FL RJ8 31 28 3 (.object "java/lang/String") false := ⟨RJ8, TJ8, 5, "java/lang/Throwable", tyJ8, cl_J8, in_J8, tyJ8_ok, nmJ8, by decide, q487, Or.inl rfl, rfl, rfl, fun h => nomatch h⟩
theorem fl_J8_31_X10 : FL RJ8 31 9 3 (.object "java/lang/String") false := ⟨RX10, TX10, 7, "java/lang/Throwable", tyX10, cl_X10, in_X10, tyX10_ok, nmX10, by decide, q487, Or.inl rfl, rfl, rfl, fun h => nomatch h⟩
theorem fl_J8_198 : FL RJ8 198 28 4 (.object "java/lang/Object") false := ⟨RJ8, TJ8, 5, "java/lang/Throwable", tyJ8, cl_J8, in_J8, tyJ8_ok, nmJ8, by decide, q486, Or.inl rfl, rfl, rfl, fun h => nomatch h⟩
theorem fl_J8_198_X10 : FL RJ8 198 9 4 (.object "java/lang/Object") false := ⟨RX10, TX10, 7, "java/lang/Throwable", tyX10, cl_X10, in_X10, tyX10_ok, nmX10, by decide, q486, Or.inl rfl, rfl, rfl, fun h => nomatch h⟩
theorem fl_J1_7 : FL RJ1 7 11 0 (.int) false := ⟨RJ2, TJ2, 3, "java/util/AbstractList", tyJ2, cl_J2, in_J2, tyJ2_ok, nmJ2, by decide, q183, Or.inl rfl, rfl, rfl, fun h => nomatch h⟩
theorem fl_J3_3 : FL RJ3 3 12 0 (.array (.object "java/lang/Object")) false := ⟨RJ3, TJ3, 3, "java/util/ArrayDeque", tyJ3, cl_J3, in_J3, tyJ3_ok, nmJ3, by decide, q263, Or.inl rfl, rfl, rfl, fun h => nomatch h⟩
theorem fl_J3_20 : FL RJ3 20 12 2 (.int) false := ⟨RJ3, TJ3, 3, "java/util/ArrayDeque", tyJ3, cl_J3, in_J3, tyJ3_ok, nmJ3, by decide, q267, Or.inl rfl, rfl, rfl, fun h => nomatch h⟩
theorem fl_J3_24 : FL RJ3 24 12 1 (.int) false := ⟨RJ3, TJ3, 3, "java/util/ArrayDeque", tyJ3, cl_J3, in_J3, tyJ3_ok, nmJ3, by decide, q266, Or.inl rfl, rfl, rfl, fun h => nomatch h⟩
theorem fl_J24_1 : FL RJ24 1 29 3 (.object "java/util/ArrayDeque") true := ⟨RJ24, TJ24, 4, "java/util/ArrayDeque$DeqIterator", tyJ24, cl_J24, in_J24, tyJ24_ok, nmJ24, by decide, q1764, Or.inl rfl, rfl, rfl, fun _ => rfl⟩
theorem fl_J24_19 : FL RJ24 19 29 1 (.int) false := ⟨RJ24, TJ24, 4, "java/util/ArrayDeque$DeqIterator", tyJ24, cl_J24, in_J24, tyJ24_ok, nmJ24, by decide, q1762, Or.inl rfl, rfl, rfl, fun h => nomatch h⟩
theorem fl_J24_23 : FL RJ24 23 29 2 (.int) false := ⟨RJ24, TJ24, 4, "java/util/ArrayDeque$DeqIterator", tyJ24, cl_J24, in_J24, tyJ24_ok, nmJ24, by decide, q1763, Or.inl rfl, rfl, rfl, fun h => nomatch h⟩
theorem fl_J24_26 : FL RJ24 26 12 1 (.int) false := ⟨RJ3, TJ3, 3, "java/util/ArrayDeque", tyJ3, cl_J3, in_J3, tyJ3_ok, nmJ3, by decide, q265, Or.inl rfl, rfl, rfl, fun h => nomatch h⟩
theorem fl_J24_29 : FL RJ24 29 29 0 (.int) false := ⟨RJ24, TJ24, 4, "java/util/ArrayDeque$DeqIterator", tyJ24, cl_J24, in_J24, tyJ24_ok, nmJ24, by decide, q1761, Or.inl rfl, rfl, rfl, fun h => nomatch h⟩
theorem fl_J24_35 : FL RJ24 35 12 0 (.array (.object "java/lang/Object")) false := ⟨RJ3, TJ3, 3, "java/util/ArrayDeque", tyJ3, cl_J3, in_J3, tyJ3_ok, nmJ3, by decide, q264, Or.inl rfl, rfl, rfl, fun h => nomatch h⟩
theorem fl_J2_9 : FL RJ2 9 11 1 (.array (.object "java/lang/Object")) false := ⟨RJ2, TJ2, 3, "java/util/ArrayList", tyJ2, cl_J2, in_J2, tyJ2_ok, nmJ2, by decide, q179, Or.inl rfl, rfl, rfl, fun h => nomatch h⟩
theorem fl_J2_48 : FL RJ2 48 11 2 (.int) false := ⟨RJ2, TJ2, 3, "java/util/ArrayList", tyJ2, cl_J2, in_J2, tyJ2_ok, nmJ2, by decide, q182, Or.inl rfl, rfl, rfl, fun h => nomatch h⟩
theorem fl_J2_63 : FL RJ2 63 11 0 (.int) false := ⟨RJ2, TJ2, 3, "java/util/ArrayList", tyJ2, cl_J2, in_J2, tyJ2_ok, nmJ2, by decide, q186, Or.inr q185, rfl, rfl, fun h => nomatch h⟩
theorem fl_J16_1 : FL RJ16 1 15 3 (.object "java/util/ArrayList") true := ⟨RJ16, TJ16, 4, "java/util/ArrayList$Itr", tyJ16, cl_J16, in_J16, tyJ16_ok, nmJ16, by decide, q378, Or.inl rfl, rfl, rfl, fun _ => rfl⟩
theorem fl_J16_13 : FL RJ16 13 15 1 (.int) false := ⟨RJ16, TJ16, 4, "java/util/ArrayList$Itr", tyJ16, cl_J16, in_J16, tyJ16_ok, nmJ16, by decide, q376, Or.inl rfl, rfl, rfl, fun h => nomatch h⟩
theorem fl_J16_17 : FL RJ16 17 11 0 (.int) false := ⟨RJ2, TJ2, 3, "java/util/ArrayList", tyJ2, cl_J2, in_J2, tyJ2_ok, nmJ2, by decide, q184, Or.inr q185, rfl, rfl, fun h => nomatch h⟩
theorem fl_J16_22 : FL RJ16 22 15 2 (.int) false := ⟨RJ16, TJ16, 4, "java/util/ArrayList$Itr", tyJ16, cl_J16, in_J16, tyJ16_ok, nmJ16, by decide, q377, Or.inl rfl, rfl, rfl, fun h => nomatch h⟩
theorem fl_J16_25 : FL RJ16 25 15 0 (.int) false := ⟨RJ16, TJ16, 4, "java/util/ArrayList$Itr", tyJ16, cl_J16, in_J16, tyJ16_ok, nmJ16, by decide, q375, Or.inl rfl, rfl, rfl, fun h => nomatch h⟩
theorem fl_J16_37 : FL RJ16 37 11 1 (.array (.object "java/lang/Object")) false := ⟨RJ2, TJ2, 3, "java/util/ArrayList", tyJ2, cl_J2, in_J2, tyJ2_ok, nmJ2, by decide, q180, Or.inl rfl, rfl, rfl, fun h => nomatch h⟩
theorem fl_J33_17 : FL RJ33 17 19 0 (.array (.object "java/lang/Object")) false := ⟨RJ33, TJ33, 4, "java/util/PriorityQueue", tyJ33, cl_J33, in_J33, tyJ33_ok, nmJ33, by decide, q666, Or.inl rfl, rfl, rfl, fun h => nomatch h⟩
theorem fl_J33_21 : FL RJ33 21 19 2 (.object "java/util/Comparator") true := ⟨RJ33, TJ33, 4, "java/util/PriorityQueue", tyJ33, cl_J33, in_J33, tyJ33_ok, nmJ33, by decide, q669, Or.inl rfl, rfl, rfl, fun _ => rfl⟩
theorem fl_J33_58 : FL RJ33 58 19 1 (.int) false := ⟨RJ33, TJ33, 4, "java/util/PriorityQueue", tyJ33, cl_J33, in_J33, tyJ33_ok, nmJ33, by decide, q668, Or.inl rfl, rfl, rfl, fun h => nomatch h⟩
theorem fl_J33_93 : FL RJ33 93 19 3 (.int) false := ⟨RJ33, TJ33, 4, "java/util/PriorityQueue", tyJ33, cl_J33, in_J33, tyJ33_ok, nmJ33, by decide, q671, Or.inl rfl, rfl, rfl, fun h => nomatch h⟩
theorem fl_J25_1 : FL RJ25 1 30 5 (.object "java/util/PriorityQueue") true := ⟨RJ25, TJ25, 6, "java/util/PriorityQueue$Itr", tyJ25, cl_J25, in_J25, tyJ25_ok, nmJ25, by decide, q1789, Or.inl rfl, rfl, rfl, fun _ => rfl⟩
theorem fl_J25_13 : FL RJ25 13 30 1 (.int) false := ⟨RJ25, TJ25, 6, "java/util/PriorityQueue$Itr", tyJ25, cl_J25, in_J25, tyJ25_ok, nmJ25, by decide, q1785, Or.inl rfl, rfl, rfl, fun h => nomatch h⟩
theorem fl_J25_17 : FL RJ25 17 19 3 (.int) false := ⟨RJ33, TJ33, 4, "java/util/PriorityQueue", tyJ33, cl_J33, in_J33, tyJ33_ok, nmJ33, by decide, q670, Or.inl rfl, rfl, rfl, fun h => nomatch h⟩
theorem fl_J25_22 : FL RJ25 22 30 4 (.int) false := ⟨RJ25, TJ25, 6, "java/util/PriorityQueue$Itr", tyJ25, cl_J25, in_J25, tyJ25_ok, nmJ25, by decide, q1788, Or.inl rfl, rfl, rfl, fun h => nomatch h⟩
theorem fl_J25_25 : FL RJ25 25 30 0 (.int) false := ⟨RJ25, TJ25, 6, "java/util/PriorityQueue$Itr", tyJ25, cl_J25, in_J25, tyJ25_ok, nmJ25, by decide, q1784, Or.inl rfl, rfl, rfl, fun h => nomatch h⟩
theorem fl_J25_28 : FL RJ25 28 19 1 (.int) false := ⟨RJ33, TJ33, 4, "java/util/PriorityQueue", tyJ33, cl_J33, in_J33, tyJ33_ok, nmJ33, by decide, q667, Or.inl rfl, rfl, rfl, fun h => nomatch h⟩
theorem fl_J25_31 : FL RJ25 31 30 2 (.object "java/util/ArrayDeque") false := ⟨RJ25, TJ25, 6, "java/util/PriorityQueue$Itr", tyJ25, cl_J25, in_J25, tyJ25_ok, nmJ25, by decide, q1786, Or.inl rfl, rfl, rfl, fun h => nomatch h⟩
theorem fl_J25_44 : FL RJ25 44 19 0 (.array (.object "java/lang/Object")) false := ⟨RJ33, TJ33, 4, "java/util/PriorityQueue", tyJ33, cl_J33, in_J33, tyJ33_ok, nmJ33, by decide, q665, Or.inl rfl, rfl, rfl, fun h => nomatch h⟩
theorem fl_J25_52 : FL RJ25 52 30 3 (.object "java/lang/Object") false := ⟨RJ25, TJ25, 6, "java/util/PriorityQueue$Itr", tyJ25, cl_J25, in_J25, tyJ25_ok, nmJ25, by decide, q1787, Or.inl rfl, rfl, rfl, fun h => nomatch h⟩
theorem fl_J19_7 : FL RJ19 7 16 4 (.int) false := ⟨RJ19, TJ19, 9, "java/util/TreeMap", tyJ19, cl_J19, in_J19, tyJ19_ok, nmJ19, by decide, q1072, Or.inl rfl, rfl, rfl, fun h => nomatch h⟩
theorem fl_J19_13 : FL RJ19 13 16 5 (.int) false := ⟨RJ19, TJ19, 9, "java/util/TreeMap", tyJ19, cl_J19, in_J19, tyJ19_ok, nmJ19, by decide, q1074, Or.inl rfl, rfl, rfl, fun h => nomatch h⟩
theorem fl_J19_16 : FL RJ19 16 16 2 (.object "java/util/Comparator") true := ⟨RJ19, TJ19, 9, "java/util/TreeMap", tyJ19, cl_J19, in_J19, tyJ19_ok, nmJ19, by decide, q1070, Or.inl rfl, rfl, rfl, fun _ => rfl⟩
theorem fl_J19_58 : FL RJ19 58 20 1 (.object "java/lang/Object") false := ⟨RJ37, TJ37, 6, "java/util/TreeMap$Entry", tyJ37, cl_J37, in_J37, tyJ37_ok, nmJ37, by decide, q1168, Or.inl rfl, rfl, rfl, fun h => nomatch h⟩
theorem fl_J19_101 : FL RJ19 101 16 3 (.object "java/util/TreeMap$Entry") false := ⟨RJ19, TJ19, 9, "java/util/TreeMap", tyJ19, cl_J19, in_J19, tyJ19_ok, nmJ19, by decide, q1071, Or.inl rfl, rfl, rfl, fun h => nomatch h⟩
theorem fl_J19_105 : FL RJ19 105 20 0 (.object "java/lang/Object") false := ⟨RJ37, TJ37, 6, "java/util/TreeMap$Entry", tyJ37, cl_J37, in_J37, tyJ37_ok, nmJ37, by decide, q1166, Or.inl rfl, rfl, rfl, fun h => nomatch h⟩
theorem fl_J19_111 : FL RJ19 111 20 2 (.object "java/util/TreeMap$Entry") false := ⟨RJ37, TJ37, 6, "java/util/TreeMap$Entry", tyJ37, cl_J37, in_J37, tyJ37_ok, nmJ37, by decide, q1169, Or.inl rfl, rfl, rfl, fun h => nomatch h⟩
theorem fl_J19_114 : FL RJ19 114 20 3 (.object "java/util/TreeMap$Entry") false := ⟨RJ37, TJ37, 6, "java/util/TreeMap$Entry", tyJ37, cl_J37, in_J37, tyJ37_ok, nmJ37, by decide, q1170, Or.inl rfl, rfl, rfl, fun h => nomatch h⟩
theorem fl_J19_124 : FL RJ19 124 20 4 (.object "java/util/TreeMap$Entry") false := ⟨RJ37, TJ37, 6, "java/util/TreeMap$Entry", tyJ37, cl_J37, in_J37, tyJ37_ok, nmJ37, by decide, q1172, Or.inl rfl, rfl, rfl, fun h => nomatch h⟩
theorem fl_J19_188 : FL RJ19 188 16 6 (.object "java/util/TreeMap$EntrySet") false := ⟨RJ19, TJ19, 9, "java/util/TreeMap", tyJ19, cl_J19, in_J19, tyJ19_ok, nmJ19, by decide, q1075, Or.inl rfl, rfl, rfl, fun h => nomatch h⟩
theorem fl_J19_290 : FL RJ19 290 20 5 (.boolean) false := ⟨RJ37, TJ37, 6, "java/util/TreeMap$Entry", tyJ37, cl_J37, in_J37, tyJ37_ok, nmJ37, by decide, q1174, Or.inl rfl, rfl, rfl, fun h => nomatch h⟩
theorem fl_J37_9 : FL RJ37 9 20 5 (.boolean) false := ⟨RJ37, TJ37, 6, "java/util/TreeMap$Entry", tyJ37, cl_J37, in_J37, tyJ37_ok, nmJ37, by decide, q1173, Or.inl rfl, rfl, rfl, fun h => nomatch h⟩
theorem fl_J37_15 : FL RJ37 15 20 0 (.object "java/lang/Object") false := ⟨RJ37, TJ37, 6, "java/util/TreeMap$Entry", tyJ37, cl_J37, in_J37, tyJ37_ok, nmJ37, by decide, q1165, Or.inl rfl, rfl, rfl, fun h => nomatch h⟩
theorem fl_J37_19 : FL RJ37 19 20 1 (.object "java/lang/Object") false := ⟨RJ37, TJ37, 6, "java/util/TreeMap$Entry", tyJ37, cl_J37, in_J37, tyJ37_ok, nmJ37, by decide, q1167, Or.inl rfl, rfl, rfl, fun h => nomatch h⟩
theorem fl_J37_22 : FL RJ37 22 20 4 (.object "java/util/TreeMap$Entry") false := ⟨RJ37, TJ37, 6, "java/util/TreeMap$Entry", tyJ37, cl_J37, in_J37, tyJ37_ok, nmJ37, by decide, q1171, Or.inl rfl, rfl, rfl, fun h => nomatch h⟩
theorem fl_J39_1 : FL RJ39 1 21 0 (.object "java/util/TreeMap") true := ⟨RJ39, TJ39, 1, "java/util/TreeMap$EntrySet", tyJ39, cl_J39, in_J39, tyJ39_ok, nmJ39, by decide, q1232, Or.inl rfl, rfl, rfl, fun _ => rfl⟩
theorem fl_J26_1 : FL RJ26 1 18 3 (.object "java/util/TreeMap") true := ⟨RJ27, TJ27, 4, "java/util/TreeMap$PrivateEntryIterator", tyJ27, cl_J27, in_J27, tyJ27_ok, nmJ27, by decide, q1262, Or.inl rfl, rfl, rfl, fun _ => rfl⟩
theorem fl_J26_19 : FL RJ26 19 18 2 (.int) false := ⟨RJ27, TJ27, 4, "java/util/TreeMap$PrivateEntryIterator", tyJ27, cl_J27, in_J27, tyJ27_ok, nmJ27, by decide, q1261, Or.inl rfl, rfl, rfl, fun h => nomatch h⟩
theorem fl_J26_22 : FL RJ26 22 18 1 (.object "java/util/TreeMap$Entry") false := ⟨RJ27, TJ27, 4, "java/util/TreeMap$PrivateEntryIterator", tyJ27, cl_J27, in_J27, tyJ27_ok, nmJ27, by decide, q1260, Or.inl rfl, rfl, rfl, fun h => nomatch h⟩
theorem fl_J26_26 : FL RJ26 26 18 0 (.object "java/util/TreeMap$Entry") false := ⟨RJ27, TJ27, 4, "java/util/TreeMap$PrivateEntryIterator", tyJ27, cl_J27, in_J27, tyJ27_ok, nmJ27, by decide, q1259, Or.inl rfl, rfl, rfl, fun h => nomatch h⟩
theorem fn_X1_111 : FN RX1 111 1 11 (.object "java/util/ArrayList") := ⟨RX2, TX2, 15, "WindowExchange$State", "WindowExchange", tyX2, cl_X2, in_X2, tyX2_ok, nmX2, by decide, q217, rfl, rfl, Or.inr rfl⟩
theorem fn_X1_126 : FN RX1 126 3 0 (.int) := ⟨RX4, TX4, 2, "WindowExchange$Trader", "WindowExchange", tyX4, cl_X4, in_X4, tyX4_ok, nmX4, by decide, q1661, rfl, rfl, Or.inl rfl⟩
theorem fm_X1_126 : ∀ (C : String) (T : u_T) (N : Nat), clT[3]? = some (C, T, N) → (T 0).2.2.2 = false := fun C T N h => by cases (cl_X4.symm.trans h); rfl
theorem fn_X1_139 : FN RX1 139 3 1 (.int) := ⟨RX4, TX4, 2, "WindowExchange$Trader", "WindowExchange", tyX4, cl_X4, in_X4, tyX4_ok, nmX4, by decide, q1664, rfl, rfl, Or.inl rfl⟩
theorem fm_X1_139 : ∀ (C : String) (T : u_T) (N : Nat), clT[3]? = some (C, T, N) → (T 1).2.2.2 = false := fun C T N h => by cases (cl_X4.symm.trans h); rfl
theorem fn_X1_145 : FN RX1 145 1 12 (.object "java/util/ArrayList") := ⟨RX2, TX2, 15, "WindowExchange$State", "WindowExchange", tyX2, cl_X2, in_X2, tyX2_ok, nmX2, by decide, q219, rfl, rfl, Or.inr rfl⟩
theorem fn_X1_152 : FN RX1 152 4 1 (.int) := ⟨RX5, TX5, 5, "WindowExchange$Order", "WindowExchange", tyX5, cl_X5, in_X5, tyX5_ok, nmX5, by decide, q1684, rfl, rfl, Or.inr rfl⟩
theorem fn_X1_156 : FN RX1 156 4 2 (.boolean) := ⟨RX5, TX5, 5, "WindowExchange$Order", "WindowExchange", tyX5, cl_X5, in_X5, tyX5_ok, nmX5, by decide, q1687, rfl, rfl, Or.inr rfl⟩
theorem fn_X1_160 : FN RX1 160 4 3 (.int) := ⟨RX5, TX5, 5, "WindowExchange$Order", "WindowExchange", tyX5, cl_X5, in_X5, tyX5_ok, nmX5, by decide, q1691, rfl, rfl, Or.inr rfl⟩
theorem fn_X1_163 : FN RX1 163 4 4 (.int) := ⟨RX5, TX5, 5, "WindowExchange$Order", "WindowExchange", tyX5, cl_X5, in_X5, tyX5_ok, nmX5, by decide, q1694, rfl, rfl, Or.inl rfl⟩
theorem fm_X1_163 : ∀ (C : String) (T : u_T) (N : Nat), clT[4]? = some (C, T, N) → (T 4).2.2.2 = false := fun C T N h => by cases (cl_X5.symm.trans h); rfl
theorem fn_X1_178 : FN RX1 178 4 0 (.int) := ⟨RX5, TX5, 5, "WindowExchange$Order", "WindowExchange", tyX5, cl_X5, in_X5, tyX5_ok, nmX5, by decide, q1681, rfl, rfl, Or.inr rfl⟩
theorem fn_X1_215 : FN RX1 215 1 2 (.int) := ⟨RX2, TX2, 15, "WindowExchange$State", "WindowExchange", tyX2, cl_X2, in_X2, tyX2_ok, nmX2, by decide, q199, rfl, rfl, Or.inl rfl⟩
theorem fm_X1_215 : ∀ (C : String) (T : u_T) (N : Nat), clT[1]? = some (C, T, N) → (T 2).2.2.2 = false := fun C T N h => by cases (cl_X2.symm.trans h); rfl
theorem fn_X1_218 : FN RX1 218 1 3 (.int) := ⟨RX2, TX2, 15, "WindowExchange$State", "WindowExchange", tyX2, cl_X2, in_X2, tyX2_ok, nmX2, by decide, q201, rfl, rfl, Or.inl rfl⟩
theorem fm_X1_218 : ∀ (C : String) (T : u_T) (N : Nat), clT[1]? = some (C, T, N) → (T 3).2.2.2 = false := fun C T N h => by cases (cl_X2.symm.trans h); rfl
theorem fn_X1_224 : FN RX1 224 1 4 (.int) := ⟨RX2, TX2, 15, "WindowExchange$State", "WindowExchange", tyX2, cl_X2, in_X2, tyX2_ok, nmX2, by decide, q203, rfl, rfl, Or.inl rfl⟩
theorem fm_X1_224 : ∀ (C : String) (T : u_T) (N : Nat), clT[1]? = some (C, T, N) → (T 4).2.2.2 = false := fun C T N h => by cases (cl_X2.symm.trans h); rfl
theorem fn_X1_227 : FN RX1 227 1 1 (.int) := ⟨RX2, TX2, 15, "WindowExchange$State", "WindowExchange", tyX2, cl_X2, in_X2, tyX2_ok, nmX2, by decide, q197, rfl, rfl, Or.inl rfl⟩
theorem fm_X1_227 : ∀ (C : String) (T : u_T) (N : Nat), clT[1]? = some (C, T, N) → (T 1).2.2.2 = false := fun C T N h => by cases (cl_X2.symm.trans h); rfl
theorem fn_X1_230 : FN RX1 230 1 13 (.object "java/util/ArrayList") := ⟨RX2, TX2, 15, "WindowExchange$State", "WindowExchange", tyX2, cl_X2, in_X2, tyX2_ok, nmX2, by decide, q221, rfl, rfl, Or.inr rfl⟩
theorem fn_X1_257 : FN RX1 257 1 6 (.int) := ⟨RX2, TX2, 15, "WindowExchange$State", "WindowExchange", tyX2, cl_X2, in_X2, tyX2_ok, nmX2, by decide, q207, rfl, rfl, Or.inl rfl⟩
theorem fm_X1_257 : ∀ (C : String) (T : u_T) (N : Nat), clT[1]? = some (C, T, N) → (T 6).2.2.2 = false := fun C T N h => by cases (cl_X2.symm.trans h); rfl
theorem fn_X1_260 : FN RX1 260 1 5 (.int) := ⟨RX2, TX2, 15, "WindowExchange$State", "WindowExchange", tyX2, cl_X2, in_X2, tyX2_ok, nmX2, by decide, q205, rfl, rfl, Or.inl rfl⟩
theorem fm_X1_260 : ∀ (C : String) (T : u_T) (N : Nat), clT[1]? = some (C, T, N) → (T 5).2.2.2 = false := fun C T N h => by cases (cl_X2.symm.trans h); rfl
theorem fn_X1_263 : FN RX1 263 1 14 (.object "WindowExchange$Auction") := ⟨RX2, TX2, 15, "WindowExchange$State", "WindowExchange", tyX2, cl_X2, in_X2, tyX2_ok, nmX2, by decide, q223, rfl, rfl, Or.inl rfl⟩
theorem fm_X1_263 : ∀ (C : String) (T : u_T) (N : Nat), clT[1]? = some (C, T, N) → (T 14).2.2.2 = false := fun C T N h => by cases (cl_X2.symm.trans h); rfl
theorem fn_X1_267 : FN RX1 267 1 10 (.array .int) := ⟨RX2, TX2, 15, "WindowExchange$State", "WindowExchange", tyX2, cl_X2, in_X2, tyX2_ok, nmX2, by decide, q215, rfl, rfl, Or.inr rfl⟩
theorem fn_X1_280 : FN RX1 280 1 7 (.int) := ⟨RX2, TX2, 15, "WindowExchange$State", "WindowExchange", tyX2, cl_X2, in_X2, tyX2_ok, nmX2, by decide, q209, rfl, rfl, Or.inl rfl⟩
theorem fm_X1_280 : ∀ (C : String) (T : u_T) (N : Nat), clT[1]? = some (C, T, N) → (T 7).2.2.2 = false := fun C T N h => by cases (cl_X2.symm.trans h); rfl
theorem fn_X1_283 : FN RX1 283 1 8 (.int) := ⟨RX2, TX2, 15, "WindowExchange$State", "WindowExchange", tyX2, cl_X2, in_X2, tyX2_ok, nmX2, by decide, q211, rfl, rfl, Or.inl rfl⟩
theorem fm_X1_283 : ∀ (C : String) (T : u_T) (N : Nat), clT[1]? = some (C, T, N) → (T 8).2.2.2 = false := fun C T N h => by cases (cl_X2.symm.trans h); rfl
theorem fn_X1_286 : FN RX1 286 1 9 (.int) := ⟨RX2, TX2, 15, "WindowExchange$State", "WindowExchange", tyX2, cl_X2, in_X2, tyX2_ok, nmX2, by decide, q213, rfl, rfl, Or.inl rfl⟩
theorem fm_X1_286 : ∀ (C : String) (T : u_T) (N : Nat), clT[1]? = some (C, T, N) → (T 9).2.2.2 = false := fun C T N h => by cases (cl_X2.symm.trans h); rfl
theorem fn_X1_357 : FN RX1 357 10 0 (.object "WindowExchange$Change") := ⟨RX11, TX11, 1, "WindowExchange$Command", "WindowExchange", tyX11, cl_X11, in_X11, tyX11_ok, nmX11, by decide, q2593, rfl, rfl, Or.inr rfl⟩
theorem fn_X1_376 : FN RX1 376 9 6 (.int) := ⟨RX10, TX10, 7, "WindowExchange$SyntaxException", "WindowExchange", tyX10, cl_X10, in_X10, tyX10_ok, nmX10, by decide, q2535, rfl, rfl, Or.inr rfl⟩
theorem fn_X7_13 : FN RX7 13 4 3 (.int) := ⟨RX5, TX5, 5, "WindowExchange$Order", "WindowExchange", tyX5, cl_X5, in_X5, tyX5_ok, nmX5, by decide, q1689, rfl, rfl, Or.inr rfl⟩
theorem fn_X7_25 : FN RX7 25 4 0 (.int) := ⟨RX5, TX5, 5, "WindowExchange$Order", "WindowExchange", tyX5, cl_X5, in_X5, tyX5_ok, nmX5, by decide, q1679, rfl, rfl, Or.inr rfl⟩
theorem fn_X9_24 : FN RX9 24 0 6 (.int) := ⟨RX1, TX1, 9, "WindowExchange", "WindowExchange", tyX1, cl_X1, in_X1, tyX1_ok, nmX1, by decide, q315, rfl, rfl, Or.inl rfl⟩
theorem fm_X9_24 : ∀ (C : String) (T : u_T) (N : Nat), clT[0]? = some (C, T, N) → (T 6).2.2.2 = false := fun C T N h => by cases (cl_X1.symm.trans h); rfl
theorem fn_X9_27 : FN RX9 27 0 5 (.array .char) := ⟨RX1, TX1, 9, "WindowExchange", "WindowExchange", tyX1, cl_X1, in_X1, tyX1_ok, nmX1, by decide, q313, rfl, rfl, Or.inr rfl⟩
theorem fn_X2_120 : FN RX2 120 4 0 (.int) := ⟨RX5, TX5, 5, "WindowExchange$Order", "WindowExchange", tyX5, cl_X5, in_X5, tyX5_ok, nmX5, by decide, q1680, rfl, rfl, Or.inr rfl⟩
theorem fn_X2_158 : FN RX2 158 4 2 (.boolean) := ⟨RX5, TX5, 5, "WindowExchange$Order", "WindowExchange", tyX5, cl_X5, in_X5, tyX5_ok, nmX5, by decide, q1686, rfl, rfl, Or.inr rfl⟩
theorem fn_X2_173 : FN RX2 173 4 4 (.int) := ⟨RX5, TX5, 5, "WindowExchange$Order", "WindowExchange", tyX5, cl_X5, in_X5, tyX5_ok, nmX5, by decide, q1693, rfl, rfl, Or.inl rfl⟩
theorem fm_X2_173 : ∀ (C : String) (T : u_T) (N : Nat), clT[4]? = some (C, T, N) → (T 4).2.2.2 = false := fun C T N h => by cases (cl_X5.symm.trans h); rfl
theorem fn_X2_182 : FN RX2 182 4 3 (.int) := ⟨RX5, TX5, 5, "WindowExchange$Order", "WindowExchange", tyX5, cl_X5, in_X5, tyX5_ok, nmX5, by decide, q1690, rfl, rfl, Or.inr rfl⟩
theorem fn_X2_237 : FN RX2 237 4 1 (.int) := ⟨RX5, TX5, 5, "WindowExchange$Order", "WindowExchange", tyX5, cl_X5, in_X5, tyX5_ok, nmX5, by decide, q1683, rfl, rfl, Or.inr rfl⟩
theorem fn_X2_240 : FN RX2 240 3 0 (.int) := ⟨RX4, TX4, 2, "WindowExchange$Trader", "WindowExchange", tyX4, cl_X4, in_X4, tyX4_ok, nmX4, by decide, q1660, rfl, rfl, Or.inl rfl⟩
theorem fm_X2_240 : ∀ (C : String) (T : u_T) (N : Nat), clT[3]? = some (C, T, N) → (T 0).2.2.2 = false := fun C T N h => by cases (cl_X4.symm.trans h); rfl
theorem fn_X2_243 : FN RX2 243 3 1 (.int) := ⟨RX4, TX4, 2, "WindowExchange$Trader", "WindowExchange", tyX4, cl_X4, in_X4, tyX4_ok, nmX4, by decide, q1663, rfl, rfl, Or.inl rfl⟩
theorem fm_X2_243 : ∀ (C : String) (T : u_T) (N : Nat), clT[3]? = some (C, T, N) → (T 1).2.2.2 = false := fun C T N h => by cases (cl_X4.symm.trans h); rfl
theorem fn_X2_334 : FN RX2 334 5 2 (.array .int) := ⟨RX6, TX6, 3, "WindowExchange$Auction", "WindowExchange", tyX6, cl_X6, in_X6, tyX6_ok, nmX6, by decide, q1828, rfl, rfl, Or.inr rfl⟩
theorem fn_X2_340 : FN RX2 340 5 1 (.int) := ⟨RX6, TX6, 3, "WindowExchange$Auction", "WindowExchange", tyX6, cl_X6, in_X6, tyX6_ok, nmX6, by decide, q1826, rfl, rfl, Or.inr rfl⟩
theorem fn_X2_356 : FN RX2 356 5 0 (.int) := ⟨RX6, TX6, 3, "WindowExchange$Auction", "WindowExchange", tyX6, cl_X6, in_X6, tyX6_ok, nmX6, by decide, q1824, rfl, rfl, Or.inr rfl⟩
theorem fn_J16_28 : FN RJ16 28 11 2 (.int) := ⟨RJ2, TJ2, 3, "java/util/ArrayList", "java/util/ArrayList", tyJ2, cl_J2, in_J2, tyJ2_ok, nmJ2, by decide, q181, rfl, rfl, Or.inl rfl⟩
theorem fm_J16_28 : ∀ (C : String) (T : u_T) (N : Nat), clT[11]? = some (C, T, N) → (T 2).2.2.2 = false := fun C T N h => by cases (cl_J2.symm.trans h); rfl
theorem fn_J26_13 : FN RJ26 13 16 5 (.int) := ⟨RJ19, TJ19, 9, "java/util/TreeMap", "java/util/TreeMap", tyJ19, cl_J19, in_J19, tyJ19_ok, nmJ19, by decide, q1073, rfl, rfl, Or.inl rfl⟩
theorem fm_J26_13 : ∀ (C : String) (T : u_T) (N : Nat), clT[16]? = some (C, T, N) → (T 5).2.2.2 = false := fun C T N h => by cases (cl_J19.symm.trans h); rfl
theorem nw_X1_1 : NW RX1 1 22 6 [.null, .null, .null, .null, .null, .int 0] := ⟨RJ11, TJ11, tyJ11, cl_J11, in_J11, tyJ11_ok, q1858, q650, q108, by decide⟩
theorem nw_X1_7 : NW RX1 7 23 6 [.null, .null, .null, .null, .null, .int 0] := ⟨RJ12, TJ12, tyJ12, cl_J12, in_J12, tyJ12_ok, q1864, q1865, q109, by decide⟩
theorem nw_X1_16 : NW RX1 16 25 6 [.null, .null, .null, .null, .null, .int 0] := ⟨RJ28, TJ28, tyJ28, cl_J28, in_J28, tyJ28_ok, q1945, q1946, q129, by decide⟩
theorem nw_X1_19 : NW RX1 19 24 6 [.null, .null, .null, .null, .null, .int 0] := ⟨RJ17, TJ17, tyJ17, cl_J17, in_J17, tyJ17_ok, q2037, q430, q116, by decide⟩
theorem nw_X1_22 : NW RX1 22 26 6 [.null, .null, .null, .null, .null, .int 0] := ⟨RJ31, TJ31, tyJ31, cl_J31, in_J31, tyJ31_ok, q1964, q1965, q132, by decide⟩
theorem nw_X1_28 : NW RX1 28 1 15 [.int 0, .int 0, .int 0, .int 0, .int 0, .int 0, .int 0, .int 0, .int 0, .int 0, .null, .null, .null, .null, .null] := ⟨RX2, TX2, tyX2, cl_X2, in_X2, tyX2_ok, q159, q160, q95, by decide⟩
theorem nw_X1_35 : NW RX1 35 12 3 [.null, .int 0, .int 0] := ⟨RJ3, TJ3, tyJ3, cl_J3, in_J3, tyJ3_ok, q255, q256, q99, by decide⟩
theorem nw_X1_46 : NW RX1 46 13 4 [.null, .int 0, .int 0, .int 0] := ⟨RJ5, TJ5, tyJ5, cl_J5, in_J5, tyJ5_ok, q275, q276, q101, by decide⟩
theorem nw_X1_221 : NW RX1 221 27 6 [.null, .null, .null, .null, .int 0, .null] := ⟨RJ40, TJ40, tyJ40, cl_J40, in_J40, tyJ40_ok, q2308, q2291, q145, by decide⟩
theorem nw_X1_361 : NW RX1 361 8 2 [.int 0, .null] := ⟨RX9, TX9, tyX9, cl_X9, in_X9, tyX9_ok, q2436, q2437, q147, by decide⟩
theorem nw_X9_15 : NW RX9 15 9 7 [.null, .null, .null, .null, .null, .int 0, .int 0] := ⟨RX10, TX10, tyX10, cl_X10, in_X10, tyX10_ok, q2516, q2517, q149, by decide⟩
theorem nw_X9_78 : NW RX9 78 10 1 [.null] := ⟨RX11, TX11, tyX11, cl_X11, in_X11, tyX11_ok, q2583, q2584, q150, by decide⟩
theorem nw_X9_165 : NW RX9 165 11 3 [.int 0, .null, .int 0] := ⟨RJ2, TJ2, tyJ2, cl_J2, in_J2, tyJ2_ok, q2453, q166, q98, by decide⟩
theorem nw_X2_19 : NW RX2 19 11 3 [.int 0, .null, .int 0] := ⟨RJ2, TJ2, tyJ2, cl_J2, in_J2, tyJ2_ok, q165, q166, q98, by decide⟩
theorem nw_X2_79 : NW RX2 79 3 2 [.int 0, .int 0] := ⟨RX4, TX4, tyX4, cl_X4, in_X4, tyX4_ok, q1297, q1651, q110, by decide⟩
theorem nw_X2_88 : NW RX2 88 4 5 [.int 0, .int 0, .int 0, .int 0, .int 0] := ⟨RX5, TX5, tyX5, cl_X5, in_X5, tyX5_ok, q555, q1670, q119, by decide⟩
theorem nw_X2_101 : NW RX2 101 5 3 [.int 0, .int 0, .null] := ⟨RX6, TX6, tyX6, cl_X6, in_X6, tyX6_ok, q1814, q1815, q128, by decide⟩
theorem nw_X2_118 : NW RX2 118 7 5 [.int 0, .int 0, .int 0, .int 0, .int 0] := ⟨RX8, TX8, tyX8, cl_X8, in_X8, tyX8_ok, q1312, q2052, q140, by decide⟩
theorem nw_X2_149 : NW RX2 149 19 4 [.null, .int 0, .null, .int 0] := ⟨RJ33, TJ33, tyJ33, cl_J33, in_J33, tyJ33_ok, q627, q628, q134, by decide⟩
theorem nw_X2_151 : NW RX2 151 6 1 [.int 0] := ⟨RX7, TX7, tyX7, cl_X7, in_X7, tyX7_ok, q629, q630, q135, by decide⟩
theorem nw_X2_185 : NW RX2 185 16 9 [.null, .null, .null, .null, .int 0, .int 0, .null, .null, .null] := ⟨RJ19, TJ19, tyJ19, cl_J19, in_J19, tyJ19_ok, q1061, q1062, q118, by decide⟩
theorem nw_J4_129 : NW RJ4 129 32 6 [.null, .null, .null, .null, .int 0, .null] := ⟨RJ41, TJ41, tyJ41, cl_J41, in_J41, tyJ41_ok, q1345, q1346, q146, by decide⟩
theorem nw_J29_10 : NW RJ29 10 13 4 [.null, .int 0, .int 0, .int 0] := ⟨RJ5, TJ5, tyJ5, cl_J5, in_J5, tyJ5_ok, q1572, q276, q101, by decide⟩
theorem nw_J21_1 : NW RJ21 1 17 1 [.int 0] := ⟨RJ21, TJ21, tyJ21, cl_J21, in_J21, tyJ21_ok, q793, q1102, q121, by decide⟩
theorem nw_J5_18 : NW RJ5 18 14 4 [.null, .int 0, .int 0, .int 0] := ⟨RJ6, TJ6, tyJ6, cl_J6, in_J6, tyJ6_ok, q1463, q1464, q102, by decide⟩
theorem nw_J41_10 : NW RJ41 10 13 4 [.null, .int 0, .int 0, .int 0] := ⟨RJ5, TJ5, tyJ5, cl_J5, in_J5, tyJ5_ok, q1350, q276, q101, by decide⟩
theorem nw_J3_33 : NW RJ3 33 23 6 [.null, .null, .null, .null, .null, .int 0] := ⟨RJ12, TJ12, tyJ12, cl_J12, in_J12, tyJ12_ok, q1912, q1865, q109, by decide⟩
theorem nw_J3_97 : NW RJ3 97 24 6 [.null, .null, .null, .null, .null, .int 0] := ⟨RJ17, TJ17, tyJ17, cl_J17, in_J17, tyJ17_ok, q1897, q430, q116, by decide⟩
theorem nw_J3_131 : NW RJ3 131 29 4 [.int 0, .int 0, .int 0, .null] := ⟨RJ24, TJ24, tyJ24, cl_J24, in_J24, tyJ24_ok, q1754, q1755, q124, by decide⟩
theorem nw_J24_32 : NW RJ24 32 24 6 [.null, .null, .null, .null, .null, .int 0] := ⟨RJ17, TJ17, tyJ17, cl_J17, in_J17, tyJ17_ok, q429, q430, q116, by decide⟩
theorem nw_J2_267 : NW RJ2 267 15 4 [.int 0, .int 0, .int 0, .null] := ⟨RJ16, TJ16, tyJ16, cl_J16, in_J16, tyJ16_ok, q369, q370, q115, by decide⟩
theorem nw_J16_34 : NW RJ16 34 24 6 [.null, .null, .null, .null, .null, .int 0] := ⟨RJ17, TJ17, tyJ17, cl_J17, in_J17, tyJ17_ok, q514, q430, q116, by decide⟩
theorem nw_J15_43 : NW RJ15 43 22 6 [.null, .null, .null, .null, .null, .int 0] := ⟨RJ11, TJ11, tyJ11, cl_J11, in_J11, tyJ11_ok, q1495, q650, q108, by decide⟩
theorem nw_J15_45 : NW RJ15 45 13 4 [.null, .int 0, .int 0, .int 0] := ⟨RJ5, TJ5, tyJ5, cl_J5, in_J5, tyJ5_ok, q1496, q276, q101, by decide⟩
theorem nw_J15_68 : NW RJ15 68 31 6 [.null, .null, .null, .null, .null, .int 0] := ⟨RJ29, TJ29, tyJ29, cl_J29, in_J29, tyJ29_ok, q1558, q1559, q130, by decide⟩
theorem nw_J33_12 : NW RJ33 12 22 6 [.null, .null, .null, .null, .null, .int 0] := ⟨RJ11, TJ11, tyJ11, cl_J11, in_J11, tyJ11_ok, q649, q650, q108, by decide⟩
theorem nw_J33_121 : NW RJ33 121 30 6 [.int 0, .int 0, .null, .null, .int 0, .null] := ⟨RJ25, TJ25, tyJ25, cl_J25, in_J25, tyJ25_ok, q1778, q1779, q125, by decide⟩
theorem nw_J25_56 : NW RJ25 56 24 6 [.null, .null, .null, .null, .null, .int 0] := ⟨RJ17, TJ17, tyJ17, cl_J17, in_J17, tyJ17_ok, q533, q430, q116, by decide⟩
theorem nw_J19_59 : NW RJ19 59 20 6 [.null, .null, .null, .null, .null, .int 0] := ⟨RJ37, TJ37, tyJ37, cl_J37, in_J37, tyJ37_ok, q1159, q1160, q142, by decide⟩
theorem nw_J19_242 : NW RJ19 242 21 1 [.null] := ⟨RJ39, TJ39, tyJ39, cl_J39, in_J39, tyJ39_ok, q1223, q1224, q144, by decide⟩
theorem nw_J39_13 : NW RJ39 13 18 4 [.null, .null, .int 0, .null] := ⟨RJ27, TJ27, tyJ27, cl_J27, in_J27, tyJ27_ok, q1246, q1247, q127, by decide⟩
theorem nw_J26_29 : NW RJ26 29 24 6 [.null, .null, .null, .null, .null, .int 0] := ⟨RJ17, TJ17, tyJ17, cl_J17, in_J17, tyJ17_ok, q550, q430, q116, by decide⟩
theorem ck_X1_28_X2 : CK RX1 28 1 := ⟨RX2, "WindowExchange$State", TX2, 15, cl_X2, q159, Or.inl rfl⟩
theorem ck_X1_127_X4 : CK RX1 127 3 := ⟨RX4, "WindowExchange$Trader", TX4, 2, cl_X4, q606, Or.inl rfl⟩
theorem ck_X1_153_X5 : CK RX1 153 4 := ⟨RX5, "WindowExchange$Order", TX5, 5, cl_X5, q1035, Or.inl rfl⟩
theorem ck_X1_355_X11 : CK RX1 355 10 := ⟨RX11, "WindowExchange$Command", TX11, 1, cl_X11, q2669, Or.inl rfl⟩
theorem ck_X7_14_X5 : CK RX7 14 4 := ⟨RX5, "WindowExchange$Order", TX5, 5, cl_X5, q771, Or.inl rfl⟩
theorem ck_X2_79_X4 : CK RX2 79 3 := ⟨RX4, "WindowExchange$Trader", TX4, 2, cl_X4, q1297, Or.inl rfl⟩
theorem ck_X2_88_X5 : CK RX2 88 4 := ⟨RX5, "WindowExchange$Order", TX5, 5, cl_X5, q555, Or.inl rfl⟩
theorem ck_X2_118_X8 : CK RX2 118 7 := ⟨RX8, "WindowExchange$Contract", TX8, 5, cl_X8, q1312, Or.inl rfl⟩
theorem ck_X2_189_J21 : CK RX2 189 17 := ⟨RJ21, "java/lang/Integer", TJ21, 1, cl_J21, q1138, Or.inl rfl⟩
theorem ck_X2_214_J37 : CK RX2 214 20 := ⟨RJ37, "java/util/Map$Entry", TJ37, 6, cl_J37, q1272, Or.inr q1277⟩
theorem ck_J21_1_J21 : CK RJ21 1 17 := ⟨RJ21, "java/lang/Integer", TJ21, 1, cl_J21, q793, Or.inl rfl⟩
theorem ck_J6_10_J6 : CK RJ6 10 14 := ⟨RJ6, "java/lang/String", TJ6, 4, cl_J6, q805, Or.inl rfl⟩
theorem ck_J5_24_J5 : CK RJ5 24 13 := ⟨RJ5, "java/lang/StringBuilder", TJ5, 4, cl_J5, q969, Or.inl rfl⟩
theorem ck_J33_144_J5 : CK RJ33 144 13 := ⟨RJ5, "java/lang/Comparable", TJ5, 4, cl_J5, q782, Or.inr q963⟩
theorem ck_J33_144_J6 : CK RJ33 144 14 := ⟨RJ6, "java/lang/Comparable", TJ6, 4, cl_J6, q782, Or.inr q799⟩
theorem ck_J33_144_J21 : CK RJ33 144 17 := ⟨RJ21, "java/lang/Comparable", TJ21, 1, cl_J21, q782, Or.inr q787⟩
theorem ck_J19_99_J5 : CK RJ19 99 13 := ⟨RJ5, "java/lang/Comparable", TJ5, 4, cl_J5, q1131, Or.inr q963⟩
theorem ck_J19_99_J6 : CK RJ19 99 14 := ⟨RJ6, "java/lang/Comparable", TJ6, 4, cl_J6, q1131, Or.inr q799⟩
theorem ck_J19_99_J21 : CK RJ19 99 17 := ⟨RJ21, "java/lang/Comparable", TJ21, 1, cl_J21, q1131, Or.inr q787⟩
theorem mi_X1_3 : MI RX1 3 yJ11_init cJ11_init 1 0 := ⟨q660, q108, q1859, q659, rfl, by decide +kernel⟩
theorem mi_X1_9 : MI RX1 9 yJ12_init cJ12_init 1 0 := ⟨q1875, q109, q1873, q1874, rfl, by decide +kernel⟩
theorem ms_X1_10 : MS RX1 10 yX1_inRange cX1_inRange 3 (some .boolean) 3 := ⟨lw_S q1944 q1853 q94 q1854, by decide +kernel⟩
theorem mi_X1_18 : MI RX1 18 yJ28_init_2 cJ28_init_2 1 0 := ⟨q1956, q129, q1954, q1955, rfl, by decide +kernel⟩
theorem mi_X1_21 : MI RX1 21 yJ17_init cJ17_init 1 0 := ⟨q478, q116, q2038, q477, rfl, by decide +kernel⟩
theorem mi_X1_24 : MI RX1 24 yJ31_init cJ31_init 1 0 := ⟨q1975, q132, q1973, q1974, rfl, by decide +kernel⟩
theorem mi_X1_25 : MI RX1 25 yJ43_init cJ43_init 1 0 := ⟨q158, q3218, q156, q157, rfl, by decide +kernel⟩
theorem mi_X1_30 : MI RX1 30 yX2_init cX2_init 1 0 := ⟨q163, q95, q161, q162, rfl, by decide +kernel⟩
theorem mi_X1_37 : MI RX1 37 yJ3_init cJ3_init 1 0 := ⟨q259, q99, q257, q258, rfl, by decide +kernel⟩
theorem mi_X1_48 : MI RX1 48 yJ5_init cJ5_init 1 0 := ⟨q279, q101, q277, q278, rfl, by decide +kernel⟩
theorem mv_X1_64 : MV RX1 64 RJ3 yJ3_size cJ3_size 1 (some .int) 0 := ⟨lw_V q1892 q1015 q3216 q99 q1016, by decide +kernel⟩
theorem mv_X1_68 : MV RX1 68 RJ3 yJ3_removeFirst cJ3_removeFirst 2 (some (.object "java/lang/Object")) 0 := ⟨lw_V q1893 q1894 q1895 q99 q1896, by decide +kernel⟩
theorem mv_X1_72 : MV RX1 72 RJ3 yJ3_addLast cJ3_addLast 3 none 1 := ⟨lw_V q1899 q1900 q1901 q99 q1902, by decide +kernel⟩
theorem mi_X1_76 : MI RX1 76 yX2_init_2 cX2_init_2 5 1 := ⟨q1649, q95, q1647, q1648, rfl, by decide +kernel⟩
theorem mv_X1_85 : MV RX1 85 RX1 yX1_commit cX1_commit 3 none 1 := ⟨lw_V q1888 q1890 qs17 q94 q1891, by decide +kernel⟩
theorem mv_X1_91 : MV RX1 91 RX1 yX1_apply cX1_apply 4 (some .int) 1 := ⟨lw_V q1880 q1882 qs16 q94 q1883, by decide +kernel⟩
theorem mv_X1_115 : MV RX1 115 RJ2 yJ2_size cJ2_size 1 (some .int) 0 := ⟨lw_V q343 q344 q345 q98 q346, by decide +kernel⟩
theorem ms_X1_118 : MS RX1 118 yX1_checkIndex cX1_checkIndex 2 none 2 := ⟨lw_S q2192 q1942 q94 q1943, by decide +kernel⟩
theorem mv_X1_122 : MV RX1 122 RX2 yX2_trader cX2_trader 2 (some (.object "WindowExchange$Trader")) 1 := ⟨lw_V q2180 q1938 q1939 q95 q1940, by decide +kernel⟩
theorem mv_X1_131 : MV RX1 131 RX1 yX1_checkTrader cX1_checkTrader 2 none 1 := ⟨lw_V q2188 q2190 qs29 q94 q2191, by decide +kernel⟩
theorem mv_X1_135 : MV RX1 135 RX2 yX2_reservedCash cX2_reservedCash 2 (some .int) 1 := ⟨lw_V q607 q608 q609 q95 q610, by decide +kernel⟩
theorem mv_X1_142 : MV RX1 142 RX2 yX2_reservedWindows cX2_reservedWindows 2 (some .int) 1 := ⟨lw_V q613 q614 q615 q95 q616, by decide +kernel⟩
theorem mv_X1_148 : MV RX1 148 RX2 yX2_order cX2_order 5 (some (.object "WindowExchange$Order")) 1 := ⟨lw_V q2214 q2031 q2032 q95 q2033, by decide +kernel⟩
theorem mv_X1_166 : MV RX1 166 RX2 yX2_sorted cX2_sorted 5 (some (.object "java/util/ArrayList")) 1 := ⟨lw_V q1589 q1590 q1591 q95 q1592, by decide +kernel⟩
theorem ms_X1_170 : MS RX1 170 yX1_checkElement cX1_checkElement 1 none 1 := ⟨lw_S q2243 q2035 q94 q2036, by decide +kernel⟩
theorem mv_X1_174 : MV RX1 174 RJ2 yJ2_get cJ2_get 2 (some (.object "java/lang/Object")) 1 := ⟨lw_V q592 q593 q594 q98 q595, by decide +kernel⟩
theorem mv_X1_181 : MV RX1 181 RX2 yX2_side cX2_side 6 (some (.object "java/util/PriorityQueue")) 1 := ⟨lw_V q623 q624 q625 q95 q626, by decide +kernel⟩
theorem mv_X1_191 : MV RX1 191 RJ33 yJ33_peek cJ33_peek 1 (some (.object "java/lang/Object")) 0 := ⟨lw_V q1031 q1032 q1033 q134 q1034, by decide +kernel⟩
theorem mv_X1_194 : MV RX1 194 RX1 yX1_bestPrice cX1_bestPrice 3 (some .int) 1 := ⟨lw_V q2251 q2253 qs30 q94 q2254, by decide +kernel⟩
theorem mv_X1_198 : MV RX1 198 RX2 yX2_depth cX2_depth 3 (some .int) 2 := ⟨lw_V q355 q356 q357 q95 q358, by decide +kernel⟩
theorem ms_X1_202 : MS RX1 202 yX1_checkArgument cX1_checkArgument 1 none 1 := ⟨lw_S q2272 q1856 q94 q1857, by decide +kernel⟩
theorem mv_X1_205 : MV RX1 205 RX2 yX2_costToBuy cX2_costToBuy 7 (some .int) 1 := ⟨lw_V q1040 q1041 q1042 q95 q1043, by decide +kernel⟩
theorem ms_X1_208 : MS RX1 208 yX1_checkedCost cX1_checkedCost 2 (some .int) 2 := ⟨lw_S q2269 q2270 q94 q2271, by decide +kernel⟩
theorem mv_X1_212 : MV RX1 212 RX2 yX2_costToBuyByPrices cX2_costToBuyByPrices 8 (some .int) 1 := ⟨lw_V q1057 q1058 q1059 q95 q1060, by decide +kernel⟩
theorem mi_X1_223 : MI RX1 223 yJ40_init_2 cJ40_init_2 1 0 := ⟨q2311, q145, q2309, q2310, rfl, by decide +kernel⟩
theorem mv_X1_233 : MV RX1 233 RX2 yX2_contract cX2_contract 2 (some (.object "WindowExchange$Contract")) 1 := ⟨lw_V q2320 q2321 q2322 q95 q2323, by decide +kernel⟩
theorem mv_X1_237 : MV RX1 237 RX8 yX8_settlementDay cX8_settlementDay 1 (some .int) 0 := ⟨lw_V q2324 q2094 q2095 q140 q2096, by decide +kernel⟩
theorem ms_X1_242 : MS RX1 242 yX1_checkPrice cX1_checkPrice 1 none 1 := ⟨lw_S q2332 q2333 q94 q2334, by decide +kernel⟩
theorem mv_X1_245 : MV RX1 245 RX8 yX8_gainAt cX8_gainAt 2 (some .int) 1 := ⟨lw_V q2335 q1305 q1306 q140 q1307, by decide +kernel⟩
theorem mv_X1_248 : MV RX1 248 RX2 yX2_exposure cX2_exposure 3 (some .int) 1 := ⟨lw_V q2343 q1325 q1326 q95 q1327, by decide +kernel⟩
theorem mv_X1_251 : MV RX1 251 RX2 yX2_value cX2_value 5 (some .int) 2 := ⟨lw_V q1292 q1293 q1294 q95 q1295, by decide +kernel⟩
theorem mv_X1_254 : MV RX1 254 RX2 yX2_valueByExposure cX2_valueByExposure 3 (some .int) 2 := ⟨lw_V q1319 q1320 q1321 q95 q1322, by decide +kernel⟩
theorem ms_X1_270 : MS RX1 270 yX1_checkState cX1_checkState 1 none 1 := ⟨lw_S q2379 q1862 q94 q1863, by decide +kernel⟩
theorem mv_X1_273 : MV RX1 273 RX2 yX2_winner cX2_winner 4 (some .int) 0 := ⟨lw_V q2380 q2161 q2162 q95 q2163, by decide +kernel⟩
theorem mv_X1_276 : MV RX1 276 RX1 yX1_winner cX1_winner 2 (some .int) 0 := ⟨lw_V q2388 q2376 q2377 q94 q2378, by decide +kernel⟩
theorem mv_X1_277 : MV RX1 277 RX2 yX2_priceFor cX2_priceFor 4 (some .int) 1 := ⟨lw_V q2389 q2169 q2170 q95 q2171, by decide +kernel⟩
theorem mv_X1_289 : MV RX1 289 RX5 yX5_matches cX5_matches 2 (some .boolean) 1 := ⟨lw_V q1036 q1037 q1038 q119 q1039, by decide +kernel⟩
theorem mv_X1_293 : MV RX1 293 RX1 yX1_areSumsRight cX1_areSumsRight 4 (some .boolean) 0 := ⟨lw_V q588 q590 qs1 q94 q591, by decide +kernel⟩
theorem mv_X1_296 : MV RX1 296 RX1 yX1_isUncrossed cX1_isUncrossed 3 (some .boolean) 0 := ⟨lw_V q619 q621 qs2 q94 q622, by decide +kernel⟩
theorem mv_X1_299 : MV RX1 299 RJ2 yJ2_iterator cJ2_iterator 1 (some (.object "java/util/Iterator")) 0 := ⟨lw_V q1613 q366 q367 q98 q368, by decide +kernel⟩
theorem mv_X1_315 : MV RX1 315 RJ5 yJ5_append cJ5_append 2 (some (.object "java/lang/StringBuilder")) 1 := ⟨lw_V q1620 q1354 q1355 q101 q1356, by decide +kernel⟩
theorem mv_X1_319 : MV RX1 319 RJ5 yJ5_append_2 cJ5_append_2 2 (some (.object "java/lang/StringBuilder")) 1 := ⟨lw_V q1621 q1435 q1436 q101 q1437, by decide +kernel⟩
theorem mv_X1_322 : MV RX1 322 RJ5 yJ5_append_3 cJ5_append_3 2 (some (.object "java/lang/StringBuilder")) 1 := ⟨lw_V q1622 q1623 q1624 q101 q1625, by decide +kernel⟩
theorem mv_X1_325 : MV RX1 325 RJ5 yJ5_setLength cJ5_setLength 2 none 1 := ⟨lw_V q1338 q1339 q1340 q101 q1341, by decide +kernel⟩
theorem mv_X1_328 : MV RX1 328 RX1 yX1_writeSide cX1_writeSide 6 none 1 := ⟨lw_V q1585 q1587 qs11 q94 q1588, by decide +kernel⟩
theorem mv_X1_331 : MV RX1 331 RJ5 yJ5_length cJ5_length 1 (some .int) 0 := ⟨lw_V q1642 q1481 q3215 q101 q1482, by decide +kernel⟩
theorem mv_X1_336 : MV RX1 336 RJ5 yJ5_toString cJ5_toString 1 (some (.object "java/lang/String")) 0 := ⟨lw_V q2401 q1460 q1461 q101 q1462, by decide +kernel⟩
theorem ms_X1_340 : MS RX1 340 yX1_reserve cX1_reserve 1 (some (.object "java/lang/String")) 1 := ⟨lw_S q2397 q2398 q94 q2399, by decide +kernel⟩
theorem mv_X1_348 : MV RX1 348 RJ5 yJ5_charAt cJ5_charAt 2 (some .char) 1 := ⟨lw_V q2411 q2412 q2413 q101 q2414, by decide +kernel⟩
theorem mv_X1_366 : MV RX1 366 RX9 yX9_program cX9_program 3 (some (.object "java/util/ArrayList")) 0 := ⟨lw_V q2449 q2450 q2451 q147 q2452, by decide +kernel⟩
theorem mv_X1_379 : MV RX1 379 RJ3 yJ3_isEmpty cJ3_isEmpty 1 (some .boolean) 0 := ⟨lw_V q2691 q411 q412 q99 q413, by decide +kernel⟩
theorem mv_X1_380 : MV RX1 380 RJ3 yJ3_removeLast cJ3_removeLast 2 (some (.object "java/lang/Object")) 0 := ⟨lw_V q2692 q2693 q2694 q99 q2695, by decide +kernel⟩
theorem mv_X1_386 : MV RX1 386 RJ3 yJ3_clear cJ3_clear 1 none 0 := ⟨lw_V q2710 q2711 q2712 q99 q2713, by decide +kernel⟩
theorem mv_X1_389 : MV RX1 389 RX2 yX2_closeAuction cX2_closeAuction 3 (some .int) 0 := ⟨lw_V q2156 q2157 q2158 q95 q2159, by decide +kernel⟩
theorem mv_X1_392 : MV RX1 392 RX2 yX2_sealBid cX2_sealBid 3 (some .int) 2 := ⟨lw_V q2139 q2140 q2141 q95 q2142, by decide +kernel⟩
theorem mv_X1_395 : MV RX1 395 RX2 yX2_openAuction cX2_openAuction 3 (some .int) 2 := ⟨lw_V q2121 q2122 q2123 q95 q2124, by decide +kernel⟩
theorem mv_X1_398 : MV RX1 398 RX2 yX2_advance cX2_advance 4 (some .int) 1 := ⟨lw_V q2085 q2086 q2087 q95 q2088, by decide +kernel⟩
theorem mv_X1_401 : MV RX1 401 RX2 yX2_agree cX2_agree 7 (some .int) 5 := ⟨lw_V q2048 q2049 q2050 q95 q2051, by decide +kernel⟩
theorem mv_X1_405 : MV RX1 405 RX2 yX2_cancelOrder cX2_cancelOrder 4 (some .int) 1 := ⟨lw_V q2026 q2027 q2028 q95 q2029, by decide +kernel⟩
theorem mv_X1_408 : MV RX1 408 RX2 yX2_place cX2_place 9 (some .int) 4 := ⟨lw_V q1933 q1934 q1935 q95 q1936, by decide +kernel⟩
theorem mv_X1_412 : MV RX1 412 RX2 yX2_addTrader cX2_addTrader 4 (some .int) 2 := ⟨lw_V q1848 q1849 q1850 q95 q1851, by decide +kernel⟩
theorem mi_X6_3 : MI RX6 3 yJ43_init cJ43_init 1 0 := ⟨q158, q3218, q1822, q157, rfl, by decide +kernel⟩
theorem mi_X6_22 : MI RX6 22 yX6_init_2 cX6_init_2 3 2 := ⟨q1821, q128, q1819, q1820, rfl, by decide +kernel⟩
theorem mi_X7_1 : MI RX7 1 yJ43_init cJ43_init 1 0 := ⟨q158, q3218, q634, q157, rfl, by decide +kernel⟩
theorem ms_X7_19 : MS RX7 19 yJ21_compare cJ21_compare 2 (some .int) 2 := ⟨lw_S q776 q777 q121 q778, by decide +kernel⟩
theorem mv_X7_28 : MV RX7 28 RX7 yX7_compare_2 cX7_compare_2 4 (some .int) 2 := ⟨lw_V q772 q773 q774 q135 q775, by decide +kernel⟩
theorem mi_X11_1 : MI RX11 1 yJ43_init cJ43_init 1 0 := ⟨q158, q3218, q2591, q157, rfl, by decide +kernel⟩
theorem mi_X8_1 : MI RX8 1 yJ36_init cJ36_init 1 0 := ⟨q2058, q139, q2056, q2057, rfl, by decide +kernel⟩
theorem mi_X5_1 : MI RX5 1 yJ43_init cJ43_init 1 0 := ⟨q158, q3218, q1677, q157, rfl, by decide +kernel⟩
theorem mi_X5_26 : MI RX5 26 yX5_init_2 cX5_init_2 6 5 := ⟨q1676, q119, q1674, q1675, rfl, by decide +kernel⟩
theorem mi_X9_9 : MI RX9 9 yJ43_init cJ43_init 1 0 := ⟨q158, q3218, q2441, q157, rfl, by decide +kernel⟩
theorem mi_X9_21 : MI RX9 21 yX10_init cX10_init 2 1 := ⟨q2527, q149, q2525, q2526, rfl, by decide +kernel⟩
theorem mv_X9_31 : MV RX9 31 RX9 yX9_peek cX9_peek 1 (some .int) 0 := ⟨lw_V q2459 q2461 qs32 q147 q2462, by decide +kernel⟩
theorem mv_X9_35 : MV RX9 35 RJ6 yJ6_length cJ6_length 1 (some .int) 0 := ⟨lw_V q2553 q1397 q1398 q102 q1399, by decide +kernel⟩
theorem mv_X9_40 : MV RX9 40 RJ6 yJ6_charAt cJ6_charAt 2 (some .char) 1 := ⟨lw_V q2554 q2555 q2556 q102 q2557, by decide +kernel⟩
theorem mv_X9_44 : MV RX9 44 RX9 yX9_accept cX9_accept 3 (some .boolean) 1 := ⟨lw_V q2565 q2567 qs37 q147 q2568, by decide +kernel⟩
theorem mv_X9_48 : MV RX9 48 RX9 yX9_require cX9_require 2 none 1 := ⟨lw_V q2512 q2514 qs33 q147 q2515, by decide +kernel⟩
theorem mv_X9_56 : MV RX9 56 RX9 yX9_isDigit cX9_isDigit 1 (some .boolean) 0 := ⟨lw_V q2577 q2579 qs40 q147 q2580, by decide +kernel⟩
theorem mv_X9_60 : MV RX9 60 RX9 yX9_digit cX9_digit 1 (some .int) 0 := ⟨lw_V q2573 q2575 qs39 q147 q2576, by decide +kernel⟩
theorem mv_X9_63 : MV RX9 63 RX9 yX9_expect cX9_expect 3 none 1 := ⟨lw_V q2549 q2551 qs36 q147 q2552, by decide +kernel⟩
theorem mv_X9_67 : MV RX9 67 RX9 yX9_number cX9_number 3 (some .int) 0 := ⟨lw_V q2569 q2571 qs38 q147 q2572, by decide +kernel⟩
theorem mv_X9_72 : MV RX9 72 RX9 yX9_numberAfter cX9_numberAfter 2 (some .int) 1 := ⟨lw_V q2545 q2547 qs35 q147 q2548, by decide +kernel⟩
theorem mi_X9_84 : MI RX9 84 yX11_init cX11_init 2 1 := ⟨q2590, q150, q2588, q2589, rfl, by decide +kernel⟩
theorem mv_X9_89 : MV RX9 89 RX9 yX9_digitAfter cX9_digitAfter 2 (some .int) 1 := ⟨lw_V q2607 q2609 qs43 q147 q2610, by decide +kernel⟩
theorem mv_X9_115 : MV RX9 115 RX9 yX9_placed cX9_placed 5 (some (.object "WindowExchange$Command")) 1 := ⟨lw_V q2602 q2604 qs42 q147 q2605, by decide +kernel⟩
theorem mv_X9_139 : MV RX9 139 RJ6 yJ6_indexOf cJ6_indexOf 2 (some .int) 1 := ⟨lw_V q2464 q2465 q2466 q102 q2467, by decide +kernel⟩
theorem mv_X9_143 : MV RX9 143 RX9 yX9_trader cX9_trader 3 (some (.object "WindowExchange$Command")) 0 := ⟨lw_V q2540 q2542 qs34 q147 q2543, by decide +kernel⟩
theorem mv_X9_147 : MV RX9 147 RX9 yX9_bought cX9_bought 1 (some (.object "WindowExchange$Command")) 0 := ⟨lw_V q2597 q2599 qs41 q147 q2600, by decide +kernel⟩
theorem mv_X9_150 : MV RX9 150 RX9 yX9_sellOrSeal cX9_sellOrSeal 3 (some (.object "WindowExchange$Command")) 0 := ⟨lw_V q2615 q2617 qs44 q147 q2618, by decide +kernel⟩
theorem mv_X9_153 : MV RX9 153 RX9 yX9_cancelOrClose cX9_cancelOrClose 2 (some (.object "WindowExchange$Command")) 0 := ⟨lw_V q2626 q2628 qs45 q147 q2629, by decide +kernel⟩
theorem mv_X9_156 : MV RX9 156 RX9 yX9_agreed cX9_agreed 6 (some (.object "WindowExchange$Command")) 0 := ⟨lw_V q2638 q2640 qs46 q147 q2641, by decide +kernel⟩
theorem mv_X9_159 : MV RX9 159 RX9 yX9_opened cX9_opened 3 (some (.object "WindowExchange$Command")) 0 := ⟨lw_V q2648 q2650 qs47 q147 q2651, by decide +kernel⟩
theorem mv_X9_162 : MV RX9 162 RX9 yX9_passed cX9_passed 2 (some (.object "WindowExchange$Command")) 0 := ⟨lw_V q2656 q2658 qs48 q147 q2659, by decide +kernel⟩
theorem mi_X9_167 : MI RX9 167 yJ2_init cJ2_init 1 0 := ⟨q169, q98, q2454, q168, rfl, by decide +kernel⟩
theorem mv_X9_168 : MV RX9 168 RX9 yX9_command cX9_command 2 (some (.object "WindowExchange$Command")) 0 := ⟨lw_V q2455 q2457 qs31 q147 q2458, by decide +kernel⟩
theorem mv_X9_171 : MV RX9 171 RJ2 yJ2_add cJ2_add 2 (some .boolean) 1 := ⟨lw_V q2664 q1594 q1595 q98 q1596, by decide +kernel⟩
theorem mv_X9_175 : MV RX9 175 RX2 yX2_advance cX2_advance 4 (some .int) 1 := ⟨lw_V q2663 q2086 q2087 q95 q2088, by decide +kernel⟩
theorem mv_X9_180 : MV RX9 180 RX2 yX2_cancelOrder cX2_cancelOrder 4 (some .int) 1 := ⟨lw_V q2637 q2027 q2028 q95 q2029, by decide +kernel⟩
theorem mv_X9_183 : MV RX9 183 RX2 yX2_closeAuction cX2_closeAuction 3 (some .int) 0 := ⟨lw_V q2633 q2157 q2158 q95 q2159, by decide +kernel⟩
theorem mv_X9_186 : MV RX9 186 RX2 yX2_sealBid cX2_sealBid 3 (some .int) 2 := ⟨lw_V q2625 q2140 q2141 q95 q2142, by decide +kernel⟩
theorem mv_X9_190 : MV RX9 190 RX2 yX2_openAuction cX2_openAuction 3 (some .int) 2 := ⟨lw_V q2655 q2122 q2123 q95 q2124, by decide +kernel⟩
theorem mv_X9_193 : MV RX9 193 RX2 yX2_agree cX2_agree 7 (some .int) 5 := ⟨lw_V q2647 q2049 q2050 q95 q2051, by decide +kernel⟩
theorem mv_X9_197 : MV RX9 197 RX2 yX2_place cX2_place 9 (some .int) 4 := ⟨lw_V q2614 q1934 q1935 q95 q1936, by decide +kernel⟩
theorem mv_X9_201 : MV RX9 201 RX2 yX2_addTrader cX2_addTrader 4 (some .int) 2 := ⟨lw_V q2587 q1849 q1850 q95 q1851, by decide +kernel⟩
theorem mi_X2_3 : MI RX2 3 yJ43_init cJ43_init 1 0 := ⟨q158, q3218, q164, q157, rfl, by decide +kernel⟩
theorem mi_X2_21 : MI RX2 21 yJ2_init cJ2_init 1 0 := ⟨q169, q98, q167, q168, rfl, by decide +kernel⟩
theorem mv_X2_65 : MV RX2 65 RJ2 yJ2_iterator cJ2_iterator 1 (some (.object "java/util/Iterator")) 0 := ⟨lw_V q365 q366 q367 q98 q368, by decide +kernel⟩
theorem mi_X2_81 : MI RX2 81 yX4_init cX4_init 2 1 := ⟨q1654, q110, q1652, q1653, rfl, by decide +kernel⟩
theorem mv_X2_84 : MV RX2 84 RJ2 yJ2_add cJ2_add 2 (some .boolean) 1 := ⟨lw_V q1593 q1594 q1595 q98 q1596, by decide +kernel⟩
theorem mi_X2_90 : MI RX2 90 yX5_init cX5_init 2 1 := ⟨q1673, q119, q1671, q1672, rfl, by decide +kernel⟩
theorem mv_X2_93 : MV RX2 93 RJ2 yJ2_addAll cJ2_addAll 6 (some .boolean) 1 := ⟨lw_V q1706 q1707 q1708 q98 q1709, by decide +kernel⟩
theorem mi_X2_103 : MI RX2 103 yX6_init cX6_init 2 1 := ⟨q1818, q128, q1816, q1817, rfl, by decide +kernel⟩
theorem mv_X2_106 : MV RX2 106 RJ2 yJ2_size cJ2_size 1 (some .int) 0 := ⟨lw_V q1860 q344 q345 q98 q346, by decide +kernel⟩
theorem mv_X2_114 : MV RX2 114 RJ2 yJ2_get cJ2_get 2 (some (.object "java/lang/Object")) 1 := ⟨lw_V q1296 q593 q594 q98 q595, by decide +kernel⟩
theorem mv_X2_141 : MV RX2 141 RX2 yX2_sumOrders cX2_sumOrders 5 (some .int) 1 := ⟨lw_V q361 q362 q363 q95 q364, by decide +kernel⟩
theorem mi_X2_153 : MI RX2 153 yX7_init cX7_init 2 1 := ⟨q633, q135, q631, q632, rfl, by decide +kernel⟩
theorem mi_X2_155 : MI RX2 155 yJ33_init cJ33_init 2 1 := ⟨q641, q134, q639, q640, rfl, by decide +kernel⟩
theorem mv_X2_162 : MV RX2 162 RJ33 yJ33_add cJ33_add 2 (some .boolean) 1 := ⟨lw_V q681 q682 q683 q134 q684, by decide +kernel⟩
theorem mv_X2_163 : MV RX2 163 RX2 yX2_side cX2_side 6 (some (.object "java/util/PriorityQueue")) 1 := ⟨lw_V q1044 q624 q625 q95 q626, by decide +kernel⟩
theorem mv_X2_170 : MV RX2 170 RJ33 yJ33_poll cJ33_poll 6 (some (.object "java/lang/Object")) 0 := ⟨lw_V q1046 q1047 q1048 q134 q1049, by decide +kernel⟩
theorem ms_X2_176 : MS RX2 176 yJ14_min cJ14_min 2 (some .int) 2 := ⟨lw_S q1056 q749 q112 q750, by decide +kernel⟩
theorem mi_X2_187 : MI RX2 187 yJ19_init cJ19_init 1 0 := ⟨q1065, q118, q1063, q1064, rfl, by decide +kernel⟩
theorem ms_X2_188 : MS RX2 188 yJ21_valueOf cJ21_valueOf 1 (some (.object "java/lang/Integer")) 1 := ⟨lw_S q1095 q1096 q121 q1097, by decide +kernel⟩
theorem mv_X2_194 : MV RX2 194 RJ19 yJ19_containsKey cJ19_containsKey 2 (some .boolean) 1 := ⟨lw_V q1114 q1115 q1116 q118 q1117, by decide +kernel⟩
theorem mv_X2_197 : MV RX2 197 RJ19 yJ19_get cJ19_get 3 (some (.object "java/lang/Object")) 1 := ⟨lw_V q1134 q1135 q1136 q118 q1137, by decide +kernel⟩
theorem mv_X2_200 : MV RX2 200 RJ21 yJ21_intValue cJ21_intValue 1 (some .int) 0 := ⟨lw_V q1139 q1140 q1141 q121 q1142, by decide +kernel⟩
theorem mv_X2_203 : MV RX2 203 RJ19 yJ19_put cJ19_put 3 (some (.object "java/lang/Object")) 2 := ⟨lw_V q1143 q1144 q1145 q118 q1146, by decide +kernel⟩
theorem mv_X2_207 : MV RX2 207 RJ19 yJ19_entrySet cJ19_entrySet 2 (some (.object "java/util/Set")) 0 := ⟨lw_V q1219 q1220 q1221 q118 q1222, by decide +kernel⟩
theorem mi_X2_232 : MI RX2 232 yX4_init_2 cX4_init_2 3 2 := ⟨q1657, q110, q1879, q1656, rfl, by decide +kernel⟩
theorem mv_X2_246 : MV RX2 246 RJ2 yJ2_remove cJ2_remove 4 (some (.object "java/lang/Object")) 1 := ⟨lw_V q1995 q1996 q1997 q98 q1998, by decide +kernel⟩
theorem mv_X2_249 : MV RX2 249 RX2 yX2_trader cX2_trader 2 (some (.object "WindowExchange$Trader")) 1 := ⟨lw_V q1937 q1938 q1939 q95 q1940, by decide +kernel⟩
theorem mi_X2_252 : MI RX2 252 yX5_init_2 cX5_init_2 6 5 := ⟨q1676, q119, q1960, q1675, rfl, by decide +kernel⟩
theorem mv_X2_258 : MV RX2 258 RX2 yX2_matchesOwn cX2_matchesOwn 2 (some .boolean) 1 := ⟨lw_V q1979 q1981 qs20 q95 q1982, by decide +kernel⟩
theorem mv_X2_262 : MV RX2 262 RJ33 yJ33_peek cJ33_peek 1 (some (.object "java/lang/Object")) 0 := ⟨lw_V q1986 q1032 q1033 q134 q1034, by decide +kernel⟩
theorem mv_X2_265 : MV RX2 265 RX5 yX5_matches cX5_matches 2 (some .boolean) 1 := ⟨lw_V q1985 q1037 q1038 q119 q1039, by decide +kernel⟩
theorem mv_X2_268 : MV RX2 268 RX2 yX2_trade cX2_trade 7 none 3 := ⟨lw_V q1987 q1989 qs21 q95 q1990, by decide +kernel⟩
theorem mv_X2_272 : MV RX2 272 RX2 yX2_close cX2_close 4 none 1 := ⟨lw_V q1991 q1993 qs22 q95 q1994, by decide +kernel⟩
theorem mv_X2_275 : MV RX2 275 RX2 yX2_open cX2_open 4 none 1 := ⟨lw_V q2003 q2005 qs24 q95 q2006, by decide +kernel⟩
theorem mv_X2_278 : MV RX2 278 RX2 yX2_order cX2_order 5 (some (.object "WindowExchange$Order")) 1 := ⟨lw_V q2030 q2031 q2032 q95 q2033, by decide +kernel⟩
theorem mv_X2_285 : MV RX2 285 RX8 yX8_gainAt cX8_gainAt 2 (some .int) 1 := ⟨lw_V q1304 q1305 q1306 q140 q1307, by decide +kernel⟩
theorem mv_X2_289 : MV RX2 289 RX8 yX8_seller cX8_seller 1 (some .int) 0 := ⟨lw_V q2101 q2102 q2103 q140 q2104, by decide +kernel⟩
theorem mv_X2_292 : MV RX2 292 RX8 yX8_buyer cX8_buyer 1 (some .int) 0 := ⟨lw_V q2105 q2106 q2107 q140 q2108, by decide +kernel⟩
theorem ms_X2_295 : MS RX2 295 yJ14_abs cJ14_abs 1 (some .int) 1 := ⟨lw_S q2109 q2110 q112 q2111, by decide +kernel⟩
theorem mv_X2_298 : MV RX2 298 RX8 yX8_settlementDay cX8_settlementDay 1 (some .int) 0 := ⟨lw_V q2093 q2094 q2095 q140 q2096, by decide +kernel⟩
theorem mv_X2_301 : MV RX2 301 RX2 yX2_settle cX2_settle 7 none 1 := ⟨lw_V q2097 q2099 qs26 q95 q2100, by decide +kernel⟩
theorem mv_X2_305 : MV RX2 305 RX2 yX2_passDay cX2_passDay 3 (some .int) 0 := ⟨lw_V q2089 q2091 qs25 q95 q2092, by decide +kernel⟩
theorem mv_X2_311 : MV RX2 311 RX2 yX2_sumContracts cX2_sumContracts 5 (some .int) 1 := ⟨lw_V q1308 q1309 q1310 q95 q1311, by decide +kernel⟩
theorem mv_X2_315 : MV RX2 315 RX2 yX2_reservedWindows cX2_reservedWindows 2 (some .int) 1 := ⟨lw_V q1318 q614 q615 q95 q616, by decide +kernel⟩
theorem mv_X2_321 : MV RX2 321 RX2 yX2_reservedCash cX2_reservedCash 2 (some .int) 1 := ⟨lw_V q1317 q608 q609 q95 q610, by decide +kernel⟩
theorem mv_X2_324 : MV RX2 324 RX2 yX2_value cX2_value 5 (some .int) 2 := ⟨lw_V q1323 q1293 q1294 q95 q1295, by decide +kernel⟩
theorem mv_X2_327 : MV RX2 327 RX2 yX2_exposure cX2_exposure 3 (some .int) 1 := ⟨lw_V q1324 q1325 q1326 q95 q1327, by decide +kernel⟩
theorem mi_X2_330 : MI RX2 330 yX6_init_2 cX6_init_2 3 2 := ⟨q1821, q128, q2125, q1820, rfl, by decide +kernel⟩
theorem mv_X2_331 : MV RX2 331 RX2 yX2_countFreeViews cX2_countFreeViews 6 (some .int) 0 := ⟨lw_V q2126 q2128 qs27 q95 q2129, by decide +kernel⟩
theorem mv_X2_337 : MV RX2 337 RX6 yX6_countBids cX6_countBids 6 (some .int) 0 := ⟨lw_V q2143 q2144 q2145 q128 q2146, by decide +kernel⟩
theorem mv_X2_343 : MV RX2 343 RX2 yX2_isValid cX2_isValid 3 (some .boolean) 1 := ⟨lw_V q2164 q2166 qs28 q95 q2167, by decide +kernel⟩
theorem ms_X2_347 : MS RX2 347 yJ14_max cJ14_max 2 (some .int) 2 := ⟨lw_S q2172 q697 q112 q698, by decide +kernel⟩
theorem mv_X2_350 : MV RX2 350 RX2 yX2_winner cX2_winner 4 (some .int) 0 := ⟨lw_V q2160 q2161 q2162 q95 q2163, by decide +kernel⟩
theorem mv_X2_353 : MV RX2 353 RX2 yX2_priceFor cX2_priceFor 4 (some .int) 1 := ⟨lw_V q2168 q2169 q2170 q95 q2171, by decide +kernel⟩
theorem mv_X2_359 : MV RX2 359 RX8 yX8_signFor cX8_signFor 2 (some .int) 1 := ⟨lw_V q1300 q1301 q1302 q140 q1303, by decide +kernel⟩
theorem mv_X2_362 : MV RX2 362 RX8 yX8_units cX8_units 1 (some .int) 0 := ⟨lw_V q1330 q1331 q1332 q140 q1333, by decide +kernel⟩
theorem mi_X10_1 : MI RX10 1 yJ9_init_3 cJ9_init_3 5 4 := ⟨q2530, q106, q2528, q2529, rfl, by decide +kernel⟩
theorem mi_X4_1 : MI RX4 1 yJ43_init cJ43_init 1 0 := ⟨q158, q3218, q1658, q157, rfl, by decide +kernel⟩
theorem mi_X4_16 : MI RX4 16 yX4_init_2 cX4_init_2 3 2 := ⟨q1657, q110, q1655, q1656, rfl, by decide +kernel⟩
theorem mv_X0_7 : MV RX0 7 RX1 yX1_addTrader cX1_addTrader 3 (some .int) 2 := ⟨lw_V q1842 q1843 q1844 q94 q1845, by decide +kernel⟩
theorem mv_X0_17 : MV RX0 17 RX1 yX1_placeBid cX1_placeBid 4 (some .int) 3 := ⟨lw_V q1927 q1928 q1929 q94 q1930, by decide +kernel⟩
theorem mv_X0_25 : MV RX0 25 RX1 yX1_placeAsk cX1_placeAsk 4 (some .int) 3 := ⟨lw_V q2010 q2011 q2012 q94 q2013, by decide +kernel⟩
theorem mv_X0_28 : MV RX0 28 RX1 yX1_cancelOrder cX1_cancelOrder 2 (some .int) 1 := ⟨lw_V q2020 q2021 q2022 q94 q2023, by decide +kernel⟩
theorem mv_X0_34 : MV RX0 34 RX1 yX1_agree cX1_agree 6 (some .int) 5 := ⟨lw_V q2042 q2043 q2044 q94 q2045, by decide +kernel⟩
theorem mv_X0_38 : MV RX0 38 RX1 yX1_advance cX1_advance 2 (some .int) 1 := ⟨lw_V q2079 q2080 q2081 q94 q2082, by decide +kernel⟩
theorem mv_X0_41 : MV RX0 41 RX1 yX1_openAuction cX1_openAuction 3 (some .int) 2 := ⟨lw_V q2115 q2116 q2117 q94 q2118, by decide +kernel⟩
theorem mv_X0_44 : MV RX0 44 RX1 yX1_sealBid cX1_sealBid 3 (some .int) 2 := ⟨lw_V q2133 q2134 q2135 q94 q2136, by decide +kernel⟩
theorem mv_X0_47 : MV RX0 47 RX1 yX1_closeAuction cX1_closeAuction 1 (some .int) 0 := ⟨lw_V q2150 q2151 q2152 q94 q2153, by decide +kernel⟩
theorem mv_X0_51 : MV RX0 51 RX1 yX1_cash cX1_cash 2 (some .int) 1 := ⟨lw_V q2176 q2177 q2178 q94 q2179, by decide +kernel⟩
theorem mv_X0_54 : MV RX0 54 RX1 yX1_reservedCash cX1_reservedCash 2 (some .int) 1 := ⟨lw_V q2184 q2185 q2186 q94 q2187, by decide +kernel⟩
theorem mv_X0_57 : MV RX0 57 RX1 yX1_windows cX1_windows 2 (some .int) 1 := ⟨lw_V q2196 q2197 q2198 q94 q2199, by decide +kernel⟩
theorem mv_X0_60 : MV RX0 60 RX1 yX1_reservedWindows cX1_reservedWindows 2 (some .int) 1 := ⟨lw_V q2203 q2204 q2205 q94 q2206, by decide +kernel⟩
theorem mv_X0_63 : MV RX0 63 RX1 yX1_traderOf cX1_traderOf 2 (some .int) 1 := ⟨lw_V q2210 q2211 q2212 q94 q2213, by decide +kernel⟩
theorem mv_X0_66 : MV RX0 66 RX1 yX1_isBid cX1_isBid 2 (some .boolean) 1 := ⟨lw_V q2218 q2219 q2220 q94 q2221, by decide +kernel⟩
theorem mv_X0_70 : MV RX0 70 RX1 yX1_priceOf cX1_priceOf 2 (some .int) 1 := ⟨lw_V q2225 q2226 q2227 q94 q2228, by decide +kernel⟩
theorem mv_X0_73 : MV RX0 73 RX1 yX1_unitsOf cX1_unitsOf 2 (some .int) 1 := ⟨lw_V q2232 q2233 q2234 q94 q2235, by decide +kernel⟩
theorem mv_X0_76 : MV RX0 76 RX1 yX1_orderAt cX1_orderAt 4 (some .int) 2 := ⟨lw_V q2239 q2240 q2241 q94 q2242, by decide +kernel⟩
theorem mv_X0_80 : MV RX0 80 RX1 yX1_bestBid cX1_bestBid 1 (some .int) 0 := ⟨lw_V q2247 q2248 q2249 q94 q2250, by decide +kernel⟩
theorem mv_X0_83 : MV RX0 83 RX1 yX1_bestAsk cX1_bestAsk 1 (some .int) 0 := ⟨lw_V q2258 q2259 q2260 q94 q2261, by decide +kernel⟩
theorem mv_X0_86 : MV RX0 86 RX1 yX1_costToBuy cX1_costToBuy 2 (some .int) 1 := ⟨lw_V q2265 q2266 q2267 q94 q2268, by decide +kernel⟩
theorem mv_X0_89 : MV RX0 89 RX1 yX1_costToBuyByPrices cX1_costToBuyByPrices 2 (some .int) 1 := ⟨lw_V q2276 q2277 q2278 q94 q2279, by decide +kernel⟩
theorem mv_X0_92 : MV RX0 92 RX1 yX1_lastPrice cX1_lastPrice 1 (some .int) 0 := ⟨lw_V q2283 q2284 q2285 q94 q2286, by decide +kernel⟩
theorem mv_X0_95 : MV RX0 95 RX1 yX1_meanPrice cX1_meanPrice 1 (some .double) 0 := ⟨lw_V q2304 q2305 q2306 q94 q2307, by decide +kernel⟩
theorem mv_X0_101 : MV RX0 101 RX1 yX1_daysLeft cX1_daysLeft 2 (some .int) 1 := ⟨lw_V q2316 q2317 q2318 q94 q2319, by decide +kernel⟩
theorem mv_X0_104 : MV RX0 104 RX1 yX1_gain cX1_gain 4 (some .int) 2 := ⟨lw_V q2328 q2329 q2330 q94 q2331, by decide +kernel⟩
theorem mv_X0_107 : MV RX0 107 RX1 yX1_exposure cX1_exposure 2 (some .int) 1 := ⟨lw_V q2339 q2340 q2341 q94 q2342, by decide +kernel⟩
theorem mv_X0_110 : MV RX0 110 RX1 yX1_value cX1_value 3 (some .int) 2 := ⟨lw_V q2347 q2348 q2349 q94 q2350, by decide +kernel⟩
theorem mv_X0_113 : MV RX0 113 RX1 yX1_valueByExposure cX1_valueByExposure 3 (some .int) 2 := ⟨lw_V q2354 q2355 q2356 q94 q2357, by decide +kernel⟩
theorem mv_X0_116 : MV RX0 116 RX1 yX1_defaultRate cX1_defaultRate 1 (some .float) 0 := ⟨lw_V q2361 q2362 q2363 q94 q2364, by decide +kernel⟩
theorem mv_X0_120 : MV RX0 120 RX1 yX1_holder cX1_holder 2 (some .int) 1 := ⟨lw_V q2368 q2369 q2370 q94 q2371, by decide +kernel⟩
theorem mv_X0_123 : MV RX0 123 RX1 yX1_winner cX1_winner 2 (some .int) 0 := ⟨lw_V q2375 q2376 q2377 q94 q2378, by decide +kernel⟩
theorem mv_X0_126 : MV RX0 126 RX1 yX1_winnerPays cX1_winnerPays 1 (some .int) 0 := ⟨lw_V q2384 q2385 q2386 q94 q2387, by decide +kernel⟩
theorem mv_X0_129 : MV RX0 129 RX1 yX1_writeTrader cX1_writeTrader 5 (some .int) 1 := ⟨lw_V q2393 q2394 q2395 q94 q2396, by decide +kernel⟩
theorem mv_X0_132 : MV RX0 132 RX1 yX1_charAt cX1_charAt 2 (some .char) 1 := ⟨lw_V q2407 q2408 q2409 q94 q2410, by decide +kernel⟩
theorem mv_X0_136 : MV RX0 136 RX1 yX1_type cX1_type 2 (some .int) 1 := ⟨lw_V q2424 q2425 q2426 q94 q2427, by decide +kernel⟩
theorem mv_X0_143 : MV RX0 143 RX1 yX1_errorPosition cX1_errorPosition 1 (some .int) 0 := ⟨lw_V q2673 q2674 q2675 q94 q2676, by decide +kernel⟩
theorem mv_X0_146 : MV RX0 146 RX1 yX1_failedCommand cX1_failedCommand 1 (some .int) 0 := ⟨lw_V q2680 q2681 q2682 q94 q2683, by decide +kernel⟩
theorem mv_X0_149 : MV RX0 149 RX1 yX1_undo cX1_undo 1 (some .int) 0 := ⟨lw_V q2687 q2688 q2689 q94 q2690, by decide +kernel⟩
theorem mv_X0_152 : MV RX0 152 RX1 yX1_restore cX1_restore 1 (some .int) 0 := ⟨lw_V q2706 q2707 q2708 q94 q2709, by decide +kernel⟩
theorem mi_X0_155 : MI RX0 155 yX1_init cX1_init 1 0 := ⟨q155, q94, q153, q154, rfl, by decide +kernel⟩
theorem mi_X0_158 : MI RX0 158 yX3_init cX3_init 2 0 := ⟨q2721, q104, q2719, q2720, rfl, by decide +kernel⟩
theorem mv_X0_164 : MV RX0 164 RX3 yX3_addTrader cX3_addTrader 3 (some .int) 2 := ⟨lw_V q2788 q2789 q2790 q104 q2791, by decide +kernel⟩
theorem mv_X0_165 : MV RX0 165 RX3 yX3_thrown cX3_thrown 1 (some .int) 0 := ⟨lw_V q2784 q2785 q2786 q104 q2787, by decide +kernel⟩
theorem mv_X0_171 : MV RX0 171 RX3 yX3_placeBid cX3_placeBid 4 (some .int) 3 := ⟨lw_V q2816 q2817 q2818 q104 q2819, by decide +kernel⟩
theorem mv_X0_174 : MV RX0 174 RX3 yX3_placeAsk cX3_placeAsk 4 (some .int) 3 := ⟨lw_V q2860 q2861 q2862 q104 q2863, by decide +kernel⟩
theorem mv_X0_178 : MV RX0 178 RX3 yX3_cancelOrder cX3_cancelOrder 2 (some .int) 1 := ⟨lw_V q2864 q2865 q2866 q104 q2867, by decide +kernel⟩
theorem mv_X0_182 : MV RX0 182 RX3 yX3_agree cX3_agree 6 (some .int) 5 := ⟨lw_V q2876 q2877 q2878 q104 q2879, by decide +kernel⟩
theorem mv_X0_185 : MV RX0 185 RX3 yX3_advance cX3_advance 2 (some .int) 1 := ⟨lw_V q2887 q2888 q2889 q104 q2890, by decide +kernel⟩
theorem mv_X0_188 : MV RX0 188 RX3 yX3_openAuction cX3_openAuction 3 (some .int) 2 := ⟨lw_V q2904 q2905 q2906 q104 q2907, by decide +kernel⟩
theorem mv_X0_191 : MV RX0 191 RX3 yX3_sealBid cX3_sealBid 3 (some .int) 2 := ⟨lw_V q2916 q2917 q2918 q104 q2919, by decide +kernel⟩
theorem mv_X0_195 : MV RX0 195 RX3 yX3_closeAuction cX3_closeAuction 1 (some .int) 0 := ⟨lw_V q2924 q2925 q2926 q104 q2927, by decide +kernel⟩
theorem mv_X0_196 : MV RX0 196 RX1 yX1_traders cX1_traders 1 (some .int) 0 := ⟨lw_V q339 q340 q341 q94 q342, by decide +kernel⟩
theorem mv_X0_199 : MV RX0 199 RX3 yX3_traders cX3_traders 1 (some .int) 0 := ⟨lw_V q2945 q2946 q2947 q104 q2948, by decide +kernel⟩
theorem mv_X0_202 : MV RX0 202 RX3 yX3_cash cX3_cash 2 (some .int) 1 := ⟨lw_V q2949 q2950 q2951 q104 q2952, by decide +kernel⟩
theorem mv_X0_205 : MV RX0 205 RX3 yX3_reservedCash cX3_reservedCash 2 (some .int) 1 := ⟨lw_V q2957 q2958 q2959 q104 q2960, by decide +kernel⟩
theorem mv_X0_208 : MV RX0 208 RX3 yX3_windows cX3_windows 2 (some .int) 1 := ⟨lw_V q2953 q2954 q2955 q104 q2956, by decide +kernel⟩
theorem mv_X0_211 : MV RX0 211 RX3 yX3_reservedWindows cX3_reservedWindows 2 (some .int) 1 := ⟨lw_V q2965 q2966 q2967 q104 q2968, by decide +kernel⟩
theorem mv_X0_212 : MV RX0 212 RX1 yX1_openOrders cX1_openOrders 1 (some .int) 0 := ⟨lw_V q347 q348 q349 q94 q350, by decide +kernel⟩
theorem mv_X0_215 : MV RX0 215 RX3 yX3_openOrders cX3_openOrders 1 (some .int) 0 := ⟨lw_V q2969 q2970 q2971 q104 q2972, by decide +kernel⟩
theorem mv_X0_218 : MV RX0 218 RX3 yX3_traderOf cX3_traderOf 2 (some .int) 1 := ⟨lw_V q2973 q2974 q2975 q104 q2976, by decide +kernel⟩
theorem mv_X0_221 : MV RX0 221 RX3 yX3_isBid cX3_isBid 2 (some .boolean) 1 := ⟨lw_V q2981 q2982 q2983 q104 q2984, by decide +kernel⟩
theorem mv_X0_224 : MV RX0 224 RX3 yX3_priceOf cX3_priceOf 2 (some .int) 1 := ⟨lw_V q2985 q2986 q2987 q104 q2988, by decide +kernel⟩
theorem mv_X0_227 : MV RX0 227 RX3 yX3_unitsOf cX3_unitsOf 2 (some .int) 1 := ⟨lw_V q2989 q2990 q2991 q104 q2992, by decide +kernel⟩
theorem mv_X0_231 : MV RX0 231 RX3 yX3_orderAt cX3_orderAt 4 (some .int) 2 := ⟨lw_V q2993 q2994 q2995 q104 q2996, by decide +kernel⟩
theorem mv_X0_234 : MV RX0 234 RX3 yX3_bestBid cX3_bestBid 2 (some .int) 0 := ⟨lw_V q3001 q3002 q3003 q104 q3004, by decide +kernel⟩
theorem mv_X0_237 : MV RX0 237 RX3 yX3_bestAsk cX3_bestAsk 2 (some .int) 0 := ⟨lw_V q3005 q3006 q3007 q104 q3008, by decide +kernel⟩
theorem mv_X0_238 : MV RX0 238 RX1 yX1_depth cX1_depth 3 (some .int) 2 := ⟨lw_V q351 q352 q353 q94 q354, by decide +kernel⟩
theorem mv_X0_241 : MV RX0 241 RX3 yX3_depth cX3_depth 5 (some .int) 2 := ⟨lw_V q3009 q3010 q3011 q104 q3012, by decide +kernel⟩
theorem mv_X0_244 : MV RX0 244 RX3 yX3_costToBuy cX3_costToBuy 7 (some .int) 1 := ⟨lw_V q3013 q3014 q3015 q104 q3016, by decide +kernel⟩
theorem mv_X0_247 : MV RX0 247 RX3 yX3_costToBuyByPrices cX3_costToBuyByPrices 2 (some .int) 1 := ⟨lw_V q3017 q3018 q3019 q104 q3020, by decide +kernel⟩
theorem mv_X0_250 : MV RX0 250 RX3 yX3_lastPrice cX3_lastPrice 1 (some .int) 0 := ⟨lw_V q3022 q3023 q3024 q104 q3025, by decide +kernel⟩
theorem mv_X0_251 : MV RX0 251 RX1 yX1_tradedUnits cX1_tradedUnits 1 (some .int) 0 := ⟨lw_V q560 q561 q562 q94 q563, by decide +kernel⟩
theorem mv_X0_254 : MV RX0 254 RX3 yX3_tradedUnits cX3_tradedUnits 1 (some .int) 0 := ⟨lw_V q3026 q3027 q3028 q104 q3029, by decide +kernel⟩
theorem mv_X0_258 : MV RX0 258 RX3 yX3_meanPrice cX3_meanPrice 1 (some .double) 0 := ⟨lw_V q3030 q3031 q3032 q104 q3033, by decide +kernel⟩
theorem mv_X0_259 : MV RX0 259 RX1 yX1_day cX1_day 1 (some .int) 0 := ⟨lw_V q564 q565 q566 q94 q567, by decide +kernel⟩
theorem mv_X0_262 : MV RX0 262 RX3 yX3_day cX3_day 1 (some .int) 0 := ⟨lw_V q3034 q3035 q3036 q104 q3037, by decide +kernel⟩
theorem mv_X0_263 : MV RX0 263 RX1 yX1_contracts cX1_contracts 1 (some .int) 0 := ⟨lw_V q568 q569 q570 q94 q571, by decide +kernel⟩
theorem mv_X0_266 : MV RX0 266 RX3 yX3_contracts cX3_contracts 1 (some .int) 0 := ⟨lw_V q3038 q3039 q3040 q104 q3041, by decide +kernel⟩
theorem mv_X0_269 : MV RX0 269 RX3 yX3_daysLeft cX3_daysLeft 2 (some .int) 1 := ⟨lw_V q3042 q3043 q3044 q104 q3045, by decide +kernel⟩
theorem mv_X0_272 : MV RX0 272 RX3 yX3_gain cX3_gain 3 (some .int) 2 := ⟨lw_V q3050 q3051 q3052 q104 q3053, by decide +kernel⟩
theorem mv_X0_275 : MV RX0 275 RX3 yX3_exposure cX3_exposure 4 (some .int) 1 := ⟨lw_V q3054 q3055 q3056 q104 q3057, by decide +kernel⟩
theorem mv_X0_278 : MV RX0 278 RX3 yX3_value cX3_value 5 (some .int) 2 := ⟨lw_V q3062 q3063 q3064 q104 q3065, by decide +kernel⟩
theorem mv_X0_281 : MV RX0 281 RX3 yX3_valueByExposure cX3_valueByExposure 3 (some .int) 2 := ⟨lw_V q3066 q3067 q3068 q104 q3069, by decide +kernel⟩
theorem mv_X0_282 : MV RX0 282 RX1 yX1_defaults cX1_defaults 1 (some .int) 0 := ⟨lw_V q572 q573 q574 q94 q575, by decide +kernel⟩
theorem mv_X0_285 : MV RX0 285 RX3 yX3_defaults cX3_defaults 1 (some .int) 0 := ⟨lw_V q3071 q3072 q3073 q104 q3074, by decide +kernel⟩
theorem mv_X0_288 : MV RX0 288 RX3 yX3_defaultRate cX3_defaultRate 1 (some .float) 0 := ⟨lw_V q3075 q3076 q3077 q104 q3078, by decide +kernel⟩
theorem mv_X0_289 : MV RX0 289 RX1 yX1_isAuctionOpen cX1_isAuctionOpen 1 (some .boolean) 0 := ⟨lw_V q576 q577 q578 q94 q579, by decide +kernel⟩
theorem mv_X0_293 : MV RX0 293 RX3 yX3_isAuctionOpen cX3_isAuctionOpen 1 (some .boolean) 0 := ⟨lw_V q3079 q3080 q3081 q104 q3082, by decide +kernel⟩
theorem mv_X0_296 : MV RX0 296 RX3 yX3_holder cX3_holder 2 (some .int) 1 := ⟨lw_V q3083 q3084 q3085 q104 q3086, by decide +kernel⟩
theorem mv_X0_299 : MV RX0 299 RX3 yX3_winner cX3_winner 1 (some .int) 0 := ⟨lw_V q3087 q3088 q3089 q104 q3090, by decide +kernel⟩
theorem mv_X0_302 : MV RX0 302 RX3 yX3_winnerPays cX3_winnerPays 1 (some .int) 0 := ⟨lw_V q3095 q3096 q3097 q104 q3098, by decide +kernel⟩
theorem mv_X0_303 : MV RX0 303 RX1 yX1_till cX1_till 1 (some .int) 0 := ⟨lw_V q580 q581 q582 q94 q583, by decide +kernel⟩
theorem mv_X0_306 : MV RX0 306 RX3 yX3_till cX3_till 1 (some .int) 0 := ⟨lw_V q3099 q3100 q3101 q104 q3102, by decide +kernel⟩
theorem mv_X0_307 : MV RX0 307 RX1 yX1_isConsistent cX1_isConsistent 7 (some .boolean) 0 := ⟨lw_V q584 q585 q586 q94 q587, by decide +kernel⟩
theorem mv_X0_310 : MV RX0 310 RX3 yX3_isConsistent cX3_isConsistent 1 (some .boolean) 0 := ⟨lw_V q3103 q3104 q3105 q104 q3106, by decide +kernel⟩
theorem mv_X0_311 : MV RX0 311 RX1 yX1_writeBook cX1_writeBook 2 (some .int) 0 := ⟨lw_V q1334 q1335 q1336 q94 q1337, by decide +kernel⟩
theorem mv_X0_314 : MV RX0 314 RX3 yX3_writeBook cX3_writeBook 1 (some .int) 0 := ⟨lw_V q3107 q3108 q3109 q104 q3110, by decide +kernel⟩
theorem mv_X0_317 : MV RX0 317 RX3 yX3_writeTrader cX3_writeTrader 3 (some .int) 1 := ⟨lw_V q3123 q3124 q3125 q104 q3126, by decide +kernel⟩
theorem mv_X0_320 : MV RX0 320 RX3 yX3_charAt cX3_charAt 2 (some .char) 1 := ⟨lw_V q3131 q3132 q3133 q104 q3134, by decide +kernel⟩
theorem mv_X0_324 : MV RX0 324 RX3 yX3_type cX3_type 2 (some .int) 1 := ⟨lw_V q3135 q3136 q3137 q104 q3138, by decide +kernel⟩
theorem mv_X0_327 : MV RX0 327 RX3 yX3_run cX3_run 4 (some .int) 0 := ⟨lw_V q3139 q3140 q3141 q104 q3142, by decide +kernel⟩
theorem mv_X0_330 : MV RX0 330 RX3 yX3_errorPosition cX3_errorPosition 1 (some .int) 0 := ⟨lw_V q3181 q3182 q3183 q104 q3184, by decide +kernel⟩
theorem mv_X0_333 : MV RX0 333 RX3 yX3_failedCommand cX3_failedCommand 1 (some .int) 0 := ⟨lw_V q3185 q3186 q3187 q104 q3188, by decide +kernel⟩
theorem mv_X0_336 : MV RX0 336 RX3 yX3_undo cX3_undo 2 (some .int) 0 := ⟨lw_V q3189 q3190 q3191 q104 q3192, by decide +kernel⟩
theorem mv_X0_337 : MV RX0 337 RX1 yX1_save cX1_save 1 (some .int) 0 := ⟨lw_V q1643 q1644 q1645 q94 q1646, by decide +kernel⟩
theorem mv_X0_340 : MV RX0 340 RX3 yX3_save cX3_save 2 (some .int) 0 := ⟨lw_V q3193 q3194 q3195 q104 q3196, by decide +kernel⟩
theorem mv_X0_343 : MV RX0 343 RX3 yX3_restore cX3_restore 2 (some .int) 0 := ⟨lw_V q3197 q3198 q3199 q104 q3200, by decide +kernel⟩
theorem mi_X3_1 : MI RX3 1 yJ43_init cJ43_init 1 0 := ⟨q158, q3218, q2722, q157, rfl, by decide +kernel⟩
theorem ms_X3_51 : MS RX3 51 yX3_in cX3_in 6 (some .boolean) 3 := ⟨lw_S q2801 q2802 q104 q2803, by decide +kernel⟩
theorem ms_X3_61 : MS RX3 61 yX3_orderAtPlace cX3_orderAtPlace 1 (some .int) 1 := ⟨lw_S q2840 q2841 q104 q2842, by decide +kernel⟩
theorem mv_X3_65 : MV RX3 65 RX3 yX3_isSide cX3_isSide 3 (some .boolean) 2 := ⟨lw_V q2843 q2845 qs58 q104 q2846, by decide +kernel⟩
theorem mv_X3_69 : MV RX3 69 RX3 yX3_matches cX3_matches 5 (some .boolean) 3 := ⟨lw_V q2836 q2838 qs57 q104 q2839, by decide +kernel⟩
theorem mv_X3_75 : MV RX3 75 RX3 yX3_throwing cX3_throwing 2 (some .int) 1 := ⟨lw_V q2805 q2807 qs52 q104 q2808, by decide +kernel⟩
theorem ms_X3_78 : MS RX3 78 yX3_traderAt cX3_traderAt 1 (some .int) 1 := ⟨lw_S q2809 q2810 q104 q2811, by decide +kernel⟩
theorem mv_X3_81 : MV RX3 81 RX3 yX3_starts cX3_starts 2 none 0 := ⟨lw_V q2792 q2794 qs50 q104 q2795, by decide +kernel⟩
theorem mv_X3_84 : MV RX3 84 RX3 yX3_traderIt cX3_traderIt 3 (some .int) 2 := ⟨lw_V q2796 q2798 qs51 q104 q2799, by decide +kernel⟩
theorem mv_X3_88 : MV RX3 88 RX3 yX3_changed cX3_changed 3 (some .int) 1 := ⟨lw_V q2812 q2814 qs53 q104 q2815, by decide +kernel⟩
theorem mv_X3_91 : MV RX3 91 RX3 yX3_closesOrder cX3_closesOrder 3 none 1 := ⟨lw_V q2856 q2858 qs61 q104 q2859, by decide +kernel⟩
theorem mv_X3_95 : MV RX3 95 RX3 yX3_isTrader cX3_isTrader 2 (some .boolean) 1 := ⟨lw_V q2824 q2826 qs55 q104 q2827, by decide +kernel⟩
theorem ms_X3_99 : MS RX3 99 yX3_isDeal cX3_isDeal 2 (some .boolean) 2 := ⟨lw_S q2828 q2829 q104 q2830, by decide +kernel⟩
theorem mv_X3_103 : MV RX3 103 RX3 yX3_matchesOwn cX3_matchesOwn 6 (some .boolean) 3 := ⟨lw_V q2832 q2834 qs56 q104 q2835, by decide +kernel⟩
theorem mv_X3_107 : MV RX3 107 RX3 yX3_firstMatch cX3_firstMatch 7 (some .int) 2 := ⟨lw_V q2847 q2849 qs59 q104 q2850, by decide +kernel⟩
theorem ms_X3_111 : MS RX3 111 yJ14_min cJ14_min 2 (some .int) 2 := ⟨lw_S q2851 q749 q112 q750, by decide +kernel⟩
theorem mv_X3_116 : MV RX3 116 RX3 yX3_trades cX3_trades 8 none 4 := ⟨lw_V q2852 q2854 qs60 q104 q2855, by decide +kernel⟩
theorem mv_X3_120 : MV RX3 120 RX3 yX3_placesIt cX3_placesIt 9 (some .int) 4 := ⟨lw_V q2820 q2822 qs54 q104 q2823, by decide +kernel⟩
theorem mv_X3_124 : MV RX3 124 RX3 yX3_placeOf cX3_placeOf 3 (some .int) 1 := ⟨lw_V q2872 q2874 qs63 q104 q2875, by decide +kernel⟩
theorem mv_X3_127 : MV RX3 127 RX3 yX3_cancelIt cX3_cancelIt 5 (some .int) 1 := ⟨lw_V q2868 q2870 qs62 q104 q2871, by decide +kernel⟩
theorem ms_X3_130 : MS RX3 130 yX3_contractAt cX3_contractAt 1 (some .int) 1 := ⟨lw_S q2884 q2885 q104 q2886, by decide +kernel⟩
theorem mv_X3_133 : MV RX3 133 RX3 yX3_agreeIt cX3_agreeIt 7 (some .int) 5 := ⟨lw_V q2880 q2882 qs64 q104 q2883, by decide +kernel⟩
theorem mv_X3_137 : MV RX3 137 RX3 yX3_gainOf cX3_gainOf 4 (some .int) 2 := ⟨lw_V q2899 q2901 qs67 q104 q2902, by decide +kernel⟩
theorem ms_X3_140 : MS RX3 140 yJ14_abs cJ14_abs 1 (some .int) 1 := ⟨lw_S q2903 q2110 q112 q2111, by decide +kernel⟩
theorem mv_X3_143 : MV RX3 143 RX3 yX3_settles cX3_settles 9 none 1 := ⟨lw_V q2895 q2897 qs66 q104 q2898, by decide +kernel⟩
theorem mv_X3_146 : MV RX3 146 RX3 yX3_advanceIt cX3_advanceIt 5 (some .int) 1 := ⟨lw_V q2891 q2893 qs65 q104 q2894, by decide +kernel⟩
theorem ms_X3_149 : MS RX3 149 yX3_isRoom cX3_isRoom 1 (some .boolean) 1 := ⟨lw_S q2912 q2913 q104 q2914, by decide +kernel⟩
theorem mv_X3_152 : MV RX3 152 RX3 yX3_openIt cX3_openIt 5 (some .int) 2 := ⟨lw_V q2908 q2910 qs68 q104 q2911, by decide +kernel⟩
theorem mv_X3_155 : MV RX3 155 RX3 yX3_sealIt cX3_sealIt 5 (some .int) 2 := ⟨lw_V q2920 q2922 qs69 q104 q2923, by decide +kernel⟩
theorem mv_X3_158 : MV RX3 158 RX3 yX3_validBid cX3_validBid 3 (some .int) 1 := ⟨lw_V q2936 q2938 qs72 q104 q2939, by decide +kernel⟩
theorem mv_X3_161 : MV RX3 161 RX3 yX3_winnerNow cX3_winnerNow 4 (some .int) 0 := ⟨lw_V q2932 q2934 qs71 q104 q2935, by decide +kernel⟩
theorem ms_X3_165 : MS RX3 165 yJ14_max cJ14_max 2 (some .int) 2 := ⟨lw_S q2944 q697 q112 q698, by decide +kernel⟩
theorem mv_X3_168 : MV RX3 168 RX3 yX3_winnersPrice cX3_winnersPrice 3 (some .int) 0 := ⟨lw_V q2940 q2942 qs73 q104 q2943, by decide +kernel⟩
theorem mv_X3_171 : MV RX3 171 RX3 yX3_closeIt cX3_closeIt 4 (some .int) 0 := ⟨lw_V q2928 q2930 qs70 q104 q2931, by decide +kernel⟩
theorem mv_X3_174 : MV RX3 174 RX3 yX3_reservedFor cX3_reservedFor 7 (some .int) 2 := ⟨lw_V q2961 q2963 qs74 q104 q2964, by decide +kernel⟩
theorem mv_X3_178 : MV RX3 178 RX3 yX3_ofOrder cX3_ofOrder 4 (some .int) 2 := ⟨lw_V q2977 q2979 qs75 q104 q2980, by decide +kernel⟩
theorem mv_X3_181 : MV RX3 181 RX3 yX3_placeAtRank cX3_placeAtRank 8 (some .int) 2 := ⟨lw_V q2997 q2999 qs76 q104 q3000, by decide +kernel⟩
theorem mv_X3_184 : MV RX3 184 RX3 yX3_costToBuy cX3_costToBuy 7 (some .int) 1 := ⟨lw_V q3021 q3014 q3015 q104 q3016, by decide +kernel⟩
theorem mv_X3_187 : MV RX3 187 RX3 yX3_isContract cX3_isContract 2 (some .boolean) 1 := ⟨lw_V q3046 q3048 qs77 q104 q3049, by decide +kernel⟩
theorem mv_X3_190 : MV RX3 190 RX3 yX3_sideIn cX3_sideIn 4 (some .int) 2 := ⟨lw_V q3058 q3060 qs78 q104 q3061, by decide +kernel⟩
theorem mv_X3_193 : MV RX3 193 RX3 yX3_value cX3_value 5 (some .int) 2 := ⟨lw_V q3070 q3063 q3064 q104 q3065, by decide +kernel⟩
theorem mv_X3_196 : MV RX3 196 RX3 yX3_hasWinner cX3_hasWinner 1 (some .boolean) 0 := ⟨lw_V q3091 q3093 qs79 q104 q3094, by decide +kernel⟩
theorem mv_X3_203 : MV RX3 203 RX3 yX3_sign cX3_sign 2 none 1 := ⟨lw_V q3115 q3117 qs81 q104 q3118, by decide +kernel⟩
theorem mv_X3_206 : MV RX3 206 RX3 yX3_writesNumber cX3_writesNumber 3 none 1 := ⟨lw_V q3119 q3121 qs82 q104 q3122, by decide +kernel⟩
theorem mv_X3_209 : MV RX3 209 RX3 yX3_writesSide cX3_writesSide 4 none 1 := ⟨lw_V q3111 q3113 qs80 q104 q3114, by decide +kernel⟩
theorem mv_X3_213 : MV RX3 213 RX3 yX3_writesReserved cX3_writesReserved 2 none 1 := ⟨lw_V q3127 q3129 qs83 q104 q3130, by decide +kernel⟩
theorem mv_X3_229 : MV RX3 229 RX3 yX3_here cX3_here 1 (some .int) 0 := ⟨lw_V q3163 q3165 qs89 q104 q3166, by decide +kernel⟩
theorem mv_X3_236 : MV RX3 236 RX3 yX3_digit cX3_digit 2 (some .int) 0 := ⟨lw_V q3159 q3161 qs88 q104 q3162, by decide +kernel⟩
theorem mv_X3_239 : MV RX3 239 RX3 yX3_expects cX3_expects 2 none 1 := ⟨lw_V q3173 q3175 qs91 q104 q3176, by decide +kernel⟩
theorem mv_X3_242 : MV RX3 242 RX3 yX3_number cX3_number 3 (some .int) 0 := ⟨lw_V q3155 q3157 qs87 q104 q3158, by decide +kernel⟩
theorem mv_X3_245 : MV RX3 245 RX3 yX3_numberBehind cX3_numberBehind 2 (some .int) 1 := ⟨lw_V q3169 q3171 qs90 q104 q3172, by decide +kernel⟩
theorem mv_X3_251 : MV RX3 251 RX3 yX3_likeness cX3_likeness 4 (some .int) 1 := ⟨lw_V q3147 q3149 qs85 q104 q3150, by decide +kernel⟩
theorem mv_X3_254 : MV RX3 254 RX3 yX3_readArguments cX3_readArguments 3 none 2 := ⟨lw_V q3151 q3153 qs86 q104 q3154, by decide +kernel⟩
theorem mv_X3_258 : MV RX3 258 RX3 yX3_readCommand cX3_readCommand 4 none 0 := ⟨lw_V q3143 q3145 qs84 q104 q3146, by decide +kernel⟩
theorem mv_X3_261 : MV RX3 261 RX3 yX3_does cX3_does 5 none 1 := ⟨lw_V q3177 q3179 qs92 q104 q3180, by decide +kernel⟩
theorem mi_J4_3 : MI RJ4 3 yJ43_init cJ43_init 1 0 := ⟨q158, q3218, q283, q157, rfl, by decide +kernel⟩
theorem ms_J4_26 : MS RJ4 26 yJ7_newBytesFor cJ7_newBytesFor 1 (some (.array .byte)) 1 := ⟨lw_S q286 q287 q103 q288, by decide +kernel⟩
theorem mv_J4_32 : MV RJ4 32 RJ6 yJ6_length cJ6_length 1 (some .int) 0 := ⟨lw_V q1396 q1397 q1398 q102 q1399, by decide +kernel⟩
theorem mv_J4_40 : MV RJ4 40 RJ6 yJ6_coder cJ6_coder 1 (some .byte) 0 := ⟨lw_V q1408 q811 q812 q102 q813, by decide +kernel⟩
theorem ms_J4_87 : MS RJ4 87 yJ23_compareTo_2 cJ23_compareTo_2 6 (some .int) 4 := ⟨lw_S q982 q819 q123 q820, by decide +kernel⟩
theorem ms_J4_93 : MS RJ4 93 yJ7_compareTo_2 cJ7_compareTo_2 4 (some .int) 4 := ⟨lw_S q983 q984 q103 q985, by decide +kernel⟩
theorem ms_J4_94 : MS RJ4 94 yJ23_compareToUTF16_2 cJ23_compareToUTF16_2 4 (some .int) 4 := ⟨lw_S q997 q998 q123 q999, by decide +kernel⟩
theorem ms_J4_97 : MS RJ4 97 yJ7_compareToLatin1_2 cJ7_compareToLatin1_2 4 (some .int) 4 := ⟨lw_S q1001 q1002 q103 q1003, by decide +kernel⟩
theorem ms_J4_108 : MS RJ4 108 yJ15_copyOf_3 cJ15_copyOf_3 3 (some (.array .byte)) 2 := ⟨lw_S q1374 q1375 q113 q1376, by decide +kernel⟩
theorem ms_J4_114 : MS RJ4 114 yJ13_newLength cJ13_newLength 4 (some .int) 3 := ⟨lw_S q1372 q694 q111 q695, by decide +kernel⟩
theorem ms_J4_125 : MS RJ4 125 yJ23_inflate cJ23_inflate 5 none 5 := ⟨lw_S q1413 q1414 q123 q1415, by decide +kernel⟩
theorem mi_J4_131 : MI RJ4 131 yJ41_init cJ41_init 2 1 := ⟨q1349, q146, q1347, q1348, rfl, by decide +kernel⟩
theorem ms_J4_133 : MS RJ4 133 yJ23_fillNull cJ23_fillNull 3 none 3 := ⟨lw_S q1546 q1547 q123 q1548, by decide +kernel⟩
theorem ms_J4_137 : MS RJ4 137 yJ7_fillNull cJ7_fillNull 3 none 3 := ⟨lw_S q1581 q1582 q103 q1583, by decide +kernel⟩
theorem ms_J4_138 : MS RJ4 138 yJ14_min cJ14_min 2 (some .int) 2 := ⟨lw_S q2418 q749 q112 q750, by decide +kernel⟩
theorem ms_J4_144 : MS RJ4 144 yJ6_checkIndex cJ6_checkIndex 2 none 2 := ⟨lw_S q2419 q1639 q102 q1640, by decide +kernel⟩
theorem ms_J4_148 : MS RJ4 148 yJ7_getChar cJ7_getChar 2 (some .char) 2 := ⟨lw_S q2420 q940 q103 q941, by decide +kernel⟩
theorem ms_J4_191 : MS RJ4 191 yJ23_canEncode cJ23_canEncode 1 (some .boolean) 1 := ⟨lw_S q1629 q1630 q123 q1631, by decide +kernel⟩
theorem ms_J4_197 : MS RJ4 197 yJ7_putCharSB cJ7_putCharSB 3 none 3 := ⟨lw_S q1632 q1633 q103 q1634, by decide +kernel⟩
theorem ms_J4_226 : MS RJ4 226 yJ7_putCharsAt cJ7_putCharsAt 7 (some .int) 6 := ⟨lw_S q1384 q1385 q103 q1386, by decide +kernel⟩
theorem ms_J4_245 : MS RJ4 245 yJ21_stringSize cJ21_stringSize 4 (some .int) 1 := ⟨lw_S q1441 q1442 q121 q1443, by decide +kernel⟩
theorem ms_J4_248 : MS RJ4 248 yJ21_getChars cJ21_getChars 7 (some .int) 3 := ⟨lw_S q1444 q1445 q121 q1446, by decide +kernel⟩
theorem ms_J4_251 : MS RJ4 251 yJ7_getChars cJ7_getChars 5 (some .int) 4 := ⟨lw_S q1451 q1452 q103 q1453, by decide +kernel⟩
theorem mv_J4_399 : MV RJ4 399 RJ6 yJ6_getBytes cJ6_getBytes 4 none 3 := ⟨lw_V q1428 q1429 q1430 q102 q1431, by decide +kernel⟩
theorem mi_J40_1 : MI RJ40 1 yJ10_init cJ10_init 1 0 := ⟨q481, q107, q2312, q480, rfl, by decide +kernel⟩
theorem mi_J40_7 : MI RJ40 7 yJ10_init_2 cJ10_init_2 2 1 := ⟨q1507, q107, q2294, q1506, rfl, by decide +kernel⟩
theorem mi_J29_7 : MI RJ29 7 yJ28_init cJ28_init 2 1 := ⟨q1537, q129, q1578, q1536, rfl, by decide +kernel⟩
theorem mi_J29_12 : MI RJ29 12 yJ5_init cJ5_init 1 0 := ⟨q279, q101, q1573, q278, rfl, by decide +kernel⟩
theorem mv_J29_15 : MV RJ29 15 RJ5 yJ5_append cJ5_append 2 (some (.object "java/lang/StringBuilder")) 1 := ⟨lw_V q1575 q1354 q1355 q101 q1356, by decide +kernel⟩
theorem mv_J29_19 : MV RJ29 19 RJ5 yJ5_append_2 cJ5_append_2 2 (some (.object "java/lang/StringBuilder")) 1 := ⟨lw_V q1576 q1435 q1436 q101 q1437, by decide +kernel⟩
theorem mv_J29_22 : MV RJ29 22 RJ5 yJ5_toString cJ5_toString 1 (some (.object "java/lang/String")) 0 := ⟨lw_V q1577 q1460 q1461 q101 q1462, by decide +kernel⟩
theorem mi_J9_1 : MI RJ9 1 yJ8_init cJ8_init 1 0 := ⟨q453, q105, q485, q452, rfl, by decide +kernel⟩
theorem mi_J9_7 : MI RJ9 7 yJ8_init_2 cJ8_init_2 2 1 := ⟨q1513, q105, q1511, q1512, rfl, by decide +kernel⟩
theorem mi_J9_16 : MI RJ9 16 yJ8_init_3 cJ8_init_3 5 4 := ⟨q2533, q105, q2531, q2532, rfl, by decide +kernel⟩
theorem mi_J11_1 : MI RJ11 1 yJ10_init cJ10_init 1 0 := ⟨q481, q107, q661, q480, rfl, by decide +kernel⟩
theorem mi_J11_7 : MI RJ11 7 yJ10_init_2 cJ10_init_2 2 1 := ⟨q1507, q107, q1505, q1506, rfl, by decide +kernel⟩
theorem mi_J12_1 : MI RJ12 1 yJ10_init cJ10_init 1 0 := ⟨q481, q107, q1876, q480, rfl, by decide +kernel⟩
theorem mi_J12_7 : MI RJ12 7 yJ10_init_2 cJ10_init_2 2 1 := ⟨q1507, q107, q1917, q1506, rfl, by decide +kernel⟩
theorem mi_J28_1 : MI RJ28 1 yJ10_init cJ10_init 1 0 := ⟨q481, q107, q1957, q480, rfl, by decide +kernel⟩
theorem mi_J28_7 : MI RJ28 7 yJ10_init_2 cJ10_init_2 2 1 := ⟨q1507, q107, q1538, q1506, rfl, by decide +kernel⟩
theorem mi_J21_199 : MI RJ21 199 yJ21_init cJ21_init 2 1 := ⟨q1105, q121, q1103, q1104, rfl, by decide +kernel⟩
theorem mi_J21_202 : MI RJ21 202 yJ20_init cJ20_init 1 0 := ⟨q1108, q120, q1106, q1107, rfl, by decide +kernel⟩
theorem ms_J21_259 : MS RJ21 259 yJ21_compare cJ21_compare 2 (some .int) 2 := ⟨lw_S q798 q777 q121 q778, by decide +kernel⟩
theorem mv_J21_284 : MV RJ21 284 RJ21 yJ21_compareTo_2 cJ21_compareTo_2 2 (some .int) 1 := ⟨lw_V q794 q795 q796 q121 q797, by decide +kernel⟩
theorem ms_J35_308 : MS RJ35 308 yJ21_numberOfLeadingZeros cJ21_numberOfLeadingZeros 2 (some .int) 1 := ⟨lw_S q893 q894 q121 q895, by decide +kernel⟩
theorem ms_J35_311 : MS RJ35 311 yJ21_numberOfTrailingZeros cJ21_numberOfTrailingZeros 2 (some .int) 1 := ⟨lw_S q902 q903 q121 q904, by decide +kernel⟩
theorem mi_J20_1 : MI RJ20 1 yJ43_init cJ43_init 1 0 := ⟨q158, q3218, q1109, q157, rfl, by decide +kernel⟩
theorem mi_J36_1 : MI RJ36 1 yJ43_init cJ43_init 1 0 := ⟨q158, q3218, q2059, q157, rfl, by decide +kernel⟩
theorem mi_J10_1 : MI RJ10 1 yJ9_init cJ9_init 1 0 := ⟨q484, q106, q482, q483, rfl, by decide +kernel⟩
theorem mi_J10_7 : MI RJ10 7 yJ9_init_2 cJ9_init_2 2 1 := ⟨q1510, q106, q1508, q1509, rfl, by decide +kernel⟩
theorem mi_J6_1 : MI RJ6 1 yJ43_init cJ43_init 1 0 := ⟨q158, q3218, q1471, q157, rfl, by decide +kernel⟩
theorem ms_J6_47 : MS RJ6 47 yJ7_coderFromArrayLen cJ7_coderFromArrayLen 2 (some .byte) 2 := ⟨lw_S q1521 q1522 q103 q1523, by decide +kernel⟩
theorem ms_J6_54 : MS RJ6 54 yJ15_copyOfRange cJ15_copyOfRange 3 (some (.array .byte)) 3 := ⟨lw_S q1486 q1487 q113 q1488, by decide +kernel⟩
theorem ms_J6_106 : MS RJ6 106 yJ23_inflate cJ23_inflate 5 none 5 := ⟨lw_S q1433 q1414 q123 q1415, by decide +kernel⟩
theorem mv_J6_335 : MV RJ6 335 RJ6 yJ6_coder cJ6_coder 1 (some .byte) 0 := ⟨lw_V q810 q811 q812 q102 q813, by decide +kernel⟩
theorem mi_J6_489 : MI RJ6 489 yJ6_init_2 cJ6_init_2 5 2 := ⟨q1470, q102, q1468, q1469, rfl, by decide +kernel⟩
theorem mv_J6_492 : MV RJ6 492 RJ6 yJ6_isLatin1 cJ6_isLatin1 1 (some .boolean) 0 := ⟨lw_V q2472 q2473 q2474 q102 q2475, by decide +kernel⟩
theorem ms_J6_495 : MS RJ6 495 yJ23_charAt cJ23_charAt 2 (some .char) 2 := ⟨lw_S q2558 q2559 q123 q2560, by decide +kernel⟩
theorem ms_J6_498 : MS RJ6 498 yJ7_charAt cJ7_charAt 2 (some .char) 2 := ⟨lw_S q2562 q2563 q103 q2564, by decide +kernel⟩
theorem mv_J6_505 : MV RJ6 505 RJ6 yJ6_length cJ6_length 1 (some .int) 0 := ⟨lw_V q2476 q1397 q1398 q102 q1399, by decide +kernel⟩
theorem ms_J6_586 : MS RJ6 586 yJ23_compareTo cJ23_compareTo 4 (some .int) 2 := ⟨lw_S q815 q816 q123 q817, by decide +kernel⟩
theorem ms_J6_590 : MS RJ6 590 yJ7_compareTo cJ7_compareTo 4 (some .int) 2 := ⟨lw_S q929 q930 q103 q931, by decide +kernel⟩
theorem ms_J6_591 : MS RJ6 591 yJ23_compareToUTF16 cJ23_compareToUTF16 4 (some .int) 2 := ⟨lw_S q948 q949 q123 q950, by decide +kernel⟩
theorem ms_J6_594 : MS RJ6 594 yJ7_compareToLatin1 cJ7_compareToLatin1 2 (some .int) 2 := ⟨lw_S q959 q960 q103 q961, by decide +kernel⟩
theorem mv_J6_633 : MV RJ6 633 RJ6 yJ6_indexOf_2 cJ6_indexOf_2 3 (some .int) 2 := ⟨lw_V q2468 q2469 q2470 q102 q2471, by decide +kernel⟩
theorem ms_J6_637 : MS RJ6 637 yJ23_indexOf cJ23_indexOf 4 (some .int) 4 := ⟨lw_S q2477 q2478 q123 q2479, by decide +kernel⟩
theorem ms_J6_640 : MS RJ6 640 yJ7_indexOf cJ7_indexOf 4 (some .int) 4 := ⟨lw_S q2487 q2488 q103 q2489, by decide +kernel⟩
theorem ms_J6_1051 : MS RJ6 1051 yJ7_compress cJ7_compress 6 (some (.array .byte)) 3 := ⟨lw_S q1514 q1515 q103 q1516, by decide +kernel⟩
theorem ms_J6_1059 : MS RJ6 1059 yJ22_checkIndex cJ22_checkIndex 3 (some .int) 3 := ⟨lw_S q1641 q600 q122 q601, by decide +kernel⟩
theorem ms_J6_1062 : MS RJ6 1062 yJ22_checkFromToIndex cJ22_checkFromToIndex 4 (some .int) 4 := ⟨lw_S q994 q995 q122 q996, by decide +kernel⟩
theorem ms_J6_1065 : MS RJ6 1065 yJ22_checkFromIndexSize cJ22_checkFromIndexSize 4 (some .int) 4 := ⟨lw_S q1425 q1426 q122 q1427, by decide +kernel⟩
theorem mv_J6_1084 : MV RJ6 1084 RJ6 yJ6_compareTo_2 cJ6_compareTo_2 5 (some .int) 1 := ⟨lw_V q806 q807 q808 q102 q809, by decide +kernel⟩
theorem mi_J5_1 : MI RJ5 1 yJ4_init cJ4_init 2 1 := ⟨q282, q100, q280, q281, rfl, by decide +kernel⟩
theorem mi_J5_137 : MI RJ5 137 yJ6_init cJ6_init 2 1 := ⟨q1467, q102, q1465, q1466, rfl, by decide +kernel⟩
theorem mv_J5_346 : MV RJ5 346 RJ5 yJ5_compareTo_2 cJ5_compareTo_2 2 (some .int) 1 := ⟨lw_V q970 q971 q972 q101 q973, by decide +kernel⟩
theorem mi_J41_7 : MI RJ41 7 yJ28_init cJ28_init 2 1 := ⟨q1537, q129, q1535, q1536, rfl, by decide +kernel⟩
theorem mi_J41_12 : MI RJ41 12 yJ5_init cJ5_init 1 0 := ⟨q279, q101, q1351, q278, rfl, by decide +kernel⟩
theorem mv_J41_15 : MV RJ41 15 RJ5 yJ5_append cJ5_append 2 (some (.object "java/lang/StringBuilder")) 1 := ⟨lw_V q1353 q1354 q1355 q101 q1356, by decide +kernel⟩
theorem mv_J41_19 : MV RJ41 19 RJ5 yJ5_append_2 cJ5_append_2 2 (some (.object "java/lang/StringBuilder")) 1 := ⟨lw_V q1434 q1435 q1436 q101 q1437, by decide +kernel⟩
theorem mv_J41_22 : MV RJ41 22 RJ5 yJ5_toString cJ5_toString 1 (some (.object "java/lang/String")) 0 := ⟨lw_V q1459 q1460 q1461 q101 q1462, by decide +kernel⟩
theorem ms_J23_9 : MS RJ23 9 yJ6_checkIndex cJ6_checkIndex 2 none 2 := ⟨lw_S q2561 q1639 q102 q1640, by decide +kernel⟩
theorem ms_J23_34 : MS RJ23 34 yJ23_compareTo_2 cJ23_compareTo_2 6 (some .int) 4 := ⟨lw_S q818 q819 q123 q820, by decide +kernel⟩
theorem ms_J23_38 : MS RJ23 38 yJ14_min cJ14_min 2 (some .int) 2 := ⟨lw_S q821 q749 q112 q750, by decide +kernel⟩
theorem ms_J23_44 : MS RJ23 44 yJ13_mismatch cJ13_mismatch 4 (some .int) 3 := ⟨lw_S q822 q823 q111 q824, by decide +kernel⟩
theorem ms_J23_50 : MS RJ23 50 yJ23_getChar cJ23_getChar 2 (some .char) 2 := ⟨lw_S q926 q927 q123 q928, by decide +kernel⟩
theorem ms_J23_54 : MS RJ23 54 yJ23_length cJ23_length 1 (some .int) 1 := ⟨lw_S q951 q952 q123 q953, by decide +kernel⟩
theorem ms_J23_58 : MS RJ23 58 yJ7_length cJ7_length 1 (some .int) 1 := ⟨lw_S q954 q933 q103 q934, by decide +kernel⟩
theorem ms_J23_59 : MS RJ23 59 yJ23_compareToUTF16Values cJ23_compareToUTF16Values 8 (some .int) 4 := ⟨lw_S q955 q956 q123 q957, by decide +kernel⟩
theorem ms_J23_62 : MS RJ23 62 yJ6_checkOffset cJ6_checkOffset 2 none 2 := ⟨lw_S q1000 q990 q102 q991, by decide +kernel⟩
theorem ms_J23_65 : MS RJ23 65 yJ7_getChar cJ7_getChar 2 (some .char) 2 := ⟨lw_S q958 q940 q103 q941, by decide +kernel⟩
theorem ms_J23_88 : MS RJ23 88 yJ23_canEncode_2 cJ23_canEncode_2 1 (some .boolean) 1 := ⟨lw_S q2480 q2481 q123 q2482, by decide +kernel⟩
theorem ms_J23_92 : MS RJ23 92 yJ14_max cJ14_max 2 (some .int) 2 := ⟨lw_S q2483 q697 q112 q698, by decide +kernel⟩
theorem ms_J23_95 : MS RJ23 95 yJ23_indexOfChar cJ23_indexOfChar 6 (some .int) 4 := ⟨lw_S q2484 q2485 q123 q2486, by decide +kernel⟩
theorem ms_J23_236 : MS RJ23 236 yJ15_fill cJ15_fill 5 none 4 := ⟨lw_S q1549 q1550 q113 q1551, by decide +kernel⟩
theorem ms_J23_240 : MS RJ23 240 yJ7_inflate cJ7_inflate 6 none 5 := ⟨lw_S q1416 q1417 q103 q1418, by decide +kernel⟩
theorem ms_J7_11 : MS RJ7 11 yJ7_newBytesLength cJ7_newBytesLength 1 (some .int) 1 := ⟨lw_S q289 q290 q103 q291, by decide +kernel⟩
theorem ms_J7_48 : MS RJ7 48 yJ7_length cJ7_length 1 (some .int) 1 := ⟨lw_S q932 q933 q103 q934, by decide +kernel⟩
theorem ms_J7_67 : MS RJ7 67 yJ7_checkIndex cJ7_checkIndex 2 none 2 := ⟨lw_S q1635 q1636 q103 q1637, by decide +kernel⟩
theorem ms_J7_71 : MS RJ7 71 yJ7_getChar cJ7_getChar 2 (some .char) 2 := ⟨lw_S q939 q940 q103 q941, by decide +kernel⟩
theorem ms_J7_96 : MS RJ7 96 yJ7_checkBoundsBeginEnd cJ7_checkBoundsBeginEnd 3 none 3 := ⟨lw_S q1387 q1388 q103 q1389, by decide +kernel⟩
theorem ms_J7_111 : MS RJ7 111 yJ7_putChar cJ7_putChar 3 none 3 := ⟨lw_S q1393 q1394 q103 q1395, by decide +kernel⟩
theorem ms_J7_123 : MS RJ7 123 yJ7_compress_2 cJ7_compress_2 7 (some .int) 5 := ⟨lw_S q1517 q1518 q103 q1519, by decide +kernel⟩
theorem ms_J7_126 : MS RJ7 126 yJ15_copyOfRange cJ15_copyOfRange 3 (some (.array .byte)) 3 := ⟨lw_S q1520 q1487 q113 q1488, by decide +kernel⟩
theorem ms_J7_157 : MS RJ7 157 yJ42_highSurrogate cJ42_highSurrogate 1 (some .char) 1 := ⟨lw_S q2504 q2505 q148 q2506, by decide +kernel⟩
theorem ms_J7_161 : MS RJ7 161 yJ42_lowSurrogate cJ42_lowSurrogate 1 (some .char) 1 := ⟨lw_S q2508 q2509 q148 q2510, by decide +kernel⟩
theorem ms_J7_164 : MS RJ7 164 yJ42_isValidCodePoint cJ42_isValidCodePoint 2 (some .boolean) 1 := ⟨lw_S q2501 q2502 q148 q2503, by decide +kernel⟩
theorem ms_J7_173 : MS RJ7 173 yJ7_checkBoundsOffCount cJ7_checkBoundsOffCount 3 none 3 := ⟨lw_S q1419 q1420 q103 q1421, by decide +kernel⟩
theorem ms_J7_176 : MS RJ7 176 yJ7_compareValues cJ7_compareValues 8 (some .int) 4 := ⟨lw_S q935 q936 q103 q937, by decide +kernel⟩
theorem ms_J7_180 : MS RJ7 180 yJ7_checkOffset cJ7_checkOffset 2 none 2 := ⟨lw_S q986 q987 q103 q988, by decide +kernel⟩
theorem ms_J7_183 : MS RJ7 183 yJ14_min cJ14_min 2 (some .int) 2 := ⟨lw_S q938 q749 q112 q750, by decide +kernel⟩
theorem ms_J7_189 : MS RJ7 189 yJ23_compareToUTF16 cJ23_compareToUTF16 4 (some .int) 2 := ⟨lw_S q962 q949 q123 q950, by decide +kernel⟩
theorem ms_J7_193 : MS RJ7 193 yJ23_compareToUTF16_2 cJ23_compareToUTF16_2 4 (some .int) 4 := ⟨lw_S q1004 q998 q123 q999, by decide +kernel⟩
theorem ms_J7_224 : MS RJ7 224 yJ14_max cJ14_max 2 (some .int) 2 := ⟨lw_S q2490 q697 q112 q698, by decide +kernel⟩
theorem ms_J7_228 : MS RJ7 228 yJ7_indexOfChar cJ7_indexOfChar 4 (some .int) 4 := ⟨lw_S q2492 q2493 q103 q2494, by decide +kernel⟩
theorem ms_J7_232 : MS RJ7 232 yJ7_indexOfSupplementary cJ7_indexOfSupplementary 7 (some .int) 4 := ⟨lw_S q2498 q2499 q103 q2500, by decide +kernel⟩
theorem ms_J7_241 : MS RJ7 241 yJ6_checkBoundsBeginEnd cJ6_checkBoundsBeginEnd 3 none 3 := ⟨lw_S q1390 q1391 q102 q1392, by decide +kernel⟩
theorem ms_J7_244 : MS RJ7 244 yJ7_indexOfCharUnsafe cJ7_indexOfCharUnsafe 5 (some .int) 4 := ⟨lw_S q2495 q2496 q103 q2497, by decide +kernel⟩
theorem ms_J7_380 : MS RJ7 380 yJ15_fill cJ15_fill 5 none 4 := ⟨lw_S q1584 q1550 q113 q1551, by decide +kernel⟩
theorem ms_J7_393 : MS RJ7 393 yJ7_getChars_2 cJ7_getChars_2 7 (some .int) 3 := ⟨lw_S q1454 q1455 q103 q1456, by decide +kernel⟩
theorem ms_J7_414 : MS RJ7 414 yJ6_checkIndex cJ6_checkIndex 2 none 2 := ⟨lw_S q1638 q1639 q102 q1640, by decide +kernel⟩
theorem ms_J7_417 : MS RJ7 417 yJ6_checkOffset cJ6_checkOffset 2 none 2 := ⟨lw_S q989 q990 q102 q991, by decide +kernel⟩
theorem ms_J7_419 : MS RJ7 419 yJ6_checkBoundsOffCount cJ6_checkBoundsOffCount 3 (some .int) 3 := ⟨lw_S q1422 q1423 q102 q1424, by decide +kernel⟩
theorem mi_J8_1 : MI RJ8 1 yJ43_init cJ43_init 1 0 := ⟨q158, q3218, q454, q157, rfl, by decide +kernel⟩
theorem mi_J31_1 : MI RJ31 1 yJ10_init cJ10_init 1 0 := ⟨q481, q107, q1976, q480, rfl, by decide +kernel⟩
theorem mi_J0_1 : MI RJ0 1 yJ43_init cJ43_init 1 0 := ⟨q158, q3218, q176, q157, rfl, by decide +kernel⟩
theorem ms_J0_31 : MS RJ0 31 yJ15_copyOf cJ15_copyOf 2 (some (.array (.object "java/lang/Object"))) 2 := ⟨lw_S q1806 q704 q113 q705, by decide +kernel⟩
theorem ms_J0_37 : MS RJ0 37 yJ0_finishToArray cJ0_finishToArray 4 (some (.array (.object "java/lang/Object"))) 2 := ⟨lw_S q1809 q1810 q96 q1811, by decide +kernel⟩
theorem ms_J0_64 : MS RJ0 64 yJ13_newLength cJ13_newLength 4 (some .int) 3 := ⟨lw_S q1812 q694 q111 q695, by decide +kernel⟩
theorem mi_J1_1 : MI RJ1 1 yJ0_init cJ0_init 1 0 := ⟨q175, q96, q173, q174, rfl, by decide +kernel⟩
theorem mi_J18_1 : MI RJ18 1 yJ43_init cJ43_init 1 0 := ⟨q158, q3218, q1069, q157, rfl, by decide +kernel⟩
theorem mi_J32_1 : MI RJ32 1 yJ0_init cJ0_init 1 0 := ⟨q175, q96, q648, q174, rfl, by decide +kernel⟩
theorem mi_J38_1 : MI RJ38 1 yJ0_init cJ0_init 1 0 := ⟨q175, q96, q1231, q174, rfl, by decide +kernel⟩
theorem mv_J3_10 : MV RJ3 10 RJ3 yJ3_newCapacity cJ3_newCapacity 5 (some .int) 2 := ⟨lw_V q1908 q1910 qs19 q99 q1911, by decide +kernel⟩
theorem ms_J3_14 : MS RJ3 14 yJ15_copyOf cJ15_copyOf 2 (some (.array (.object "java/lang/Object"))) 2 := ⟨lw_S q1919 q704 q113 q705, by decide +kernel⟩
theorem mi_J3_37 : MI RJ3 37 yJ12_init_2 cJ12_init_2 2 1 := ⟨q1916, q109, q1914, q1915, rfl, by decide +kernel⟩
theorem mi_J3_42 : MI RJ3 42 yJ0_init cJ0_init 1 0 := ⟨q175, q96, q260, q174, rfl, by decide +kernel⟩
theorem ms_J3_68 : MS RJ3 68 yJ3_dec cJ3_dec 2 (some .int) 2 := ⟨lw_S q2700 q2701 q99 q2702, by decide +kernel⟩
theorem mv_J3_71 : MV RJ3 71 RJ3 yJ3_grow cJ3_grow 9 none 1 := ⟨lw_V q1903 q1905 qs18 q99 q1906, by decide +kernel⟩
theorem ms_J3_74 : MS RJ3 74 yJ3_inc cJ3_inc 2 (some .int) 2 := ⟨lw_S q532 q503 q99 q504, by decide +kernel⟩
theorem mv_J3_93 : MV RJ3 93 RJ3 yJ3_pollFirst cJ3_pollFirst 4 (some (.object "java/lang/Object")) 0 := ⟨lw_V q525 q526 q527 q99 q528, by decide +kernel⟩
theorem mi_J3_99 : MI RJ3 99 yJ17_init cJ17_init 1 0 := ⟨q478, q116, q1898, q477, rfl, by decide +kernel⟩
theorem mv_J3_100 : MV RJ3 100 RJ3 yJ3_pollLast cJ3_pollLast 4 (some (.object "java/lang/Object")) 0 := ⟨lw_V q2696 q2697 q2698 q99 q2699, by decide +kernel⟩
theorem ms_J3_103 : MS RJ3 103 yJ3_elementAt cJ3_elementAt 2 (some (.object "java/lang/Object")) 2 := ⟨lw_S q529 q530 q99 q531, by decide +kernel⟩
theorem ms_J3_127 : MS RJ3 127 yJ3_sub cJ3_sub 3 (some .int) 3 := ⟨lw_S q1017 q1018 q99 q1019, by decide +kernel⟩
theorem mi_J3_133 : MI RJ3 133 yJ24_init cJ24_init 2 1 := ⟨q1758, q124, q1756, q1757, rfl, by decide +kernel⟩
theorem ms_J3_181 : MS RJ3 181 yJ3_circularClear cJ3_circularClear 4 none 3 := ⟨lw_S q2714 q2715 q99 q2716, by decide +kernel⟩
theorem mv_J3_189 : MV RJ3 189 RJ3 yJ3_toArray_2 cJ3_toArray_2 7 (some (.array (.object "java/lang/Object"))) 1 := ⟨lw_V q1721 q1723 qs15 q99 q1724, by decide +kernel⟩
theorem ms_J3_193 : MS RJ3 193 yJ15_copyOfRange_2 cJ15_copyOfRange_2 6 (some (.array (.object "java/lang/Object"))) 4 := ⟨lw_S q1725 q1726 q113 q1727, by decide +kernel⟩
theorem mi_J24_7 : MI RJ24 7 yJ43_init cJ43_init 1 0 := ⟨q158, q3218, q1759, q157, rfl, by decide +kernel⟩
theorem mv_J24_13 : MV RJ24 13 RJ3 yJ3_size cJ3_size 1 (some .int) 0 := ⟨lw_V q1760 q1015 q3216 q99 q1016, by decide +kernel⟩
theorem mi_J24_34 : MI RJ24 34 yJ17_init cJ17_init 1 0 := ⟨q478, q116, q476, q477, rfl, by decide +kernel⟩
theorem ms_J24_39 : MS RJ24 39 yJ3_nonNullElementAt cJ3_nonNullElementAt 3 (some (.object "java/lang/Object")) 2 := ⟨lw_S q499 q500 q99 q501, by decide +kernel⟩
theorem ms_J24_43 : MS RJ24 43 yJ3_inc cJ3_inc 2 (some .int) 2 := ⟨lw_S q502 q503 q99 q504, by decide +kernel⟩
theorem mi_J2_1 : MI RJ2 1 yJ1_init cJ1_init 1 0 := ⟨q172, q97, q170, q171, rfl, by decide +kernel⟩
theorem ms_J2_66 : MS RJ2 66 yJ15_copyOf cJ15_copyOf 2 (some (.array (.object "java/lang/Object"))) 2 := ⟨lw_S q1610 q704 q113 q705, by decide +kernel⟩
theorem mv_J2_69 : MV RJ2 69 RJ2 yJ2_grow_2 cJ2_grow_2 4 (some (.array (.object "java/lang/Object"))) 1 := ⟨lw_V q1605 q1607 qs14 q98 q1608, by decide +kernel⟩
theorem ms_J2_73 : MS RJ2 73 yJ13_newLength cJ13_newLength 4 (some .int) 3 := ⟨lw_S q1609 q694 q111 q695, by decide +kernel⟩
theorem ms_J2_79 : MS RJ2 79 yJ14_max cJ14_max 2 (some .int) 2 := ⟨lw_S q1611 q697 q112 q698, by decide +kernel⟩
theorem ms_J2_118 : MS RJ2 118 yJ30_checkIndex cJ30_checkIndex 2 (some .int) 2 := ⟨lw_S q596 q597 q131 q598, by decide +kernel⟩
theorem mv_J2_123 : MV RJ2 123 RJ2 yJ2_elementData cJ2_elementData 2 (some (.object "java/lang/Object")) 1 := ⟨lw_V q602 q603 q604 q98 q605, by decide +kernel⟩
theorem mv_J2_129 : MV RJ2 129 RJ2 yJ2_grow cJ2_grow 1 (some (.array (.object "java/lang/Object"))) 0 := ⟨lw_V q1601 q1603 qs13 q98 q1604, by decide +kernel⟩
theorem mv_J2_131 : MV RJ2 131 RJ2 yJ2_add_2 cJ2_add_2 4 none 3 := ⟨lw_V q1597 q1599 qs12 q98 q1600, by decide +kernel⟩
theorem mv_J2_144 : MV RJ2 144 RJ2 yJ2_fastRemove cJ2_fastRemove 4 none 2 := ⟨lw_V q1999 q2001 qs23 q98 q2002, by decide +kernel⟩
theorem mi_J2_269 : MI RJ2 269 yJ16_init cJ16_init 2 1 := ⟨q373, q115, q371, q372, rfl, by decide +kernel⟩
theorem mi_J16_7 : MI RJ16 7 yJ43_init cJ43_init 1 0 := ⟨q158, q3218, q374, q157, rfl, by decide +kernel⟩
theorem mv_J16_31 : MV RJ16 31 RJ16 yJ16_checkForComodification cJ16_checkForComodification 1 none 0 := ⟨lw_V q510 q511 q512 q115 q513, by decide +kernel⟩
theorem mi_J16_36 : MI RJ16 36 yJ17_init cJ17_init 1 0 := ⟨q478, q116, q515, q477, rfl, by decide +kernel⟩
theorem ms_J15_13 : MS RJ15 13 yJ15_rangeCheck cJ15_rangeCheck 3 none 3 := ⟨lw_S q1552 q1553 q113 q1554, by decide +kernel⟩
theorem mi_J15_47 : MI RJ15 47 yJ5_init cJ5_init 1 0 := ⟨q279, q101, q1497, q278, rfl, by decide +kernel⟩
theorem mv_J15_50 : MV RJ15 50 RJ5 yJ5_append cJ5_append 2 (some (.object "java/lang/StringBuilder")) 1 := ⟨lw_V q1500 q1354 q1355 q101 q1356, by decide +kernel⟩
theorem mv_J15_54 : MV RJ15 54 RJ5 yJ5_append_2 cJ5_append_2 2 (some (.object "java/lang/StringBuilder")) 1 := ⟨lw_V q1498 q1435 q1436 q101 q1437, by decide +kernel⟩
theorem mv_J15_61 : MV RJ15 61 RJ5 yJ5_toString cJ5_toString 1 (some (.object "java/lang/String")) 0 := ⟨lw_V q1501 q1460 q1461 q101 q1462, by decide +kernel⟩
theorem mi_J15_65 : MI RJ15 65 yJ11_init_2 cJ11_init_2 2 1 := ⟨q1504, q108, q1502, q1503, rfl, by decide +kernel⟩
theorem mi_J15_70 : MI RJ15 70 yJ29_init cJ29_init 2 1 := ⟨q1571, q130, q1569, q1570, rfl, by decide +kernel⟩
theorem ms_J15_300 : MS RJ15 300 yJ15_copyOf_2 cJ15_copyOf_2 4 (some (.array (.object "java/lang/Object"))) 3 := ⟨lw_S q743 q744 q113 q745, by decide +kernel⟩
theorem ms_J15_304 : MS RJ15 304 yJ14_min cJ14_min 2 (some .int) 2 := ⟨lw_S q748 q749 q112 q750, by decide +kernel⟩
theorem ms_J15_339 : MS RJ15 339 yJ15_copyOfRangeByte cJ15_copyOfRangeByte 5 (some (.array .byte)) 3 := ⟨lw_S q1489 q1490 q113 q1491, by decide +kernel⟩
theorem ms_J15_343 : MS RJ15 343 yJ15_checkLength cJ15_checkLength 2 none 2 := ⟨lw_S q1492 q1493 q113 q1494, by decide +kernel⟩
theorem mi_J17_1 : MI RJ17 1 yJ10_init cJ10_init 1 0 := ⟨q481, q107, q479, q480, rfl, by decide +kernel⟩
theorem ms_J30_105 : MS RJ30 105 yJ22_checkIndex cJ22_checkIndex 3 (some .int) 3 := ⟨lw_S q599 q600 q122 q601, by decide +kernel⟩
theorem mi_J33_3 : MI RJ33 3 yJ33_init_2 cJ33_init_2 3 2 := ⟨q644, q134, q642, q643, rfl, by decide +kernel⟩
theorem mi_J33_7 : MI RJ33 7 yJ32_init cJ32_init 1 0 := ⟨q647, q133, q645, q646, rfl, by decide +kernel⟩
theorem mi_J33_14 : MI RJ33 14 yJ11_init cJ11_init 1 0 := ⟨q660, q108, q658, q659, rfl, by decide +kernel⟩
theorem ms_J33_80 : MS RJ33 80 yJ13_newLength cJ13_newLength 4 (some .int) 3 := ⟨lw_S q693 q694 q111 q695, by decide +kernel⟩
theorem ms_J33_86 : MS RJ33 86 yJ15_copyOf cJ15_copyOf 2 (some (.array (.object "java/lang/Object"))) 2 := ⟨lw_S q703 q704 q113 q705, by decide +kernel⟩
theorem mv_J33_89 : MV RJ33 89 RJ33 yJ33_offer cJ33_offer 3 (some .boolean) 1 := ⟨lw_V q685 q686 q687 q134 q688, by decide +kernel⟩
theorem mv_J33_96 : MV RJ33 96 RJ33 yJ33_grow cJ33_grow 4 none 1 := ⟨lw_V q689 q691 qs3 q134 q692, by decide +kernel⟩
theorem mv_J33_100 : MV RJ33 100 RJ33 yJ33_siftUp cJ33_siftUp 3 none 2 := ⟨lw_V q754 q756 qs4 q134 q757, by decide +kernel⟩
theorem mi_J33_123 : MI RJ33 123 yJ25_init cJ25_init 2 1 := ⟨q1782, q125, q1780, q1781, rfl, by decide +kernel⟩
theorem ms_J33_125 : MS RJ33 125 yJ33_siftDownComparable cJ33_siftDownComparable 9 none 4 := ⟨lw_S q1050 q1051 q134 q1052, by decide +kernel⟩
theorem ms_J33_129 : MS RJ33 129 yJ33_siftDownUsingComparator cJ33_siftDownUsingComparator 9 none 5 := ⟨lw_S q1053 q1054 q134 q1055, by decide +kernel⟩
theorem ms_J33_136 : MS RJ33 136 yJ33_siftUpUsingComparator cJ33_siftUpUsingComparator 6 none 4 := ⟨lw_S q758 q759 q134 q760, by decide +kernel⟩
theorem ms_J33_140 : MS RJ33 140 yJ33_siftUpComparable cJ33_siftUpComparable 6 none 3 := ⟨lw_S q779 q780 q134 q781, by decide +kernel⟩
theorem mi_J25_7 : MI RJ25 7 yJ43_init cJ43_init 1 0 := ⟨q158, q3218, q1783, q157, rfl, by decide +kernel⟩
theorem mv_J25_35 : MV RJ25 35 RJ3 yJ3_isEmpty cJ3_isEmpty 1 (some .boolean) 0 := ⟨lw_V q410 q411 q412 q99 q413, by decide +kernel⟩
theorem mv_J25_48 : MV RJ25 48 RJ3 yJ3_poll cJ3_poll 1 (some (.object "java/lang/Object")) 0 := ⟨lw_V q521 q522 q523 q99 q524, by decide +kernel⟩
theorem mi_J25_58 : MI RJ25 58 yJ17_init cJ17_init 1 0 := ⟨q478, q116, q534, q477, rfl, by decide +kernel⟩
theorem mi_J19_1 : MI RJ19 1 yJ18_init cJ18_init 1 0 := ⟨q1068, q117, q1066, q1067, rfl, by decide +kernel⟩
theorem mv_J19_50 : MV RJ19 50 RJ19 yJ19_getEntry cJ19_getEntry 5 (some (.object "java/util/TreeMap$Entry")) 1 := ⟨lw_V q1118 q1119 q1120 q118 q1121, by decide +kernel⟩
theorem mv_J19_92 : MV RJ19 92 RJ19 yJ19_getEntryUsingComparator cJ19_getEntryUsingComparator 6 (some (.object "java/util/TreeMap$Entry")) 1 := ⟨lw_V q1122 q1123 q1124 q118 q1125, by decide +kernel⟩
theorem ms_J19_95 : MS RJ19 95 yJ30_requireNonNull cJ30_requireNonNull 1 (some (.object "java/lang/Object")) 1 := ⟨lw_S q1128 q1129 q131 q1130, by decide +kernel⟩
theorem mv_J19_123 : MV RJ19 123 RJ19 yJ19_compare cJ19_compare 3 (some .int) 2 := ⟨lw_V q1155 q1156 q1157 q118 q1158, by decide +kernel⟩
theorem mv_J19_127 : MV RJ19 127 RJ19 yJ19_put_2 cJ19_put_2 10 (some (.object "java/lang/Object")) 3 := ⟨lw_V q1147 q1149 qs5 q118 q1150, by decide +kernel⟩
theorem mv_J19_135 : MV RJ19 135 RJ19 yJ19_addEntryToEmptyMap cJ19_addEntryToEmptyMap 3 none 2 := ⟨lw_V q1151 q1153 qs6 q118 q1154, by decide +kernel⟩
theorem mv_J19_139 : MV RJ19 139 RJ19 yJ19_addEntry cJ19_addEntry 6 none 4 := ⟨lw_V q1188 q1190 qs7 q118 q1191, by decide +kernel⟩
theorem mi_J19_167 : MI RJ19 167 yJ37_init cJ37_init 4 3 := ⟨q1163, q142, q1161, q1162, rfl, by decide +kernel⟩
theorem mv_J19_170 : MV RJ19 170 RJ19 yJ19_fixAfterInsertion cJ19_fixAfterInsertion 3 none 1 := ⟨lw_V q1192 q1194 qs8 q118 q1195, by decide +kernel⟩
theorem mi_J19_244 : MI RJ19 244 yJ39_init cJ39_init 2 1 := ⟨q1227, q144, q1225, q1226, rfl, by decide +kernel⟩
theorem ms_J19_294 : MS RJ19 294 yJ19_parentOf cJ19_parentOf 1 (some (.object "java/util/TreeMap$Entry")) 1 := ⟨lw_S q1196 q1197 q118 q1198, by decide +kernel⟩
theorem ms_J19_297 : MS RJ19 297 yJ19_leftOf cJ19_leftOf 1 (some (.object "java/util/TreeMap$Entry")) 1 := ⟨lw_S q1199 q1200 q118 q1201, by decide +kernel⟩
theorem ms_J19_300 : MS RJ19 300 yJ19_rightOf cJ19_rightOf 1 (some (.object "java/util/TreeMap$Entry")) 1 := ⟨lw_S q1202 q1203 q118 q1204, by decide +kernel⟩
theorem ms_J19_303 : MS RJ19 303 yJ19_colorOf cJ19_colorOf 1 (some .boolean) 1 := ⟨lw_S q1205 q1206 q118 q1207, by decide +kernel⟩
theorem ms_J19_307 : MS RJ19 307 yJ19_setColor cJ19_setColor 2 none 2 := ⟨lw_S q1208 q1209 q118 q1210, by decide +kernel⟩
theorem mv_J19_311 : MV RJ19 311 RJ19 yJ19_rotateLeft cJ19_rotateLeft 3 none 1 := ⟨lw_V q1211 q1213 qs9 q118 q1214, by decide +kernel⟩
theorem mv_J19_314 : MV RJ19 314 RJ19 yJ19_rotateRight cJ19_rotateRight 3 none 1 := ⟨lw_V q1215 q1217 qs10 q118 q1218, by decide +kernel⟩
theorem mi_J37_3 : MI RJ37 3 yJ43_init cJ43_init 1 0 := ⟨q158, q3218, q1164, q157, rfl, by decide +kernel⟩
theorem mi_J27_1 : MI RJ27 1 yJ26_init cJ26_init 3 2 := ⟨q1257, q126, q1255, q1256, rfl, by decide +kernel⟩
theorem mv_J27_13 : MV RJ27 13 RJ27 yJ27_next_2 cJ27_next_2 1 (some (.object "java/util/Map$Entry")) 0 := ⟨lw_V q540 q541 q542 q127 q543, by decide +kernel⟩
theorem mi_J39_7 : MI RJ39 7 yJ38_init cJ38_init 1 0 := ⟨q1230, q143, q1228, q1229, rfl, by decide +kernel⟩
theorem mv_J39_15 : MV RJ39 15 RJ19 yJ19_getFirstEntry cJ19_getFirstEntry 2 (some (.object "java/util/TreeMap$Entry")) 0 := ⟨lw_V q1248 q1249 q1250 q118 q1251, by decide +kernel⟩
theorem mi_J39_21 : MI RJ39 21 yJ27_init cJ27_init 3 2 := ⟨q1254, q127, q1252, q1253, rfl, by decide +kernel⟩
theorem mv_J39_48 : MV RJ39 48 RJ19 yJ19_size cJ19_size 1 (some .int) 0 := ⟨lw_V q1027 q1028 q1029 q118 q1030, by decide +kernel⟩
theorem mi_J26_7 : MI RJ26 7 yJ43_init cJ43_init 1 0 := ⟨q158, q3218, q1258, q157, rfl, by decide +kernel⟩
theorem mi_J26_31 : MI RJ26 31 yJ17_init cJ17_init 1 0 := ⟨q478, q116, q551, q477, rfl, by decide +kernel⟩
theorem ms_J26_35 : MS RJ26 35 yJ19_successor cJ19_successor 3 (some (.object "java/util/TreeMap$Entry")) 1 := ⟨lw_S q552 q553 q118 q554, by decide +kernel⟩
theorem ms_J34_698 : MS RJ34 698 yJ34_makeLong cJ34_makeLong 2 (some .long) 2 := ⟨lw_S q851 q852 q136 q853, by decide +kernel⟩
theorem ms_J34_704 : MS RJ34 704 yJ34_makeLong_2 cJ34_makeLong_2 4 (some .long) 4 := ⟨lw_S q869 q870 q136 q871, by decide +kernel⟩
theorem ms_J34_709 : MS RJ34 709 yJ34_makeLong_3 cJ34_makeLong_3 8 (some .long) 8 := ⟨lw_S q881 q882 q136 q883, by decide +kernel⟩
theorem ms_J34_719 : MS RJ34 719 yJ34_makeInt cJ34_makeInt 2 (some .int) 2 := ⟨lw_S q911 q912 q136 q913, by decide +kernel⟩
theorem ms_J34_723 : MS RJ34 723 yJ34_makeInt_2 cJ34_makeInt_2 4 (some .int) 4 := ⟨lw_S q918 q919 q136 q920, by decide +kernel⟩
theorem ms_J34_781 : MS RJ34 781 yJ34_toUnsignedLong_3 cJ34_toUnsignedLong_3 1 (some .long) 1 := ⟨lw_S q884 q885 q136 q886, by decide +kernel⟩
theorem ms_J34_784 : MS RJ34 784 yJ34_pickPos cJ34_pickPos 2 (some .int) 2 := ⟨lw_S q858 q859 q136 q860, by decide +kernel⟩
theorem ms_J34_788 : MS RJ34 788 yJ34_toUnsignedLong_2 cJ34_toUnsignedLong_2 1 (some .long) 1 := ⟨lw_S q872 q873 q136 q874, by decide +kernel⟩
theorem ms_J34_791 : MS RJ34 791 yJ34_toUnsignedLong cJ34_toUnsignedLong 1 (some .long) 1 := ⟨lw_S q854 q855 q136 q856, by decide +kernel⟩
theorem ms_J34_792 : MS RJ34 792 yJ34_toUnsignedInt cJ34_toUnsignedInt 1 (some .int) 1 := ⟨lw_S q914 q915 q136 q916, by decide +kernel⟩
theorem ms_J34_796 : MS RJ34 796 yJ34_toUnsignedInt_2 cJ34_toUnsignedInt_2 1 (some .int) 1 := ⟨lw_S q921 q922 q136 q923, by decide +kernel⟩
theorem ms_J13_11 : MS RJ13 11 yJ21_numberOfTrailingZeros cJ21_numberOfTrailingZeros 2 (some .int) 1 := ⟨lw_S q925 q903 q121 q904, by decide +kernel⟩
theorem mv_J13_30 : MV RJ13 30 RJ34 yJ34_getLongUnaligned cJ34_getLongUnaligned 4 (some .long) 2 := ⟨lw_V q836 q837 q838 q136 q839, by decide +kernel⟩
theorem ms_J13_40 : MS RJ13 40 yJ35_numberOfLeadingZeros cJ35_numberOfLeadingZeros 3 (some .int) 1 := ⟨lw_S q890 q891 q138 q892, by decide +kernel⟩
theorem ms_J13_49 : MS RJ13 49 yJ35_numberOfTrailingZeros cJ35_numberOfTrailingZeros 3 (some .int) 1 := ⟨lw_S q899 q900 q138 q901, by decide +kernel⟩
theorem mv_J13_54 : MV RJ13 54 RJ34 yJ34_getIntUnaligned cJ34_getIntUnaligned 4 (some .int) 2 := ⟨lw_V q907 q908 q909 q136 q910, by decide +kernel⟩
theorem ms_J13_58 : MS RJ13 58 yJ21_numberOfLeadingZeros cJ21_numberOfLeadingZeros 2 (some .int) 1 := ⟨lw_S q924 q894 q121 q895, by decide +kernel⟩
theorem ms_J13_122 : MS RJ13 122 yJ13_vectorizedMismatch cJ13_vectorizedMismatch 19 (some .int) 6 := ⟨lw_S q829 q830 q111 q831, by decide +kernel⟩
theorem ms_J13_194 : MS RJ13 194 yJ14_max cJ14_max 2 (some .int) 2 := ⟨lw_S q696 q697 q112 q698, by decide +kernel⟩
theorem ms_J13_201 : MS RJ13 201 yJ13_hugeLength cJ13_hugeLength 3 (some .int) 2 := ⟨lw_S q700 q701 q111 q702, by decide +kernel⟩
