/-! CartelWatchLaw -/
set_option maxRecDepth 100000
def RX0 : String := "CartelWatchLaw"
abbrev cX0_open : ByteArray := method_3_code
def yX0_open : MethodName := ⟨RX0, "open", "(LCartelWatch;[J)I"⟩
def dkwX0_open_0 : List UInt8 := [43, 3, 42, 182, 0, 7, 133, 80, 167, 0, 6, 77, 4, 172, 3, 172]
abbrev dktX0_open_0 : List UInt8 := dkwX0_open_0 ++ []
theorem dksX0_open_0 : cX0_open.data.toList.drop 0 = dktX0_open_0 := by decide +kernel
theorem dX0_open_0 : decode cX0_open 0 = .ok (.aload_n 1, 1) := dk_43 (dk_at dksX0_open_0 0 rfl rfl)
theorem dX0_open_1 : decode cX0_open 1 = .ok (.iconst 0, 1) := dk_3 (dk_at dksX0_open_0 1 rfl rfl)
theorem dX0_open_2 : decode cX0_open 2 = .ok (.aload_n 0, 1) := dk_42 (dk_at dksX0_open_0 2 rfl rfl)
theorem dX0_open_3 : decode cX0_open 3 = .ok (.invokevirtual 7, 3) := dk_182 0 7 (dk_at dksX0_open_0 3 rfl rfl)
theorem dX0_open_6 : decode cX0_open 6 = .ok (.i2l, 1) := dk_133 (dk_at dksX0_open_0 6 rfl rfl)
theorem dX0_open_7 : decode cX0_open 7 = .ok (.lastore, 1) := dk_80 (dk_at dksX0_open_0 7 rfl rfl)
theorem dX0_open_8 : decode cX0_open 8 = .ok (.goto 6, 3) := dk_167 0 6 (dk_at dksX0_open_0 8 rfl rfl)
theorem dX0_open_11 : decode cX0_open 11 = .ok (.astore_n 2, 1) := dk_77 (dk_at dksX0_open_0 11 rfl rfl)
theorem dX0_open_12 : decode cX0_open 12 = .ok (.iconst 1, 1) := dk_4 (dk_at dksX0_open_0 12 rfl rfl)
theorem dX0_open_13 : decode cX0_open 13 = .ok (.ireturn, 1) := dk_172 (dk_at dksX0_open_0 13 rfl rfl)
theorem dX0_open_14 : decode cX0_open 14 = .ok (.iconst 0, 1) := dk_3 (dk_at dksX0_open_0 14 rfl rfl)
theorem dX0_open_15 : decode cX0_open 15 = .ok (.ireturn, 1) := dk_172 (dk_at dksX0_open_0 15 rfl rfl)
abbrev cX0_bid : ByteArray := method_4_code
def yX0_bid : MethodName := ⟨RX0, "bid", "(LCartelWatch;III[J)I"⟩
def dkwX0_bid_1 : List UInt8 := [58, 5, 6, 172, 3, 172]
abbrev dktX0_bid_1 : List UInt8 := dkwX0_bid_1 ++ []
def dkwX0_bid_0 : List UInt8 := [25, 4, 3, 42, 27, 28, 29, 182, 0, 15, 133, 80, 167, 0, 15, 58, 5, 4, 172, 58, 5, 5, 172]
abbrev dktX0_bid_0 : List UInt8 := dkwX0_bid_0 ++ dktX0_bid_1
theorem dksX0_bid_0 : cX0_bid.data.toList.drop 0 = dktX0_bid_0 := by decide +kernel
theorem dksX0_bid_1 : cX0_bid.data.toList.drop 23 = dktX0_bid_1 := dk_seg dksX0_bid_0 23 rfl rfl
theorem dX0_bid_0 : decode cX0_bid 0 = .ok (.aload 4, 2) := dk_25 4 (dk_at dksX0_bid_0 0 rfl rfl)
theorem dX0_bid_2 : decode cX0_bid 2 = .ok (.iconst 0, 1) := dk_3 (dk_at dksX0_bid_0 2 rfl rfl)
theorem dX0_bid_3 : decode cX0_bid 3 = .ok (.aload_n 0, 1) := dk_42 (dk_at dksX0_bid_0 3 rfl rfl)
theorem dX0_bid_4 : decode cX0_bid 4 = .ok (.iload_n 1, 1) := dk_27 (dk_at dksX0_bid_0 4 rfl rfl)
theorem dX0_bid_5 : decode cX0_bid 5 = .ok (.iload_n 2, 1) := dk_28 (dk_at dksX0_bid_0 5 rfl rfl)
theorem dX0_bid_6 : decode cX0_bid 6 = .ok (.iload_n 3, 1) := dk_29 (dk_at dksX0_bid_0 6 rfl rfl)
theorem dX0_bid_7 : decode cX0_bid 7 = .ok (.invokevirtual 15, 3) := dk_182 0 15 (dk_at dksX0_bid_0 7 rfl rfl)
theorem dX0_bid_10 : decode cX0_bid 10 = .ok (.i2l, 1) := dk_133 (dk_at dksX0_bid_0 10 rfl rfl)
theorem dX0_bid_11 : decode cX0_bid 11 = .ok (.lastore, 1) := dk_80 (dk_at dksX0_bid_0 11 rfl rfl)
theorem dX0_bid_12 : decode cX0_bid 12 = .ok (.goto 15, 3) := dk_167 0 15 (dk_at dksX0_bid_0 12 rfl rfl)
theorem dX0_bid_15 : decode cX0_bid 15 = .ok (.astore 5, 2) := dk_58 5 (dk_at dksX0_bid_0 15 rfl rfl)
theorem dX0_bid_17 : decode cX0_bid 17 = .ok (.iconst 1, 1) := dk_4 (dk_at dksX0_bid_0 17 rfl rfl)
theorem dX0_bid_18 : decode cX0_bid 18 = .ok (.ireturn, 1) := dk_172 (dk_at dksX0_bid_0 18 rfl rfl)
theorem dX0_bid_19 : decode cX0_bid 19 = .ok (.astore 5, 2) := dk_58 5 (dk_at dksX0_bid_0 19 rfl rfl)
theorem dX0_bid_21 : decode cX0_bid 21 = .ok (.iconst 2, 1) := dk_5 (dk_at dksX0_bid_0 21 rfl rfl)
theorem dX0_bid_22 : decode cX0_bid 22 = .ok (.ireturn, 1) := dk_172 (dk_at dksX0_bid_0 22 rfl rfl)
theorem dX0_bid_23 : decode cX0_bid 23 = .ok (.astore 5, 2) := dk_58 5 (dk_at dksX0_bid_1 0 rfl rfl)
theorem dX0_bid_25 : decode cX0_bid 25 = .ok (.iconst 3, 1) := dk_6 (dk_at dksX0_bid_1 2 rfl rfl)
theorem dX0_bid_26 : decode cX0_bid 26 = .ok (.ireturn, 1) := dk_172 (dk_at dksX0_bid_1 3 rfl rfl)
theorem dX0_bid_27 : decode cX0_bid 27 = .ok (.iconst 0, 1) := dk_3 (dk_at dksX0_bid_1 4 rfl rfl)
theorem dX0_bid_28 : decode cX0_bid 28 = .ok (.ireturn, 1) := dk_172 (dk_at dksX0_bid_1 5 rfl rfl)
abbrev cX0_withdraw : ByteArray := method_5_code
def yX0_withdraw : MethodName := ⟨RX0, "withdraw", "(LCartelWatch;II[J)I"⟩
def dkwX0_withdraw_1 : List UInt8 := [172, 3, 172]
abbrev dktX0_withdraw_1 : List UInt8 := dkwX0_withdraw_1 ++ []
def dkwX0_withdraw_0 : List UInt8 := [45, 3, 42, 27, 28, 182, 0, 23, 133, 80, 167, 0, 15, 58, 4, 4, 172, 58, 4, 5, 172, 58, 4, 6]
abbrev dktX0_withdraw_0 : List UInt8 := dkwX0_withdraw_0 ++ dktX0_withdraw_1
theorem dksX0_withdraw_0 : cX0_withdraw.data.toList.drop 0 = dktX0_withdraw_0 := by decide +kernel
theorem dksX0_withdraw_1 : cX0_withdraw.data.toList.drop 24 = dktX0_withdraw_1 := dk_seg dksX0_withdraw_0 24 rfl rfl
theorem dX0_withdraw_0 : decode cX0_withdraw 0 = .ok (.aload_n 3, 1) := dk_45 (dk_at dksX0_withdraw_0 0 rfl rfl)
theorem dX0_withdraw_1 : decode cX0_withdraw 1 = .ok (.iconst 0, 1) := dk_3 (dk_at dksX0_withdraw_0 1 rfl rfl)
theorem dX0_withdraw_2 : decode cX0_withdraw 2 = .ok (.aload_n 0, 1) := dk_42 (dk_at dksX0_withdraw_0 2 rfl rfl)
theorem dX0_withdraw_3 : decode cX0_withdraw 3 = .ok (.iload_n 1, 1) := dk_27 (dk_at dksX0_withdraw_0 3 rfl rfl)
theorem dX0_withdraw_4 : decode cX0_withdraw 4 = .ok (.iload_n 2, 1) := dk_28 (dk_at dksX0_withdraw_0 4 rfl rfl)
theorem dX0_withdraw_5 : decode cX0_withdraw 5 = .ok (.invokevirtual 23, 3) := dk_182 0 23 (dk_at dksX0_withdraw_0 5 rfl rfl)
theorem dX0_withdraw_8 : decode cX0_withdraw 8 = .ok (.i2l, 1) := dk_133 (dk_at dksX0_withdraw_0 8 rfl rfl)
theorem dX0_withdraw_9 : decode cX0_withdraw 9 = .ok (.lastore, 1) := dk_80 (dk_at dksX0_withdraw_0 9 rfl rfl)
theorem dX0_withdraw_10 : decode cX0_withdraw 10 = .ok (.goto 15, 3) := dk_167 0 15 (dk_at dksX0_withdraw_0 10 rfl rfl)
theorem dX0_withdraw_13 : decode cX0_withdraw 13 = .ok (.astore 4, 2) := dk_58 4 (dk_at dksX0_withdraw_0 13 rfl rfl)
theorem dX0_withdraw_15 : decode cX0_withdraw 15 = .ok (.iconst 1, 1) := dk_4 (dk_at dksX0_withdraw_0 15 rfl rfl)
theorem dX0_withdraw_16 : decode cX0_withdraw 16 = .ok (.ireturn, 1) := dk_172 (dk_at dksX0_withdraw_0 16 rfl rfl)
theorem dX0_withdraw_17 : decode cX0_withdraw 17 = .ok (.astore 4, 2) := dk_58 4 (dk_at dksX0_withdraw_0 17 rfl rfl)
theorem dX0_withdraw_19 : decode cX0_withdraw 19 = .ok (.iconst 2, 1) := dk_5 (dk_at dksX0_withdraw_0 19 rfl rfl)
theorem dX0_withdraw_20 : decode cX0_withdraw 20 = .ok (.ireturn, 1) := dk_172 (dk_at dksX0_withdraw_0 20 rfl rfl)
theorem dX0_withdraw_21 : decode cX0_withdraw 21 = .ok (.astore 4, 2) := dk_58 4 (dk_at dksX0_withdraw_0 21 rfl rfl)
theorem dX0_withdraw_23 : decode cX0_withdraw 23 = .ok (.iconst 3, 1) := dk_6 (dk_at dksX0_withdraw_0 23 rfl rfl)
theorem dX0_withdraw_24 : decode cX0_withdraw 24 = .ok (.ireturn, 1) := dk_172 (dk_at dksX0_withdraw_1 0 rfl rfl)
theorem dX0_withdraw_25 : decode cX0_withdraw 25 = .ok (.iconst 0, 1) := dk_3 (dk_at dksX0_withdraw_1 1 rfl rfl)
theorem dX0_withdraw_26 : decode cX0_withdraw 26 = .ok (.ireturn, 1) := dk_172 (dk_at dksX0_withdraw_1 2 rfl rfl)
abbrev cX0_award : ByteArray := method_6_code
def yX0_award : MethodName := ⟨RX0, "award", "(LCartelWatch;I[J)I"⟩
def dkwX0_award_0 : List UInt8 := [44, 3, 42, 27, 182, 0, 27, 133, 80, 167, 0, 9, 78, 4, 172, 78, 5, 172, 3, 172]
abbrev dktX0_award_0 : List UInt8 := dkwX0_award_0 ++ []
theorem dksX0_award_0 : cX0_award.data.toList.drop 0 = dktX0_award_0 := by decide +kernel
theorem dX0_award_0 : decode cX0_award 0 = .ok (.aload_n 2, 1) := dk_44 (dk_at dksX0_award_0 0 rfl rfl)
theorem dX0_award_1 : decode cX0_award 1 = .ok (.iconst 0, 1) := dk_3 (dk_at dksX0_award_0 1 rfl rfl)
theorem dX0_award_2 : decode cX0_award 2 = .ok (.aload_n 0, 1) := dk_42 (dk_at dksX0_award_0 2 rfl rfl)
theorem dX0_award_3 : decode cX0_award 3 = .ok (.iload_n 1, 1) := dk_27 (dk_at dksX0_award_0 3 rfl rfl)
theorem dX0_award_4 : decode cX0_award 4 = .ok (.invokevirtual 27, 3) := dk_182 0 27 (dk_at dksX0_award_0 4 rfl rfl)
theorem dX0_award_7 : decode cX0_award 7 = .ok (.i2l, 1) := dk_133 (dk_at dksX0_award_0 7 rfl rfl)
theorem dX0_award_8 : decode cX0_award 8 = .ok (.lastore, 1) := dk_80 (dk_at dksX0_award_0 8 rfl rfl)
theorem dX0_award_9 : decode cX0_award 9 = .ok (.goto 9, 3) := dk_167 0 9 (dk_at dksX0_award_0 9 rfl rfl)
theorem dX0_award_12 : decode cX0_award 12 = .ok (.astore_n 3, 1) := dk_78 (dk_at dksX0_award_0 12 rfl rfl)
theorem dX0_award_13 : decode cX0_award 13 = .ok (.iconst 1, 1) := dk_4 (dk_at dksX0_award_0 13 rfl rfl)
theorem dX0_award_14 : decode cX0_award 14 = .ok (.ireturn, 1) := dk_172 (dk_at dksX0_award_0 14 rfl rfl)
theorem dX0_award_15 : decode cX0_award 15 = .ok (.astore_n 3, 1) := dk_78 (dk_at dksX0_award_0 15 rfl rfl)
theorem dX0_award_16 : decode cX0_award 16 = .ok (.iconst 2, 1) := dk_5 (dk_at dksX0_award_0 16 rfl rfl)
theorem dX0_award_17 : decode cX0_award 17 = .ok (.ireturn, 1) := dk_172 (dk_at dksX0_award_0 17 rfl rfl)
theorem dX0_award_18 : decode cX0_award 18 = .ok (.iconst 0, 1) := dk_3 (dk_at dksX0_award_0 18 rfl rfl)
theorem dX0_award_19 : decode cX0_award 19 = .ok (.ireturn, 1) := dk_172 (dk_at dksX0_award_0 19 rfl rfl)
abbrev cX0_passOn : ByteArray := method_7_code
def yX0_passOn : MethodName := ⟨RX0, "passOn", "(LCartelWatch;III[J)I"⟩
def dkwX0_passOn_1 : List UInt8 := [58, 5, 6, 172, 3, 172]
abbrev dktX0_passOn_1 : List UInt8 := dkwX0_passOn_1 ++ []
def dkwX0_passOn_0 : List UInt8 := [25, 4, 3, 42, 27, 28, 29, 182, 0, 31, 133, 80, 167, 0, 15, 58, 5, 4, 172, 58, 5, 5, 172]
abbrev dktX0_passOn_0 : List UInt8 := dkwX0_passOn_0 ++ dktX0_passOn_1
theorem dksX0_passOn_0 : cX0_passOn.data.toList.drop 0 = dktX0_passOn_0 := by decide +kernel
theorem dksX0_passOn_1 : cX0_passOn.data.toList.drop 23 = dktX0_passOn_1 := dk_seg dksX0_passOn_0 23 rfl rfl
theorem dX0_passOn_0 : decode cX0_passOn 0 = .ok (.aload 4, 2) := dk_25 4 (dk_at dksX0_passOn_0 0 rfl rfl)
theorem dX0_passOn_2 : decode cX0_passOn 2 = .ok (.iconst 0, 1) := dk_3 (dk_at dksX0_passOn_0 2 rfl rfl)
theorem dX0_passOn_3 : decode cX0_passOn 3 = .ok (.aload_n 0, 1) := dk_42 (dk_at dksX0_passOn_0 3 rfl rfl)
theorem dX0_passOn_4 : decode cX0_passOn 4 = .ok (.iload_n 1, 1) := dk_27 (dk_at dksX0_passOn_0 4 rfl rfl)
theorem dX0_passOn_5 : decode cX0_passOn 5 = .ok (.iload_n 2, 1) := dk_28 (dk_at dksX0_passOn_0 5 rfl rfl)
theorem dX0_passOn_6 : decode cX0_passOn 6 = .ok (.iload_n 3, 1) := dk_29 (dk_at dksX0_passOn_0 6 rfl rfl)
theorem dX0_passOn_7 : decode cX0_passOn 7 = .ok (.invokevirtual 31, 3) := dk_182 0 31 (dk_at dksX0_passOn_0 7 rfl rfl)
theorem dX0_passOn_10 : decode cX0_passOn 10 = .ok (.i2l, 1) := dk_133 (dk_at dksX0_passOn_0 10 rfl rfl)
theorem dX0_passOn_11 : decode cX0_passOn 11 = .ok (.lastore, 1) := dk_80 (dk_at dksX0_passOn_0 11 rfl rfl)
theorem dX0_passOn_12 : decode cX0_passOn 12 = .ok (.goto 15, 3) := dk_167 0 15 (dk_at dksX0_passOn_0 12 rfl rfl)
theorem dX0_passOn_15 : decode cX0_passOn 15 = .ok (.astore 5, 2) := dk_58 5 (dk_at dksX0_passOn_0 15 rfl rfl)
theorem dX0_passOn_17 : decode cX0_passOn 17 = .ok (.iconst 1, 1) := dk_4 (dk_at dksX0_passOn_0 17 rfl rfl)
theorem dX0_passOn_18 : decode cX0_passOn 18 = .ok (.ireturn, 1) := dk_172 (dk_at dksX0_passOn_0 18 rfl rfl)
theorem dX0_passOn_19 : decode cX0_passOn 19 = .ok (.astore 5, 2) := dk_58 5 (dk_at dksX0_passOn_0 19 rfl rfl)
theorem dX0_passOn_21 : decode cX0_passOn 21 = .ok (.iconst 2, 1) := dk_5 (dk_at dksX0_passOn_0 21 rfl rfl)
theorem dX0_passOn_22 : decode cX0_passOn 22 = .ok (.ireturn, 1) := dk_172 (dk_at dksX0_passOn_0 22 rfl rfl)
theorem dX0_passOn_23 : decode cX0_passOn 23 = .ok (.astore 5, 2) := dk_58 5 (dk_at dksX0_passOn_1 0 rfl rfl)
theorem dX0_passOn_25 : decode cX0_passOn 25 = .ok (.iconst 3, 1) := dk_6 (dk_at dksX0_passOn_1 2 rfl rfl)
theorem dX0_passOn_26 : decode cX0_passOn 26 = .ok (.ireturn, 1) := dk_172 (dk_at dksX0_passOn_1 3 rfl rfl)
theorem dX0_passOn_27 : decode cX0_passOn 27 = .ok (.iconst 0, 1) := dk_3 (dk_at dksX0_passOn_1 4 rfl rfl)
theorem dX0_passOn_28 : decode cX0_passOn 28 = .ok (.ireturn, 1) := dk_172 (dk_at dksX0_passOn_1 5 rfl rfl)
abbrev cX0_turnover : ByteArray := method_8_code
def yX0_turnover : MethodName := ⟨RX0, "turnover", "(LCartelWatch;I[J)I"⟩
def dkwX0_turnover_0 : List UInt8 := [44, 3, 42, 27, 182, 0, 34, 133, 80, 167, 0, 6, 78, 4, 172, 3, 172]
abbrev dktX0_turnover_0 : List UInt8 := dkwX0_turnover_0 ++ []
theorem dksX0_turnover_0 : cX0_turnover.data.toList.drop 0 = dktX0_turnover_0 := by decide +kernel
theorem dX0_turnover_0 : decode cX0_turnover 0 = .ok (.aload_n 2, 1) := dk_44 (dk_at dksX0_turnover_0 0 rfl rfl)
theorem dX0_turnover_1 : decode cX0_turnover 1 = .ok (.iconst 0, 1) := dk_3 (dk_at dksX0_turnover_0 1 rfl rfl)
theorem dX0_turnover_2 : decode cX0_turnover 2 = .ok (.aload_n 0, 1) := dk_42 (dk_at dksX0_turnover_0 2 rfl rfl)
theorem dX0_turnover_3 : decode cX0_turnover 3 = .ok (.iload_n 1, 1) := dk_27 (dk_at dksX0_turnover_0 3 rfl rfl)
theorem dX0_turnover_4 : decode cX0_turnover 4 = .ok (.invokevirtual 34, 3) := dk_182 0 34 (dk_at dksX0_turnover_0 4 rfl rfl)
theorem dX0_turnover_7 : decode cX0_turnover 7 = .ok (.i2l, 1) := dk_133 (dk_at dksX0_turnover_0 7 rfl rfl)
theorem dX0_turnover_8 : decode cX0_turnover 8 = .ok (.lastore, 1) := dk_80 (dk_at dksX0_turnover_0 8 rfl rfl)
theorem dX0_turnover_9 : decode cX0_turnover 9 = .ok (.goto 6, 3) := dk_167 0 6 (dk_at dksX0_turnover_0 9 rfl rfl)
theorem dX0_turnover_12 : decode cX0_turnover 12 = .ok (.astore_n 3, 1) := dk_78 (dk_at dksX0_turnover_0 12 rfl rfl)
theorem dX0_turnover_13 : decode cX0_turnover 13 = .ok (.iconst 1, 1) := dk_4 (dk_at dksX0_turnover_0 13 rfl rfl)
theorem dX0_turnover_14 : decode cX0_turnover 14 = .ok (.ireturn, 1) := dk_172 (dk_at dksX0_turnover_0 14 rfl rfl)
theorem dX0_turnover_15 : decode cX0_turnover 15 = .ok (.iconst 0, 1) := dk_3 (dk_at dksX0_turnover_0 15 rfl rfl)
theorem dX0_turnover_16 : decode cX0_turnover 16 = .ok (.ireturn, 1) := dk_172 (dk_at dksX0_turnover_0 16 rfl rfl)
abbrev cX0_won : ByteArray := method_9_code
def yX0_won : MethodName := ⟨RX0, "won", "(LCartelWatch;I[J)I"⟩
def dkwX0_won_0 : List UInt8 := [44, 3, 42, 27, 182, 0, 37, 133, 80, 167, 0, 6, 78, 4, 172, 3, 172]
abbrev dktX0_won_0 : List UInt8 := dkwX0_won_0 ++ []
theorem dksX0_won_0 : cX0_won.data.toList.drop 0 = dktX0_won_0 := by decide +kernel
theorem dX0_won_0 : decode cX0_won 0 = .ok (.aload_n 2, 1) := dk_44 (dk_at dksX0_won_0 0 rfl rfl)
theorem dX0_won_1 : decode cX0_won 1 = .ok (.iconst 0, 1) := dk_3 (dk_at dksX0_won_0 1 rfl rfl)
theorem dX0_won_2 : decode cX0_won 2 = .ok (.aload_n 0, 1) := dk_42 (dk_at dksX0_won_0 2 rfl rfl)
theorem dX0_won_3 : decode cX0_won 3 = .ok (.iload_n 1, 1) := dk_27 (dk_at dksX0_won_0 3 rfl rfl)
theorem dX0_won_4 : decode cX0_won 4 = .ok (.invokevirtual 37, 3) := dk_182 0 37 (dk_at dksX0_won_0 4 rfl rfl)
theorem dX0_won_7 : decode cX0_won 7 = .ok (.i2l, 1) := dk_133 (dk_at dksX0_won_0 7 rfl rfl)
theorem dX0_won_8 : decode cX0_won 8 = .ok (.lastore, 1) := dk_80 (dk_at dksX0_won_0 8 rfl rfl)
theorem dX0_won_9 : decode cX0_won 9 = .ok (.goto 6, 3) := dk_167 0 6 (dk_at dksX0_won_0 9 rfl rfl)
theorem dX0_won_12 : decode cX0_won 12 = .ok (.astore_n 3, 1) := dk_78 (dk_at dksX0_won_0 12 rfl rfl)
theorem dX0_won_13 : decode cX0_won 13 = .ok (.iconst 1, 1) := dk_4 (dk_at dksX0_won_0 13 rfl rfl)
theorem dX0_won_14 : decode cX0_won 14 = .ok (.ireturn, 1) := dk_172 (dk_at dksX0_won_0 14 rfl rfl)
theorem dX0_won_15 : decode cX0_won 15 = .ok (.iconst 0, 1) := dk_3 (dk_at dksX0_won_0 15 rfl rfl)
theorem dX0_won_16 : decode cX0_won 16 = .ok (.ireturn, 1) := dk_172 (dk_at dksX0_won_0 16 rfl rfl)
abbrev cX0_suspicion : ByteArray := method_10_code
def yX0_suspicion : MethodName := ⟨RX0, "suspicion", "(LCartelWatch;II[J)I"⟩
def dkwX0_suspicion_0 : List UInt8 := [45, 3, 42, 27, 28, 182, 0, 40, 133, 80, 167, 0, 7, 58, 4, 4, 172, 3, 172]
abbrev dktX0_suspicion_0 : List UInt8 := dkwX0_suspicion_0 ++ []
theorem dksX0_suspicion_0 : cX0_suspicion.data.toList.drop 0 = dktX0_suspicion_0 := by decide +kernel
theorem dX0_suspicion_0 : decode cX0_suspicion 0 = .ok (.aload_n 3, 1) := dk_45 (dk_at dksX0_suspicion_0 0 rfl rfl)
theorem dX0_suspicion_1 : decode cX0_suspicion 1 = .ok (.iconst 0, 1) := dk_3 (dk_at dksX0_suspicion_0 1 rfl rfl)
theorem dX0_suspicion_2 : decode cX0_suspicion 2 = .ok (.aload_n 0, 1) := dk_42 (dk_at dksX0_suspicion_0 2 rfl rfl)
theorem dX0_suspicion_3 : decode cX0_suspicion 3 = .ok (.iload_n 1, 1) := dk_27 (dk_at dksX0_suspicion_0 3 rfl rfl)
theorem dX0_suspicion_4 : decode cX0_suspicion 4 = .ok (.iload_n 2, 1) := dk_28 (dk_at dksX0_suspicion_0 4 rfl rfl)
theorem dX0_suspicion_5 : decode cX0_suspicion 5 = .ok (.invokevirtual 40, 3) := dk_182 0 40 (dk_at dksX0_suspicion_0 5 rfl rfl)
theorem dX0_suspicion_8 : decode cX0_suspicion 8 = .ok (.i2l, 1) := dk_133 (dk_at dksX0_suspicion_0 8 rfl rfl)
theorem dX0_suspicion_9 : decode cX0_suspicion 9 = .ok (.lastore, 1) := dk_80 (dk_at dksX0_suspicion_0 9 rfl rfl)
theorem dX0_suspicion_10 : decode cX0_suspicion 10 = .ok (.goto 7, 3) := dk_167 0 7 (dk_at dksX0_suspicion_0 10 rfl rfl)
theorem dX0_suspicion_13 : decode cX0_suspicion 13 = .ok (.astore 4, 2) := dk_58 4 (dk_at dksX0_suspicion_0 13 rfl rfl)
theorem dX0_suspicion_15 : decode cX0_suspicion 15 = .ok (.iconst 1, 1) := dk_4 (dk_at dksX0_suspicion_0 15 rfl rfl)
theorem dX0_suspicion_16 : decode cX0_suspicion 16 = .ok (.ireturn, 1) := dk_172 (dk_at dksX0_suspicion_0 16 rfl rfl)
theorem dX0_suspicion_17 : decode cX0_suspicion 17 = .ok (.iconst 0, 1) := dk_3 (dk_at dksX0_suspicion_0 17 rfl rfl)
theorem dX0_suspicion_18 : decode cX0_suspicion 18 = .ok (.ireturn, 1) := dk_172 (dk_at dksX0_suspicion_0 18 rfl rfl)
abbrev cX0_sign : ByteArray := method_11_code
def yX0_sign : MethodName := ⟨RX0, "sign", "(LCartelWatch;III[J)I"⟩
def dkwX0_sign_1 : List UInt8 := [172]
abbrev dktX0_sign_1 : List UInt8 := dkwX0_sign_1 ++ []
def dkwX0_sign_0 : List UInt8 := [25, 4, 3, 42, 27, 28, 29, 182, 0, 43, 133, 80, 167, 0, 11, 58, 5, 4, 172, 58, 5, 5, 172, 3]
abbrev dktX0_sign_0 : List UInt8 := dkwX0_sign_0 ++ dktX0_sign_1
theorem dksX0_sign_0 : cX0_sign.data.toList.drop 0 = dktX0_sign_0 := by decide +kernel
theorem dksX0_sign_1 : cX0_sign.data.toList.drop 24 = dktX0_sign_1 := dk_seg dksX0_sign_0 24 rfl rfl
theorem dX0_sign_0 : decode cX0_sign 0 = .ok (.aload 4, 2) := dk_25 4 (dk_at dksX0_sign_0 0 rfl rfl)
theorem dX0_sign_2 : decode cX0_sign 2 = .ok (.iconst 0, 1) := dk_3 (dk_at dksX0_sign_0 2 rfl rfl)
theorem dX0_sign_3 : decode cX0_sign 3 = .ok (.aload_n 0, 1) := dk_42 (dk_at dksX0_sign_0 3 rfl rfl)
theorem dX0_sign_4 : decode cX0_sign 4 = .ok (.iload_n 1, 1) := dk_27 (dk_at dksX0_sign_0 4 rfl rfl)
theorem dX0_sign_5 : decode cX0_sign 5 = .ok (.iload_n 2, 1) := dk_28 (dk_at dksX0_sign_0 5 rfl rfl)
theorem dX0_sign_6 : decode cX0_sign 6 = .ok (.iload_n 3, 1) := dk_29 (dk_at dksX0_sign_0 6 rfl rfl)
theorem dX0_sign_7 : decode cX0_sign 7 = .ok (.invokevirtual 43, 3) := dk_182 0 43 (dk_at dksX0_sign_0 7 rfl rfl)
theorem dX0_sign_10 : decode cX0_sign 10 = .ok (.i2l, 1) := dk_133 (dk_at dksX0_sign_0 10 rfl rfl)
theorem dX0_sign_11 : decode cX0_sign 11 = .ok (.lastore, 1) := dk_80 (dk_at dksX0_sign_0 11 rfl rfl)
theorem dX0_sign_12 : decode cX0_sign 12 = .ok (.goto 11, 3) := dk_167 0 11 (dk_at dksX0_sign_0 12 rfl rfl)
theorem dX0_sign_15 : decode cX0_sign 15 = .ok (.astore 5, 2) := dk_58 5 (dk_at dksX0_sign_0 15 rfl rfl)
theorem dX0_sign_17 : decode cX0_sign 17 = .ok (.iconst 1, 1) := dk_4 (dk_at dksX0_sign_0 17 rfl rfl)
theorem dX0_sign_18 : decode cX0_sign 18 = .ok (.ireturn, 1) := dk_172 (dk_at dksX0_sign_0 18 rfl rfl)
theorem dX0_sign_19 : decode cX0_sign 19 = .ok (.astore 5, 2) := dk_58 5 (dk_at dksX0_sign_0 19 rfl rfl)
theorem dX0_sign_21 : decode cX0_sign 21 = .ok (.iconst 2, 1) := dk_5 (dk_at dksX0_sign_0 21 rfl rfl)
theorem dX0_sign_22 : decode cX0_sign 22 = .ok (.ireturn, 1) := dk_172 (dk_at dksX0_sign_0 22 rfl rfl)
theorem dX0_sign_23 : decode cX0_sign 23 = .ok (.iconst 0, 1) := dk_3 (dk_at dksX0_sign_0 23 rfl rfl)
theorem dX0_sign_24 : decode cX0_sign 24 = .ok (.ireturn, 1) := dk_172 (dk_at dksX0_sign_1 0 rfl rfl)
abbrev cX0_setMark : ByteArray := method_12_code
def yX0_setMark : MethodName := ⟨RX0, "setMark", "(LCartelWatch;I[J)I"⟩
def dkwX0_setMark_0 : List UInt8 := [44, 3, 42, 27, 182, 0, 46, 133, 80, 167, 0, 6, 78, 4, 172, 3, 172]
abbrev dktX0_setMark_0 : List UInt8 := dkwX0_setMark_0 ++ []
theorem dksX0_setMark_0 : cX0_setMark.data.toList.drop 0 = dktX0_setMark_0 := by decide +kernel
theorem dX0_setMark_0 : decode cX0_setMark 0 = .ok (.aload_n 2, 1) := dk_44 (dk_at dksX0_setMark_0 0 rfl rfl)
theorem dX0_setMark_1 : decode cX0_setMark 1 = .ok (.iconst 0, 1) := dk_3 (dk_at dksX0_setMark_0 1 rfl rfl)
theorem dX0_setMark_2 : decode cX0_setMark 2 = .ok (.aload_n 0, 1) := dk_42 (dk_at dksX0_setMark_0 2 rfl rfl)
theorem dX0_setMark_3 : decode cX0_setMark 3 = .ok (.iload_n 1, 1) := dk_27 (dk_at dksX0_setMark_0 3 rfl rfl)
theorem dX0_setMark_4 : decode cX0_setMark 4 = .ok (.invokevirtual 46, 3) := dk_182 0 46 (dk_at dksX0_setMark_0 4 rfl rfl)
theorem dX0_setMark_7 : decode cX0_setMark 7 = .ok (.i2l, 1) := dk_133 (dk_at dksX0_setMark_0 7 rfl rfl)
theorem dX0_setMark_8 : decode cX0_setMark 8 = .ok (.lastore, 1) := dk_80 (dk_at dksX0_setMark_0 8 rfl rfl)
theorem dX0_setMark_9 : decode cX0_setMark 9 = .ok (.goto 6, 3) := dk_167 0 6 (dk_at dksX0_setMark_0 9 rfl rfl)
theorem dX0_setMark_12 : decode cX0_setMark 12 = .ok (.astore_n 3, 1) := dk_78 (dk_at dksX0_setMark_0 12 rfl rfl)
theorem dX0_setMark_13 : decode cX0_setMark 13 = .ok (.iconst 1, 1) := dk_4 (dk_at dksX0_setMark_0 13 rfl rfl)
theorem dX0_setMark_14 : decode cX0_setMark 14 = .ok (.ireturn, 1) := dk_172 (dk_at dksX0_setMark_0 14 rfl rfl)
theorem dX0_setMark_15 : decode cX0_setMark 15 = .ok (.iconst 0, 1) := dk_3 (dk_at dksX0_setMark_0 15 rfl rfl)
theorem dX0_setMark_16 : decode cX0_setMark 16 = .ok (.ireturn, 1) := dk_172 (dk_at dksX0_setMark_0 16 rfl rfl)
abbrev cX0_file : ByteArray := method_13_code
def yX0_file : MethodName := ⟨RX0, "file", "(LCartelWatch;II[J)I"⟩
def dkwX0_file_0 : List UInt8 := [45, 3, 42, 27, 28, 182, 0, 49, 133, 80, 167, 0, 11, 58, 4, 4, 172, 58, 4, 5, 172, 3, 172]
abbrev dktX0_file_0 : List UInt8 := dkwX0_file_0 ++ []
theorem dksX0_file_0 : cX0_file.data.toList.drop 0 = dktX0_file_0 := by decide +kernel
theorem dX0_file_0 : decode cX0_file 0 = .ok (.aload_n 3, 1) := dk_45 (dk_at dksX0_file_0 0 rfl rfl)
theorem dX0_file_1 : decode cX0_file 1 = .ok (.iconst 0, 1) := dk_3 (dk_at dksX0_file_0 1 rfl rfl)
theorem dX0_file_2 : decode cX0_file 2 = .ok (.aload_n 0, 1) := dk_42 (dk_at dksX0_file_0 2 rfl rfl)
theorem dX0_file_3 : decode cX0_file 3 = .ok (.iload_n 1, 1) := dk_27 (dk_at dksX0_file_0 3 rfl rfl)
theorem dX0_file_4 : decode cX0_file 4 = .ok (.iload_n 2, 1) := dk_28 (dk_at dksX0_file_0 4 rfl rfl)
theorem dX0_file_5 : decode cX0_file 5 = .ok (.invokevirtual 49, 3) := dk_182 0 49 (dk_at dksX0_file_0 5 rfl rfl)
theorem dX0_file_8 : decode cX0_file 8 = .ok (.i2l, 1) := dk_133 (dk_at dksX0_file_0 8 rfl rfl)
theorem dX0_file_9 : decode cX0_file 9 = .ok (.lastore, 1) := dk_80 (dk_at dksX0_file_0 9 rfl rfl)
theorem dX0_file_10 : decode cX0_file 10 = .ok (.goto 11, 3) := dk_167 0 11 (dk_at dksX0_file_0 10 rfl rfl)
theorem dX0_file_13 : decode cX0_file 13 = .ok (.astore 4, 2) := dk_58 4 (dk_at dksX0_file_0 13 rfl rfl)
theorem dX0_file_15 : decode cX0_file 15 = .ok (.iconst 1, 1) := dk_4 (dk_at dksX0_file_0 15 rfl rfl)
theorem dX0_file_16 : decode cX0_file 16 = .ok (.ireturn, 1) := dk_172 (dk_at dksX0_file_0 16 rfl rfl)
theorem dX0_file_17 : decode cX0_file 17 = .ok (.astore 4, 2) := dk_58 4 (dk_at dksX0_file_0 17 rfl rfl)
theorem dX0_file_19 : decode cX0_file 19 = .ok (.iconst 2, 1) := dk_5 (dk_at dksX0_file_0 19 rfl rfl)
theorem dX0_file_20 : decode cX0_file 20 = .ok (.ireturn, 1) := dk_172 (dk_at dksX0_file_0 20 rfl rfl)
theorem dX0_file_21 : decode cX0_file 21 = .ok (.iconst 0, 1) := dk_3 (dk_at dksX0_file_0 21 rfl rfl)
theorem dX0_file_22 : decode cX0_file 22 = .ok (.ireturn, 1) := dk_172 (dk_at dksX0_file_0 22 rfl rfl)
abbrev cX0_matters : ByteArray := method_14_code
def yX0_matters : MethodName := ⟨RX0, "matters", "(LCartelWatch;I[J)I"⟩
def dkwX0_matters_0 : List UInt8 := [44, 3, 42, 27, 182, 0, 52, 133, 80, 167, 0, 6, 78, 4, 172, 3, 172]
abbrev dktX0_matters_0 : List UInt8 := dkwX0_matters_0 ++ []
theorem dksX0_matters_0 : cX0_matters.data.toList.drop 0 = dktX0_matters_0 := by decide +kernel
theorem dX0_matters_0 : decode cX0_matters 0 = .ok (.aload_n 2, 1) := dk_44 (dk_at dksX0_matters_0 0 rfl rfl)
theorem dX0_matters_1 : decode cX0_matters 1 = .ok (.iconst 0, 1) := dk_3 (dk_at dksX0_matters_0 1 rfl rfl)
theorem dX0_matters_2 : decode cX0_matters 2 = .ok (.aload_n 0, 1) := dk_42 (dk_at dksX0_matters_0 2 rfl rfl)
theorem dX0_matters_3 : decode cX0_matters 3 = .ok (.iload_n 1, 1) := dk_27 (dk_at dksX0_matters_0 3 rfl rfl)
theorem dX0_matters_4 : decode cX0_matters 4 = .ok (.invokevirtual 52, 3) := dk_182 0 52 (dk_at dksX0_matters_0 4 rfl rfl)
theorem dX0_matters_7 : decode cX0_matters 7 = .ok (.i2l, 1) := dk_133 (dk_at dksX0_matters_0 7 rfl rfl)
theorem dX0_matters_8 : decode cX0_matters 8 = .ok (.lastore, 1) := dk_80 (dk_at dksX0_matters_0 8 rfl rfl)
theorem dX0_matters_9 : decode cX0_matters 9 = .ok (.goto 6, 3) := dk_167 0 6 (dk_at dksX0_matters_0 9 rfl rfl)
theorem dX0_matters_12 : decode cX0_matters 12 = .ok (.astore_n 3, 1) := dk_78 (dk_at dksX0_matters_0 12 rfl rfl)
theorem dX0_matters_13 : decode cX0_matters 13 = .ok (.iconst 1, 1) := dk_4 (dk_at dksX0_matters_0 13 rfl rfl)
theorem dX0_matters_14 : decode cX0_matters 14 = .ok (.ireturn, 1) := dk_172 (dk_at dksX0_matters_0 14 rfl rfl)
theorem dX0_matters_15 : decode cX0_matters 15 = .ok (.iconst 0, 1) := dk_3 (dk_at dksX0_matters_0 15 rfl rfl)
theorem dX0_matters_16 : decode cX0_matters 16 = .ok (.ireturn, 1) := dk_172 (dk_at dksX0_matters_0 16 rfl rfl)
abbrev cX0_tell : ByteArray := method_15_code
def yX0_tell : MethodName := ⟨RX0, "tell", "(LCartelWatch;III[J)I"⟩
def dkwX0_tell_1 : List UInt8 := [4, 172, 58, 5, 5, 172, 58, 5, 6, 172, 3, 172]
abbrev dktX0_tell_1 : List UInt8 := dkwX0_tell_1 ++ []
def dkwX0_tell_0 : List UInt8 := [25, 4, 3, 42, 27, 28, 29, 182, 0, 55, 153, 0, 7, 10, 167, 0, 4, 9, 80, 167, 0, 15, 58, 5]
abbrev dktX0_tell_0 : List UInt8 := dkwX0_tell_0 ++ dktX0_tell_1
theorem dksX0_tell_0 : cX0_tell.data.toList.drop 0 = dktX0_tell_0 := by decide +kernel
theorem dksX0_tell_1 : cX0_tell.data.toList.drop 24 = dktX0_tell_1 := dk_seg dksX0_tell_0 24 rfl rfl
theorem dX0_tell_0 : decode cX0_tell 0 = .ok (.aload 4, 2) := dk_25 4 (dk_at dksX0_tell_0 0 rfl rfl)
theorem dX0_tell_2 : decode cX0_tell 2 = .ok (.iconst 0, 1) := dk_3 (dk_at dksX0_tell_0 2 rfl rfl)
theorem dX0_tell_3 : decode cX0_tell 3 = .ok (.aload_n 0, 1) := dk_42 (dk_at dksX0_tell_0 3 rfl rfl)
theorem dX0_tell_4 : decode cX0_tell 4 = .ok (.iload_n 1, 1) := dk_27 (dk_at dksX0_tell_0 4 rfl rfl)
theorem dX0_tell_5 : decode cX0_tell 5 = .ok (.iload_n 2, 1) := dk_28 (dk_at dksX0_tell_0 5 rfl rfl)
theorem dX0_tell_6 : decode cX0_tell 6 = .ok (.iload_n 3, 1) := dk_29 (dk_at dksX0_tell_0 6 rfl rfl)
theorem dX0_tell_7 : decode cX0_tell 7 = .ok (.invokevirtual 55, 3) := dk_182 0 55 (dk_at dksX0_tell_0 7 rfl rfl)
theorem dX0_tell_10 : decode cX0_tell 10 = .ok (.ifCond .eq 7, 3) := dk_153 0 7 (dk_at dksX0_tell_0 10 rfl rfl)
theorem dX0_tell_13 : decode cX0_tell 13 = .ok (.lconst 1, 1) := dk_10 (dk_at dksX0_tell_0 13 rfl rfl)
theorem dX0_tell_14 : decode cX0_tell 14 = .ok (.goto 4, 3) := dk_167 0 4 (dk_at dksX0_tell_0 14 rfl rfl)
theorem dX0_tell_17 : decode cX0_tell 17 = .ok (.lconst 0, 1) := dk_9 (dk_at dksX0_tell_0 17 rfl rfl)
theorem dX0_tell_18 : decode cX0_tell 18 = .ok (.lastore, 1) := dk_80 (dk_at dksX0_tell_0 18 rfl rfl)
theorem dX0_tell_19 : decode cX0_tell 19 = .ok (.goto 15, 3) := dk_167 0 15 (dk_at dksX0_tell_0 19 rfl rfl)
theorem dX0_tell_22 : decode cX0_tell 22 = .ok (.astore 5, 2) := dk_58 5 (dk_at dksX0_tell_0 22 rfl rfl)
theorem dX0_tell_24 : decode cX0_tell 24 = .ok (.iconst 1, 1) := dk_4 (dk_at dksX0_tell_1 0 rfl rfl)
theorem dX0_tell_25 : decode cX0_tell 25 = .ok (.ireturn, 1) := dk_172 (dk_at dksX0_tell_1 1 rfl rfl)
theorem dX0_tell_26 : decode cX0_tell 26 = .ok (.astore 5, 2) := dk_58 5 (dk_at dksX0_tell_1 2 rfl rfl)
theorem dX0_tell_28 : decode cX0_tell 28 = .ok (.iconst 2, 1) := dk_5 (dk_at dksX0_tell_1 4 rfl rfl)
theorem dX0_tell_29 : decode cX0_tell 29 = .ok (.ireturn, 1) := dk_172 (dk_at dksX0_tell_1 5 rfl rfl)
theorem dX0_tell_30 : decode cX0_tell 30 = .ok (.astore 5, 2) := dk_58 5 (dk_at dksX0_tell_1 6 rfl rfl)
theorem dX0_tell_32 : decode cX0_tell 32 = .ok (.iconst 3, 1) := dk_6 (dk_at dksX0_tell_1 8 rfl rfl)
theorem dX0_tell_33 : decode cX0_tell 33 = .ok (.ireturn, 1) := dk_172 (dk_at dksX0_tell_1 9 rfl rfl)
theorem dX0_tell_34 : decode cX0_tell 34 = .ok (.iconst 0, 1) := dk_3 (dk_at dksX0_tell_1 10 rfl rfl)
theorem dX0_tell_35 : decode cX0_tell 35 = .ok (.ireturn, 1) := dk_172 (dk_at dksX0_tell_1 11 rfl rfl)
abbrev cX0_compensate : ByteArray := method_16_code
def yX0_compensate : MethodName := ⟨RX0, "compensate", "(LCartelWatch;II[J)I"⟩
def dkwX0_compensate_0 : List UInt8 := [45, 3, 42, 27, 28, 182, 0, 59, 133, 80, 167, 0, 7, 58, 4, 4, 172, 3, 172]
abbrev dktX0_compensate_0 : List UInt8 := dkwX0_compensate_0 ++ []
theorem dksX0_compensate_0 : cX0_compensate.data.toList.drop 0 = dktX0_compensate_0 := by decide +kernel
theorem dX0_compensate_0 : decode cX0_compensate 0 = .ok (.aload_n 3, 1) := dk_45 (dk_at dksX0_compensate_0 0 rfl rfl)
theorem dX0_compensate_1 : decode cX0_compensate 1 = .ok (.iconst 0, 1) := dk_3 (dk_at dksX0_compensate_0 1 rfl rfl)
theorem dX0_compensate_2 : decode cX0_compensate 2 = .ok (.aload_n 0, 1) := dk_42 (dk_at dksX0_compensate_0 2 rfl rfl)
theorem dX0_compensate_3 : decode cX0_compensate 3 = .ok (.iload_n 1, 1) := dk_27 (dk_at dksX0_compensate_0 3 rfl rfl)
theorem dX0_compensate_4 : decode cX0_compensate 4 = .ok (.iload_n 2, 1) := dk_28 (dk_at dksX0_compensate_0 4 rfl rfl)
theorem dX0_compensate_5 : decode cX0_compensate 5 = .ok (.invokevirtual 59, 3) := dk_182 0 59 (dk_at dksX0_compensate_0 5 rfl rfl)
theorem dX0_compensate_8 : decode cX0_compensate 8 = .ok (.i2l, 1) := dk_133 (dk_at dksX0_compensate_0 8 rfl rfl)
theorem dX0_compensate_9 : decode cX0_compensate 9 = .ok (.lastore, 1) := dk_80 (dk_at dksX0_compensate_0 9 rfl rfl)
theorem dX0_compensate_10 : decode cX0_compensate 10 = .ok (.goto 7, 3) := dk_167 0 7 (dk_at dksX0_compensate_0 10 rfl rfl)
theorem dX0_compensate_13 : decode cX0_compensate 13 = .ok (.astore 4, 2) := dk_58 4 (dk_at dksX0_compensate_0 13 rfl rfl)
theorem dX0_compensate_15 : decode cX0_compensate 15 = .ok (.iconst 1, 1) := dk_4 (dk_at dksX0_compensate_0 15 rfl rfl)
theorem dX0_compensate_16 : decode cX0_compensate 16 = .ok (.ireturn, 1) := dk_172 (dk_at dksX0_compensate_0 16 rfl rfl)
theorem dX0_compensate_17 : decode cX0_compensate 17 = .ok (.iconst 0, 1) := dk_3 (dk_at dksX0_compensate_0 17 rfl rfl)
theorem dX0_compensate_18 : decode cX0_compensate 18 = .ok (.ireturn, 1) := dk_172 (dk_at dksX0_compensate_0 18 rfl rfl)
abbrev cX0_close : ByteArray := method_17_code
def yX0_close : MethodName := ⟨RX0, "close", "(LCartelWatch;I[J)I"⟩
def dkwX0_close_0 : List UInt8 := [44, 3, 42, 27, 182, 0, 62, 133, 80, 167, 0, 9, 78, 4, 172, 78, 5, 172, 3, 172]
abbrev dktX0_close_0 : List UInt8 := dkwX0_close_0 ++ []
theorem dksX0_close_0 : cX0_close.data.toList.drop 0 = dktX0_close_0 := by decide +kernel
theorem dX0_close_0 : decode cX0_close 0 = .ok (.aload_n 2, 1) := dk_44 (dk_at dksX0_close_0 0 rfl rfl)
theorem dX0_close_1 : decode cX0_close 1 = .ok (.iconst 0, 1) := dk_3 (dk_at dksX0_close_0 1 rfl rfl)
theorem dX0_close_2 : decode cX0_close 2 = .ok (.aload_n 0, 1) := dk_42 (dk_at dksX0_close_0 2 rfl rfl)
theorem dX0_close_3 : decode cX0_close 3 = .ok (.iload_n 1, 1) := dk_27 (dk_at dksX0_close_0 3 rfl rfl)
theorem dX0_close_4 : decode cX0_close 4 = .ok (.invokevirtual 62, 3) := dk_182 0 62 (dk_at dksX0_close_0 4 rfl rfl)
theorem dX0_close_7 : decode cX0_close 7 = .ok (.i2l, 1) := dk_133 (dk_at dksX0_close_0 7 rfl rfl)
theorem dX0_close_8 : decode cX0_close 8 = .ok (.lastore, 1) := dk_80 (dk_at dksX0_close_0 8 rfl rfl)
theorem dX0_close_9 : decode cX0_close 9 = .ok (.goto 9, 3) := dk_167 0 9 (dk_at dksX0_close_0 9 rfl rfl)
theorem dX0_close_12 : decode cX0_close 12 = .ok (.astore_n 3, 1) := dk_78 (dk_at dksX0_close_0 12 rfl rfl)
theorem dX0_close_13 : decode cX0_close 13 = .ok (.iconst 1, 1) := dk_4 (dk_at dksX0_close_0 13 rfl rfl)
theorem dX0_close_14 : decode cX0_close 14 = .ok (.ireturn, 1) := dk_172 (dk_at dksX0_close_0 14 rfl rfl)
theorem dX0_close_15 : decode cX0_close 15 = .ok (.astore_n 3, 1) := dk_78 (dk_at dksX0_close_0 15 rfl rfl)
theorem dX0_close_16 : decode cX0_close 16 = .ok (.iconst 2, 1) := dk_5 (dk_at dksX0_close_0 16 rfl rfl)
theorem dX0_close_17 : decode cX0_close 17 = .ok (.ireturn, 1) := dk_172 (dk_at dksX0_close_0 17 rfl rfl)
theorem dX0_close_18 : decode cX0_close 18 = .ok (.iconst 0, 1) := dk_3 (dk_at dksX0_close_0 18 rfl rfl)
theorem dX0_close_19 : decode cX0_close 19 = .ok (.ireturn, 1) := dk_172 (dk_at dksX0_close_0 19 rfl rfl)
abbrev cX0_fine : ByteArray := method_18_code
def yX0_fine : MethodName := ⟨RX0, "fine", "(LCartelWatch;II[J)I"⟩
def dkwX0_fine_0 : List UInt8 := [45, 3, 42, 27, 28, 182, 0, 65, 133, 80, 167, 0, 11, 58, 4, 4, 172, 58, 4, 5, 172, 3, 172]
abbrev dktX0_fine_0 : List UInt8 := dkwX0_fine_0 ++ []
theorem dksX0_fine_0 : cX0_fine.data.toList.drop 0 = dktX0_fine_0 := by decide +kernel
theorem dX0_fine_0 : decode cX0_fine 0 = .ok (.aload_n 3, 1) := dk_45 (dk_at dksX0_fine_0 0 rfl rfl)
theorem dX0_fine_1 : decode cX0_fine 1 = .ok (.iconst 0, 1) := dk_3 (dk_at dksX0_fine_0 1 rfl rfl)
theorem dX0_fine_2 : decode cX0_fine 2 = .ok (.aload_n 0, 1) := dk_42 (dk_at dksX0_fine_0 2 rfl rfl)
theorem dX0_fine_3 : decode cX0_fine 3 = .ok (.iload_n 1, 1) := dk_27 (dk_at dksX0_fine_0 3 rfl rfl)
theorem dX0_fine_4 : decode cX0_fine 4 = .ok (.iload_n 2, 1) := dk_28 (dk_at dksX0_fine_0 4 rfl rfl)
theorem dX0_fine_5 : decode cX0_fine 5 = .ok (.invokevirtual 65, 3) := dk_182 0 65 (dk_at dksX0_fine_0 5 rfl rfl)
theorem dX0_fine_8 : decode cX0_fine 8 = .ok (.i2l, 1) := dk_133 (dk_at dksX0_fine_0 8 rfl rfl)
theorem dX0_fine_9 : decode cX0_fine 9 = .ok (.lastore, 1) := dk_80 (dk_at dksX0_fine_0 9 rfl rfl)
theorem dX0_fine_10 : decode cX0_fine 10 = .ok (.goto 11, 3) := dk_167 0 11 (dk_at dksX0_fine_0 10 rfl rfl)
theorem dX0_fine_13 : decode cX0_fine 13 = .ok (.astore 4, 2) := dk_58 4 (dk_at dksX0_fine_0 13 rfl rfl)
theorem dX0_fine_15 : decode cX0_fine 15 = .ok (.iconst 1, 1) := dk_4 (dk_at dksX0_fine_0 15 rfl rfl)
theorem dX0_fine_16 : decode cX0_fine 16 = .ok (.ireturn, 1) := dk_172 (dk_at dksX0_fine_0 16 rfl rfl)
theorem dX0_fine_17 : decode cX0_fine 17 = .ok (.astore 4, 2) := dk_58 4 (dk_at dksX0_fine_0 17 rfl rfl)
theorem dX0_fine_19 : decode cX0_fine 19 = .ok (.iconst 2, 1) := dk_5 (dk_at dksX0_fine_0 19 rfl rfl)
theorem dX0_fine_20 : decode cX0_fine 20 = .ok (.ireturn, 1) := dk_172 (dk_at dksX0_fine_0 20 rfl rfl)
theorem dX0_fine_21 : decode cX0_fine 21 = .ok (.iconst 0, 1) := dk_3 (dk_at dksX0_fine_0 21 rfl rfl)
theorem dX0_fine_22 : decode cX0_fine 22 = .ok (.ireturn, 1) := dk_172 (dk_at dksX0_fine_0 22 rfl rfl)
abbrev cX0_firstTeller : ByteArray := method_19_code
def yX0_firstTeller : MethodName := ⟨RX0, "firstTeller", "(LCartelWatch;I[J)I"⟩
def dkwX0_firstTeller_0 : List UInt8 := [44, 3, 42, 27, 182, 0, 68, 133, 80, 167, 0, 6, 78, 4, 172, 3, 172]
abbrev dktX0_firstTeller_0 : List UInt8 := dkwX0_firstTeller_0 ++ []
theorem dksX0_firstTeller_0 : cX0_firstTeller.data.toList.drop 0 = dktX0_firstTeller_0 := by decide +kernel
theorem dX0_firstTeller_0 : decode cX0_firstTeller 0 = .ok (.aload_n 2, 1) := dk_44 (dk_at dksX0_firstTeller_0 0 rfl rfl)
theorem dX0_firstTeller_1 : decode cX0_firstTeller 1 = .ok (.iconst 0, 1) := dk_3 (dk_at dksX0_firstTeller_0 1 rfl rfl)
theorem dX0_firstTeller_2 : decode cX0_firstTeller 2 = .ok (.aload_n 0, 1) := dk_42 (dk_at dksX0_firstTeller_0 2 rfl rfl)
theorem dX0_firstTeller_3 : decode cX0_firstTeller 3 = .ok (.iload_n 1, 1) := dk_27 (dk_at dksX0_firstTeller_0 3 rfl rfl)
theorem dX0_firstTeller_4 : decode cX0_firstTeller 4 = .ok (.invokevirtual 68, 3) := dk_182 0 68 (dk_at dksX0_firstTeller_0 4 rfl rfl)
theorem dX0_firstTeller_7 : decode cX0_firstTeller 7 = .ok (.i2l, 1) := dk_133 (dk_at dksX0_firstTeller_0 7 rfl rfl)
theorem dX0_firstTeller_8 : decode cX0_firstTeller 8 = .ok (.lastore, 1) := dk_80 (dk_at dksX0_firstTeller_0 8 rfl rfl)
theorem dX0_firstTeller_9 : decode cX0_firstTeller 9 = .ok (.goto 6, 3) := dk_167 0 6 (dk_at dksX0_firstTeller_0 9 rfl rfl)
theorem dX0_firstTeller_12 : decode cX0_firstTeller 12 = .ok (.astore_n 3, 1) := dk_78 (dk_at dksX0_firstTeller_0 12 rfl rfl)
theorem dX0_firstTeller_13 : decode cX0_firstTeller 13 = .ok (.iconst 1, 1) := dk_4 (dk_at dksX0_firstTeller_0 13 rfl rfl)
theorem dX0_firstTeller_14 : decode cX0_firstTeller 14 = .ok (.ireturn, 1) := dk_172 (dk_at dksX0_firstTeller_0 14 rfl rfl)
theorem dX0_firstTeller_15 : decode cX0_firstTeller 15 = .ok (.iconst 0, 1) := dk_3 (dk_at dksX0_firstTeller_0 15 rfl rfl)
theorem dX0_firstTeller_16 : decode cX0_firstTeller 16 = .ok (.ireturn, 1) := dk_172 (dk_at dksX0_firstTeller_0 16 rfl rfl)
theorem q21 : (Jvm.Cond.initialized "CartelWatchLaw") ∈ lw_all := lw_g (lw_at lw_m1 0 rfl) rfl
theorem q46 : (Jvm.Cond.classLink "CartelWatchLaw" (8 : Nat) "CartelWatch") ∈ lw_all := lw_g (lw_at lw_m1 25 rfl) rfl
theorem q48 : (Jvm.Cond.methodLink "CartelWatchLaw" (71 : Nat) ({ cls := "CartelWatch", name := "<init>", desc := "()V" } : Jvm.MethodName)) ∈ lw_all := lw_g (lw_at lw_m1 27 rfl) rfl
theorem q94 : (Jvm.Cond.methodLink "CartelWatchLaw" (114 : Nat) ({ cls := "CartelWatch", name := "worst", desc := "()I" } : Jvm.MethodName)) ∈ lw_all := lw_g (lw_at lw_m1 73 rfl) rfl
theorem q187 : (Jvm.Cond.methodLink "CartelWatchLaw" (75 : Nat) ({ cls := "CartelWatchLaw", name := "open", desc := "(LCartelWatch;[J)I" } : Jvm.MethodName)) ∈ lw_all := lw_g (lw_at lw_m1 166 rfl) rfl
theorem q188 : (Jvm.Cond.static ({ cls := "CartelWatchLaw", name := "open", desc := "(LCartelWatch;[J)I" } : Jvm.MethodName)) ∈ lw_all := lw_g (lw_at lw_m1 167 rfl) rfl
theorem q189 : (Jvm.Cond.codeWith ({ cls := "CartelWatchLaw", name := "open", desc := "(LCartelWatch;[J)I" } : Jvm.MethodName) method_3_code (3 : Nat) (Option.some Jvm.ClassFile.FieldType.int) [((0 : Nat), (8 : Nat), (11 : Nat), (13 : Nat))]) ∈ lw_all := lw_g (lw_at lw_m1 168 rfl) rfl
theorem q190 : (Jvm.Cond.classLink "CartelWatchLaw" (13 : Nat) "java/lang/IllegalStateException") ∈ lw_all := lw_g (lw_at lw_m1 169 rfl) rfl
theorem q191 : (Jvm.Cond.methodLink "CartelWatchLaw" (7 : Nat) ({ cls := "CartelWatch", name := "open", desc := "()I" } : Jvm.MethodName)) ∈ lw_all := lw_g (lw_at lw_m1 170 rfl) rfl
theorem q354 : (Jvm.Cond.methodLink "CartelWatchLaw" (84 : Nat) ({ cls := "CartelWatchLaw", name := "bid", desc := "(LCartelWatch;III[J)I" } : Jvm.MethodName)) ∈ lw_all := lw_g (lw_at lw_m2 93 rfl) rfl
theorem q355 : (Jvm.Cond.static ({ cls := "CartelWatchLaw", name := "bid", desc := "(LCartelWatch;III[J)I" } : Jvm.MethodName)) ∈ lw_all := lw_g (lw_at lw_m2 94 rfl) rfl
theorem q356 : (Jvm.Cond.codeWith ({ cls := "CartelWatchLaw", name := "bid", desc := "(LCartelWatch;III[J)I" } : Jvm.MethodName) method_4_code (6 : Nat) (Option.some Jvm.ClassFile.FieldType.int) [((0 : Nat), (12 : Nat), (15 : Nat), (19 : Nat)), ((0 : Nat), (12 : Nat), (19 : Nat), (21 : Nat)), ((0 : Nat), (12 : Nat), (23 : Nat), (13 : Nat))]) ∈ lw_all := lw_g (lw_at lw_m2 95 rfl) rfl
theorem q357 : (Jvm.Cond.classLink "CartelWatchLaw" (19 : Nat) "java/lang/IndexOutOfBoundsException") ∈ lw_all := lw_g (lw_at lw_m2 96 rfl) rfl
theorem q381 : (Jvm.Cond.classLink "CartelWatchLaw" (21 : Nat) "java/lang/IllegalArgumentException") ∈ lw_all := lw_g (lw_at lw_m2 120 rfl) rfl
theorem q382 : (Jvm.Cond.methodLink "CartelWatchLaw" (15 : Nat) ({ cls := "CartelWatch", name := "bid", desc := "(III)I" } : Jvm.MethodName)) ∈ lw_all := lw_g (lw_at lw_m2 121 rfl) rfl
theorem q441 : (Jvm.Cond.methodLink "CartelWatchLaw" (88 : Nat) ({ cls := "CartelWatchLaw", name := "withdraw", desc := "(LCartelWatch;II[J)I" } : Jvm.MethodName)) ∈ lw_all := lw_g (lw_at lw_m2 180 rfl) rfl
theorem q442 : (Jvm.Cond.static ({ cls := "CartelWatchLaw", name := "withdraw", desc := "(LCartelWatch;II[J)I" } : Jvm.MethodName)) ∈ lw_all := lw_g (lw_at lw_m2 181 rfl) rfl
theorem q443 : (Jvm.Cond.codeWith ({ cls := "CartelWatchLaw", name := "withdraw", desc := "(LCartelWatch;II[J)I" } : Jvm.MethodName) method_5_code (5 : Nat) (Option.some Jvm.ClassFile.FieldType.int) [((0 : Nat), (10 : Nat), (13 : Nat), (19 : Nat)), ((0 : Nat), (10 : Nat), (17 : Nat), (21 : Nat)), ((0 : Nat), (10 : Nat), (21 : Nat), (13 : Nat))]) ∈ lw_all := lw_g (lw_at lw_m2 182 rfl) rfl
theorem q444 : (Jvm.Cond.methodLink "CartelWatchLaw" (23 : Nat) ({ cls := "CartelWatch", name := "withdraw", desc := "(II)I" } : Jvm.MethodName)) ∈ lw_all := lw_g (lw_at lw_m2 183 rfl) rfl
theorem q448 : (Jvm.Cond.methodLink "CartelWatchLaw" (92 : Nat) ({ cls := "CartelWatchLaw", name := "award", desc := "(LCartelWatch;I[J)I" } : Jvm.MethodName)) ∈ lw_all := lw_g (lw_at lw_m2 187 rfl) rfl
theorem q449 : (Jvm.Cond.static ({ cls := "CartelWatchLaw", name := "award", desc := "(LCartelWatch;I[J)I" } : Jvm.MethodName)) ∈ lw_all := lw_g (lw_at lw_m2 188 rfl) rfl
theorem q450 : (Jvm.Cond.codeWith ({ cls := "CartelWatchLaw", name := "award", desc := "(LCartelWatch;I[J)I" } : Jvm.MethodName) method_6_code (4 : Nat) (Option.some Jvm.ClassFile.FieldType.int) [((0 : Nat), (9 : Nat), (12 : Nat), (19 : Nat)), ((0 : Nat), (9 : Nat), (15 : Nat), (13 : Nat))]) ∈ lw_all := lw_g (lw_at lw_m2 189 rfl) rfl
theorem q451 : (Jvm.Cond.methodLink "CartelWatchLaw" (27 : Nat) ({ cls := "CartelWatch", name := "award", desc := "(I)I" } : Jvm.MethodName)) ∈ lw_all := lw_g (lw_at lw_m2 190 rfl) rfl
theorem q460 : (Jvm.Cond.methodLink "CartelWatchLaw" (96 : Nat) ({ cls := "CartelWatchLaw", name := "passOn", desc := "(LCartelWatch;III[J)I" } : Jvm.MethodName)) ∈ lw_all := lw_g (lw_at lw_m2 199 rfl) rfl
theorem q461 : (Jvm.Cond.static ({ cls := "CartelWatchLaw", name := "passOn", desc := "(LCartelWatch;III[J)I" } : Jvm.MethodName)) ∈ lw_all := lw_g (lw_at lw_m2 200 rfl) rfl
theorem q462 : (Jvm.Cond.codeWith ({ cls := "CartelWatchLaw", name := "passOn", desc := "(LCartelWatch;III[J)I" } : Jvm.MethodName) method_7_code (6 : Nat) (Option.some Jvm.ClassFile.FieldType.int) [((0 : Nat), (12 : Nat), (15 : Nat), (19 : Nat)), ((0 : Nat), (12 : Nat), (19 : Nat), (13 : Nat)), ((0 : Nat), (12 : Nat), (23 : Nat), (21 : Nat))]) ∈ lw_all := lw_g (lw_at lw_m2 201 rfl) rfl
theorem q463 : (Jvm.Cond.methodLink "CartelWatchLaw" (31 : Nat) ({ cls := "CartelWatch", name := "passOn", desc := "(III)I" } : Jvm.MethodName)) ∈ lw_all := lw_g (lw_at lw_m2 202 rfl) rfl
theorem q468 : (Jvm.Cond.methodLink "CartelWatchLaw" (99 : Nat) ({ cls := "CartelWatchLaw", name := "turnover", desc := "(LCartelWatch;I[J)I" } : Jvm.MethodName)) ∈ lw_all := lw_g (lw_at lw_m2 207 rfl) rfl
theorem q469 : (Jvm.Cond.static ({ cls := "CartelWatchLaw", name := "turnover", desc := "(LCartelWatch;I[J)I" } : Jvm.MethodName)) ∈ lw_all := lw_g (lw_at lw_m2 208 rfl) rfl
theorem q470 : (Jvm.Cond.codeWith ({ cls := "CartelWatchLaw", name := "turnover", desc := "(LCartelWatch;I[J)I" } : Jvm.MethodName) method_8_code (4 : Nat) (Option.some Jvm.ClassFile.FieldType.int) [((0 : Nat), (9 : Nat), (12 : Nat), (21 : Nat))]) ∈ lw_all := lw_g (lw_at lw_m2 209 rfl) rfl
theorem q471 : (Jvm.Cond.methodLink "CartelWatchLaw" (34 : Nat) ({ cls := "CartelWatch", name := "turnover", desc := "(I)I" } : Jvm.MethodName)) ∈ lw_all := lw_g (lw_at lw_m2 210 rfl) rfl
theorem q493 : (Jvm.Cond.methodLink "CartelWatchLaw" (102 : Nat) ({ cls := "CartelWatchLaw", name := "won", desc := "(LCartelWatch;I[J)I" } : Jvm.MethodName)) ∈ lw_all := lw_g (lw_at lw_m2 232 rfl) rfl
theorem q494 : (Jvm.Cond.static ({ cls := "CartelWatchLaw", name := "won", desc := "(LCartelWatch;I[J)I" } : Jvm.MethodName)) ∈ lw_all := lw_g (lw_at lw_m2 233 rfl) rfl
theorem q495 : (Jvm.Cond.codeWith ({ cls := "CartelWatchLaw", name := "won", desc := "(LCartelWatch;I[J)I" } : Jvm.MethodName) method_9_code (4 : Nat) (Option.some Jvm.ClassFile.FieldType.int) [((0 : Nat), (9 : Nat), (12 : Nat), (21 : Nat))]) ∈ lw_all := lw_g (lw_at lw_m2 234 rfl) rfl
theorem q496 : (Jvm.Cond.methodLink "CartelWatchLaw" (37 : Nat) ({ cls := "CartelWatch", name := "won", desc := "(I)I" } : Jvm.MethodName)) ∈ lw_all := lw_g (lw_at lw_m2 235 rfl) rfl
theorem q502 : (Jvm.Cond.methodLink "CartelWatchLaw" (105 : Nat) ({ cls := "CartelWatchLaw", name := "suspicion", desc := "(LCartelWatch;II[J)I" } : Jvm.MethodName)) ∈ lw_all := lw_g (lw_at lw_m3 1 rfl) rfl
theorem q503 : (Jvm.Cond.static ({ cls := "CartelWatchLaw", name := "suspicion", desc := "(LCartelWatch;II[J)I" } : Jvm.MethodName)) ∈ lw_all := lw_g (lw_at lw_m3 2 rfl) rfl
theorem q504 : (Jvm.Cond.codeWith ({ cls := "CartelWatchLaw", name := "suspicion", desc := "(LCartelWatch;II[J)I" } : Jvm.MethodName) method_10_code (5 : Nat) (Option.some Jvm.ClassFile.FieldType.int) [((0 : Nat), (10 : Nat), (13 : Nat), (21 : Nat))]) ∈ lw_all := lw_g (lw_at lw_m3 3 rfl) rfl
theorem q505 : (Jvm.Cond.methodLink "CartelWatchLaw" (40 : Nat) ({ cls := "CartelWatch", name := "suspicion", desc := "(II)I" } : Jvm.MethodName)) ∈ lw_all := lw_g (lw_at lw_m3 4 rfl) rfl
theorem q513 : (Jvm.Cond.methodLink "CartelWatchLaw" (108 : Nat) ({ cls := "CartelWatchLaw", name := "sign", desc := "(LCartelWatch;III[J)I" } : Jvm.MethodName)) ∈ lw_all := lw_g (lw_at lw_m3 12 rfl) rfl
theorem q514 : (Jvm.Cond.static ({ cls := "CartelWatchLaw", name := "sign", desc := "(LCartelWatch;III[J)I" } : Jvm.MethodName)) ∈ lw_all := lw_g (lw_at lw_m3 13 rfl) rfl
theorem q515 : (Jvm.Cond.codeWith ({ cls := "CartelWatchLaw", name := "sign", desc := "(LCartelWatch;III[J)I" } : Jvm.MethodName) method_11_code (6 : Nat) (Option.some Jvm.ClassFile.FieldType.int) [((0 : Nat), (12 : Nat), (15 : Nat), (19 : Nat)), ((0 : Nat), (12 : Nat), (19 : Nat), (21 : Nat))]) ∈ lw_all := lw_g (lw_at lw_m3 14 rfl) rfl
theorem q516 : (Jvm.Cond.methodLink "CartelWatchLaw" (43 : Nat) ({ cls := "CartelWatch", name := "sign", desc := "(III)I" } : Jvm.MethodName)) ∈ lw_all := lw_g (lw_at lw_m3 15 rfl) rfl
theorem q520 : (Jvm.Cond.methodLink "CartelWatchLaw" (111 : Nat) ({ cls := "CartelWatchLaw", name := "setMark", desc := "(LCartelWatch;I[J)I" } : Jvm.MethodName)) ∈ lw_all := lw_g (lw_at lw_m3 19 rfl) rfl
theorem q521 : (Jvm.Cond.static ({ cls := "CartelWatchLaw", name := "setMark", desc := "(LCartelWatch;I[J)I" } : Jvm.MethodName)) ∈ lw_all := lw_g (lw_at lw_m3 20 rfl) rfl
theorem q522 : (Jvm.Cond.codeWith ({ cls := "CartelWatchLaw", name := "setMark", desc := "(LCartelWatch;I[J)I" } : Jvm.MethodName) method_12_code (4 : Nat) (Option.some Jvm.ClassFile.FieldType.int) [((0 : Nat), (9 : Nat), (12 : Nat), (21 : Nat))]) ∈ lw_all := lw_g (lw_at lw_m3 21 rfl) rfl
theorem q523 : (Jvm.Cond.methodLink "CartelWatchLaw" (46 : Nat) ({ cls := "CartelWatch", name := "setMark", desc := "(I)I" } : Jvm.MethodName)) ∈ lw_all := lw_g (lw_at lw_m3 22 rfl) rfl
theorem q527 : (Jvm.Cond.methodLink "CartelWatchLaw" (118 : Nat) ({ cls := "CartelWatchLaw", name := "file", desc := "(LCartelWatch;II[J)I" } : Jvm.MethodName)) ∈ lw_all := lw_g (lw_at lw_m3 26 rfl) rfl
theorem q528 : (Jvm.Cond.static ({ cls := "CartelWatchLaw", name := "file", desc := "(LCartelWatch;II[J)I" } : Jvm.MethodName)) ∈ lw_all := lw_g (lw_at lw_m3 27 rfl) rfl
theorem q529 : (Jvm.Cond.codeWith ({ cls := "CartelWatchLaw", name := "file", desc := "(LCartelWatch;II[J)I" } : Jvm.MethodName) method_13_code (5 : Nat) (Option.some Jvm.ClassFile.FieldType.int) [((0 : Nat), (10 : Nat), (13 : Nat), (21 : Nat)), ((0 : Nat), (10 : Nat), (17 : Nat), (13 : Nat))]) ∈ lw_all := lw_g (lw_at lw_m3 28 rfl) rfl
theorem q530 : (Jvm.Cond.methodLink "CartelWatchLaw" (49 : Nat) ({ cls := "CartelWatch", name := "file", desc := "(II)I" } : Jvm.MethodName)) ∈ lw_all := lw_g (lw_at lw_m3 29 rfl) rfl
theorem q572 : (Jvm.Cond.methodLink "CartelWatchLaw" (121 : Nat) ({ cls := "CartelWatchLaw", name := "matters", desc := "(LCartelWatch;I[J)I" } : Jvm.MethodName)) ∈ lw_all := lw_g (lw_at lw_m3 71 rfl) rfl
theorem q573 : (Jvm.Cond.static ({ cls := "CartelWatchLaw", name := "matters", desc := "(LCartelWatch;I[J)I" } : Jvm.MethodName)) ∈ lw_all := lw_g (lw_at lw_m3 72 rfl) rfl
theorem q574 : (Jvm.Cond.codeWith ({ cls := "CartelWatchLaw", name := "matters", desc := "(LCartelWatch;I[J)I" } : Jvm.MethodName) method_14_code (4 : Nat) (Option.some Jvm.ClassFile.FieldType.int) [((0 : Nat), (9 : Nat), (12 : Nat), (19 : Nat))]) ∈ lw_all := lw_g (lw_at lw_m3 73 rfl) rfl
theorem q575 : (Jvm.Cond.methodLink "CartelWatchLaw" (52 : Nat) ({ cls := "CartelWatch", name := "matters", desc := "(I)I" } : Jvm.MethodName)) ∈ lw_all := lw_g (lw_at lw_m3 74 rfl) rfl
theorem q579 : (Jvm.Cond.methodLink "CartelWatchLaw" (124 : Nat) ({ cls := "CartelWatchLaw", name := "tell", desc := "(LCartelWatch;III[J)I" } : Jvm.MethodName)) ∈ lw_all := lw_g (lw_at lw_m3 78 rfl) rfl
theorem q580 : (Jvm.Cond.static ({ cls := "CartelWatchLaw", name := "tell", desc := "(LCartelWatch;III[J)I" } : Jvm.MethodName)) ∈ lw_all := lw_g (lw_at lw_m3 79 rfl) rfl
theorem q581 : (Jvm.Cond.codeWith ({ cls := "CartelWatchLaw", name := "tell", desc := "(LCartelWatch;III[J)I" } : Jvm.MethodName) method_15_code (6 : Nat) (Option.some Jvm.ClassFile.FieldType.int) [((0 : Nat), (19 : Nat), (22 : Nat), (19 : Nat)), ((0 : Nat), (19 : Nat), (26 : Nat), (21 : Nat)), ((0 : Nat), (19 : Nat), (30 : Nat), (13 : Nat))]) ∈ lw_all := lw_g (lw_at lw_m3 80 rfl) rfl
theorem q582 : (Jvm.Cond.methodLink "CartelWatchLaw" (55 : Nat) ({ cls := "CartelWatch", name := "tell", desc := "(III)Z" } : Jvm.MethodName)) ∈ lw_all := lw_g (lw_at lw_m3 81 rfl) rfl
theorem q631 : (Jvm.Cond.methodLink "CartelWatchLaw" (127 : Nat) ({ cls := "CartelWatchLaw", name := "compensate", desc := "(LCartelWatch;II[J)I" } : Jvm.MethodName)) ∈ lw_all := lw_g (lw_at lw_m3 130 rfl) rfl
theorem q632 : (Jvm.Cond.static ({ cls := "CartelWatchLaw", name := "compensate", desc := "(LCartelWatch;II[J)I" } : Jvm.MethodName)) ∈ lw_all := lw_g (lw_at lw_m3 131 rfl) rfl
theorem q633 : (Jvm.Cond.codeWith ({ cls := "CartelWatchLaw", name := "compensate", desc := "(LCartelWatch;II[J)I" } : Jvm.MethodName) method_16_code (5 : Nat) (Option.some Jvm.ClassFile.FieldType.int) [((0 : Nat), (10 : Nat), (13 : Nat), (21 : Nat))]) ∈ lw_all := lw_g (lw_at lw_m3 132 rfl) rfl
theorem q634 : (Jvm.Cond.methodLink "CartelWatchLaw" (59 : Nat) ({ cls := "CartelWatch", name := "compensate", desc := "(II)I" } : Jvm.MethodName)) ∈ lw_all := lw_g (lw_at lw_m3 133 rfl) rfl
theorem q638 : (Jvm.Cond.methodLink "CartelWatchLaw" (130 : Nat) ({ cls := "CartelWatchLaw", name := "close", desc := "(LCartelWatch;I[J)I" } : Jvm.MethodName)) ∈ lw_all := lw_g (lw_at lw_m3 137 rfl) rfl
theorem q639 : (Jvm.Cond.static ({ cls := "CartelWatchLaw", name := "close", desc := "(LCartelWatch;I[J)I" } : Jvm.MethodName)) ∈ lw_all := lw_g (lw_at lw_m3 138 rfl) rfl
theorem q640 : (Jvm.Cond.codeWith ({ cls := "CartelWatchLaw", name := "close", desc := "(LCartelWatch;I[J)I" } : Jvm.MethodName) method_17_code (4 : Nat) (Option.some Jvm.ClassFile.FieldType.int) [((0 : Nat), (9 : Nat), (12 : Nat), (19 : Nat)), ((0 : Nat), (9 : Nat), (15 : Nat), (13 : Nat))]) ∈ lw_all := lw_g (lw_at lw_m3 139 rfl) rfl
theorem q641 : (Jvm.Cond.methodLink "CartelWatchLaw" (62 : Nat) ({ cls := "CartelWatch", name := "close", desc := "(I)I" } : Jvm.MethodName)) ∈ lw_all := lw_g (lw_at lw_m3 140 rfl) rfl
theorem q656 : (Jvm.Cond.methodLink "CartelWatchLaw" (133 : Nat) ({ cls := "CartelWatchLaw", name := "fine", desc := "(LCartelWatch;II[J)I" } : Jvm.MethodName)) ∈ lw_all := lw_g (lw_at lw_m3 155 rfl) rfl
theorem q657 : (Jvm.Cond.static ({ cls := "CartelWatchLaw", name := "fine", desc := "(LCartelWatch;II[J)I" } : Jvm.MethodName)) ∈ lw_all := lw_g (lw_at lw_m3 156 rfl) rfl
theorem q658 : (Jvm.Cond.codeWith ({ cls := "CartelWatchLaw", name := "fine", desc := "(LCartelWatch;II[J)I" } : Jvm.MethodName) method_18_code (5 : Nat) (Option.some Jvm.ClassFile.FieldType.int) [((0 : Nat), (10 : Nat), (13 : Nat), (19 : Nat)), ((0 : Nat), (10 : Nat), (17 : Nat), (21 : Nat))]) ∈ lw_all := lw_g (lw_at lw_m3 157 rfl) rfl
theorem q659 : (Jvm.Cond.methodLink "CartelWatchLaw" (65 : Nat) ({ cls := "CartelWatch", name := "fine", desc := "(II)I" } : Jvm.MethodName)) ∈ lw_all := lw_g (lw_at lw_m3 158 rfl) rfl
theorem q663 : (Jvm.Cond.methodLink "CartelWatchLaw" (136 : Nat) ({ cls := "CartelWatchLaw", name := "firstTeller", desc := "(LCartelWatch;I[J)I" } : Jvm.MethodName)) ∈ lw_all := lw_g (lw_at lw_m3 162 rfl) rfl
theorem q664 : (Jvm.Cond.static ({ cls := "CartelWatchLaw", name := "firstTeller", desc := "(LCartelWatch;I[J)I" } : Jvm.MethodName)) ∈ lw_all := lw_g (lw_at lw_m3 163 rfl) rfl
theorem q665 : (Jvm.Cond.codeWith ({ cls := "CartelWatchLaw", name := "firstTeller", desc := "(LCartelWatch;I[J)I" } : Jvm.MethodName) method_19_code (4 : Nat) (Option.some Jvm.ClassFile.FieldType.int) [((0 : Nat), (9 : Nat), (12 : Nat), (19 : Nat))]) ∈ lw_all := lw_g (lw_at lw_m3 164 rfl) rfl
theorem q666 : (Jvm.Cond.methodLink "CartelWatchLaw" (68 : Nat) ({ cls := "CartelWatch", name := "firstTeller", desc := "(I)I" } : Jvm.MethodName)) ∈ lw_all := lw_g (lw_at lw_m3 165 rfl) rfl
theorem q670 : (Jvm.Cond.classLink "CartelWatchLaw" (72 : Nat) "CartelWatchModel") ∈ lw_all := lw_g (lw_at lw_m3 169 rfl) rfl
theorem q672 : (Jvm.Cond.methodLink "CartelWatchLaw" (74 : Nat) ({ cls := "CartelWatchModel", name := "<init>", desc := "()V" } : Jvm.MethodName)) ∈ lw_all := lw_g (lw_at lw_m3 171 rfl) rfl
theorem q735 : (Jvm.Cond.methodLink "CartelWatchLaw" (81 : Nat) ({ cls := "CartelWatchModel", name := "thrown", desc := "()I" } : Jvm.MethodName)) ∈ lw_all := lw_g (lw_at lw_m3 234 rfl) rfl
theorem q739 : (Jvm.Cond.methodLink "CartelWatchLaw" (80 : Nat) ({ cls := "CartelWatchModel", name := "open", desc := "()I" } : Jvm.MethodName)) ∈ lw_all := lw_g (lw_at lw_m3 238 rfl) rfl
theorem q747 : (Jvm.Cond.methodLink "CartelWatchLaw" (87 : Nat) ({ cls := "CartelWatchModel", name := "bid", desc := "(III)I" } : Jvm.MethodName)) ∈ lw_all := lw_g (lw_at lw_m4 6 rfl) rfl
theorem q770 : (Jvm.Cond.methodLink "CartelWatchLaw" (91 : Nat) ({ cls := "CartelWatchModel", name := "withdraw", desc := "(II)I" } : Jvm.MethodName)) ∈ lw_all := lw_g (lw_at lw_m4 29 rfl) rfl
theorem q774 : (Jvm.Cond.methodLink "CartelWatchLaw" (95 : Nat) ({ cls := "CartelWatchModel", name := "award", desc := "(I)I" } : Jvm.MethodName)) ∈ lw_all := lw_g (lw_at lw_m4 33 rfl) rfl
theorem q778 : (Jvm.Cond.methodLink "CartelWatchLaw" (98 : Nat) ({ cls := "CartelWatchModel", name := "passOn", desc := "(III)I" } : Jvm.MethodName)) ∈ lw_all := lw_g (lw_at lw_m4 37 rfl) rfl
theorem q786 : (Jvm.Cond.methodLink "CartelWatchLaw" (101 : Nat) ({ cls := "CartelWatchModel", name := "turnover", desc := "(I)I" } : Jvm.MethodName)) ∈ lw_all := lw_g (lw_at lw_m4 45 rfl) rfl
theorem q794 : (Jvm.Cond.methodLink "CartelWatchLaw" (104 : Nat) ({ cls := "CartelWatchModel", name := "won", desc := "(I)I" } : Jvm.MethodName)) ∈ lw_all := lw_g (lw_at lw_m4 53 rfl) rfl
theorem q798 : (Jvm.Cond.methodLink "CartelWatchLaw" (107 : Nat) ({ cls := "CartelWatchModel", name := "suspicion", desc := "(II)I" } : Jvm.MethodName)) ∈ lw_all := lw_g (lw_at lw_m4 57 rfl) rfl
theorem q817 : (Jvm.Cond.methodLink "CartelWatchLaw" (110 : Nat) ({ cls := "CartelWatchModel", name := "sign", desc := "(III)I" } : Jvm.MethodName)) ∈ lw_all := lw_g (lw_at lw_m4 76 rfl) rfl
theorem q821 : (Jvm.Cond.methodLink "CartelWatchLaw" (113 : Nat) ({ cls := "CartelWatchModel", name := "setMark", desc := "(I)I" } : Jvm.MethodName)) ∈ lw_all := lw_g (lw_at lw_m4 80 rfl) rfl
theorem q825 : (Jvm.Cond.methodLink "CartelWatchLaw" (117 : Nat) ({ cls := "CartelWatchModel", name := "worst", desc := "()I" } : Jvm.MethodName)) ∈ lw_all := lw_g (lw_at lw_m4 84 rfl) rfl
theorem q829 : (Jvm.Cond.methodLink "CartelWatchLaw" (120 : Nat) ({ cls := "CartelWatchModel", name := "file", desc := "(II)I" } : Jvm.MethodName)) ∈ lw_all := lw_g (lw_at lw_m4 88 rfl) rfl
theorem q833 : (Jvm.Cond.methodLink "CartelWatchLaw" (123 : Nat) ({ cls := "CartelWatchModel", name := "matters", desc := "(I)I" } : Jvm.MethodName)) ∈ lw_all := lw_g (lw_at lw_m4 92 rfl) rfl
theorem q844 : (Jvm.Cond.methodLink "CartelWatchLaw" (126 : Nat) ({ cls := "CartelWatchModel", name := "tell", desc := "(III)Z" } : Jvm.MethodName)) ∈ lw_all := lw_g (lw_at lw_m4 103 rfl) rfl
theorem q852 : (Jvm.Cond.methodLink "CartelWatchLaw" (129 : Nat) ({ cls := "CartelWatchModel", name := "compensate", desc := "(II)I" } : Jvm.MethodName)) ∈ lw_all := lw_g (lw_at lw_m4 111 rfl) rfl
theorem q856 : (Jvm.Cond.methodLink "CartelWatchLaw" (132 : Nat) ({ cls := "CartelWatchModel", name := "close", desc := "(I)I" } : Jvm.MethodName)) ∈ lw_all := lw_g (lw_at lw_m4 115 rfl) rfl
theorem q864 : (Jvm.Cond.methodLink "CartelWatchLaw" (135 : Nat) ({ cls := "CartelWatchModel", name := "fine", desc := "(II)I" } : Jvm.MethodName)) ∈ lw_all := lw_g (lw_at lw_m4 123 rfl) rfl
theorem q868 : (Jvm.Cond.methodLink "CartelWatchLaw" (138 : Nat) ({ cls := "CartelWatchModel", name := "firstTeller", desc := "(I)I" } : Jvm.MethodName)) ∈ lw_all := lw_g (lw_at lw_m4 127 rfl) rfl
/-! the law's own entry -/
set_option maxRecDepth 100000
abbrev cL_law : ByteArray := code
def dkwL_law_51 : List UInt8 := [4, 172]
abbrev dktL_law_51 : List UInt8 := dkwL_law_51 ++ []
def dkwL_law_50 : List UInt8 := [154, 0, 15, 45, 3, 47, 21, 6, 133, 148, 153, 0, 5, 3, 172, 167, 0, 3, 132, 4, 4, 167, 251, 60]
abbrev dktL_law_50 : List UInt8 := dkwL_law_50 ++ dktL_law_51
def dkwL_law_49 : List UInt8 := [21, 4, 4, 96, 46, 182, 0, 138, 54, 6, 44, 182, 0, 81, 21, 5, 159, 0, 5, 3, 172, 21, 5]
abbrev dktL_law_49 : List UInt8 := dkwL_law_49 ++ dktL_law_50
def dkwL_law_48 : List UInt8 := [148, 153, 0, 5, 3, 172, 167, 0, 59, 43, 42, 21, 4, 4, 96, 46, 45, 184, 0, 136, 54, 5, 44, 42]
abbrev dktL_law_48 : List UInt8 := dkwL_law_48 ++ dktL_law_49
def dkwL_law_47 : List UInt8 := [54, 6, 44, 182, 0, 81, 21, 5, 159, 0, 5, 3, 172, 21, 5, 154, 0, 15, 45, 3, 47, 21, 6, 133]
abbrev dktL_law_47 : List UInt8 := dkwL_law_47 ++ dktL_law_48
def dkwL_law_46 : List UInt8 := [46, 45, 184, 0, 133, 54, 5, 44, 42, 21, 4, 4, 96, 46, 42, 21, 4, 5, 96, 46, 182, 0, 135]
abbrev dktL_law_46 : List UInt8 := dkwL_law_46 ++ dktL_law_47
def dkwL_law_45 : List UInt8 := [21, 6, 133, 148, 153, 0, 5, 3, 172, 167, 0, 127, 43, 42, 21, 4, 4, 96, 46, 42, 21, 4, 5, 96]
abbrev dktL_law_45 : List UInt8 := dkwL_law_45 ++ dktL_law_46
def dkwL_law_44 : List UInt8 := [182, 0, 132, 54, 6, 44, 182, 0, 81, 21, 5, 159, 0, 5, 3, 172, 21, 5, 154, 0, 15, 45, 3, 47]
abbrev dktL_law_44 : List UInt8 := dkwL_law_44 ++ dktL_law_45
def dkwL_law_43 : List UInt8 := [167, 0, 183, 43, 42, 21, 4, 4, 96, 46, 45, 184, 0, 130, 54, 5, 44, 42, 21, 4, 4, 96, 46]
abbrev dktL_law_43 : List UInt8 := dkwL_law_43 ++ dktL_law_44
def dkwL_law_42 : List UInt8 := [159, 0, 5, 3, 172, 21, 5, 154, 0, 15, 45, 3, 47, 21, 6, 133, 148, 153, 0, 5, 3, 172]
abbrev dktL_law_42 : List UInt8 := dkwL_law_42 ++ dktL_law_43
def dkwL_law_41 : List UInt8 := [21, 4, 4, 96, 46, 42, 21, 4, 5, 96, 46, 182, 0, 129, 54, 6, 44, 182, 0, 81, 21, 5]
abbrev dktL_law_41 : List UInt8 := dkwL_law_41 ++ dktL_law_42
def dkwL_law_40 : List UInt8 := [167, 0, 251, 43, 42, 21, 4, 4, 96, 46, 42, 21, 4, 5, 96, 46, 45, 184, 0, 127, 54, 5, 44, 42]
abbrev dktL_law_40 : List UInt8 := dkwL_law_40 ++ dktL_law_41
def dkwL_law_39 : List UInt8 := [154, 0, 22, 45, 3, 47, 21, 6, 153, 0, 7, 10, 167, 0, 4, 9, 148, 153, 0, 5, 3, 172]
abbrev dktL_law_39 : List UInt8 := dkwL_law_39 ++ dktL_law_40
def dkwL_law_38 : List UInt8 := [21, 4, 6, 96, 46, 182, 0, 126, 54, 6, 44, 182, 0, 81, 21, 5, 159, 0, 5, 3, 172, 21, 5]
abbrev dktL_law_38 : List UInt8 := dkwL_law_38 ++ dktL_law_39
def dkwL_law_37 : List UInt8 := [6, 96, 46, 45, 184, 0, 124, 54, 5, 44, 42, 21, 4, 4, 96, 46, 42, 21, 4, 5, 96, 46, 42]
abbrev dktL_law_37 : List UInt8 := dkwL_law_37 ++ dktL_law_38
def dkwL_law_36 : List UInt8 := [153, 0, 5, 3, 172, 167, 1, 82, 43, 42, 21, 4, 4, 96, 46, 42, 21, 4, 5, 96, 46, 42, 21, 4]
abbrev dktL_law_36 : List UInt8 := dkwL_law_36 ++ dktL_law_37
def dkwL_law_35 : List UInt8 := [182, 0, 81, 21, 5, 159, 0, 5, 3, 172, 21, 5, 154, 0, 15, 45, 3, 47, 21, 6, 133, 148]
abbrev dktL_law_35 : List UInt8 := dkwL_law_35 ++ dktL_law_36
def dkwL_law_34 : List UInt8 := [21, 4, 4, 96, 46, 45, 184, 0, 121, 54, 5, 44, 42, 21, 4, 4, 96, 46, 182, 0, 123, 54, 6, 44]
abbrev dktL_law_34 : List UInt8 := dkwL_law_34 ++ dktL_law_35
def dkwL_law_33 : List UInt8 := [172, 21, 5, 154, 0, 15, 45, 3, 47, 21, 6, 133, 148, 153, 0, 5, 3, 172, 167, 1, 138, 43, 42]
abbrev dktL_law_33 : List UInt8 := dkwL_law_33 ++ dktL_law_34
def dkwL_law_32 : List UInt8 := [4, 96, 46, 42, 21, 4, 5, 96, 46, 182, 0, 120, 54, 6, 44, 182, 0, 81, 21, 5, 159, 0, 5, 3]
abbrev dktL_law_32 : List UInt8 := dkwL_law_32 ++ dktL_law_33
def dkwL_law_31 : List UInt8 := [172, 43, 42, 21, 4, 4, 96, 46, 42, 21, 4, 5, 96, 46, 45, 184, 0, 118, 54, 5, 44, 42, 21, 4]
abbrev dktL_law_31 : List UInt8 := dkwL_law_31 ++ dktL_law_32
def dkwL_law_30 : List UInt8 := [21, 6, 133, 148, 153, 0, 5, 3, 172, 167, 1, 219, 43, 182, 0, 114, 44, 182, 0, 117, 159, 1, 208, 3]
abbrev dktL_law_30 : List UInt8 := dkwL_law_30 ++ dktL_law_31
def dkwL_law_29 : List UInt8 := [182, 0, 113, 54, 6, 44, 182, 0, 81, 21, 5, 159, 0, 5, 3, 172, 21, 5, 154, 0, 15, 45, 3, 47]
abbrev dktL_law_29 : List UInt8 := dkwL_law_29 ++ dktL_law_30
def dkwL_law_28 : List UInt8 := [167, 2, 19, 43, 42, 21, 4, 4, 96, 46, 45, 184, 0, 111, 54, 5, 44, 42, 21, 4, 4, 96, 46]
abbrev dktL_law_28 : List UInt8 := dkwL_law_28 ++ dktL_law_29
def dkwL_law_27 : List UInt8 := [21, 5, 159, 0, 5, 3, 172, 21, 5, 154, 0, 15, 45, 3, 47, 21, 6, 133, 148, 153, 0, 5, 3, 172]
abbrev dktL_law_27 : List UInt8 := dkwL_law_27 ++ dktL_law_28
def dkwL_law_26 : List UInt8 := [96, 46, 42, 21, 4, 5, 96, 46, 42, 21, 4, 6, 96, 46, 182, 0, 110, 54, 6, 44, 182, 0, 81]
abbrev dktL_law_26 : List UInt8 := dkwL_law_26 ++ dktL_law_27
def dkwL_law_25 : List UInt8 := [46, 42, 21, 4, 5, 96, 46, 42, 21, 4, 6, 96, 46, 45, 184, 0, 108, 54, 5, 44, 42, 21, 4, 4]
abbrev dktL_law_25 : List UInt8 := dkwL_law_25 ++ dktL_law_26
def dkwL_law_24 : List UInt8 := [154, 0, 15, 45, 3, 47, 21, 6, 133, 148, 153, 0, 5, 3, 172, 167, 2, 99, 43, 42, 21, 4, 4, 96]
abbrev dktL_law_24 : List UInt8 := dkwL_law_24 ++ dktL_law_25
def dkwL_law_23 : List UInt8 := [42, 21, 4, 5, 96, 46, 182, 0, 107, 54, 6, 44, 182, 0, 81, 21, 5, 159, 0, 5, 3, 172, 21, 5]
abbrev dktL_law_23 : List UInt8 := dkwL_law_23 ++ dktL_law_24
def dkwL_law_22 : List UInt8 := [21, 4, 4, 96, 46, 42, 21, 4, 5, 96, 46, 45, 184, 0, 105, 54, 5, 44, 42, 21, 4, 4, 96, 46]
abbrev dktL_law_22 : List UInt8 := dkwL_law_22 ++ dktL_law_23
def dkwL_law_21 : List UInt8 := [172, 21, 5, 154, 0, 15, 45, 3, 47, 21, 6, 133, 148, 153, 0, 5, 3, 172, 167, 2, 167, 43, 42]
abbrev dktL_law_21 : List UInt8 := dkwL_law_21 ++ dktL_law_22
def dkwL_law_20 : List UInt8 := [54, 5, 44, 42, 21, 4, 4, 96, 46, 182, 0, 104, 54, 6, 44, 182, 0, 81, 21, 5, 159, 0, 5, 3]
abbrev dktL_law_20 : List UInt8 := dkwL_law_20 ++ dktL_law_21
def dkwL_law_19 : List UInt8 := [21, 6, 133, 148, 153, 0, 5, 3, 172, 167, 2, 223, 43, 42, 21, 4, 4, 96, 46, 45, 184, 0, 102]
abbrev dktL_law_19 : List UInt8 := dkwL_law_19 ++ dktL_law_20
def dkwL_law_18 : List UInt8 := [182, 0, 101, 54, 6, 44, 182, 0, 81, 21, 5, 159, 0, 5, 3, 172, 21, 5, 154, 0, 15, 45, 3, 47]
abbrev dktL_law_18 : List UInt8 := dkwL_law_18 ++ dktL_law_19
def dkwL_law_17 : List UInt8 := [167, 3, 23, 43, 42, 21, 4, 4, 96, 46, 45, 184, 0, 99, 54, 5, 44, 42, 21, 4, 4, 96, 46]
abbrev dktL_law_17 : List UInt8 := dkwL_law_17 ++ dktL_law_18
def dkwL_law_16 : List UInt8 := [21, 5, 159, 0, 5, 3, 172, 21, 5, 154, 0, 15, 45, 3, 47, 21, 6, 133, 148, 153, 0, 5, 3, 172]
abbrev dktL_law_16 : List UInt8 := dkwL_law_16 ++ dktL_law_17
def dkwL_law_15 : List UInt8 := [96, 46, 42, 21, 4, 5, 96, 46, 42, 21, 4, 6, 96, 46, 182, 0, 98, 54, 6, 44, 182, 0, 81]
abbrev dktL_law_15 : List UInt8 := dkwL_law_15 ++ dktL_law_16
def dkwL_law_14 : List UInt8 := [46, 42, 21, 4, 5, 96, 46, 42, 21, 4, 6, 96, 46, 45, 184, 0, 96, 54, 5, 44, 42, 21, 4, 4]
abbrev dktL_law_14 : List UInt8 := dkwL_law_14 ++ dktL_law_15
def dkwL_law_13 : List UInt8 := [154, 0, 15, 45, 3, 47, 21, 6, 133, 148, 153, 0, 5, 3, 172, 167, 3, 103, 43, 42, 21, 4, 4, 96]
abbrev dktL_law_13 : List UInt8 := dkwL_law_13 ++ dktL_law_14
def dkwL_law_12 : List UInt8 := [21, 4, 4, 96, 46, 182, 0, 95, 54, 6, 44, 182, 0, 81, 21, 5, 159, 0, 5, 3, 172, 21, 5]
abbrev dktL_law_12 : List UInt8 := dkwL_law_12 ++ dktL_law_13
def dkwL_law_11 : List UInt8 := [153, 0, 5, 3, 172, 167, 3, 159, 43, 42, 21, 4, 4, 96, 46, 45, 184, 0, 92, 54, 5, 44, 42]
abbrev dktL_law_11 : List UInt8 := dkwL_law_11 ++ dktL_law_12
def dkwL_law_10 : List UInt8 := [182, 0, 81, 21, 5, 159, 0, 5, 3, 172, 21, 5, 154, 0, 15, 45, 3, 47, 21, 6, 133, 148]
abbrev dktL_law_10 : List UInt8 := dkwL_law_10 ++ dktL_law_11
def dkwL_law_9 : List UInt8 := [184, 0, 88, 54, 5, 44, 42, 21, 4, 4, 96, 46, 42, 21, 4, 5, 96, 46, 182, 0, 91, 54, 6, 44]
abbrev dktL_law_9 : List UInt8 := dkwL_law_9 ++ dktL_law_10
def dkwL_law_8 : List UInt8 := [153, 0, 5, 3, 172, 167, 3, 227, 43, 42, 21, 4, 4, 96, 46, 42, 21, 4, 5, 96, 46, 45]
abbrev dktL_law_8 : List UInt8 := dkwL_law_8 ++ dktL_law_9
def dkwL_law_7 : List UInt8 := [182, 0, 81, 21, 5, 159, 0, 5, 3, 172, 21, 5, 154, 0, 15, 45, 3, 47, 21, 6, 133, 148]
abbrev dktL_law_7 : List UInt8 := dkwL_law_7 ++ dktL_law_8
def dkwL_law_6 : List UInt8 := [21, 4, 4, 96, 46, 42, 21, 4, 5, 96, 46, 42, 21, 4, 6, 96, 46, 182, 0, 87, 54, 6, 44]
abbrev dktL_law_6 : List UInt8 := dkwL_law_6 ++ dktL_law_7
def dkwL_law_5 : List UInt8 := [4, 96, 46, 42, 21, 4, 5, 96, 46, 42, 21, 4, 6, 96, 46, 45, 184, 0, 84, 54, 5, 44, 42]
abbrev dktL_law_5 : List UInt8 := dkwL_law_5 ++ dktL_law_6
def dkwL_law_4 : List UInt8 := [21, 5, 154, 0, 15, 45, 3, 47, 21, 6, 133, 148, 153, 0, 5, 3, 172, 167, 4, 51, 43, 42, 21, 4]
abbrev dktL_law_4 : List UInt8 := dkwL_law_4 ++ dktL_law_5
def dkwL_law_3 : List UInt8 := [43, 45, 184, 0, 75, 54, 5, 44, 182, 0, 80, 54, 6, 44, 182, 0, 81, 21, 5, 159, 0, 5, 3, 172]
abbrev dktL_law_3 : List UInt8 := dkwL_law_3 ++ dktL_law_4
def dkwL_law_2 : List UInt8 := [170, 0, 0, 4, 177, 0, 0, 0, 0, 0, 0, 0, 17, 0, 0, 0, 85, 0, 0, 0, 129, 0, 0, 0, 209, 0, 0, 1, 21, 0, 0, 1, 77, 0, 0, 1, 157, 0, 0, 1, 213, 0, 0, 2, 13, 0, 0, 2, 81, 0, 0, 2, 161, 0, 0, 2, 217, 0, 0, 2, 230, 0, 0, 3, 42, 0, 0, 3, 98, 0, 0, 3, 185, 0, 0, 3, 253, 0, 0, 4, 53, 0, 0, 4, 121]
abbrev dktL_law_2 : List UInt8 := dkwL_law_2 ++ dktL_law_3
def dkwL_law_1 : List UInt8 := [21, 4, 42, 190, 7, 100, 163, 4, 193, 42, 21, 4, 46, 16, 31, 126]
abbrev dktL_law_1 : List UInt8 := dkwL_law_1 ++ dktL_law_2
def dkwL_law_0 : List UInt8 := [187, 0, 8, 89, 183, 0, 71, 76, 187, 0, 72, 89, 183, 0, 74, 77, 4, 188, 11, 78, 3, 54, 4]
abbrev dktL_law_0 : List UInt8 := dkwL_law_0 ++ dktL_law_1
theorem dksL_law_0 : cL_law.data.toList.drop 0 = dktL_law_0 := by decide +kernel
theorem dksL_law_1 : cL_law.data.toList.drop 23 = dktL_law_1 := dk_seg dksL_law_0 23 rfl rfl
theorem dksL_law_2 : cL_law.data.toList.drop 39 = dktL_law_2 := dk_seg dksL_law_1 16 rfl rfl
theorem dksL_law_3 : cL_law.data.toList.drop 124 = dktL_law_3 := dk_seg dksL_law_2 85 rfl rfl
theorem dksL_law_4 : cL_law.data.toList.drop 148 = dktL_law_4 := dk_seg dksL_law_3 24 rfl rfl
theorem dksL_law_5 : cL_law.data.toList.drop 172 = dktL_law_5 := dk_seg dksL_law_4 24 rfl rfl
theorem dksL_law_6 : cL_law.data.toList.drop 195 = dktL_law_6 := dk_seg dksL_law_5 23 rfl rfl
theorem dksL_law_7 : cL_law.data.toList.drop 218 = dktL_law_7 := dk_seg dksL_law_6 23 rfl rfl
theorem dksL_law_8 : cL_law.data.toList.drop 240 = dktL_law_8 := dk_seg dksL_law_7 22 rfl rfl
theorem dksL_law_9 : cL_law.data.toList.drop 262 = dktL_law_9 := dk_seg dksL_law_8 22 rfl rfl
theorem dksL_law_10 : cL_law.data.toList.drop 286 = dktL_law_10 := dk_seg dksL_law_9 24 rfl rfl
theorem dksL_law_11 : cL_law.data.toList.drop 308 = dktL_law_11 := dk_seg dksL_law_10 22 rfl rfl
theorem dksL_law_12 : cL_law.data.toList.drop 331 = dktL_law_12 := dk_seg dksL_law_11 23 rfl rfl
theorem dksL_law_13 : cL_law.data.toList.drop 354 = dktL_law_13 := dk_seg dksL_law_12 23 rfl rfl
theorem dksL_law_14 : cL_law.data.toList.drop 378 = dktL_law_14 := dk_seg dksL_law_13 24 rfl rfl
theorem dksL_law_15 : cL_law.data.toList.drop 402 = dktL_law_15 := dk_seg dksL_law_14 24 rfl rfl
theorem dksL_law_16 : cL_law.data.toList.drop 425 = dktL_law_16 := dk_seg dksL_law_15 23 rfl rfl
theorem dksL_law_17 : cL_law.data.toList.drop 449 = dktL_law_17 := dk_seg dksL_law_16 24 rfl rfl
theorem dksL_law_18 : cL_law.data.toList.drop 472 = dktL_law_18 := dk_seg dksL_law_17 23 rfl rfl
theorem dksL_law_19 : cL_law.data.toList.drop 496 = dktL_law_19 := dk_seg dksL_law_18 24 rfl rfl
theorem dksL_law_20 : cL_law.data.toList.drop 519 = dktL_law_20 := dk_seg dksL_law_19 23 rfl rfl
theorem dksL_law_21 : cL_law.data.toList.drop 543 = dktL_law_21 := dk_seg dksL_law_20 24 rfl rfl
theorem dksL_law_22 : cL_law.data.toList.drop 566 = dktL_law_22 := dk_seg dksL_law_21 23 rfl rfl
theorem dksL_law_23 : cL_law.data.toList.drop 590 = dktL_law_23 := dk_seg dksL_law_22 24 rfl rfl
theorem dksL_law_24 : cL_law.data.toList.drop 614 = dktL_law_24 := dk_seg dksL_law_23 24 rfl rfl
theorem dksL_law_25 : cL_law.data.toList.drop 638 = dktL_law_25 := dk_seg dksL_law_24 24 rfl rfl
theorem dksL_law_26 : cL_law.data.toList.drop 662 = dktL_law_26 := dk_seg dksL_law_25 24 rfl rfl
theorem dksL_law_27 : cL_law.data.toList.drop 685 = dktL_law_27 := dk_seg dksL_law_26 23 rfl rfl
theorem dksL_law_28 : cL_law.data.toList.drop 709 = dktL_law_28 := dk_seg dksL_law_27 24 rfl rfl
theorem dksL_law_29 : cL_law.data.toList.drop 732 = dktL_law_29 := dk_seg dksL_law_28 23 rfl rfl
theorem dksL_law_30 : cL_law.data.toList.drop 756 = dktL_law_30 := dk_seg dksL_law_29 24 rfl rfl
theorem dksL_law_31 : cL_law.data.toList.drop 780 = dktL_law_31 := dk_seg dksL_law_30 24 rfl rfl
theorem dksL_law_32 : cL_law.data.toList.drop 804 = dktL_law_32 := dk_seg dksL_law_31 24 rfl rfl
theorem dksL_law_33 : cL_law.data.toList.drop 828 = dktL_law_33 := dk_seg dksL_law_32 24 rfl rfl
theorem dksL_law_34 : cL_law.data.toList.drop 851 = dktL_law_34 := dk_seg dksL_law_33 23 rfl rfl
theorem dksL_law_35 : cL_law.data.toList.drop 875 = dktL_law_35 := dk_seg dksL_law_34 24 rfl rfl
theorem dksL_law_36 : cL_law.data.toList.drop 897 = dktL_law_36 := dk_seg dksL_law_35 22 rfl rfl
theorem dksL_law_37 : cL_law.data.toList.drop 921 = dktL_law_37 := dk_seg dksL_law_36 24 rfl rfl
theorem dksL_law_38 : cL_law.data.toList.drop 944 = dktL_law_38 := dk_seg dksL_law_37 23 rfl rfl
theorem dksL_law_39 : cL_law.data.toList.drop 967 = dktL_law_39 := dk_seg dksL_law_38 23 rfl rfl
theorem dksL_law_40 : cL_law.data.toList.drop 989 = dktL_law_40 := dk_seg dksL_law_39 22 rfl rfl
theorem dksL_law_41 : cL_law.data.toList.drop 1013 = dktL_law_41 := dk_seg dksL_law_40 24 rfl rfl
theorem dksL_law_42 : cL_law.data.toList.drop 1035 = dktL_law_42 := dk_seg dksL_law_41 22 rfl rfl
theorem dksL_law_43 : cL_law.data.toList.drop 1057 = dktL_law_43 := dk_seg dksL_law_42 22 rfl rfl
theorem dksL_law_44 : cL_law.data.toList.drop 1080 = dktL_law_44 := dk_seg dksL_law_43 23 rfl rfl
theorem dksL_law_45 : cL_law.data.toList.drop 1104 = dktL_law_45 := dk_seg dksL_law_44 24 rfl rfl
theorem dksL_law_46 : cL_law.data.toList.drop 1128 = dktL_law_46 := dk_seg dksL_law_45 24 rfl rfl
theorem dksL_law_47 : cL_law.data.toList.drop 1151 = dktL_law_47 := dk_seg dksL_law_46 23 rfl rfl
theorem dksL_law_48 : cL_law.data.toList.drop 1175 = dktL_law_48 := dk_seg dksL_law_47 24 rfl rfl
theorem dksL_law_49 : cL_law.data.toList.drop 1199 = dktL_law_49 := dk_seg dksL_law_48 24 rfl rfl
theorem dksL_law_50 : cL_law.data.toList.drop 1222 = dktL_law_50 := dk_seg dksL_law_49 23 rfl rfl
theorem dksL_law_51 : cL_law.data.toList.drop 1246 = dktL_law_51 := dk_seg dksL_law_50 24 rfl rfl
theorem dL_law_0 : decode cL_law 0 = .ok (.new 8, 3) := dk_187 0 8 (dk_at dksL_law_0 0 rfl rfl)
theorem dL_law_3 : decode cL_law 3 = .ok (.dup, 1) := dk_89 (dk_at dksL_law_0 3 rfl rfl)
theorem dL_law_4 : decode cL_law 4 = .ok (.invokespecial 71, 3) := dk_183 0 71 (dk_at dksL_law_0 4 rfl rfl)
theorem dL_law_7 : decode cL_law 7 = .ok (.astore_n 1, 1) := dk_76 (dk_at dksL_law_0 7 rfl rfl)
theorem dL_law_8 : decode cL_law 8 = .ok (.new 72, 3) := dk_187 0 72 (dk_at dksL_law_0 8 rfl rfl)
theorem dL_law_11 : decode cL_law 11 = .ok (.dup, 1) := dk_89 (dk_at dksL_law_0 11 rfl rfl)
theorem dL_law_12 : decode cL_law 12 = .ok (.invokespecial 74, 3) := dk_183 0 74 (dk_at dksL_law_0 12 rfl rfl)
theorem dL_law_15 : decode cL_law 15 = .ok (.astore_n 2, 1) := dk_77 (dk_at dksL_law_0 15 rfl rfl)
theorem dL_law_16 : decode cL_law 16 = .ok (.iconst 1, 1) := dk_4 (dk_at dksL_law_0 16 rfl rfl)
theorem dL_law_17 : decode cL_law 17 = .ok (.newarray .long, 2) := dk_188_11 (dk_at dksL_law_0 17 rfl rfl)
theorem dL_law_19 : decode cL_law 19 = .ok (.astore_n 3, 1) := dk_78 (dk_at dksL_law_0 19 rfl rfl)
theorem dL_law_20 : decode cL_law 20 = .ok (.iconst 0, 1) := dk_3 (dk_at dksL_law_0 20 rfl rfl)
theorem dL_law_21 : decode cL_law 21 = .ok (.istore 4, 2) := dk_54 4 (dk_at dksL_law_0 21 rfl rfl)
theorem dL_law_23 : decode cL_law 23 = .ok (.iload 4, 2) := dk_21 4 (dk_at dksL_law_1 0 rfl rfl)
theorem dL_law_25 : decode cL_law 25 = .ok (.aload_n 0, 1) := dk_42 (dk_at dksL_law_1 2 rfl rfl)
theorem dL_law_26 : decode cL_law 26 = .ok (.arraylength, 1) := dk_190 (dk_at dksL_law_1 3 rfl rfl)
theorem dL_law_27 : decode cL_law 27 = .ok (.iconst 4, 1) := dk_7 (dk_at dksL_law_1 4 rfl rfl)
theorem dL_law_28 : decode cL_law 28 = .ok (.isub, 1) := dk_100 (dk_at dksL_law_1 5 rfl rfl)
theorem dL_law_29 : decode cL_law 29 = .ok (.if_icmp .gt 1217, 3) := dk_163 4 193 (dk_at dksL_law_1 6 rfl rfl)
theorem dL_law_32 : decode cL_law 32 = .ok (.aload_n 0, 1) := dk_42 (dk_at dksL_law_1 9 rfl rfl)
theorem dL_law_33 : decode cL_law 33 = .ok (.iload 4, 2) := dk_21 4 (dk_at dksL_law_1 10 rfl rfl)
theorem dL_law_35 : decode cL_law 35 = .ok (.iaload, 1) := dk_46 (dk_at dksL_law_1 12 rfl rfl)
theorem dL_law_36 : decode cL_law 36 = .ok (.bipush 31, 2) := dk_16 31 (dk_at dksL_law_1 13 rfl rfl)
theorem dL_law_38 : decode cL_law 38 = .ok (.iand, 1) := dk_126 (dk_at dksL_law_1 15 rfl rfl)
theorem dL_law_39 : decode cL_law 39 = .ok (.tableswitch 1201 0 17 #[85, 129, 209, 277, 333, 413, 469, 525, 593, 673, 729, 742, 810, 866, 953, 1021, 1077, 1145], 85) := by decide +kernel
theorem dL_law_124 : decode cL_law 124 = .ok (.aload_n 1, 1) := dk_43 (dk_at dksL_law_3 0 rfl rfl)
theorem dL_law_125 : decode cL_law 125 = .ok (.aload_n 3, 1) := dk_45 (dk_at dksL_law_3 1 rfl rfl)
theorem dL_law_126 : decode cL_law 126 = .ok (.invokestatic 75, 3) := dk_184 0 75 (dk_at dksL_law_3 2 rfl rfl)
theorem dL_law_129 : decode cL_law 129 = .ok (.istore 5, 2) := dk_54 5 (dk_at dksL_law_3 5 rfl rfl)
theorem dL_law_131 : decode cL_law 131 = .ok (.aload_n 2, 1) := dk_44 (dk_at dksL_law_3 7 rfl rfl)
theorem dL_law_132 : decode cL_law 132 = .ok (.invokevirtual 80, 3) := dk_182 0 80 (dk_at dksL_law_3 8 rfl rfl)
theorem dL_law_135 : decode cL_law 135 = .ok (.istore 6, 2) := dk_54 6 (dk_at dksL_law_3 11 rfl rfl)
theorem dL_law_137 : decode cL_law 137 = .ok (.aload_n 2, 1) := dk_44 (dk_at dksL_law_3 13 rfl rfl)
theorem dL_law_138 : decode cL_law 138 = .ok (.invokevirtual 81, 3) := dk_182 0 81 (dk_at dksL_law_3 14 rfl rfl)
theorem dL_law_141 : decode cL_law 141 = .ok (.iload 5, 2) := dk_21 5 (dk_at dksL_law_3 17 rfl rfl)
theorem dL_law_143 : decode cL_law 143 = .ok (.if_icmp .eq 5, 3) := dk_159 0 5 (dk_at dksL_law_3 19 rfl rfl)
theorem dL_law_146 : decode cL_law 146 = .ok (.iconst 0, 1) := dk_3 (dk_at dksL_law_3 22 rfl rfl)
theorem dL_law_147 : decode cL_law 147 = .ok (.ireturn, 1) := dk_172 (dk_at dksL_law_3 23 rfl rfl)
theorem dL_law_148 : decode cL_law 148 = .ok (.iload 5, 2) := dk_21 5 (dk_at dksL_law_4 0 rfl rfl)
theorem dL_law_150 : decode cL_law 150 = .ok (.ifCond .ne 15, 3) := dk_154 0 15 (dk_at dksL_law_4 2 rfl rfl)
theorem dL_law_153 : decode cL_law 153 = .ok (.aload_n 3, 1) := dk_45 (dk_at dksL_law_4 5 rfl rfl)
theorem dL_law_154 : decode cL_law 154 = .ok (.iconst 0, 1) := dk_3 (dk_at dksL_law_4 6 rfl rfl)
theorem dL_law_155 : decode cL_law 155 = .ok (.laload, 1) := dk_47 (dk_at dksL_law_4 7 rfl rfl)
theorem dL_law_156 : decode cL_law 156 = .ok (.iload 6, 2) := dk_21 6 (dk_at dksL_law_4 8 rfl rfl)
theorem dL_law_158 : decode cL_law 158 = .ok (.i2l, 1) := dk_133 (dk_at dksL_law_4 10 rfl rfl)
theorem dL_law_159 : decode cL_law 159 = .ok (.lcmp, 1) := dk_148 (dk_at dksL_law_4 11 rfl rfl)
theorem dL_law_160 : decode cL_law 160 = .ok (.ifCond .eq 5, 3) := dk_153 0 5 (dk_at dksL_law_4 12 rfl rfl)
theorem dL_law_163 : decode cL_law 163 = .ok (.iconst 0, 1) := dk_3 (dk_at dksL_law_4 15 rfl rfl)
theorem dL_law_164 : decode cL_law 164 = .ok (.ireturn, 1) := dk_172 (dk_at dksL_law_4 16 rfl rfl)
theorem dL_law_165 : decode cL_law 165 = .ok (.goto 1075, 3) := dk_167 4 51 (dk_at dksL_law_4 17 rfl rfl)
theorem dL_law_168 : decode cL_law 168 = .ok (.aload_n 1, 1) := dk_43 (dk_at dksL_law_4 20 rfl rfl)
theorem dL_law_169 : decode cL_law 169 = .ok (.aload_n 0, 1) := dk_42 (dk_at dksL_law_4 21 rfl rfl)
theorem dL_law_170 : decode cL_law 170 = .ok (.iload 4, 2) := dk_21 4 (dk_at dksL_law_4 22 rfl rfl)
theorem dL_law_172 : decode cL_law 172 = .ok (.iconst 1, 1) := dk_4 (dk_at dksL_law_5 0 rfl rfl)
theorem dL_law_173 : decode cL_law 173 = .ok (.iadd, 1) := dk_96 (dk_at dksL_law_5 1 rfl rfl)
theorem dL_law_174 : decode cL_law 174 = .ok (.iaload, 1) := dk_46 (dk_at dksL_law_5 2 rfl rfl)
theorem dL_law_175 : decode cL_law 175 = .ok (.aload_n 0, 1) := dk_42 (dk_at dksL_law_5 3 rfl rfl)
theorem dL_law_176 : decode cL_law 176 = .ok (.iload 4, 2) := dk_21 4 (dk_at dksL_law_5 4 rfl rfl)
theorem dL_law_178 : decode cL_law 178 = .ok (.iconst 2, 1) := dk_5 (dk_at dksL_law_5 6 rfl rfl)
theorem dL_law_179 : decode cL_law 179 = .ok (.iadd, 1) := dk_96 (dk_at dksL_law_5 7 rfl rfl)
theorem dL_law_180 : decode cL_law 180 = .ok (.iaload, 1) := dk_46 (dk_at dksL_law_5 8 rfl rfl)
theorem dL_law_181 : decode cL_law 181 = .ok (.aload_n 0, 1) := dk_42 (dk_at dksL_law_5 9 rfl rfl)
theorem dL_law_182 : decode cL_law 182 = .ok (.iload 4, 2) := dk_21 4 (dk_at dksL_law_5 10 rfl rfl)
theorem dL_law_184 : decode cL_law 184 = .ok (.iconst 3, 1) := dk_6 (dk_at dksL_law_5 12 rfl rfl)
theorem dL_law_185 : decode cL_law 185 = .ok (.iadd, 1) := dk_96 (dk_at dksL_law_5 13 rfl rfl)
theorem dL_law_186 : decode cL_law 186 = .ok (.iaload, 1) := dk_46 (dk_at dksL_law_5 14 rfl rfl)
theorem dL_law_187 : decode cL_law 187 = .ok (.aload_n 3, 1) := dk_45 (dk_at dksL_law_5 15 rfl rfl)
theorem dL_law_188 : decode cL_law 188 = .ok (.invokestatic 84, 3) := dk_184 0 84 (dk_at dksL_law_5 16 rfl rfl)
theorem dL_law_191 : decode cL_law 191 = .ok (.istore 5, 2) := dk_54 5 (dk_at dksL_law_5 19 rfl rfl)
theorem dL_law_193 : decode cL_law 193 = .ok (.aload_n 2, 1) := dk_44 (dk_at dksL_law_5 21 rfl rfl)
theorem dL_law_194 : decode cL_law 194 = .ok (.aload_n 0, 1) := dk_42 (dk_at dksL_law_5 22 rfl rfl)
theorem dL_law_195 : decode cL_law 195 = .ok (.iload 4, 2) := dk_21 4 (dk_at dksL_law_6 0 rfl rfl)
theorem dL_law_197 : decode cL_law 197 = .ok (.iconst 1, 1) := dk_4 (dk_at dksL_law_6 2 rfl rfl)
theorem dL_law_198 : decode cL_law 198 = .ok (.iadd, 1) := dk_96 (dk_at dksL_law_6 3 rfl rfl)
theorem dL_law_199 : decode cL_law 199 = .ok (.iaload, 1) := dk_46 (dk_at dksL_law_6 4 rfl rfl)
theorem dL_law_200 : decode cL_law 200 = .ok (.aload_n 0, 1) := dk_42 (dk_at dksL_law_6 5 rfl rfl)
theorem dL_law_201 : decode cL_law 201 = .ok (.iload 4, 2) := dk_21 4 (dk_at dksL_law_6 6 rfl rfl)
theorem dL_law_203 : decode cL_law 203 = .ok (.iconst 2, 1) := dk_5 (dk_at dksL_law_6 8 rfl rfl)
theorem dL_law_204 : decode cL_law 204 = .ok (.iadd, 1) := dk_96 (dk_at dksL_law_6 9 rfl rfl)
theorem dL_law_205 : decode cL_law 205 = .ok (.iaload, 1) := dk_46 (dk_at dksL_law_6 10 rfl rfl)
theorem dL_law_206 : decode cL_law 206 = .ok (.aload_n 0, 1) := dk_42 (dk_at dksL_law_6 11 rfl rfl)
theorem dL_law_207 : decode cL_law 207 = .ok (.iload 4, 2) := dk_21 4 (dk_at dksL_law_6 12 rfl rfl)
theorem dL_law_209 : decode cL_law 209 = .ok (.iconst 3, 1) := dk_6 (dk_at dksL_law_6 14 rfl rfl)
theorem dL_law_210 : decode cL_law 210 = .ok (.iadd, 1) := dk_96 (dk_at dksL_law_6 15 rfl rfl)
theorem dL_law_211 : decode cL_law 211 = .ok (.iaload, 1) := dk_46 (dk_at dksL_law_6 16 rfl rfl)
theorem dL_law_212 : decode cL_law 212 = .ok (.invokevirtual 87, 3) := dk_182 0 87 (dk_at dksL_law_6 17 rfl rfl)
theorem dL_law_215 : decode cL_law 215 = .ok (.istore 6, 2) := dk_54 6 (dk_at dksL_law_6 20 rfl rfl)
theorem dL_law_217 : decode cL_law 217 = .ok (.aload_n 2, 1) := dk_44 (dk_at dksL_law_6 22 rfl rfl)
theorem dL_law_218 : decode cL_law 218 = .ok (.invokevirtual 81, 3) := dk_182 0 81 (dk_at dksL_law_7 0 rfl rfl)
theorem dL_law_221 : decode cL_law 221 = .ok (.iload 5, 2) := dk_21 5 (dk_at dksL_law_7 3 rfl rfl)
theorem dL_law_223 : decode cL_law 223 = .ok (.if_icmp .eq 5, 3) := dk_159 0 5 (dk_at dksL_law_7 5 rfl rfl)
theorem dL_law_226 : decode cL_law 226 = .ok (.iconst 0, 1) := dk_3 (dk_at dksL_law_7 8 rfl rfl)
theorem dL_law_227 : decode cL_law 227 = .ok (.ireturn, 1) := dk_172 (dk_at dksL_law_7 9 rfl rfl)
theorem dL_law_228 : decode cL_law 228 = .ok (.iload 5, 2) := dk_21 5 (dk_at dksL_law_7 10 rfl rfl)
theorem dL_law_230 : decode cL_law 230 = .ok (.ifCond .ne 15, 3) := dk_154 0 15 (dk_at dksL_law_7 12 rfl rfl)
theorem dL_law_233 : decode cL_law 233 = .ok (.aload_n 3, 1) := dk_45 (dk_at dksL_law_7 15 rfl rfl)
theorem dL_law_234 : decode cL_law 234 = .ok (.iconst 0, 1) := dk_3 (dk_at dksL_law_7 16 rfl rfl)
theorem dL_law_235 : decode cL_law 235 = .ok (.laload, 1) := dk_47 (dk_at dksL_law_7 17 rfl rfl)
theorem dL_law_236 : decode cL_law 236 = .ok (.iload 6, 2) := dk_21 6 (dk_at dksL_law_7 18 rfl rfl)
theorem dL_law_238 : decode cL_law 238 = .ok (.i2l, 1) := dk_133 (dk_at dksL_law_7 20 rfl rfl)
theorem dL_law_239 : decode cL_law 239 = .ok (.lcmp, 1) := dk_148 (dk_at dksL_law_7 21 rfl rfl)
theorem dL_law_240 : decode cL_law 240 = .ok (.ifCond .eq 5, 3) := dk_153 0 5 (dk_at dksL_law_8 0 rfl rfl)
theorem dL_law_243 : decode cL_law 243 = .ok (.iconst 0, 1) := dk_3 (dk_at dksL_law_8 3 rfl rfl)
theorem dL_law_244 : decode cL_law 244 = .ok (.ireturn, 1) := dk_172 (dk_at dksL_law_8 4 rfl rfl)
theorem dL_law_245 : decode cL_law 245 = .ok (.goto 995, 3) := dk_167 3 227 (dk_at dksL_law_8 5 rfl rfl)
theorem dL_law_248 : decode cL_law 248 = .ok (.aload_n 1, 1) := dk_43 (dk_at dksL_law_8 8 rfl rfl)
theorem dL_law_249 : decode cL_law 249 = .ok (.aload_n 0, 1) := dk_42 (dk_at dksL_law_8 9 rfl rfl)
theorem dL_law_250 : decode cL_law 250 = .ok (.iload 4, 2) := dk_21 4 (dk_at dksL_law_8 10 rfl rfl)
theorem dL_law_252 : decode cL_law 252 = .ok (.iconst 1, 1) := dk_4 (dk_at dksL_law_8 12 rfl rfl)
theorem dL_law_253 : decode cL_law 253 = .ok (.iadd, 1) := dk_96 (dk_at dksL_law_8 13 rfl rfl)
theorem dL_law_254 : decode cL_law 254 = .ok (.iaload, 1) := dk_46 (dk_at dksL_law_8 14 rfl rfl)
theorem dL_law_255 : decode cL_law 255 = .ok (.aload_n 0, 1) := dk_42 (dk_at dksL_law_8 15 rfl rfl)
theorem dL_law_256 : decode cL_law 256 = .ok (.iload 4, 2) := dk_21 4 (dk_at dksL_law_8 16 rfl rfl)
theorem dL_law_258 : decode cL_law 258 = .ok (.iconst 2, 1) := dk_5 (dk_at dksL_law_8 18 rfl rfl)
theorem dL_law_259 : decode cL_law 259 = .ok (.iadd, 1) := dk_96 (dk_at dksL_law_8 19 rfl rfl)
theorem dL_law_260 : decode cL_law 260 = .ok (.iaload, 1) := dk_46 (dk_at dksL_law_8 20 rfl rfl)
theorem dL_law_261 : decode cL_law 261 = .ok (.aload_n 3, 1) := dk_45 (dk_at dksL_law_8 21 rfl rfl)
theorem dL_law_262 : decode cL_law 262 = .ok (.invokestatic 88, 3) := dk_184 0 88 (dk_at dksL_law_9 0 rfl rfl)
theorem dL_law_265 : decode cL_law 265 = .ok (.istore 5, 2) := dk_54 5 (dk_at dksL_law_9 3 rfl rfl)
theorem dL_law_267 : decode cL_law 267 = .ok (.aload_n 2, 1) := dk_44 (dk_at dksL_law_9 5 rfl rfl)
theorem dL_law_268 : decode cL_law 268 = .ok (.aload_n 0, 1) := dk_42 (dk_at dksL_law_9 6 rfl rfl)
theorem dL_law_269 : decode cL_law 269 = .ok (.iload 4, 2) := dk_21 4 (dk_at dksL_law_9 7 rfl rfl)
theorem dL_law_271 : decode cL_law 271 = .ok (.iconst 1, 1) := dk_4 (dk_at dksL_law_9 9 rfl rfl)
theorem dL_law_272 : decode cL_law 272 = .ok (.iadd, 1) := dk_96 (dk_at dksL_law_9 10 rfl rfl)
theorem dL_law_273 : decode cL_law 273 = .ok (.iaload, 1) := dk_46 (dk_at dksL_law_9 11 rfl rfl)
theorem dL_law_274 : decode cL_law 274 = .ok (.aload_n 0, 1) := dk_42 (dk_at dksL_law_9 12 rfl rfl)
theorem dL_law_275 : decode cL_law 275 = .ok (.iload 4, 2) := dk_21 4 (dk_at dksL_law_9 13 rfl rfl)
theorem dL_law_277 : decode cL_law 277 = .ok (.iconst 2, 1) := dk_5 (dk_at dksL_law_9 15 rfl rfl)
theorem dL_law_278 : decode cL_law 278 = .ok (.iadd, 1) := dk_96 (dk_at dksL_law_9 16 rfl rfl)
theorem dL_law_279 : decode cL_law 279 = .ok (.iaload, 1) := dk_46 (dk_at dksL_law_9 17 rfl rfl)
theorem dL_law_280 : decode cL_law 280 = .ok (.invokevirtual 91, 3) := dk_182 0 91 (dk_at dksL_law_9 18 rfl rfl)
theorem dL_law_283 : decode cL_law 283 = .ok (.istore 6, 2) := dk_54 6 (dk_at dksL_law_9 21 rfl rfl)
theorem dL_law_285 : decode cL_law 285 = .ok (.aload_n 2, 1) := dk_44 (dk_at dksL_law_9 23 rfl rfl)
theorem dL_law_286 : decode cL_law 286 = .ok (.invokevirtual 81, 3) := dk_182 0 81 (dk_at dksL_law_10 0 rfl rfl)
theorem dL_law_289 : decode cL_law 289 = .ok (.iload 5, 2) := dk_21 5 (dk_at dksL_law_10 3 rfl rfl)
theorem dL_law_291 : decode cL_law 291 = .ok (.if_icmp .eq 5, 3) := dk_159 0 5 (dk_at dksL_law_10 5 rfl rfl)
theorem dL_law_294 : decode cL_law 294 = .ok (.iconst 0, 1) := dk_3 (dk_at dksL_law_10 8 rfl rfl)
theorem dL_law_295 : decode cL_law 295 = .ok (.ireturn, 1) := dk_172 (dk_at dksL_law_10 9 rfl rfl)
theorem dL_law_296 : decode cL_law 296 = .ok (.iload 5, 2) := dk_21 5 (dk_at dksL_law_10 10 rfl rfl)
theorem dL_law_298 : decode cL_law 298 = .ok (.ifCond .ne 15, 3) := dk_154 0 15 (dk_at dksL_law_10 12 rfl rfl)
theorem dL_law_301 : decode cL_law 301 = .ok (.aload_n 3, 1) := dk_45 (dk_at dksL_law_10 15 rfl rfl)
theorem dL_law_302 : decode cL_law 302 = .ok (.iconst 0, 1) := dk_3 (dk_at dksL_law_10 16 rfl rfl)
theorem dL_law_303 : decode cL_law 303 = .ok (.laload, 1) := dk_47 (dk_at dksL_law_10 17 rfl rfl)
theorem dL_law_304 : decode cL_law 304 = .ok (.iload 6, 2) := dk_21 6 (dk_at dksL_law_10 18 rfl rfl)
theorem dL_law_306 : decode cL_law 306 = .ok (.i2l, 1) := dk_133 (dk_at dksL_law_10 20 rfl rfl)
theorem dL_law_307 : decode cL_law 307 = .ok (.lcmp, 1) := dk_148 (dk_at dksL_law_10 21 rfl rfl)
theorem dL_law_308 : decode cL_law 308 = .ok (.ifCond .eq 5, 3) := dk_153 0 5 (dk_at dksL_law_11 0 rfl rfl)
theorem dL_law_311 : decode cL_law 311 = .ok (.iconst 0, 1) := dk_3 (dk_at dksL_law_11 3 rfl rfl)
theorem dL_law_312 : decode cL_law 312 = .ok (.ireturn, 1) := dk_172 (dk_at dksL_law_11 4 rfl rfl)
theorem dL_law_313 : decode cL_law 313 = .ok (.goto 927, 3) := dk_167 3 159 (dk_at dksL_law_11 5 rfl rfl)
theorem dL_law_316 : decode cL_law 316 = .ok (.aload_n 1, 1) := dk_43 (dk_at dksL_law_11 8 rfl rfl)
theorem dL_law_317 : decode cL_law 317 = .ok (.aload_n 0, 1) := dk_42 (dk_at dksL_law_11 9 rfl rfl)
theorem dL_law_318 : decode cL_law 318 = .ok (.iload 4, 2) := dk_21 4 (dk_at dksL_law_11 10 rfl rfl)
theorem dL_law_320 : decode cL_law 320 = .ok (.iconst 1, 1) := dk_4 (dk_at dksL_law_11 12 rfl rfl)
theorem dL_law_321 : decode cL_law 321 = .ok (.iadd, 1) := dk_96 (dk_at dksL_law_11 13 rfl rfl)
theorem dL_law_322 : decode cL_law 322 = .ok (.iaload, 1) := dk_46 (dk_at dksL_law_11 14 rfl rfl)
theorem dL_law_323 : decode cL_law 323 = .ok (.aload_n 3, 1) := dk_45 (dk_at dksL_law_11 15 rfl rfl)
theorem dL_law_324 : decode cL_law 324 = .ok (.invokestatic 92, 3) := dk_184 0 92 (dk_at dksL_law_11 16 rfl rfl)
theorem dL_law_327 : decode cL_law 327 = .ok (.istore 5, 2) := dk_54 5 (dk_at dksL_law_11 19 rfl rfl)
theorem dL_law_329 : decode cL_law 329 = .ok (.aload_n 2, 1) := dk_44 (dk_at dksL_law_11 21 rfl rfl)
theorem dL_law_330 : decode cL_law 330 = .ok (.aload_n 0, 1) := dk_42 (dk_at dksL_law_11 22 rfl rfl)
theorem dL_law_331 : decode cL_law 331 = .ok (.iload 4, 2) := dk_21 4 (dk_at dksL_law_12 0 rfl rfl)
theorem dL_law_333 : decode cL_law 333 = .ok (.iconst 1, 1) := dk_4 (dk_at dksL_law_12 2 rfl rfl)
theorem dL_law_334 : decode cL_law 334 = .ok (.iadd, 1) := dk_96 (dk_at dksL_law_12 3 rfl rfl)
theorem dL_law_335 : decode cL_law 335 = .ok (.iaload, 1) := dk_46 (dk_at dksL_law_12 4 rfl rfl)
theorem dL_law_336 : decode cL_law 336 = .ok (.invokevirtual 95, 3) := dk_182 0 95 (dk_at dksL_law_12 5 rfl rfl)
theorem dL_law_339 : decode cL_law 339 = .ok (.istore 6, 2) := dk_54 6 (dk_at dksL_law_12 8 rfl rfl)
theorem dL_law_341 : decode cL_law 341 = .ok (.aload_n 2, 1) := dk_44 (dk_at dksL_law_12 10 rfl rfl)
theorem dL_law_342 : decode cL_law 342 = .ok (.invokevirtual 81, 3) := dk_182 0 81 (dk_at dksL_law_12 11 rfl rfl)
theorem dL_law_345 : decode cL_law 345 = .ok (.iload 5, 2) := dk_21 5 (dk_at dksL_law_12 14 rfl rfl)
theorem dL_law_347 : decode cL_law 347 = .ok (.if_icmp .eq 5, 3) := dk_159 0 5 (dk_at dksL_law_12 16 rfl rfl)
theorem dL_law_350 : decode cL_law 350 = .ok (.iconst 0, 1) := dk_3 (dk_at dksL_law_12 19 rfl rfl)
theorem dL_law_351 : decode cL_law 351 = .ok (.ireturn, 1) := dk_172 (dk_at dksL_law_12 20 rfl rfl)
theorem dL_law_352 : decode cL_law 352 = .ok (.iload 5, 2) := dk_21 5 (dk_at dksL_law_12 21 rfl rfl)
theorem dL_law_354 : decode cL_law 354 = .ok (.ifCond .ne 15, 3) := dk_154 0 15 (dk_at dksL_law_13 0 rfl rfl)
theorem dL_law_357 : decode cL_law 357 = .ok (.aload_n 3, 1) := dk_45 (dk_at dksL_law_13 3 rfl rfl)
theorem dL_law_358 : decode cL_law 358 = .ok (.iconst 0, 1) := dk_3 (dk_at dksL_law_13 4 rfl rfl)
theorem dL_law_359 : decode cL_law 359 = .ok (.laload, 1) := dk_47 (dk_at dksL_law_13 5 rfl rfl)
theorem dL_law_360 : decode cL_law 360 = .ok (.iload 6, 2) := dk_21 6 (dk_at dksL_law_13 6 rfl rfl)
theorem dL_law_362 : decode cL_law 362 = .ok (.i2l, 1) := dk_133 (dk_at dksL_law_13 8 rfl rfl)
theorem dL_law_363 : decode cL_law 363 = .ok (.lcmp, 1) := dk_148 (dk_at dksL_law_13 9 rfl rfl)
theorem dL_law_364 : decode cL_law 364 = .ok (.ifCond .eq 5, 3) := dk_153 0 5 (dk_at dksL_law_13 10 rfl rfl)
theorem dL_law_367 : decode cL_law 367 = .ok (.iconst 0, 1) := dk_3 (dk_at dksL_law_13 13 rfl rfl)
theorem dL_law_368 : decode cL_law 368 = .ok (.ireturn, 1) := dk_172 (dk_at dksL_law_13 14 rfl rfl)
theorem dL_law_369 : decode cL_law 369 = .ok (.goto 871, 3) := dk_167 3 103 (dk_at dksL_law_13 15 rfl rfl)
theorem dL_law_372 : decode cL_law 372 = .ok (.aload_n 1, 1) := dk_43 (dk_at dksL_law_13 18 rfl rfl)
theorem dL_law_373 : decode cL_law 373 = .ok (.aload_n 0, 1) := dk_42 (dk_at dksL_law_13 19 rfl rfl)
theorem dL_law_374 : decode cL_law 374 = .ok (.iload 4, 2) := dk_21 4 (dk_at dksL_law_13 20 rfl rfl)
theorem dL_law_376 : decode cL_law 376 = .ok (.iconst 1, 1) := dk_4 (dk_at dksL_law_13 22 rfl rfl)
theorem dL_law_377 : decode cL_law 377 = .ok (.iadd, 1) := dk_96 (dk_at dksL_law_13 23 rfl rfl)
theorem dL_law_378 : decode cL_law 378 = .ok (.iaload, 1) := dk_46 (dk_at dksL_law_14 0 rfl rfl)
theorem dL_law_379 : decode cL_law 379 = .ok (.aload_n 0, 1) := dk_42 (dk_at dksL_law_14 1 rfl rfl)
theorem dL_law_380 : decode cL_law 380 = .ok (.iload 4, 2) := dk_21 4 (dk_at dksL_law_14 2 rfl rfl)
theorem dL_law_382 : decode cL_law 382 = .ok (.iconst 2, 1) := dk_5 (dk_at dksL_law_14 4 rfl rfl)
theorem dL_law_383 : decode cL_law 383 = .ok (.iadd, 1) := dk_96 (dk_at dksL_law_14 5 rfl rfl)
theorem dL_law_384 : decode cL_law 384 = .ok (.iaload, 1) := dk_46 (dk_at dksL_law_14 6 rfl rfl)
theorem dL_law_385 : decode cL_law 385 = .ok (.aload_n 0, 1) := dk_42 (dk_at dksL_law_14 7 rfl rfl)
theorem dL_law_386 : decode cL_law 386 = .ok (.iload 4, 2) := dk_21 4 (dk_at dksL_law_14 8 rfl rfl)
theorem dL_law_388 : decode cL_law 388 = .ok (.iconst 3, 1) := dk_6 (dk_at dksL_law_14 10 rfl rfl)
theorem dL_law_389 : decode cL_law 389 = .ok (.iadd, 1) := dk_96 (dk_at dksL_law_14 11 rfl rfl)
theorem dL_law_390 : decode cL_law 390 = .ok (.iaload, 1) := dk_46 (dk_at dksL_law_14 12 rfl rfl)
theorem dL_law_391 : decode cL_law 391 = .ok (.aload_n 3, 1) := dk_45 (dk_at dksL_law_14 13 rfl rfl)
theorem dL_law_392 : decode cL_law 392 = .ok (.invokestatic 96, 3) := dk_184 0 96 (dk_at dksL_law_14 14 rfl rfl)
theorem dL_law_395 : decode cL_law 395 = .ok (.istore 5, 2) := dk_54 5 (dk_at dksL_law_14 17 rfl rfl)
theorem dL_law_397 : decode cL_law 397 = .ok (.aload_n 2, 1) := dk_44 (dk_at dksL_law_14 19 rfl rfl)
theorem dL_law_398 : decode cL_law 398 = .ok (.aload_n 0, 1) := dk_42 (dk_at dksL_law_14 20 rfl rfl)
theorem dL_law_399 : decode cL_law 399 = .ok (.iload 4, 2) := dk_21 4 (dk_at dksL_law_14 21 rfl rfl)
theorem dL_law_401 : decode cL_law 401 = .ok (.iconst 1, 1) := dk_4 (dk_at dksL_law_14 23 rfl rfl)
theorem dL_law_402 : decode cL_law 402 = .ok (.iadd, 1) := dk_96 (dk_at dksL_law_15 0 rfl rfl)
theorem dL_law_403 : decode cL_law 403 = .ok (.iaload, 1) := dk_46 (dk_at dksL_law_15 1 rfl rfl)
theorem dL_law_404 : decode cL_law 404 = .ok (.aload_n 0, 1) := dk_42 (dk_at dksL_law_15 2 rfl rfl)
theorem dL_law_405 : decode cL_law 405 = .ok (.iload 4, 2) := dk_21 4 (dk_at dksL_law_15 3 rfl rfl)
theorem dL_law_407 : decode cL_law 407 = .ok (.iconst 2, 1) := dk_5 (dk_at dksL_law_15 5 rfl rfl)
theorem dL_law_408 : decode cL_law 408 = .ok (.iadd, 1) := dk_96 (dk_at dksL_law_15 6 rfl rfl)
theorem dL_law_409 : decode cL_law 409 = .ok (.iaload, 1) := dk_46 (dk_at dksL_law_15 7 rfl rfl)
theorem dL_law_410 : decode cL_law 410 = .ok (.aload_n 0, 1) := dk_42 (dk_at dksL_law_15 8 rfl rfl)
theorem dL_law_411 : decode cL_law 411 = .ok (.iload 4, 2) := dk_21 4 (dk_at dksL_law_15 9 rfl rfl)
theorem dL_law_413 : decode cL_law 413 = .ok (.iconst 3, 1) := dk_6 (dk_at dksL_law_15 11 rfl rfl)
theorem dL_law_414 : decode cL_law 414 = .ok (.iadd, 1) := dk_96 (dk_at dksL_law_15 12 rfl rfl)
theorem dL_law_415 : decode cL_law 415 = .ok (.iaload, 1) := dk_46 (dk_at dksL_law_15 13 rfl rfl)
theorem dL_law_416 : decode cL_law 416 = .ok (.invokevirtual 98, 3) := dk_182 0 98 (dk_at dksL_law_15 14 rfl rfl)
theorem dL_law_419 : decode cL_law 419 = .ok (.istore 6, 2) := dk_54 6 (dk_at dksL_law_15 17 rfl rfl)
theorem dL_law_421 : decode cL_law 421 = .ok (.aload_n 2, 1) := dk_44 (dk_at dksL_law_15 19 rfl rfl)
theorem dL_law_422 : decode cL_law 422 = .ok (.invokevirtual 81, 3) := dk_182 0 81 (dk_at dksL_law_15 20 rfl rfl)
theorem dL_law_425 : decode cL_law 425 = .ok (.iload 5, 2) := dk_21 5 (dk_at dksL_law_16 0 rfl rfl)
theorem dL_law_427 : decode cL_law 427 = .ok (.if_icmp .eq 5, 3) := dk_159 0 5 (dk_at dksL_law_16 2 rfl rfl)
theorem dL_law_430 : decode cL_law 430 = .ok (.iconst 0, 1) := dk_3 (dk_at dksL_law_16 5 rfl rfl)
theorem dL_law_431 : decode cL_law 431 = .ok (.ireturn, 1) := dk_172 (dk_at dksL_law_16 6 rfl rfl)
theorem dL_law_432 : decode cL_law 432 = .ok (.iload 5, 2) := dk_21 5 (dk_at dksL_law_16 7 rfl rfl)
theorem dL_law_434 : decode cL_law 434 = .ok (.ifCond .ne 15, 3) := dk_154 0 15 (dk_at dksL_law_16 9 rfl rfl)
theorem dL_law_437 : decode cL_law 437 = .ok (.aload_n 3, 1) := dk_45 (dk_at dksL_law_16 12 rfl rfl)
theorem dL_law_438 : decode cL_law 438 = .ok (.iconst 0, 1) := dk_3 (dk_at dksL_law_16 13 rfl rfl)
theorem dL_law_439 : decode cL_law 439 = .ok (.laload, 1) := dk_47 (dk_at dksL_law_16 14 rfl rfl)
theorem dL_law_440 : decode cL_law 440 = .ok (.iload 6, 2) := dk_21 6 (dk_at dksL_law_16 15 rfl rfl)
theorem dL_law_442 : decode cL_law 442 = .ok (.i2l, 1) := dk_133 (dk_at dksL_law_16 17 rfl rfl)
theorem dL_law_443 : decode cL_law 443 = .ok (.lcmp, 1) := dk_148 (dk_at dksL_law_16 18 rfl rfl)
theorem dL_law_444 : decode cL_law 444 = .ok (.ifCond .eq 5, 3) := dk_153 0 5 (dk_at dksL_law_16 19 rfl rfl)
theorem dL_law_447 : decode cL_law 447 = .ok (.iconst 0, 1) := dk_3 (dk_at dksL_law_16 22 rfl rfl)
theorem dL_law_448 : decode cL_law 448 = .ok (.ireturn, 1) := dk_172 (dk_at dksL_law_16 23 rfl rfl)
theorem dL_law_449 : decode cL_law 449 = .ok (.goto 791, 3) := dk_167 3 23 (dk_at dksL_law_17 0 rfl rfl)
theorem dL_law_452 : decode cL_law 452 = .ok (.aload_n 1, 1) := dk_43 (dk_at dksL_law_17 3 rfl rfl)
theorem dL_law_453 : decode cL_law 453 = .ok (.aload_n 0, 1) := dk_42 (dk_at dksL_law_17 4 rfl rfl)
theorem dL_law_454 : decode cL_law 454 = .ok (.iload 4, 2) := dk_21 4 (dk_at dksL_law_17 5 rfl rfl)
theorem dL_law_456 : decode cL_law 456 = .ok (.iconst 1, 1) := dk_4 (dk_at dksL_law_17 7 rfl rfl)
theorem dL_law_457 : decode cL_law 457 = .ok (.iadd, 1) := dk_96 (dk_at dksL_law_17 8 rfl rfl)
theorem dL_law_458 : decode cL_law 458 = .ok (.iaload, 1) := dk_46 (dk_at dksL_law_17 9 rfl rfl)
theorem dL_law_459 : decode cL_law 459 = .ok (.aload_n 3, 1) := dk_45 (dk_at dksL_law_17 10 rfl rfl)
theorem dL_law_460 : decode cL_law 460 = .ok (.invokestatic 99, 3) := dk_184 0 99 (dk_at dksL_law_17 11 rfl rfl)
theorem dL_law_463 : decode cL_law 463 = .ok (.istore 5, 2) := dk_54 5 (dk_at dksL_law_17 14 rfl rfl)
theorem dL_law_465 : decode cL_law 465 = .ok (.aload_n 2, 1) := dk_44 (dk_at dksL_law_17 16 rfl rfl)
theorem dL_law_466 : decode cL_law 466 = .ok (.aload_n 0, 1) := dk_42 (dk_at dksL_law_17 17 rfl rfl)
theorem dL_law_467 : decode cL_law 467 = .ok (.iload 4, 2) := dk_21 4 (dk_at dksL_law_17 18 rfl rfl)
theorem dL_law_469 : decode cL_law 469 = .ok (.iconst 1, 1) := dk_4 (dk_at dksL_law_17 20 rfl rfl)
theorem dL_law_470 : decode cL_law 470 = .ok (.iadd, 1) := dk_96 (dk_at dksL_law_17 21 rfl rfl)
theorem dL_law_471 : decode cL_law 471 = .ok (.iaload, 1) := dk_46 (dk_at dksL_law_17 22 rfl rfl)
theorem dL_law_472 : decode cL_law 472 = .ok (.invokevirtual 101, 3) := dk_182 0 101 (dk_at dksL_law_18 0 rfl rfl)
theorem dL_law_475 : decode cL_law 475 = .ok (.istore 6, 2) := dk_54 6 (dk_at dksL_law_18 3 rfl rfl)
theorem dL_law_477 : decode cL_law 477 = .ok (.aload_n 2, 1) := dk_44 (dk_at dksL_law_18 5 rfl rfl)
theorem dL_law_478 : decode cL_law 478 = .ok (.invokevirtual 81, 3) := dk_182 0 81 (dk_at dksL_law_18 6 rfl rfl)
theorem dL_law_481 : decode cL_law 481 = .ok (.iload 5, 2) := dk_21 5 (dk_at dksL_law_18 9 rfl rfl)
theorem dL_law_483 : decode cL_law 483 = .ok (.if_icmp .eq 5, 3) := dk_159 0 5 (dk_at dksL_law_18 11 rfl rfl)
theorem dL_law_486 : decode cL_law 486 = .ok (.iconst 0, 1) := dk_3 (dk_at dksL_law_18 14 rfl rfl)
theorem dL_law_487 : decode cL_law 487 = .ok (.ireturn, 1) := dk_172 (dk_at dksL_law_18 15 rfl rfl)
theorem dL_law_488 : decode cL_law 488 = .ok (.iload 5, 2) := dk_21 5 (dk_at dksL_law_18 16 rfl rfl)
theorem dL_law_490 : decode cL_law 490 = .ok (.ifCond .ne 15, 3) := dk_154 0 15 (dk_at dksL_law_18 18 rfl rfl)
theorem dL_law_493 : decode cL_law 493 = .ok (.aload_n 3, 1) := dk_45 (dk_at dksL_law_18 21 rfl rfl)
theorem dL_law_494 : decode cL_law 494 = .ok (.iconst 0, 1) := dk_3 (dk_at dksL_law_18 22 rfl rfl)
theorem dL_law_495 : decode cL_law 495 = .ok (.laload, 1) := dk_47 (dk_at dksL_law_18 23 rfl rfl)
theorem dL_law_496 : decode cL_law 496 = .ok (.iload 6, 2) := dk_21 6 (dk_at dksL_law_19 0 rfl rfl)
theorem dL_law_498 : decode cL_law 498 = .ok (.i2l, 1) := dk_133 (dk_at dksL_law_19 2 rfl rfl)
theorem dL_law_499 : decode cL_law 499 = .ok (.lcmp, 1) := dk_148 (dk_at dksL_law_19 3 rfl rfl)
theorem dL_law_500 : decode cL_law 500 = .ok (.ifCond .eq 5, 3) := dk_153 0 5 (dk_at dksL_law_19 4 rfl rfl)
theorem dL_law_503 : decode cL_law 503 = .ok (.iconst 0, 1) := dk_3 (dk_at dksL_law_19 7 rfl rfl)
theorem dL_law_504 : decode cL_law 504 = .ok (.ireturn, 1) := dk_172 (dk_at dksL_law_19 8 rfl rfl)
theorem dL_law_505 : decode cL_law 505 = .ok (.goto 735, 3) := dk_167 2 223 (dk_at dksL_law_19 9 rfl rfl)
theorem dL_law_508 : decode cL_law 508 = .ok (.aload_n 1, 1) := dk_43 (dk_at dksL_law_19 12 rfl rfl)
theorem dL_law_509 : decode cL_law 509 = .ok (.aload_n 0, 1) := dk_42 (dk_at dksL_law_19 13 rfl rfl)
theorem dL_law_510 : decode cL_law 510 = .ok (.iload 4, 2) := dk_21 4 (dk_at dksL_law_19 14 rfl rfl)
theorem dL_law_512 : decode cL_law 512 = .ok (.iconst 1, 1) := dk_4 (dk_at dksL_law_19 16 rfl rfl)
theorem dL_law_513 : decode cL_law 513 = .ok (.iadd, 1) := dk_96 (dk_at dksL_law_19 17 rfl rfl)
theorem dL_law_514 : decode cL_law 514 = .ok (.iaload, 1) := dk_46 (dk_at dksL_law_19 18 rfl rfl)
theorem dL_law_515 : decode cL_law 515 = .ok (.aload_n 3, 1) := dk_45 (dk_at dksL_law_19 19 rfl rfl)
theorem dL_law_516 : decode cL_law 516 = .ok (.invokestatic 102, 3) := dk_184 0 102 (dk_at dksL_law_19 20 rfl rfl)
theorem dL_law_519 : decode cL_law 519 = .ok (.istore 5, 2) := dk_54 5 (dk_at dksL_law_20 0 rfl rfl)
theorem dL_law_521 : decode cL_law 521 = .ok (.aload_n 2, 1) := dk_44 (dk_at dksL_law_20 2 rfl rfl)
theorem dL_law_522 : decode cL_law 522 = .ok (.aload_n 0, 1) := dk_42 (dk_at dksL_law_20 3 rfl rfl)
theorem dL_law_523 : decode cL_law 523 = .ok (.iload 4, 2) := dk_21 4 (dk_at dksL_law_20 4 rfl rfl)
theorem dL_law_525 : decode cL_law 525 = .ok (.iconst 1, 1) := dk_4 (dk_at dksL_law_20 6 rfl rfl)
theorem dL_law_526 : decode cL_law 526 = .ok (.iadd, 1) := dk_96 (dk_at dksL_law_20 7 rfl rfl)
theorem dL_law_527 : decode cL_law 527 = .ok (.iaload, 1) := dk_46 (dk_at dksL_law_20 8 rfl rfl)
theorem dL_law_528 : decode cL_law 528 = .ok (.invokevirtual 104, 3) := dk_182 0 104 (dk_at dksL_law_20 9 rfl rfl)
theorem dL_law_531 : decode cL_law 531 = .ok (.istore 6, 2) := dk_54 6 (dk_at dksL_law_20 12 rfl rfl)
theorem dL_law_533 : decode cL_law 533 = .ok (.aload_n 2, 1) := dk_44 (dk_at dksL_law_20 14 rfl rfl)
theorem dL_law_534 : decode cL_law 534 = .ok (.invokevirtual 81, 3) := dk_182 0 81 (dk_at dksL_law_20 15 rfl rfl)
theorem dL_law_537 : decode cL_law 537 = .ok (.iload 5, 2) := dk_21 5 (dk_at dksL_law_20 18 rfl rfl)
theorem dL_law_539 : decode cL_law 539 = .ok (.if_icmp .eq 5, 3) := dk_159 0 5 (dk_at dksL_law_20 20 rfl rfl)
theorem dL_law_542 : decode cL_law 542 = .ok (.iconst 0, 1) := dk_3 (dk_at dksL_law_20 23 rfl rfl)
theorem dL_law_543 : decode cL_law 543 = .ok (.ireturn, 1) := dk_172 (dk_at dksL_law_21 0 rfl rfl)
theorem dL_law_544 : decode cL_law 544 = .ok (.iload 5, 2) := dk_21 5 (dk_at dksL_law_21 1 rfl rfl)
theorem dL_law_546 : decode cL_law 546 = .ok (.ifCond .ne 15, 3) := dk_154 0 15 (dk_at dksL_law_21 3 rfl rfl)
theorem dL_law_549 : decode cL_law 549 = .ok (.aload_n 3, 1) := dk_45 (dk_at dksL_law_21 6 rfl rfl)
theorem dL_law_550 : decode cL_law 550 = .ok (.iconst 0, 1) := dk_3 (dk_at dksL_law_21 7 rfl rfl)
theorem dL_law_551 : decode cL_law 551 = .ok (.laload, 1) := dk_47 (dk_at dksL_law_21 8 rfl rfl)
theorem dL_law_552 : decode cL_law 552 = .ok (.iload 6, 2) := dk_21 6 (dk_at dksL_law_21 9 rfl rfl)
theorem dL_law_554 : decode cL_law 554 = .ok (.i2l, 1) := dk_133 (dk_at dksL_law_21 11 rfl rfl)
theorem dL_law_555 : decode cL_law 555 = .ok (.lcmp, 1) := dk_148 (dk_at dksL_law_21 12 rfl rfl)
theorem dL_law_556 : decode cL_law 556 = .ok (.ifCond .eq 5, 3) := dk_153 0 5 (dk_at dksL_law_21 13 rfl rfl)
theorem dL_law_559 : decode cL_law 559 = .ok (.iconst 0, 1) := dk_3 (dk_at dksL_law_21 16 rfl rfl)
theorem dL_law_560 : decode cL_law 560 = .ok (.ireturn, 1) := dk_172 (dk_at dksL_law_21 17 rfl rfl)
theorem dL_law_561 : decode cL_law 561 = .ok (.goto 679, 3) := dk_167 2 167 (dk_at dksL_law_21 18 rfl rfl)
theorem dL_law_564 : decode cL_law 564 = .ok (.aload_n 1, 1) := dk_43 (dk_at dksL_law_21 21 rfl rfl)
theorem dL_law_565 : decode cL_law 565 = .ok (.aload_n 0, 1) := dk_42 (dk_at dksL_law_21 22 rfl rfl)
theorem dL_law_566 : decode cL_law 566 = .ok (.iload 4, 2) := dk_21 4 (dk_at dksL_law_22 0 rfl rfl)
theorem dL_law_568 : decode cL_law 568 = .ok (.iconst 1, 1) := dk_4 (dk_at dksL_law_22 2 rfl rfl)
theorem dL_law_569 : decode cL_law 569 = .ok (.iadd, 1) := dk_96 (dk_at dksL_law_22 3 rfl rfl)
theorem dL_law_570 : decode cL_law 570 = .ok (.iaload, 1) := dk_46 (dk_at dksL_law_22 4 rfl rfl)
theorem dL_law_571 : decode cL_law 571 = .ok (.aload_n 0, 1) := dk_42 (dk_at dksL_law_22 5 rfl rfl)
theorem dL_law_572 : decode cL_law 572 = .ok (.iload 4, 2) := dk_21 4 (dk_at dksL_law_22 6 rfl rfl)
theorem dL_law_574 : decode cL_law 574 = .ok (.iconst 2, 1) := dk_5 (dk_at dksL_law_22 8 rfl rfl)
theorem dL_law_575 : decode cL_law 575 = .ok (.iadd, 1) := dk_96 (dk_at dksL_law_22 9 rfl rfl)
theorem dL_law_576 : decode cL_law 576 = .ok (.iaload, 1) := dk_46 (dk_at dksL_law_22 10 rfl rfl)
theorem dL_law_577 : decode cL_law 577 = .ok (.aload_n 3, 1) := dk_45 (dk_at dksL_law_22 11 rfl rfl)
theorem dL_law_578 : decode cL_law 578 = .ok (.invokestatic 105, 3) := dk_184 0 105 (dk_at dksL_law_22 12 rfl rfl)
theorem dL_law_581 : decode cL_law 581 = .ok (.istore 5, 2) := dk_54 5 (dk_at dksL_law_22 15 rfl rfl)
theorem dL_law_583 : decode cL_law 583 = .ok (.aload_n 2, 1) := dk_44 (dk_at dksL_law_22 17 rfl rfl)
theorem dL_law_584 : decode cL_law 584 = .ok (.aload_n 0, 1) := dk_42 (dk_at dksL_law_22 18 rfl rfl)
theorem dL_law_585 : decode cL_law 585 = .ok (.iload 4, 2) := dk_21 4 (dk_at dksL_law_22 19 rfl rfl)
theorem dL_law_587 : decode cL_law 587 = .ok (.iconst 1, 1) := dk_4 (dk_at dksL_law_22 21 rfl rfl)
theorem dL_law_588 : decode cL_law 588 = .ok (.iadd, 1) := dk_96 (dk_at dksL_law_22 22 rfl rfl)
theorem dL_law_589 : decode cL_law 589 = .ok (.iaload, 1) := dk_46 (dk_at dksL_law_22 23 rfl rfl)
theorem dL_law_590 : decode cL_law 590 = .ok (.aload_n 0, 1) := dk_42 (dk_at dksL_law_23 0 rfl rfl)
theorem dL_law_591 : decode cL_law 591 = .ok (.iload 4, 2) := dk_21 4 (dk_at dksL_law_23 1 rfl rfl)
theorem dL_law_593 : decode cL_law 593 = .ok (.iconst 2, 1) := dk_5 (dk_at dksL_law_23 3 rfl rfl)
theorem dL_law_594 : decode cL_law 594 = .ok (.iadd, 1) := dk_96 (dk_at dksL_law_23 4 rfl rfl)
theorem dL_law_595 : decode cL_law 595 = .ok (.iaload, 1) := dk_46 (dk_at dksL_law_23 5 rfl rfl)
theorem dL_law_596 : decode cL_law 596 = .ok (.invokevirtual 107, 3) := dk_182 0 107 (dk_at dksL_law_23 6 rfl rfl)
theorem dL_law_599 : decode cL_law 599 = .ok (.istore 6, 2) := dk_54 6 (dk_at dksL_law_23 9 rfl rfl)
theorem dL_law_601 : decode cL_law 601 = .ok (.aload_n 2, 1) := dk_44 (dk_at dksL_law_23 11 rfl rfl)
theorem dL_law_602 : decode cL_law 602 = .ok (.invokevirtual 81, 3) := dk_182 0 81 (dk_at dksL_law_23 12 rfl rfl)
theorem dL_law_605 : decode cL_law 605 = .ok (.iload 5, 2) := dk_21 5 (dk_at dksL_law_23 15 rfl rfl)
theorem dL_law_607 : decode cL_law 607 = .ok (.if_icmp .eq 5, 3) := dk_159 0 5 (dk_at dksL_law_23 17 rfl rfl)
theorem dL_law_610 : decode cL_law 610 = .ok (.iconst 0, 1) := dk_3 (dk_at dksL_law_23 20 rfl rfl)
theorem dL_law_611 : decode cL_law 611 = .ok (.ireturn, 1) := dk_172 (dk_at dksL_law_23 21 rfl rfl)
theorem dL_law_612 : decode cL_law 612 = .ok (.iload 5, 2) := dk_21 5 (dk_at dksL_law_23 22 rfl rfl)
theorem dL_law_614 : decode cL_law 614 = .ok (.ifCond .ne 15, 3) := dk_154 0 15 (dk_at dksL_law_24 0 rfl rfl)
theorem dL_law_617 : decode cL_law 617 = .ok (.aload_n 3, 1) := dk_45 (dk_at dksL_law_24 3 rfl rfl)
theorem dL_law_618 : decode cL_law 618 = .ok (.iconst 0, 1) := dk_3 (dk_at dksL_law_24 4 rfl rfl)
theorem dL_law_619 : decode cL_law 619 = .ok (.laload, 1) := dk_47 (dk_at dksL_law_24 5 rfl rfl)
theorem dL_law_620 : decode cL_law 620 = .ok (.iload 6, 2) := dk_21 6 (dk_at dksL_law_24 6 rfl rfl)
theorem dL_law_622 : decode cL_law 622 = .ok (.i2l, 1) := dk_133 (dk_at dksL_law_24 8 rfl rfl)
theorem dL_law_623 : decode cL_law 623 = .ok (.lcmp, 1) := dk_148 (dk_at dksL_law_24 9 rfl rfl)
theorem dL_law_624 : decode cL_law 624 = .ok (.ifCond .eq 5, 3) := dk_153 0 5 (dk_at dksL_law_24 10 rfl rfl)
theorem dL_law_627 : decode cL_law 627 = .ok (.iconst 0, 1) := dk_3 (dk_at dksL_law_24 13 rfl rfl)
theorem dL_law_628 : decode cL_law 628 = .ok (.ireturn, 1) := dk_172 (dk_at dksL_law_24 14 rfl rfl)
theorem dL_law_629 : decode cL_law 629 = .ok (.goto 611, 3) := dk_167 2 99 (dk_at dksL_law_24 15 rfl rfl)
theorem dL_law_632 : decode cL_law 632 = .ok (.aload_n 1, 1) := dk_43 (dk_at dksL_law_24 18 rfl rfl)
theorem dL_law_633 : decode cL_law 633 = .ok (.aload_n 0, 1) := dk_42 (dk_at dksL_law_24 19 rfl rfl)
theorem dL_law_634 : decode cL_law 634 = .ok (.iload 4, 2) := dk_21 4 (dk_at dksL_law_24 20 rfl rfl)
theorem dL_law_636 : decode cL_law 636 = .ok (.iconst 1, 1) := dk_4 (dk_at dksL_law_24 22 rfl rfl)
theorem dL_law_637 : decode cL_law 637 = .ok (.iadd, 1) := dk_96 (dk_at dksL_law_24 23 rfl rfl)
theorem dL_law_638 : decode cL_law 638 = .ok (.iaload, 1) := dk_46 (dk_at dksL_law_25 0 rfl rfl)
theorem dL_law_639 : decode cL_law 639 = .ok (.aload_n 0, 1) := dk_42 (dk_at dksL_law_25 1 rfl rfl)
theorem dL_law_640 : decode cL_law 640 = .ok (.iload 4, 2) := dk_21 4 (dk_at dksL_law_25 2 rfl rfl)
theorem dL_law_642 : decode cL_law 642 = .ok (.iconst 2, 1) := dk_5 (dk_at dksL_law_25 4 rfl rfl)
theorem dL_law_643 : decode cL_law 643 = .ok (.iadd, 1) := dk_96 (dk_at dksL_law_25 5 rfl rfl)
theorem dL_law_644 : decode cL_law 644 = .ok (.iaload, 1) := dk_46 (dk_at dksL_law_25 6 rfl rfl)
theorem dL_law_645 : decode cL_law 645 = .ok (.aload_n 0, 1) := dk_42 (dk_at dksL_law_25 7 rfl rfl)
theorem dL_law_646 : decode cL_law 646 = .ok (.iload 4, 2) := dk_21 4 (dk_at dksL_law_25 8 rfl rfl)
theorem dL_law_648 : decode cL_law 648 = .ok (.iconst 3, 1) := dk_6 (dk_at dksL_law_25 10 rfl rfl)
theorem dL_law_649 : decode cL_law 649 = .ok (.iadd, 1) := dk_96 (dk_at dksL_law_25 11 rfl rfl)
theorem dL_law_650 : decode cL_law 650 = .ok (.iaload, 1) := dk_46 (dk_at dksL_law_25 12 rfl rfl)
theorem dL_law_651 : decode cL_law 651 = .ok (.aload_n 3, 1) := dk_45 (dk_at dksL_law_25 13 rfl rfl)
theorem dL_law_652 : decode cL_law 652 = .ok (.invokestatic 108, 3) := dk_184 0 108 (dk_at dksL_law_25 14 rfl rfl)
theorem dL_law_655 : decode cL_law 655 = .ok (.istore 5, 2) := dk_54 5 (dk_at dksL_law_25 17 rfl rfl)
theorem dL_law_657 : decode cL_law 657 = .ok (.aload_n 2, 1) := dk_44 (dk_at dksL_law_25 19 rfl rfl)
theorem dL_law_658 : decode cL_law 658 = .ok (.aload_n 0, 1) := dk_42 (dk_at dksL_law_25 20 rfl rfl)
theorem dL_law_659 : decode cL_law 659 = .ok (.iload 4, 2) := dk_21 4 (dk_at dksL_law_25 21 rfl rfl)
theorem dL_law_661 : decode cL_law 661 = .ok (.iconst 1, 1) := dk_4 (dk_at dksL_law_25 23 rfl rfl)
theorem dL_law_662 : decode cL_law 662 = .ok (.iadd, 1) := dk_96 (dk_at dksL_law_26 0 rfl rfl)
theorem dL_law_663 : decode cL_law 663 = .ok (.iaload, 1) := dk_46 (dk_at dksL_law_26 1 rfl rfl)
theorem dL_law_664 : decode cL_law 664 = .ok (.aload_n 0, 1) := dk_42 (dk_at dksL_law_26 2 rfl rfl)
theorem dL_law_665 : decode cL_law 665 = .ok (.iload 4, 2) := dk_21 4 (dk_at dksL_law_26 3 rfl rfl)
theorem dL_law_667 : decode cL_law 667 = .ok (.iconst 2, 1) := dk_5 (dk_at dksL_law_26 5 rfl rfl)
theorem dL_law_668 : decode cL_law 668 = .ok (.iadd, 1) := dk_96 (dk_at dksL_law_26 6 rfl rfl)
theorem dL_law_669 : decode cL_law 669 = .ok (.iaload, 1) := dk_46 (dk_at dksL_law_26 7 rfl rfl)
theorem dL_law_670 : decode cL_law 670 = .ok (.aload_n 0, 1) := dk_42 (dk_at dksL_law_26 8 rfl rfl)
theorem dL_law_671 : decode cL_law 671 = .ok (.iload 4, 2) := dk_21 4 (dk_at dksL_law_26 9 rfl rfl)
theorem dL_law_673 : decode cL_law 673 = .ok (.iconst 3, 1) := dk_6 (dk_at dksL_law_26 11 rfl rfl)
theorem dL_law_674 : decode cL_law 674 = .ok (.iadd, 1) := dk_96 (dk_at dksL_law_26 12 rfl rfl)
theorem dL_law_675 : decode cL_law 675 = .ok (.iaload, 1) := dk_46 (dk_at dksL_law_26 13 rfl rfl)
theorem dL_law_676 : decode cL_law 676 = .ok (.invokevirtual 110, 3) := dk_182 0 110 (dk_at dksL_law_26 14 rfl rfl)
theorem dL_law_679 : decode cL_law 679 = .ok (.istore 6, 2) := dk_54 6 (dk_at dksL_law_26 17 rfl rfl)
theorem dL_law_681 : decode cL_law 681 = .ok (.aload_n 2, 1) := dk_44 (dk_at dksL_law_26 19 rfl rfl)
theorem dL_law_682 : decode cL_law 682 = .ok (.invokevirtual 81, 3) := dk_182 0 81 (dk_at dksL_law_26 20 rfl rfl)
theorem dL_law_685 : decode cL_law 685 = .ok (.iload 5, 2) := dk_21 5 (dk_at dksL_law_27 0 rfl rfl)
theorem dL_law_687 : decode cL_law 687 = .ok (.if_icmp .eq 5, 3) := dk_159 0 5 (dk_at dksL_law_27 2 rfl rfl)
theorem dL_law_690 : decode cL_law 690 = .ok (.iconst 0, 1) := dk_3 (dk_at dksL_law_27 5 rfl rfl)
theorem dL_law_691 : decode cL_law 691 = .ok (.ireturn, 1) := dk_172 (dk_at dksL_law_27 6 rfl rfl)
theorem dL_law_692 : decode cL_law 692 = .ok (.iload 5, 2) := dk_21 5 (dk_at dksL_law_27 7 rfl rfl)
theorem dL_law_694 : decode cL_law 694 = .ok (.ifCond .ne 15, 3) := dk_154 0 15 (dk_at dksL_law_27 9 rfl rfl)
theorem dL_law_697 : decode cL_law 697 = .ok (.aload_n 3, 1) := dk_45 (dk_at dksL_law_27 12 rfl rfl)
theorem dL_law_698 : decode cL_law 698 = .ok (.iconst 0, 1) := dk_3 (dk_at dksL_law_27 13 rfl rfl)
theorem dL_law_699 : decode cL_law 699 = .ok (.laload, 1) := dk_47 (dk_at dksL_law_27 14 rfl rfl)
theorem dL_law_700 : decode cL_law 700 = .ok (.iload 6, 2) := dk_21 6 (dk_at dksL_law_27 15 rfl rfl)
theorem dL_law_702 : decode cL_law 702 = .ok (.i2l, 1) := dk_133 (dk_at dksL_law_27 17 rfl rfl)
theorem dL_law_703 : decode cL_law 703 = .ok (.lcmp, 1) := dk_148 (dk_at dksL_law_27 18 rfl rfl)
theorem dL_law_704 : decode cL_law 704 = .ok (.ifCond .eq 5, 3) := dk_153 0 5 (dk_at dksL_law_27 19 rfl rfl)
theorem dL_law_707 : decode cL_law 707 = .ok (.iconst 0, 1) := dk_3 (dk_at dksL_law_27 22 rfl rfl)
theorem dL_law_708 : decode cL_law 708 = .ok (.ireturn, 1) := dk_172 (dk_at dksL_law_27 23 rfl rfl)
theorem dL_law_709 : decode cL_law 709 = .ok (.goto 531, 3) := dk_167 2 19 (dk_at dksL_law_28 0 rfl rfl)
theorem dL_law_712 : decode cL_law 712 = .ok (.aload_n 1, 1) := dk_43 (dk_at dksL_law_28 3 rfl rfl)
theorem dL_law_713 : decode cL_law 713 = .ok (.aload_n 0, 1) := dk_42 (dk_at dksL_law_28 4 rfl rfl)
theorem dL_law_714 : decode cL_law 714 = .ok (.iload 4, 2) := dk_21 4 (dk_at dksL_law_28 5 rfl rfl)
theorem dL_law_716 : decode cL_law 716 = .ok (.iconst 1, 1) := dk_4 (dk_at dksL_law_28 7 rfl rfl)
theorem dL_law_717 : decode cL_law 717 = .ok (.iadd, 1) := dk_96 (dk_at dksL_law_28 8 rfl rfl)
theorem dL_law_718 : decode cL_law 718 = .ok (.iaload, 1) := dk_46 (dk_at dksL_law_28 9 rfl rfl)
theorem dL_law_719 : decode cL_law 719 = .ok (.aload_n 3, 1) := dk_45 (dk_at dksL_law_28 10 rfl rfl)
theorem dL_law_720 : decode cL_law 720 = .ok (.invokestatic 111, 3) := dk_184 0 111 (dk_at dksL_law_28 11 rfl rfl)
theorem dL_law_723 : decode cL_law 723 = .ok (.istore 5, 2) := dk_54 5 (dk_at dksL_law_28 14 rfl rfl)
theorem dL_law_725 : decode cL_law 725 = .ok (.aload_n 2, 1) := dk_44 (dk_at dksL_law_28 16 rfl rfl)
theorem dL_law_726 : decode cL_law 726 = .ok (.aload_n 0, 1) := dk_42 (dk_at dksL_law_28 17 rfl rfl)
theorem dL_law_727 : decode cL_law 727 = .ok (.iload 4, 2) := dk_21 4 (dk_at dksL_law_28 18 rfl rfl)
theorem dL_law_729 : decode cL_law 729 = .ok (.iconst 1, 1) := dk_4 (dk_at dksL_law_28 20 rfl rfl)
theorem dL_law_730 : decode cL_law 730 = .ok (.iadd, 1) := dk_96 (dk_at dksL_law_28 21 rfl rfl)
theorem dL_law_731 : decode cL_law 731 = .ok (.iaload, 1) := dk_46 (dk_at dksL_law_28 22 rfl rfl)
theorem dL_law_732 : decode cL_law 732 = .ok (.invokevirtual 113, 3) := dk_182 0 113 (dk_at dksL_law_29 0 rfl rfl)
theorem dL_law_735 : decode cL_law 735 = .ok (.istore 6, 2) := dk_54 6 (dk_at dksL_law_29 3 rfl rfl)
theorem dL_law_737 : decode cL_law 737 = .ok (.aload_n 2, 1) := dk_44 (dk_at dksL_law_29 5 rfl rfl)
theorem dL_law_738 : decode cL_law 738 = .ok (.invokevirtual 81, 3) := dk_182 0 81 (dk_at dksL_law_29 6 rfl rfl)
theorem dL_law_741 : decode cL_law 741 = .ok (.iload 5, 2) := dk_21 5 (dk_at dksL_law_29 9 rfl rfl)
theorem dL_law_743 : decode cL_law 743 = .ok (.if_icmp .eq 5, 3) := dk_159 0 5 (dk_at dksL_law_29 11 rfl rfl)
theorem dL_law_746 : decode cL_law 746 = .ok (.iconst 0, 1) := dk_3 (dk_at dksL_law_29 14 rfl rfl)
theorem dL_law_747 : decode cL_law 747 = .ok (.ireturn, 1) := dk_172 (dk_at dksL_law_29 15 rfl rfl)
theorem dL_law_748 : decode cL_law 748 = .ok (.iload 5, 2) := dk_21 5 (dk_at dksL_law_29 16 rfl rfl)
theorem dL_law_750 : decode cL_law 750 = .ok (.ifCond .ne 15, 3) := dk_154 0 15 (dk_at dksL_law_29 18 rfl rfl)
theorem dL_law_753 : decode cL_law 753 = .ok (.aload_n 3, 1) := dk_45 (dk_at dksL_law_29 21 rfl rfl)
theorem dL_law_754 : decode cL_law 754 = .ok (.iconst 0, 1) := dk_3 (dk_at dksL_law_29 22 rfl rfl)
theorem dL_law_755 : decode cL_law 755 = .ok (.laload, 1) := dk_47 (dk_at dksL_law_29 23 rfl rfl)
theorem dL_law_756 : decode cL_law 756 = .ok (.iload 6, 2) := dk_21 6 (dk_at dksL_law_30 0 rfl rfl)
theorem dL_law_758 : decode cL_law 758 = .ok (.i2l, 1) := dk_133 (dk_at dksL_law_30 2 rfl rfl)
theorem dL_law_759 : decode cL_law 759 = .ok (.lcmp, 1) := dk_148 (dk_at dksL_law_30 3 rfl rfl)
theorem dL_law_760 : decode cL_law 760 = .ok (.ifCond .eq 5, 3) := dk_153 0 5 (dk_at dksL_law_30 4 rfl rfl)
theorem dL_law_763 : decode cL_law 763 = .ok (.iconst 0, 1) := dk_3 (dk_at dksL_law_30 7 rfl rfl)
theorem dL_law_764 : decode cL_law 764 = .ok (.ireturn, 1) := dk_172 (dk_at dksL_law_30 8 rfl rfl)
theorem dL_law_765 : decode cL_law 765 = .ok (.goto 475, 3) := dk_167 1 219 (dk_at dksL_law_30 9 rfl rfl)
theorem dL_law_768 : decode cL_law 768 = .ok (.aload_n 1, 1) := dk_43 (dk_at dksL_law_30 12 rfl rfl)
theorem dL_law_769 : decode cL_law 769 = .ok (.invokevirtual 114, 3) := dk_182 0 114 (dk_at dksL_law_30 13 rfl rfl)
theorem dL_law_772 : decode cL_law 772 = .ok (.aload_n 2, 1) := dk_44 (dk_at dksL_law_30 16 rfl rfl)
theorem dL_law_773 : decode cL_law 773 = .ok (.invokevirtual 117, 3) := dk_182 0 117 (dk_at dksL_law_30 17 rfl rfl)
theorem dL_law_776 : decode cL_law 776 = .ok (.if_icmp .eq 464, 3) := dk_159 1 208 (dk_at dksL_law_30 20 rfl rfl)
theorem dL_law_779 : decode cL_law 779 = .ok (.iconst 0, 1) := dk_3 (dk_at dksL_law_30 23 rfl rfl)
theorem dL_law_780 : decode cL_law 780 = .ok (.ireturn, 1) := dk_172 (dk_at dksL_law_31 0 rfl rfl)
theorem dL_law_781 : decode cL_law 781 = .ok (.aload_n 1, 1) := dk_43 (dk_at dksL_law_31 1 rfl rfl)
theorem dL_law_782 : decode cL_law 782 = .ok (.aload_n 0, 1) := dk_42 (dk_at dksL_law_31 2 rfl rfl)
theorem dL_law_783 : decode cL_law 783 = .ok (.iload 4, 2) := dk_21 4 (dk_at dksL_law_31 3 rfl rfl)
theorem dL_law_785 : decode cL_law 785 = .ok (.iconst 1, 1) := dk_4 (dk_at dksL_law_31 5 rfl rfl)
theorem dL_law_786 : decode cL_law 786 = .ok (.iadd, 1) := dk_96 (dk_at dksL_law_31 6 rfl rfl)
theorem dL_law_787 : decode cL_law 787 = .ok (.iaload, 1) := dk_46 (dk_at dksL_law_31 7 rfl rfl)
theorem dL_law_788 : decode cL_law 788 = .ok (.aload_n 0, 1) := dk_42 (dk_at dksL_law_31 8 rfl rfl)
theorem dL_law_789 : decode cL_law 789 = .ok (.iload 4, 2) := dk_21 4 (dk_at dksL_law_31 9 rfl rfl)
theorem dL_law_791 : decode cL_law 791 = .ok (.iconst 2, 1) := dk_5 (dk_at dksL_law_31 11 rfl rfl)
theorem dL_law_792 : decode cL_law 792 = .ok (.iadd, 1) := dk_96 (dk_at dksL_law_31 12 rfl rfl)
theorem dL_law_793 : decode cL_law 793 = .ok (.iaload, 1) := dk_46 (dk_at dksL_law_31 13 rfl rfl)
theorem dL_law_794 : decode cL_law 794 = .ok (.aload_n 3, 1) := dk_45 (dk_at dksL_law_31 14 rfl rfl)
theorem dL_law_795 : decode cL_law 795 = .ok (.invokestatic 118, 3) := dk_184 0 118 (dk_at dksL_law_31 15 rfl rfl)
theorem dL_law_798 : decode cL_law 798 = .ok (.istore 5, 2) := dk_54 5 (dk_at dksL_law_31 18 rfl rfl)
theorem dL_law_800 : decode cL_law 800 = .ok (.aload_n 2, 1) := dk_44 (dk_at dksL_law_31 20 rfl rfl)
theorem dL_law_801 : decode cL_law 801 = .ok (.aload_n 0, 1) := dk_42 (dk_at dksL_law_31 21 rfl rfl)
theorem dL_law_802 : decode cL_law 802 = .ok (.iload 4, 2) := dk_21 4 (dk_at dksL_law_31 22 rfl rfl)
theorem dL_law_804 : decode cL_law 804 = .ok (.iconst 1, 1) := dk_4 (dk_at dksL_law_32 0 rfl rfl)
theorem dL_law_805 : decode cL_law 805 = .ok (.iadd, 1) := dk_96 (dk_at dksL_law_32 1 rfl rfl)
theorem dL_law_806 : decode cL_law 806 = .ok (.iaload, 1) := dk_46 (dk_at dksL_law_32 2 rfl rfl)
theorem dL_law_807 : decode cL_law 807 = .ok (.aload_n 0, 1) := dk_42 (dk_at dksL_law_32 3 rfl rfl)
theorem dL_law_808 : decode cL_law 808 = .ok (.iload 4, 2) := dk_21 4 (dk_at dksL_law_32 4 rfl rfl)
theorem dL_law_810 : decode cL_law 810 = .ok (.iconst 2, 1) := dk_5 (dk_at dksL_law_32 6 rfl rfl)
theorem dL_law_811 : decode cL_law 811 = .ok (.iadd, 1) := dk_96 (dk_at dksL_law_32 7 rfl rfl)
theorem dL_law_812 : decode cL_law 812 = .ok (.iaload, 1) := dk_46 (dk_at dksL_law_32 8 rfl rfl)
theorem dL_law_813 : decode cL_law 813 = .ok (.invokevirtual 120, 3) := dk_182 0 120 (dk_at dksL_law_32 9 rfl rfl)
theorem dL_law_816 : decode cL_law 816 = .ok (.istore 6, 2) := dk_54 6 (dk_at dksL_law_32 12 rfl rfl)
theorem dL_law_818 : decode cL_law 818 = .ok (.aload_n 2, 1) := dk_44 (dk_at dksL_law_32 14 rfl rfl)
theorem dL_law_819 : decode cL_law 819 = .ok (.invokevirtual 81, 3) := dk_182 0 81 (dk_at dksL_law_32 15 rfl rfl)
theorem dL_law_822 : decode cL_law 822 = .ok (.iload 5, 2) := dk_21 5 (dk_at dksL_law_32 18 rfl rfl)
theorem dL_law_824 : decode cL_law 824 = .ok (.if_icmp .eq 5, 3) := dk_159 0 5 (dk_at dksL_law_32 20 rfl rfl)
theorem dL_law_827 : decode cL_law 827 = .ok (.iconst 0, 1) := dk_3 (dk_at dksL_law_32 23 rfl rfl)
theorem dL_law_828 : decode cL_law 828 = .ok (.ireturn, 1) := dk_172 (dk_at dksL_law_33 0 rfl rfl)
theorem dL_law_829 : decode cL_law 829 = .ok (.iload 5, 2) := dk_21 5 (dk_at dksL_law_33 1 rfl rfl)
theorem dL_law_831 : decode cL_law 831 = .ok (.ifCond .ne 15, 3) := dk_154 0 15 (dk_at dksL_law_33 3 rfl rfl)
theorem dL_law_834 : decode cL_law 834 = .ok (.aload_n 3, 1) := dk_45 (dk_at dksL_law_33 6 rfl rfl)
theorem dL_law_835 : decode cL_law 835 = .ok (.iconst 0, 1) := dk_3 (dk_at dksL_law_33 7 rfl rfl)
theorem dL_law_836 : decode cL_law 836 = .ok (.laload, 1) := dk_47 (dk_at dksL_law_33 8 rfl rfl)
theorem dL_law_837 : decode cL_law 837 = .ok (.iload 6, 2) := dk_21 6 (dk_at dksL_law_33 9 rfl rfl)
theorem dL_law_839 : decode cL_law 839 = .ok (.i2l, 1) := dk_133 (dk_at dksL_law_33 11 rfl rfl)
theorem dL_law_840 : decode cL_law 840 = .ok (.lcmp, 1) := dk_148 (dk_at dksL_law_33 12 rfl rfl)
theorem dL_law_841 : decode cL_law 841 = .ok (.ifCond .eq 5, 3) := dk_153 0 5 (dk_at dksL_law_33 13 rfl rfl)
theorem dL_law_844 : decode cL_law 844 = .ok (.iconst 0, 1) := dk_3 (dk_at dksL_law_33 16 rfl rfl)
theorem dL_law_845 : decode cL_law 845 = .ok (.ireturn, 1) := dk_172 (dk_at dksL_law_33 17 rfl rfl)
theorem dL_law_846 : decode cL_law 846 = .ok (.goto 394, 3) := dk_167 1 138 (dk_at dksL_law_33 18 rfl rfl)
theorem dL_law_849 : decode cL_law 849 = .ok (.aload_n 1, 1) := dk_43 (dk_at dksL_law_33 21 rfl rfl)
theorem dL_law_850 : decode cL_law 850 = .ok (.aload_n 0, 1) := dk_42 (dk_at dksL_law_33 22 rfl rfl)
theorem dL_law_851 : decode cL_law 851 = .ok (.iload 4, 2) := dk_21 4 (dk_at dksL_law_34 0 rfl rfl)
theorem dL_law_853 : decode cL_law 853 = .ok (.iconst 1, 1) := dk_4 (dk_at dksL_law_34 2 rfl rfl)
theorem dL_law_854 : decode cL_law 854 = .ok (.iadd, 1) := dk_96 (dk_at dksL_law_34 3 rfl rfl)
theorem dL_law_855 : decode cL_law 855 = .ok (.iaload, 1) := dk_46 (dk_at dksL_law_34 4 rfl rfl)
theorem dL_law_856 : decode cL_law 856 = .ok (.aload_n 3, 1) := dk_45 (dk_at dksL_law_34 5 rfl rfl)
theorem dL_law_857 : decode cL_law 857 = .ok (.invokestatic 121, 3) := dk_184 0 121 (dk_at dksL_law_34 6 rfl rfl)
theorem dL_law_860 : decode cL_law 860 = .ok (.istore 5, 2) := dk_54 5 (dk_at dksL_law_34 9 rfl rfl)
theorem dL_law_862 : decode cL_law 862 = .ok (.aload_n 2, 1) := dk_44 (dk_at dksL_law_34 11 rfl rfl)
theorem dL_law_863 : decode cL_law 863 = .ok (.aload_n 0, 1) := dk_42 (dk_at dksL_law_34 12 rfl rfl)
theorem dL_law_864 : decode cL_law 864 = .ok (.iload 4, 2) := dk_21 4 (dk_at dksL_law_34 13 rfl rfl)
theorem dL_law_866 : decode cL_law 866 = .ok (.iconst 1, 1) := dk_4 (dk_at dksL_law_34 15 rfl rfl)
theorem dL_law_867 : decode cL_law 867 = .ok (.iadd, 1) := dk_96 (dk_at dksL_law_34 16 rfl rfl)
theorem dL_law_868 : decode cL_law 868 = .ok (.iaload, 1) := dk_46 (dk_at dksL_law_34 17 rfl rfl)
theorem dL_law_869 : decode cL_law 869 = .ok (.invokevirtual 123, 3) := dk_182 0 123 (dk_at dksL_law_34 18 rfl rfl)
theorem dL_law_872 : decode cL_law 872 = .ok (.istore 6, 2) := dk_54 6 (dk_at dksL_law_34 21 rfl rfl)
theorem dL_law_874 : decode cL_law 874 = .ok (.aload_n 2, 1) := dk_44 (dk_at dksL_law_34 23 rfl rfl)
theorem dL_law_875 : decode cL_law 875 = .ok (.invokevirtual 81, 3) := dk_182 0 81 (dk_at dksL_law_35 0 rfl rfl)
theorem dL_law_878 : decode cL_law 878 = .ok (.iload 5, 2) := dk_21 5 (dk_at dksL_law_35 3 rfl rfl)
theorem dL_law_880 : decode cL_law 880 = .ok (.if_icmp .eq 5, 3) := dk_159 0 5 (dk_at dksL_law_35 5 rfl rfl)
theorem dL_law_883 : decode cL_law 883 = .ok (.iconst 0, 1) := dk_3 (dk_at dksL_law_35 8 rfl rfl)
theorem dL_law_884 : decode cL_law 884 = .ok (.ireturn, 1) := dk_172 (dk_at dksL_law_35 9 rfl rfl)
theorem dL_law_885 : decode cL_law 885 = .ok (.iload 5, 2) := dk_21 5 (dk_at dksL_law_35 10 rfl rfl)
theorem dL_law_887 : decode cL_law 887 = .ok (.ifCond .ne 15, 3) := dk_154 0 15 (dk_at dksL_law_35 12 rfl rfl)
theorem dL_law_890 : decode cL_law 890 = .ok (.aload_n 3, 1) := dk_45 (dk_at dksL_law_35 15 rfl rfl)
theorem dL_law_891 : decode cL_law 891 = .ok (.iconst 0, 1) := dk_3 (dk_at dksL_law_35 16 rfl rfl)
theorem dL_law_892 : decode cL_law 892 = .ok (.laload, 1) := dk_47 (dk_at dksL_law_35 17 rfl rfl)
theorem dL_law_893 : decode cL_law 893 = .ok (.iload 6, 2) := dk_21 6 (dk_at dksL_law_35 18 rfl rfl)
theorem dL_law_895 : decode cL_law 895 = .ok (.i2l, 1) := dk_133 (dk_at dksL_law_35 20 rfl rfl)
theorem dL_law_896 : decode cL_law 896 = .ok (.lcmp, 1) := dk_148 (dk_at dksL_law_35 21 rfl rfl)
theorem dL_law_897 : decode cL_law 897 = .ok (.ifCond .eq 5, 3) := dk_153 0 5 (dk_at dksL_law_36 0 rfl rfl)
theorem dL_law_900 : decode cL_law 900 = .ok (.iconst 0, 1) := dk_3 (dk_at dksL_law_36 3 rfl rfl)
theorem dL_law_901 : decode cL_law 901 = .ok (.ireturn, 1) := dk_172 (dk_at dksL_law_36 4 rfl rfl)
theorem dL_law_902 : decode cL_law 902 = .ok (.goto 338, 3) := dk_167 1 82 (dk_at dksL_law_36 5 rfl rfl)
theorem dL_law_905 : decode cL_law 905 = .ok (.aload_n 1, 1) := dk_43 (dk_at dksL_law_36 8 rfl rfl)
theorem dL_law_906 : decode cL_law 906 = .ok (.aload_n 0, 1) := dk_42 (dk_at dksL_law_36 9 rfl rfl)
theorem dL_law_907 : decode cL_law 907 = .ok (.iload 4, 2) := dk_21 4 (dk_at dksL_law_36 10 rfl rfl)
theorem dL_law_909 : decode cL_law 909 = .ok (.iconst 1, 1) := dk_4 (dk_at dksL_law_36 12 rfl rfl)
theorem dL_law_910 : decode cL_law 910 = .ok (.iadd, 1) := dk_96 (dk_at dksL_law_36 13 rfl rfl)
theorem dL_law_911 : decode cL_law 911 = .ok (.iaload, 1) := dk_46 (dk_at dksL_law_36 14 rfl rfl)
theorem dL_law_912 : decode cL_law 912 = .ok (.aload_n 0, 1) := dk_42 (dk_at dksL_law_36 15 rfl rfl)
theorem dL_law_913 : decode cL_law 913 = .ok (.iload 4, 2) := dk_21 4 (dk_at dksL_law_36 16 rfl rfl)
theorem dL_law_915 : decode cL_law 915 = .ok (.iconst 2, 1) := dk_5 (dk_at dksL_law_36 18 rfl rfl)
theorem dL_law_916 : decode cL_law 916 = .ok (.iadd, 1) := dk_96 (dk_at dksL_law_36 19 rfl rfl)
theorem dL_law_917 : decode cL_law 917 = .ok (.iaload, 1) := dk_46 (dk_at dksL_law_36 20 rfl rfl)
theorem dL_law_918 : decode cL_law 918 = .ok (.aload_n 0, 1) := dk_42 (dk_at dksL_law_36 21 rfl rfl)
theorem dL_law_919 : decode cL_law 919 = .ok (.iload 4, 2) := dk_21 4 (dk_at dksL_law_36 22 rfl rfl)
theorem dL_law_921 : decode cL_law 921 = .ok (.iconst 3, 1) := dk_6 (dk_at dksL_law_37 0 rfl rfl)
theorem dL_law_922 : decode cL_law 922 = .ok (.iadd, 1) := dk_96 (dk_at dksL_law_37 1 rfl rfl)
theorem dL_law_923 : decode cL_law 923 = .ok (.iaload, 1) := dk_46 (dk_at dksL_law_37 2 rfl rfl)
theorem dL_law_924 : decode cL_law 924 = .ok (.aload_n 3, 1) := dk_45 (dk_at dksL_law_37 3 rfl rfl)
theorem dL_law_925 : decode cL_law 925 = .ok (.invokestatic 124, 3) := dk_184 0 124 (dk_at dksL_law_37 4 rfl rfl)
theorem dL_law_928 : decode cL_law 928 = .ok (.istore 5, 2) := dk_54 5 (dk_at dksL_law_37 7 rfl rfl)
theorem dL_law_930 : decode cL_law 930 = .ok (.aload_n 2, 1) := dk_44 (dk_at dksL_law_37 9 rfl rfl)
theorem dL_law_931 : decode cL_law 931 = .ok (.aload_n 0, 1) := dk_42 (dk_at dksL_law_37 10 rfl rfl)
theorem dL_law_932 : decode cL_law 932 = .ok (.iload 4, 2) := dk_21 4 (dk_at dksL_law_37 11 rfl rfl)
theorem dL_law_934 : decode cL_law 934 = .ok (.iconst 1, 1) := dk_4 (dk_at dksL_law_37 13 rfl rfl)
theorem dL_law_935 : decode cL_law 935 = .ok (.iadd, 1) := dk_96 (dk_at dksL_law_37 14 rfl rfl)
theorem dL_law_936 : decode cL_law 936 = .ok (.iaload, 1) := dk_46 (dk_at dksL_law_37 15 rfl rfl)
theorem dL_law_937 : decode cL_law 937 = .ok (.aload_n 0, 1) := dk_42 (dk_at dksL_law_37 16 rfl rfl)
theorem dL_law_938 : decode cL_law 938 = .ok (.iload 4, 2) := dk_21 4 (dk_at dksL_law_37 17 rfl rfl)
theorem dL_law_940 : decode cL_law 940 = .ok (.iconst 2, 1) := dk_5 (dk_at dksL_law_37 19 rfl rfl)
theorem dL_law_941 : decode cL_law 941 = .ok (.iadd, 1) := dk_96 (dk_at dksL_law_37 20 rfl rfl)
theorem dL_law_942 : decode cL_law 942 = .ok (.iaload, 1) := dk_46 (dk_at dksL_law_37 21 rfl rfl)
theorem dL_law_943 : decode cL_law 943 = .ok (.aload_n 0, 1) := dk_42 (dk_at dksL_law_37 22 rfl rfl)
theorem dL_law_944 : decode cL_law 944 = .ok (.iload 4, 2) := dk_21 4 (dk_at dksL_law_38 0 rfl rfl)
theorem dL_law_946 : decode cL_law 946 = .ok (.iconst 3, 1) := dk_6 (dk_at dksL_law_38 2 rfl rfl)
theorem dL_law_947 : decode cL_law 947 = .ok (.iadd, 1) := dk_96 (dk_at dksL_law_38 3 rfl rfl)
theorem dL_law_948 : decode cL_law 948 = .ok (.iaload, 1) := dk_46 (dk_at dksL_law_38 4 rfl rfl)
theorem dL_law_949 : decode cL_law 949 = .ok (.invokevirtual 126, 3) := dk_182 0 126 (dk_at dksL_law_38 5 rfl rfl)
theorem dL_law_952 : decode cL_law 952 = .ok (.istore 6, 2) := dk_54 6 (dk_at dksL_law_38 8 rfl rfl)
theorem dL_law_954 : decode cL_law 954 = .ok (.aload_n 2, 1) := dk_44 (dk_at dksL_law_38 10 rfl rfl)
theorem dL_law_955 : decode cL_law 955 = .ok (.invokevirtual 81, 3) := dk_182 0 81 (dk_at dksL_law_38 11 rfl rfl)
theorem dL_law_958 : decode cL_law 958 = .ok (.iload 5, 2) := dk_21 5 (dk_at dksL_law_38 14 rfl rfl)
theorem dL_law_960 : decode cL_law 960 = .ok (.if_icmp .eq 5, 3) := dk_159 0 5 (dk_at dksL_law_38 16 rfl rfl)
theorem dL_law_963 : decode cL_law 963 = .ok (.iconst 0, 1) := dk_3 (dk_at dksL_law_38 19 rfl rfl)
theorem dL_law_964 : decode cL_law 964 = .ok (.ireturn, 1) := dk_172 (dk_at dksL_law_38 20 rfl rfl)
theorem dL_law_965 : decode cL_law 965 = .ok (.iload 5, 2) := dk_21 5 (dk_at dksL_law_38 21 rfl rfl)
theorem dL_law_967 : decode cL_law 967 = .ok (.ifCond .ne 22, 3) := dk_154 0 22 (dk_at dksL_law_39 0 rfl rfl)
theorem dL_law_970 : decode cL_law 970 = .ok (.aload_n 3, 1) := dk_45 (dk_at dksL_law_39 3 rfl rfl)
theorem dL_law_971 : decode cL_law 971 = .ok (.iconst 0, 1) := dk_3 (dk_at dksL_law_39 4 rfl rfl)
theorem dL_law_972 : decode cL_law 972 = .ok (.laload, 1) := dk_47 (dk_at dksL_law_39 5 rfl rfl)
theorem dL_law_973 : decode cL_law 973 = .ok (.iload 6, 2) := dk_21 6 (dk_at dksL_law_39 6 rfl rfl)
theorem dL_law_975 : decode cL_law 975 = .ok (.ifCond .eq 7, 3) := dk_153 0 7 (dk_at dksL_law_39 8 rfl rfl)
theorem dL_law_978 : decode cL_law 978 = .ok (.lconst 1, 1) := dk_10 (dk_at dksL_law_39 11 rfl rfl)
theorem dL_law_979 : decode cL_law 979 = .ok (.goto 4, 3) := dk_167 0 4 (dk_at dksL_law_39 12 rfl rfl)
theorem dL_law_982 : decode cL_law 982 = .ok (.lconst 0, 1) := dk_9 (dk_at dksL_law_39 15 rfl rfl)
theorem dL_law_983 : decode cL_law 983 = .ok (.lcmp, 1) := dk_148 (dk_at dksL_law_39 16 rfl rfl)
theorem dL_law_984 : decode cL_law 984 = .ok (.ifCond .eq 5, 3) := dk_153 0 5 (dk_at dksL_law_39 17 rfl rfl)
theorem dL_law_987 : decode cL_law 987 = .ok (.iconst 0, 1) := dk_3 (dk_at dksL_law_39 20 rfl rfl)
theorem dL_law_988 : decode cL_law 988 = .ok (.ireturn, 1) := dk_172 (dk_at dksL_law_39 21 rfl rfl)
theorem dL_law_989 : decode cL_law 989 = .ok (.goto 251, 3) := dk_167 0 251 (dk_at dksL_law_40 0 rfl rfl)
theorem dL_law_992 : decode cL_law 992 = .ok (.aload_n 1, 1) := dk_43 (dk_at dksL_law_40 3 rfl rfl)
theorem dL_law_993 : decode cL_law 993 = .ok (.aload_n 0, 1) := dk_42 (dk_at dksL_law_40 4 rfl rfl)
theorem dL_law_994 : decode cL_law 994 = .ok (.iload 4, 2) := dk_21 4 (dk_at dksL_law_40 5 rfl rfl)
theorem dL_law_996 : decode cL_law 996 = .ok (.iconst 1, 1) := dk_4 (dk_at dksL_law_40 7 rfl rfl)
theorem dL_law_997 : decode cL_law 997 = .ok (.iadd, 1) := dk_96 (dk_at dksL_law_40 8 rfl rfl)
theorem dL_law_998 : decode cL_law 998 = .ok (.iaload, 1) := dk_46 (dk_at dksL_law_40 9 rfl rfl)
theorem dL_law_999 : decode cL_law 999 = .ok (.aload_n 0, 1) := dk_42 (dk_at dksL_law_40 10 rfl rfl)
theorem dL_law_1000 : decode cL_law 1000 = .ok (.iload 4, 2) := dk_21 4 (dk_at dksL_law_40 11 rfl rfl)
theorem dL_law_1002 : decode cL_law 1002 = .ok (.iconst 2, 1) := dk_5 (dk_at dksL_law_40 13 rfl rfl)
theorem dL_law_1003 : decode cL_law 1003 = .ok (.iadd, 1) := dk_96 (dk_at dksL_law_40 14 rfl rfl)
theorem dL_law_1004 : decode cL_law 1004 = .ok (.iaload, 1) := dk_46 (dk_at dksL_law_40 15 rfl rfl)
theorem dL_law_1005 : decode cL_law 1005 = .ok (.aload_n 3, 1) := dk_45 (dk_at dksL_law_40 16 rfl rfl)
theorem dL_law_1006 : decode cL_law 1006 = .ok (.invokestatic 127, 3) := dk_184 0 127 (dk_at dksL_law_40 17 rfl rfl)
theorem dL_law_1009 : decode cL_law 1009 = .ok (.istore 5, 2) := dk_54 5 (dk_at dksL_law_40 20 rfl rfl)
theorem dL_law_1011 : decode cL_law 1011 = .ok (.aload_n 2, 1) := dk_44 (dk_at dksL_law_40 22 rfl rfl)
theorem dL_law_1012 : decode cL_law 1012 = .ok (.aload_n 0, 1) := dk_42 (dk_at dksL_law_40 23 rfl rfl)
theorem dL_law_1013 : decode cL_law 1013 = .ok (.iload 4, 2) := dk_21 4 (dk_at dksL_law_41 0 rfl rfl)
theorem dL_law_1015 : decode cL_law 1015 = .ok (.iconst 1, 1) := dk_4 (dk_at dksL_law_41 2 rfl rfl)
theorem dL_law_1016 : decode cL_law 1016 = .ok (.iadd, 1) := dk_96 (dk_at dksL_law_41 3 rfl rfl)
theorem dL_law_1017 : decode cL_law 1017 = .ok (.iaload, 1) := dk_46 (dk_at dksL_law_41 4 rfl rfl)
theorem dL_law_1018 : decode cL_law 1018 = .ok (.aload_n 0, 1) := dk_42 (dk_at dksL_law_41 5 rfl rfl)
theorem dL_law_1019 : decode cL_law 1019 = .ok (.iload 4, 2) := dk_21 4 (dk_at dksL_law_41 6 rfl rfl)
theorem dL_law_1021 : decode cL_law 1021 = .ok (.iconst 2, 1) := dk_5 (dk_at dksL_law_41 8 rfl rfl)
theorem dL_law_1022 : decode cL_law 1022 = .ok (.iadd, 1) := dk_96 (dk_at dksL_law_41 9 rfl rfl)
theorem dL_law_1023 : decode cL_law 1023 = .ok (.iaload, 1) := dk_46 (dk_at dksL_law_41 10 rfl rfl)
theorem dL_law_1024 : decode cL_law 1024 = .ok (.invokevirtual 129, 3) := dk_182 0 129 (dk_at dksL_law_41 11 rfl rfl)
theorem dL_law_1027 : decode cL_law 1027 = .ok (.istore 6, 2) := dk_54 6 (dk_at dksL_law_41 14 rfl rfl)
theorem dL_law_1029 : decode cL_law 1029 = .ok (.aload_n 2, 1) := dk_44 (dk_at dksL_law_41 16 rfl rfl)
theorem dL_law_1030 : decode cL_law 1030 = .ok (.invokevirtual 81, 3) := dk_182 0 81 (dk_at dksL_law_41 17 rfl rfl)
theorem dL_law_1033 : decode cL_law 1033 = .ok (.iload 5, 2) := dk_21 5 (dk_at dksL_law_41 20 rfl rfl)
theorem dL_law_1035 : decode cL_law 1035 = .ok (.if_icmp .eq 5, 3) := dk_159 0 5 (dk_at dksL_law_42 0 rfl rfl)
theorem dL_law_1038 : decode cL_law 1038 = .ok (.iconst 0, 1) := dk_3 (dk_at dksL_law_42 3 rfl rfl)
theorem dL_law_1039 : decode cL_law 1039 = .ok (.ireturn, 1) := dk_172 (dk_at dksL_law_42 4 rfl rfl)
theorem dL_law_1040 : decode cL_law 1040 = .ok (.iload 5, 2) := dk_21 5 (dk_at dksL_law_42 5 rfl rfl)
theorem dL_law_1042 : decode cL_law 1042 = .ok (.ifCond .ne 15, 3) := dk_154 0 15 (dk_at dksL_law_42 7 rfl rfl)
theorem dL_law_1045 : decode cL_law 1045 = .ok (.aload_n 3, 1) := dk_45 (dk_at dksL_law_42 10 rfl rfl)
theorem dL_law_1046 : decode cL_law 1046 = .ok (.iconst 0, 1) := dk_3 (dk_at dksL_law_42 11 rfl rfl)
theorem dL_law_1047 : decode cL_law 1047 = .ok (.laload, 1) := dk_47 (dk_at dksL_law_42 12 rfl rfl)
theorem dL_law_1048 : decode cL_law 1048 = .ok (.iload 6, 2) := dk_21 6 (dk_at dksL_law_42 13 rfl rfl)
theorem dL_law_1050 : decode cL_law 1050 = .ok (.i2l, 1) := dk_133 (dk_at dksL_law_42 15 rfl rfl)
theorem dL_law_1051 : decode cL_law 1051 = .ok (.lcmp, 1) := dk_148 (dk_at dksL_law_42 16 rfl rfl)
theorem dL_law_1052 : decode cL_law 1052 = .ok (.ifCond .eq 5, 3) := dk_153 0 5 (dk_at dksL_law_42 17 rfl rfl)
theorem dL_law_1055 : decode cL_law 1055 = .ok (.iconst 0, 1) := dk_3 (dk_at dksL_law_42 20 rfl rfl)
theorem dL_law_1056 : decode cL_law 1056 = .ok (.ireturn, 1) := dk_172 (dk_at dksL_law_42 21 rfl rfl)
theorem dL_law_1057 : decode cL_law 1057 = .ok (.goto 183, 3) := dk_167 0 183 (dk_at dksL_law_43 0 rfl rfl)
theorem dL_law_1060 : decode cL_law 1060 = .ok (.aload_n 1, 1) := dk_43 (dk_at dksL_law_43 3 rfl rfl)
theorem dL_law_1061 : decode cL_law 1061 = .ok (.aload_n 0, 1) := dk_42 (dk_at dksL_law_43 4 rfl rfl)
theorem dL_law_1062 : decode cL_law 1062 = .ok (.iload 4, 2) := dk_21 4 (dk_at dksL_law_43 5 rfl rfl)
theorem dL_law_1064 : decode cL_law 1064 = .ok (.iconst 1, 1) := dk_4 (dk_at dksL_law_43 7 rfl rfl)
theorem dL_law_1065 : decode cL_law 1065 = .ok (.iadd, 1) := dk_96 (dk_at dksL_law_43 8 rfl rfl)
theorem dL_law_1066 : decode cL_law 1066 = .ok (.iaload, 1) := dk_46 (dk_at dksL_law_43 9 rfl rfl)
theorem dL_law_1067 : decode cL_law 1067 = .ok (.aload_n 3, 1) := dk_45 (dk_at dksL_law_43 10 rfl rfl)
theorem dL_law_1068 : decode cL_law 1068 = .ok (.invokestatic 130, 3) := dk_184 0 130 (dk_at dksL_law_43 11 rfl rfl)
theorem dL_law_1071 : decode cL_law 1071 = .ok (.istore 5, 2) := dk_54 5 (dk_at dksL_law_43 14 rfl rfl)
theorem dL_law_1073 : decode cL_law 1073 = .ok (.aload_n 2, 1) := dk_44 (dk_at dksL_law_43 16 rfl rfl)
theorem dL_law_1074 : decode cL_law 1074 = .ok (.aload_n 0, 1) := dk_42 (dk_at dksL_law_43 17 rfl rfl)
theorem dL_law_1075 : decode cL_law 1075 = .ok (.iload 4, 2) := dk_21 4 (dk_at dksL_law_43 18 rfl rfl)
theorem dL_law_1077 : decode cL_law 1077 = .ok (.iconst 1, 1) := dk_4 (dk_at dksL_law_43 20 rfl rfl)
theorem dL_law_1078 : decode cL_law 1078 = .ok (.iadd, 1) := dk_96 (dk_at dksL_law_43 21 rfl rfl)
theorem dL_law_1079 : decode cL_law 1079 = .ok (.iaload, 1) := dk_46 (dk_at dksL_law_43 22 rfl rfl)
theorem dL_law_1080 : decode cL_law 1080 = .ok (.invokevirtual 132, 3) := dk_182 0 132 (dk_at dksL_law_44 0 rfl rfl)
theorem dL_law_1083 : decode cL_law 1083 = .ok (.istore 6, 2) := dk_54 6 (dk_at dksL_law_44 3 rfl rfl)
theorem dL_law_1085 : decode cL_law 1085 = .ok (.aload_n 2, 1) := dk_44 (dk_at dksL_law_44 5 rfl rfl)
theorem dL_law_1086 : decode cL_law 1086 = .ok (.invokevirtual 81, 3) := dk_182 0 81 (dk_at dksL_law_44 6 rfl rfl)
theorem dL_law_1089 : decode cL_law 1089 = .ok (.iload 5, 2) := dk_21 5 (dk_at dksL_law_44 9 rfl rfl)
theorem dL_law_1091 : decode cL_law 1091 = .ok (.if_icmp .eq 5, 3) := dk_159 0 5 (dk_at dksL_law_44 11 rfl rfl)
theorem dL_law_1094 : decode cL_law 1094 = .ok (.iconst 0, 1) := dk_3 (dk_at dksL_law_44 14 rfl rfl)
theorem dL_law_1095 : decode cL_law 1095 = .ok (.ireturn, 1) := dk_172 (dk_at dksL_law_44 15 rfl rfl)
theorem dL_law_1096 : decode cL_law 1096 = .ok (.iload 5, 2) := dk_21 5 (dk_at dksL_law_44 16 rfl rfl)
theorem dL_law_1098 : decode cL_law 1098 = .ok (.ifCond .ne 15, 3) := dk_154 0 15 (dk_at dksL_law_44 18 rfl rfl)
theorem dL_law_1101 : decode cL_law 1101 = .ok (.aload_n 3, 1) := dk_45 (dk_at dksL_law_44 21 rfl rfl)
theorem dL_law_1102 : decode cL_law 1102 = .ok (.iconst 0, 1) := dk_3 (dk_at dksL_law_44 22 rfl rfl)
theorem dL_law_1103 : decode cL_law 1103 = .ok (.laload, 1) := dk_47 (dk_at dksL_law_44 23 rfl rfl)
theorem dL_law_1104 : decode cL_law 1104 = .ok (.iload 6, 2) := dk_21 6 (dk_at dksL_law_45 0 rfl rfl)
theorem dL_law_1106 : decode cL_law 1106 = .ok (.i2l, 1) := dk_133 (dk_at dksL_law_45 2 rfl rfl)
theorem dL_law_1107 : decode cL_law 1107 = .ok (.lcmp, 1) := dk_148 (dk_at dksL_law_45 3 rfl rfl)
theorem dL_law_1108 : decode cL_law 1108 = .ok (.ifCond .eq 5, 3) := dk_153 0 5 (dk_at dksL_law_45 4 rfl rfl)
theorem dL_law_1111 : decode cL_law 1111 = .ok (.iconst 0, 1) := dk_3 (dk_at dksL_law_45 7 rfl rfl)
theorem dL_law_1112 : decode cL_law 1112 = .ok (.ireturn, 1) := dk_172 (dk_at dksL_law_45 8 rfl rfl)
theorem dL_law_1113 : decode cL_law 1113 = .ok (.goto 127, 3) := dk_167 0 127 (dk_at dksL_law_45 9 rfl rfl)
theorem dL_law_1116 : decode cL_law 1116 = .ok (.aload_n 1, 1) := dk_43 (dk_at dksL_law_45 12 rfl rfl)
theorem dL_law_1117 : decode cL_law 1117 = .ok (.aload_n 0, 1) := dk_42 (dk_at dksL_law_45 13 rfl rfl)
theorem dL_law_1118 : decode cL_law 1118 = .ok (.iload 4, 2) := dk_21 4 (dk_at dksL_law_45 14 rfl rfl)
theorem dL_law_1120 : decode cL_law 1120 = .ok (.iconst 1, 1) := dk_4 (dk_at dksL_law_45 16 rfl rfl)
theorem dL_law_1121 : decode cL_law 1121 = .ok (.iadd, 1) := dk_96 (dk_at dksL_law_45 17 rfl rfl)
theorem dL_law_1122 : decode cL_law 1122 = .ok (.iaload, 1) := dk_46 (dk_at dksL_law_45 18 rfl rfl)
theorem dL_law_1123 : decode cL_law 1123 = .ok (.aload_n 0, 1) := dk_42 (dk_at dksL_law_45 19 rfl rfl)
theorem dL_law_1124 : decode cL_law 1124 = .ok (.iload 4, 2) := dk_21 4 (dk_at dksL_law_45 20 rfl rfl)
theorem dL_law_1126 : decode cL_law 1126 = .ok (.iconst 2, 1) := dk_5 (dk_at dksL_law_45 22 rfl rfl)
theorem dL_law_1127 : decode cL_law 1127 = .ok (.iadd, 1) := dk_96 (dk_at dksL_law_45 23 rfl rfl)
theorem dL_law_1128 : decode cL_law 1128 = .ok (.iaload, 1) := dk_46 (dk_at dksL_law_46 0 rfl rfl)
theorem dL_law_1129 : decode cL_law 1129 = .ok (.aload_n 3, 1) := dk_45 (dk_at dksL_law_46 1 rfl rfl)
theorem dL_law_1130 : decode cL_law 1130 = .ok (.invokestatic 133, 3) := dk_184 0 133 (dk_at dksL_law_46 2 rfl rfl)
theorem dL_law_1133 : decode cL_law 1133 = .ok (.istore 5, 2) := dk_54 5 (dk_at dksL_law_46 5 rfl rfl)
theorem dL_law_1135 : decode cL_law 1135 = .ok (.aload_n 2, 1) := dk_44 (dk_at dksL_law_46 7 rfl rfl)
theorem dL_law_1136 : decode cL_law 1136 = .ok (.aload_n 0, 1) := dk_42 (dk_at dksL_law_46 8 rfl rfl)
theorem dL_law_1137 : decode cL_law 1137 = .ok (.iload 4, 2) := dk_21 4 (dk_at dksL_law_46 9 rfl rfl)
theorem dL_law_1139 : decode cL_law 1139 = .ok (.iconst 1, 1) := dk_4 (dk_at dksL_law_46 11 rfl rfl)
theorem dL_law_1140 : decode cL_law 1140 = .ok (.iadd, 1) := dk_96 (dk_at dksL_law_46 12 rfl rfl)
theorem dL_law_1141 : decode cL_law 1141 = .ok (.iaload, 1) := dk_46 (dk_at dksL_law_46 13 rfl rfl)
theorem dL_law_1142 : decode cL_law 1142 = .ok (.aload_n 0, 1) := dk_42 (dk_at dksL_law_46 14 rfl rfl)
theorem dL_law_1143 : decode cL_law 1143 = .ok (.iload 4, 2) := dk_21 4 (dk_at dksL_law_46 15 rfl rfl)
theorem dL_law_1145 : decode cL_law 1145 = .ok (.iconst 2, 1) := dk_5 (dk_at dksL_law_46 17 rfl rfl)
theorem dL_law_1146 : decode cL_law 1146 = .ok (.iadd, 1) := dk_96 (dk_at dksL_law_46 18 rfl rfl)
theorem dL_law_1147 : decode cL_law 1147 = .ok (.iaload, 1) := dk_46 (dk_at dksL_law_46 19 rfl rfl)
theorem dL_law_1148 : decode cL_law 1148 = .ok (.invokevirtual 135, 3) := dk_182 0 135 (dk_at dksL_law_46 20 rfl rfl)
theorem dL_law_1151 : decode cL_law 1151 = .ok (.istore 6, 2) := dk_54 6 (dk_at dksL_law_47 0 rfl rfl)
theorem dL_law_1153 : decode cL_law 1153 = .ok (.aload_n 2, 1) := dk_44 (dk_at dksL_law_47 2 rfl rfl)
theorem dL_law_1154 : decode cL_law 1154 = .ok (.invokevirtual 81, 3) := dk_182 0 81 (dk_at dksL_law_47 3 rfl rfl)
theorem dL_law_1157 : decode cL_law 1157 = .ok (.iload 5, 2) := dk_21 5 (dk_at dksL_law_47 6 rfl rfl)
theorem dL_law_1159 : decode cL_law 1159 = .ok (.if_icmp .eq 5, 3) := dk_159 0 5 (dk_at dksL_law_47 8 rfl rfl)
theorem dL_law_1162 : decode cL_law 1162 = .ok (.iconst 0, 1) := dk_3 (dk_at dksL_law_47 11 rfl rfl)
theorem dL_law_1163 : decode cL_law 1163 = .ok (.ireturn, 1) := dk_172 (dk_at dksL_law_47 12 rfl rfl)
theorem dL_law_1164 : decode cL_law 1164 = .ok (.iload 5, 2) := dk_21 5 (dk_at dksL_law_47 13 rfl rfl)
theorem dL_law_1166 : decode cL_law 1166 = .ok (.ifCond .ne 15, 3) := dk_154 0 15 (dk_at dksL_law_47 15 rfl rfl)
theorem dL_law_1169 : decode cL_law 1169 = .ok (.aload_n 3, 1) := dk_45 (dk_at dksL_law_47 18 rfl rfl)
theorem dL_law_1170 : decode cL_law 1170 = .ok (.iconst 0, 1) := dk_3 (dk_at dksL_law_47 19 rfl rfl)
theorem dL_law_1171 : decode cL_law 1171 = .ok (.laload, 1) := dk_47 (dk_at dksL_law_47 20 rfl rfl)
theorem dL_law_1172 : decode cL_law 1172 = .ok (.iload 6, 2) := dk_21 6 (dk_at dksL_law_47 21 rfl rfl)
theorem dL_law_1174 : decode cL_law 1174 = .ok (.i2l, 1) := dk_133 (dk_at dksL_law_47 23 rfl rfl)
theorem dL_law_1175 : decode cL_law 1175 = .ok (.lcmp, 1) := dk_148 (dk_at dksL_law_48 0 rfl rfl)
theorem dL_law_1176 : decode cL_law 1176 = .ok (.ifCond .eq 5, 3) := dk_153 0 5 (dk_at dksL_law_48 1 rfl rfl)
theorem dL_law_1179 : decode cL_law 1179 = .ok (.iconst 0, 1) := dk_3 (dk_at dksL_law_48 4 rfl rfl)
theorem dL_law_1180 : decode cL_law 1180 = .ok (.ireturn, 1) := dk_172 (dk_at dksL_law_48 5 rfl rfl)
theorem dL_law_1181 : decode cL_law 1181 = .ok (.goto 59, 3) := dk_167 0 59 (dk_at dksL_law_48 6 rfl rfl)
theorem dL_law_1184 : decode cL_law 1184 = .ok (.aload_n 1, 1) := dk_43 (dk_at dksL_law_48 9 rfl rfl)
theorem dL_law_1185 : decode cL_law 1185 = .ok (.aload_n 0, 1) := dk_42 (dk_at dksL_law_48 10 rfl rfl)
theorem dL_law_1186 : decode cL_law 1186 = .ok (.iload 4, 2) := dk_21 4 (dk_at dksL_law_48 11 rfl rfl)
theorem dL_law_1188 : decode cL_law 1188 = .ok (.iconst 1, 1) := dk_4 (dk_at dksL_law_48 13 rfl rfl)
theorem dL_law_1189 : decode cL_law 1189 = .ok (.iadd, 1) := dk_96 (dk_at dksL_law_48 14 rfl rfl)
theorem dL_law_1190 : decode cL_law 1190 = .ok (.iaload, 1) := dk_46 (dk_at dksL_law_48 15 rfl rfl)
theorem dL_law_1191 : decode cL_law 1191 = .ok (.aload_n 3, 1) := dk_45 (dk_at dksL_law_48 16 rfl rfl)
theorem dL_law_1192 : decode cL_law 1192 = .ok (.invokestatic 136, 3) := dk_184 0 136 (dk_at dksL_law_48 17 rfl rfl)
theorem dL_law_1195 : decode cL_law 1195 = .ok (.istore 5, 2) := dk_54 5 (dk_at dksL_law_48 20 rfl rfl)
theorem dL_law_1197 : decode cL_law 1197 = .ok (.aload_n 2, 1) := dk_44 (dk_at dksL_law_48 22 rfl rfl)
theorem dL_law_1198 : decode cL_law 1198 = .ok (.aload_n 0, 1) := dk_42 (dk_at dksL_law_48 23 rfl rfl)
theorem dL_law_1199 : decode cL_law 1199 = .ok (.iload 4, 2) := dk_21 4 (dk_at dksL_law_49 0 rfl rfl)
theorem dL_law_1201 : decode cL_law 1201 = .ok (.iconst 1, 1) := dk_4 (dk_at dksL_law_49 2 rfl rfl)
theorem dL_law_1202 : decode cL_law 1202 = .ok (.iadd, 1) := dk_96 (dk_at dksL_law_49 3 rfl rfl)
theorem dL_law_1203 : decode cL_law 1203 = .ok (.iaload, 1) := dk_46 (dk_at dksL_law_49 4 rfl rfl)
theorem dL_law_1204 : decode cL_law 1204 = .ok (.invokevirtual 138, 3) := dk_182 0 138 (dk_at dksL_law_49 5 rfl rfl)
theorem dL_law_1207 : decode cL_law 1207 = .ok (.istore 6, 2) := dk_54 6 (dk_at dksL_law_49 8 rfl rfl)
theorem dL_law_1209 : decode cL_law 1209 = .ok (.aload_n 2, 1) := dk_44 (dk_at dksL_law_49 10 rfl rfl)
theorem dL_law_1210 : decode cL_law 1210 = .ok (.invokevirtual 81, 3) := dk_182 0 81 (dk_at dksL_law_49 11 rfl rfl)
theorem dL_law_1213 : decode cL_law 1213 = .ok (.iload 5, 2) := dk_21 5 (dk_at dksL_law_49 14 rfl rfl)
theorem dL_law_1215 : decode cL_law 1215 = .ok (.if_icmp .eq 5, 3) := dk_159 0 5 (dk_at dksL_law_49 16 rfl rfl)
theorem dL_law_1218 : decode cL_law 1218 = .ok (.iconst 0, 1) := dk_3 (dk_at dksL_law_49 19 rfl rfl)
theorem dL_law_1219 : decode cL_law 1219 = .ok (.ireturn, 1) := dk_172 (dk_at dksL_law_49 20 rfl rfl)
theorem dL_law_1220 : decode cL_law 1220 = .ok (.iload 5, 2) := dk_21 5 (dk_at dksL_law_49 21 rfl rfl)
theorem dL_law_1222 : decode cL_law 1222 = .ok (.ifCond .ne 15, 3) := dk_154 0 15 (dk_at dksL_law_50 0 rfl rfl)
theorem dL_law_1225 : decode cL_law 1225 = .ok (.aload_n 3, 1) := dk_45 (dk_at dksL_law_50 3 rfl rfl)
theorem dL_law_1226 : decode cL_law 1226 = .ok (.iconst 0, 1) := dk_3 (dk_at dksL_law_50 4 rfl rfl)
theorem dL_law_1227 : decode cL_law 1227 = .ok (.laload, 1) := dk_47 (dk_at dksL_law_50 5 rfl rfl)
theorem dL_law_1228 : decode cL_law 1228 = .ok (.iload 6, 2) := dk_21 6 (dk_at dksL_law_50 6 rfl rfl)
theorem dL_law_1230 : decode cL_law 1230 = .ok (.i2l, 1) := dk_133 (dk_at dksL_law_50 8 rfl rfl)
theorem dL_law_1231 : decode cL_law 1231 = .ok (.lcmp, 1) := dk_148 (dk_at dksL_law_50 9 rfl rfl)
theorem dL_law_1232 : decode cL_law 1232 = .ok (.ifCond .eq 5, 3) := dk_153 0 5 (dk_at dksL_law_50 10 rfl rfl)
theorem dL_law_1235 : decode cL_law 1235 = .ok (.iconst 0, 1) := dk_3 (dk_at dksL_law_50 13 rfl rfl)
theorem dL_law_1236 : decode cL_law 1236 = .ok (.ireturn, 1) := dk_172 (dk_at dksL_law_50 14 rfl rfl)
theorem dL_law_1237 : decode cL_law 1237 = .ok (.goto 3, 3) := dk_167 0 3 (dk_at dksL_law_50 15 rfl rfl)
theorem dL_law_1240 : decode cL_law 1240 = .ok (.iinc 4 4, 3) := dk_132 4 4 (dk_at dksL_law_50 18 rfl rfl)
theorem dL_law_1243 : decode cL_law 1243 = .ok (.goto (-1220), 3) := dk_167 251 60 (dk_at dksL_law_50 21 rfl rfl)
theorem dL_law_1246 : decode cL_law 1246 = .ok (.iconst 1, 1) := dk_4 (dk_at dksL_law_51 0 rfl rfl)
theorem dL_law_1247 : decode cL_law 1247 = .ok (.ireturn, 1) := dk_172 (dk_at dksL_law_51 1 rfl rfl)
