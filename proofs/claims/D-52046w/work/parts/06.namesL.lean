set_option maxRecDepth 100000
/-! PastWatchLaw -/

def RX0 : String := "PastWatchLaw"
abbrev cX0_feed : ByteArray := method_3_code
def yX0_feed : MethodName := ⟨RX0, "feed", "(LPastWatch;IIIII[J)I"⟩
def dkwX0_feed_1 : List UInt8 := [172]
abbrev dktX0_feed_1 : List UInt8 := dkwX0_feed_1 ++ []
def dkwX0_feed_0 : List UInt8 := [25, 6, 3, 42, 27, 28, 29, 21, 4, 21, 5, 182, 0, 7, 133, 80, 167, 0, 7, 58, 7, 4, 172, 3]
abbrev dktX0_feed_0 : List UInt8 := dkwX0_feed_0 ++ dktX0_feed_1
theorem dksX0_feed_0 : cX0_feed.data.toList.drop 0 = dktX0_feed_0 := by decide +kernel
theorem dksX0_feed_1 : cX0_feed.data.toList.drop 24 = dktX0_feed_1 := dk_seg dksX0_feed_0 24 rfl rfl
theorem dX0_feed_0 : decode cX0_feed 0 = .ok (.aload 6, 2) := dk_25 6 (dk_at dksX0_feed_0 0 rfl rfl)
theorem dX0_feed_2 : decode cX0_feed 2 = .ok (.iconst 0, 1) := dk_3 (dk_at dksX0_feed_0 2 rfl rfl)
theorem dX0_feed_3 : decode cX0_feed 3 = .ok (.aload_n 0, 1) := dk_42 (dk_at dksX0_feed_0 3 rfl rfl)
theorem dX0_feed_4 : decode cX0_feed 4 = .ok (.iload_n 1, 1) := dk_27 (dk_at dksX0_feed_0 4 rfl rfl)
theorem dX0_feed_5 : decode cX0_feed 5 = .ok (.iload_n 2, 1) := dk_28 (dk_at dksX0_feed_0 5 rfl rfl)
theorem dX0_feed_6 : decode cX0_feed 6 = .ok (.iload_n 3, 1) := dk_29 (dk_at dksX0_feed_0 6 rfl rfl)
theorem dX0_feed_7 : decode cX0_feed 7 = .ok (.iload 4, 2) := dk_21 4 (dk_at dksX0_feed_0 7 rfl rfl)
theorem dX0_feed_9 : decode cX0_feed 9 = .ok (.iload 5, 2) := dk_21 5 (dk_at dksX0_feed_0 9 rfl rfl)
theorem dX0_feed_11 : decode cX0_feed 11 = .ok (.invokevirtual 7, 3) := dk_182 0 7 (dk_at dksX0_feed_0 11 rfl rfl)
theorem dX0_feed_14 : decode cX0_feed 14 = .ok (.i2l, 1) := dk_133 (dk_at dksX0_feed_0 14 rfl rfl)
theorem dX0_feed_15 : decode cX0_feed 15 = .ok (.lastore, 1) := dk_80 (dk_at dksX0_feed_0 15 rfl rfl)
theorem dX0_feed_16 : decode cX0_feed 16 = .ok (.goto 7, 3) := dk_167 0 7 (dk_at dksX0_feed_0 16 rfl rfl)
theorem dX0_feed_19 : decode cX0_feed 19 = .ok (.astore 7, 2) := dk_58 7 (dk_at dksX0_feed_0 19 rfl rfl)
theorem dX0_feed_21 : decode cX0_feed 21 = .ok (.iconst 1, 1) := dk_4 (dk_at dksX0_feed_0 21 rfl rfl)
theorem dX0_feed_22 : decode cX0_feed 22 = .ok (.ireturn, 1) := dk_172 (dk_at dksX0_feed_0 22 rfl rfl)
theorem dX0_feed_23 : decode cX0_feed 23 = .ok (.iconst 0, 1) := dk_3 (dk_at dksX0_feed_0 23 rfl rfl)
theorem dX0_feed_24 : decode cX0_feed 24 = .ok (.ireturn, 1) := dk_172 (dk_at dksX0_feed_1 0 rfl rfl)
abbrev cX0_trim : ByteArray := method_4_code
def yX0_trim : MethodName := ⟨RX0, "trim", "(LPastWatch;I[J)I"⟩
def dkwX0_trim_0 : List UInt8 := [44, 3, 42, 27, 182, 0, 15, 133, 80, 167, 0, 6, 78, 4, 172, 3, 172]
abbrev dktX0_trim_0 : List UInt8 := dkwX0_trim_0 ++ []
theorem dksX0_trim_0 : cX0_trim.data.toList.drop 0 = dktX0_trim_0 := by decide +kernel
theorem dX0_trim_0 : decode cX0_trim 0 = .ok (.aload_n 2, 1) := dk_44 (dk_at dksX0_trim_0 0 rfl rfl)
theorem dX0_trim_1 : decode cX0_trim 1 = .ok (.iconst 0, 1) := dk_3 (dk_at dksX0_trim_0 1 rfl rfl)
theorem dX0_trim_2 : decode cX0_trim 2 = .ok (.aload_n 0, 1) := dk_42 (dk_at dksX0_trim_0 2 rfl rfl)
theorem dX0_trim_3 : decode cX0_trim 3 = .ok (.iload_n 1, 1) := dk_27 (dk_at dksX0_trim_0 3 rfl rfl)
theorem dX0_trim_4 : decode cX0_trim 4 = .ok (.invokevirtual 15, 3) := dk_182 0 15 (dk_at dksX0_trim_0 4 rfl rfl)
theorem dX0_trim_7 : decode cX0_trim 7 = .ok (.i2l, 1) := dk_133 (dk_at dksX0_trim_0 7 rfl rfl)
theorem dX0_trim_8 : decode cX0_trim 8 = .ok (.lastore, 1) := dk_80 (dk_at dksX0_trim_0 8 rfl rfl)
theorem dX0_trim_9 : decode cX0_trim 9 = .ok (.goto 6, 3) := dk_167 0 6 (dk_at dksX0_trim_0 9 rfl rfl)
theorem dX0_trim_12 : decode cX0_trim 12 = .ok (.astore_n 3, 1) := dk_78 (dk_at dksX0_trim_0 12 rfl rfl)
theorem dX0_trim_13 : decode cX0_trim 13 = .ok (.iconst 1, 1) := dk_4 (dk_at dksX0_trim_0 13 rfl rfl)
theorem dX0_trim_14 : decode cX0_trim 14 = .ok (.ireturn, 1) := dk_172 (dk_at dksX0_trim_0 14 rfl rfl)
theorem dX0_trim_15 : decode cX0_trim 15 = .ok (.iconst 0, 1) := dk_3 (dk_at dksX0_trim_0 15 rfl rfl)
theorem dX0_trim_16 : decode cX0_trim 16 = .ok (.ireturn, 1) := dk_172 (dk_at dksX0_trim_0 16 rfl rfl)
abbrev cX0_count : ByteArray := method_5_code
def yX0_count : MethodName := ⟨RX0, "count", "(LPastWatch;I[J)I"⟩
def dkwX0_count_0 : List UInt8 := [44, 3, 42, 27, 182, 0, 21, 133, 80, 167, 0, 6, 78, 4, 172, 3, 172]
abbrev dktX0_count_0 : List UInt8 := dkwX0_count_0 ++ []
theorem dksX0_count_0 : cX0_count.data.toList.drop 0 = dktX0_count_0 := by decide +kernel
theorem dX0_count_0 : decode cX0_count 0 = .ok (.aload_n 2, 1) := dk_44 (dk_at dksX0_count_0 0 rfl rfl)
theorem dX0_count_1 : decode cX0_count 1 = .ok (.iconst 0, 1) := dk_3 (dk_at dksX0_count_0 1 rfl rfl)
theorem dX0_count_2 : decode cX0_count 2 = .ok (.aload_n 0, 1) := dk_42 (dk_at dksX0_count_0 2 rfl rfl)
theorem dX0_count_3 : decode cX0_count 3 = .ok (.iload_n 1, 1) := dk_27 (dk_at dksX0_count_0 3 rfl rfl)
theorem dX0_count_4 : decode cX0_count 4 = .ok (.invokevirtual 21, 3) := dk_182 0 21 (dk_at dksX0_count_0 4 rfl rfl)
theorem dX0_count_7 : decode cX0_count 7 = .ok (.i2l, 1) := dk_133 (dk_at dksX0_count_0 7 rfl rfl)
theorem dX0_count_8 : decode cX0_count 8 = .ok (.lastore, 1) := dk_80 (dk_at dksX0_count_0 8 rfl rfl)
theorem dX0_count_9 : decode cX0_count 9 = .ok (.goto 6, 3) := dk_167 0 6 (dk_at dksX0_count_0 9 rfl rfl)
theorem dX0_count_12 : decode cX0_count 12 = .ok (.astore_n 3, 1) := dk_78 (dk_at dksX0_count_0 12 rfl rfl)
theorem dX0_count_13 : decode cX0_count 13 = .ok (.iconst 1, 1) := dk_4 (dk_at dksX0_count_0 13 rfl rfl)
theorem dX0_count_14 : decode cX0_count 14 = .ok (.ireturn, 1) := dk_172 (dk_at dksX0_count_0 14 rfl rfl)
theorem dX0_count_15 : decode cX0_count 15 = .ok (.iconst 0, 1) := dk_3 (dk_at dksX0_count_0 15 rfl rfl)
theorem dX0_count_16 : decode cX0_count 16 = .ok (.ireturn, 1) := dk_172 (dk_at dksX0_count_0 16 rfl rfl)
abbrev cX0_set : ByteArray := method_6_code
def yX0_set : MethodName := ⟨RX0, "set", "(LPastWatch;IJ[J)I"⟩
def dkwX0_set_0 : List UInt8 := [25, 4, 3, 42, 27, 32, 182, 0, 26, 80, 167, 0, 7, 58, 5, 4, 172, 3, 172]
abbrev dktX0_set_0 : List UInt8 := dkwX0_set_0 ++ []
theorem dksX0_set_0 : cX0_set.data.toList.drop 0 = dktX0_set_0 := by decide +kernel
theorem dX0_set_0 : decode cX0_set 0 = .ok (.aload 4, 2) := dk_25 4 (dk_at dksX0_set_0 0 rfl rfl)
theorem dX0_set_2 : decode cX0_set 2 = .ok (.iconst 0, 1) := dk_3 (dk_at dksX0_set_0 2 rfl rfl)
theorem dX0_set_3 : decode cX0_set 3 = .ok (.aload_n 0, 1) := dk_42 (dk_at dksX0_set_0 3 rfl rfl)
theorem dX0_set_4 : decode cX0_set 4 = .ok (.iload_n 1, 1) := dk_27 (dk_at dksX0_set_0 4 rfl rfl)
theorem dX0_set_5 : decode cX0_set 5 = .ok (.lload_n 2, 1) := dk_32 (dk_at dksX0_set_0 5 rfl rfl)
theorem dX0_set_6 : decode cX0_set 6 = .ok (.invokevirtual 26, 3) := dk_182 0 26 (dk_at dksX0_set_0 6 rfl rfl)
theorem dX0_set_9 : decode cX0_set 9 = .ok (.lastore, 1) := dk_80 (dk_at dksX0_set_0 9 rfl rfl)
theorem dX0_set_10 : decode cX0_set 10 = .ok (.goto 7, 3) := dk_167 0 7 (dk_at dksX0_set_0 10 rfl rfl)
theorem dX0_set_13 : decode cX0_set 13 = .ok (.astore 5, 2) := dk_58 5 (dk_at dksX0_set_0 13 rfl rfl)
theorem dX0_set_15 : decode cX0_set 15 = .ok (.iconst 1, 1) := dk_4 (dk_at dksX0_set_0 15 rfl rfl)
theorem dX0_set_16 : decode cX0_set 16 = .ok (.ireturn, 1) := dk_172 (dk_at dksX0_set_0 16 rfl rfl)
theorem dX0_set_17 : decode cX0_set 17 = .ok (.iconst 0, 1) := dk_3 (dk_at dksX0_set_0 17 rfl rfl)
theorem dX0_set_18 : decode cX0_set 18 = .ok (.ireturn, 1) := dk_172 (dk_at dksX0_set_0 18 rfl rfl)
abbrev cX0_tick : ByteArray := method_7_code
def yX0_tick : MethodName := ⟨RX0, "tick", "(LPastWatch;I[J)I"⟩
def dkwX0_tick_0 : List UInt8 := [44, 3, 42, 27, 182, 0, 30, 133, 80, 167, 0, 9, 78, 4, 172, 78, 5, 172, 3, 172]
abbrev dktX0_tick_0 : List UInt8 := dkwX0_tick_0 ++ []
theorem dksX0_tick_0 : cX0_tick.data.toList.drop 0 = dktX0_tick_0 := by decide +kernel
theorem dX0_tick_0 : decode cX0_tick 0 = .ok (.aload_n 2, 1) := dk_44 (dk_at dksX0_tick_0 0 rfl rfl)
theorem dX0_tick_1 : decode cX0_tick 1 = .ok (.iconst 0, 1) := dk_3 (dk_at dksX0_tick_0 1 rfl rfl)
theorem dX0_tick_2 : decode cX0_tick 2 = .ok (.aload_n 0, 1) := dk_42 (dk_at dksX0_tick_0 2 rfl rfl)
theorem dX0_tick_3 : decode cX0_tick 3 = .ok (.iload_n 1, 1) := dk_27 (dk_at dksX0_tick_0 3 rfl rfl)
theorem dX0_tick_4 : decode cX0_tick 4 = .ok (.invokevirtual 30, 3) := dk_182 0 30 (dk_at dksX0_tick_0 4 rfl rfl)
theorem dX0_tick_7 : decode cX0_tick 7 = .ok (.i2l, 1) := dk_133 (dk_at dksX0_tick_0 7 rfl rfl)
theorem dX0_tick_8 : decode cX0_tick 8 = .ok (.lastore, 1) := dk_80 (dk_at dksX0_tick_0 8 rfl rfl)
theorem dX0_tick_9 : decode cX0_tick 9 = .ok (.goto 9, 3) := dk_167 0 9 (dk_at dksX0_tick_0 9 rfl rfl)
theorem dX0_tick_12 : decode cX0_tick 12 = .ok (.astore_n 3, 1) := dk_78 (dk_at dksX0_tick_0 12 rfl rfl)
theorem dX0_tick_13 : decode cX0_tick 13 = .ok (.iconst 1, 1) := dk_4 (dk_at dksX0_tick_0 13 rfl rfl)
theorem dX0_tick_14 : decode cX0_tick 14 = .ok (.ireturn, 1) := dk_172 (dk_at dksX0_tick_0 14 rfl rfl)
theorem dX0_tick_15 : decode cX0_tick 15 = .ok (.astore_n 3, 1) := dk_78 (dk_at dksX0_tick_0 15 rfl rfl)
theorem dX0_tick_16 : decode cX0_tick 16 = .ok (.iconst 2, 1) := dk_5 (dk_at dksX0_tick_0 16 rfl rfl)
theorem dX0_tick_17 : decode cX0_tick 17 = .ok (.ireturn, 1) := dk_172 (dk_at dksX0_tick_0 17 rfl rfl)
theorem dX0_tick_18 : decode cX0_tick 18 = .ok (.iconst 0, 1) := dk_3 (dk_at dksX0_tick_0 18 rfl rfl)
theorem dX0_tick_19 : decode cX0_tick 19 = .ok (.ireturn, 1) := dk_172 (dk_at dksX0_tick_0 19 rfl rfl)
abbrev cX0_back : ByteArray := method_8_code
def yX0_back : MethodName := ⟨RX0, "back", "(LPastWatch;I[J)I"⟩
def dkwX0_back_0 : List UInt8 := [44, 3, 42, 27, 182, 0, 33, 133, 80, 167, 0, 6, 78, 4, 172, 3, 172]
abbrev dktX0_back_0 : List UInt8 := dkwX0_back_0 ++ []
theorem dksX0_back_0 : cX0_back.data.toList.drop 0 = dktX0_back_0 := by decide +kernel
theorem dX0_back_0 : decode cX0_back 0 = .ok (.aload_n 2, 1) := dk_44 (dk_at dksX0_back_0 0 rfl rfl)
theorem dX0_back_1 : decode cX0_back 1 = .ok (.iconst 0, 1) := dk_3 (dk_at dksX0_back_0 1 rfl rfl)
theorem dX0_back_2 : decode cX0_back 2 = .ok (.aload_n 0, 1) := dk_42 (dk_at dksX0_back_0 2 rfl rfl)
theorem dX0_back_3 : decode cX0_back 3 = .ok (.iload_n 1, 1) := dk_27 (dk_at dksX0_back_0 3 rfl rfl)
theorem dX0_back_4 : decode cX0_back 4 = .ok (.invokevirtual 33, 3) := dk_182 0 33 (dk_at dksX0_back_0 4 rfl rfl)
theorem dX0_back_7 : decode cX0_back 7 = .ok (.i2l, 1) := dk_133 (dk_at dksX0_back_0 7 rfl rfl)
theorem dX0_back_8 : decode cX0_back 8 = .ok (.lastore, 1) := dk_80 (dk_at dksX0_back_0 8 rfl rfl)
theorem dX0_back_9 : decode cX0_back 9 = .ok (.goto 6, 3) := dk_167 0 6 (dk_at dksX0_back_0 9 rfl rfl)
theorem dX0_back_12 : decode cX0_back 12 = .ok (.astore_n 3, 1) := dk_78 (dk_at dksX0_back_0 12 rfl rfl)
theorem dX0_back_13 : decode cX0_back 13 = .ok (.iconst 1, 1) := dk_4 (dk_at dksX0_back_0 13 rfl rfl)
theorem dX0_back_14 : decode cX0_back 14 = .ok (.ireturn, 1) := dk_172 (dk_at dksX0_back_0 14 rfl rfl)
theorem dX0_back_15 : decode cX0_back 15 = .ok (.iconst 0, 1) := dk_3 (dk_at dksX0_back_0 15 rfl rfl)
theorem dX0_back_16 : decode cX0_back 16 = .ok (.ireturn, 1) := dk_172 (dk_at dksX0_back_0 16 rfl rfl)
abbrev cX0_restart : ByteArray := method_9_code
def yX0_restart : MethodName := ⟨RX0, "restart", "(LPastWatch;[J)I"⟩
def dkwX0_restart_0 : List UInt8 := [43, 3, 42, 182, 0, 36, 133, 80, 167, 0, 6, 77, 4, 172, 3, 172]
abbrev dktX0_restart_0 : List UInt8 := dkwX0_restart_0 ++ []
theorem dksX0_restart_0 : cX0_restart.data.toList.drop 0 = dktX0_restart_0 := by decide +kernel
theorem dX0_restart_0 : decode cX0_restart 0 = .ok (.aload_n 1, 1) := dk_43 (dk_at dksX0_restart_0 0 rfl rfl)
theorem dX0_restart_1 : decode cX0_restart 1 = .ok (.iconst 0, 1) := dk_3 (dk_at dksX0_restart_0 1 rfl rfl)
theorem dX0_restart_2 : decode cX0_restart 2 = .ok (.aload_n 0, 1) := dk_42 (dk_at dksX0_restart_0 2 rfl rfl)
theorem dX0_restart_3 : decode cX0_restart 3 = .ok (.invokevirtual 36, 3) := dk_182 0 36 (dk_at dksX0_restart_0 3 rfl rfl)
theorem dX0_restart_6 : decode cX0_restart 6 = .ok (.i2l, 1) := dk_133 (dk_at dksX0_restart_0 6 rfl rfl)
theorem dX0_restart_7 : decode cX0_restart 7 = .ok (.lastore, 1) := dk_80 (dk_at dksX0_restart_0 7 rfl rfl)
theorem dX0_restart_8 : decode cX0_restart 8 = .ok (.goto 6, 3) := dk_167 0 6 (dk_at dksX0_restart_0 8 rfl rfl)
theorem dX0_restart_11 : decode cX0_restart 11 = .ok (.astore_n 2, 1) := dk_77 (dk_at dksX0_restart_0 11 rfl rfl)
theorem dX0_restart_12 : decode cX0_restart 12 = .ok (.iconst 1, 1) := dk_4 (dk_at dksX0_restart_0 12 rfl rfl)
theorem dX0_restart_13 : decode cX0_restart 13 = .ok (.ireturn, 1) := dk_172 (dk_at dksX0_restart_0 13 rfl rfl)
theorem dX0_restart_14 : decode cX0_restart 14 = .ok (.iconst 0, 1) := dk_3 (dk_at dksX0_restart_0 14 rfl rfl)
theorem dX0_restart_15 : decode cX0_restart 15 = .ok (.ireturn, 1) := dk_172 (dk_at dksX0_restart_0 15 rfl rfl)
abbrev cX0_replay : ByteArray := method_10_code
def yX0_replay : MethodName := ⟨RX0, "replay", "(LPastWatch;[J)I"⟩
def dkwX0_replay_0 : List UInt8 := [43, 3, 42, 182, 0, 40, 133, 80, 167, 0, 6, 77, 4, 172, 3, 172]
abbrev dktX0_replay_0 : List UInt8 := dkwX0_replay_0 ++ []
theorem dksX0_replay_0 : cX0_replay.data.toList.drop 0 = dktX0_replay_0 := by decide +kernel
theorem dX0_replay_0 : decode cX0_replay 0 = .ok (.aload_n 1, 1) := dk_43 (dk_at dksX0_replay_0 0 rfl rfl)
theorem dX0_replay_1 : decode cX0_replay 1 = .ok (.iconst 0, 1) := dk_3 (dk_at dksX0_replay_0 1 rfl rfl)
theorem dX0_replay_2 : decode cX0_replay 2 = .ok (.aload_n 0, 1) := dk_42 (dk_at dksX0_replay_0 2 rfl rfl)
theorem dX0_replay_3 : decode cX0_replay 3 = .ok (.invokevirtual 40, 3) := dk_182 0 40 (dk_at dksX0_replay_0 3 rfl rfl)
theorem dX0_replay_6 : decode cX0_replay 6 = .ok (.i2l, 1) := dk_133 (dk_at dksX0_replay_0 6 rfl rfl)
theorem dX0_replay_7 : decode cX0_replay 7 = .ok (.lastore, 1) := dk_80 (dk_at dksX0_replay_0 7 rfl rfl)
theorem dX0_replay_8 : decode cX0_replay 8 = .ok (.goto 6, 3) := dk_167 0 6 (dk_at dksX0_replay_0 8 rfl rfl)
theorem dX0_replay_11 : decode cX0_replay 11 = .ok (.astore_n 2, 1) := dk_77 (dk_at dksX0_replay_0 11 rfl rfl)
theorem dX0_replay_12 : decode cX0_replay 12 = .ok (.iconst 1, 1) := dk_4 (dk_at dksX0_replay_0 12 rfl rfl)
theorem dX0_replay_13 : decode cX0_replay 13 = .ok (.ireturn, 1) := dk_172 (dk_at dksX0_replay_0 13 rfl rfl)
theorem dX0_replay_14 : decode cX0_replay 14 = .ok (.iconst 0, 1) := dk_3 (dk_at dksX0_replay_0 14 rfl rfl)
theorem dX0_replay_15 : decode cX0_replay 15 = .ok (.ireturn, 1) := dk_172 (dk_at dksX0_replay_0 15 rfl rfl)
abbrev cX0_time : ByteArray := method_11_code
def yX0_time : MethodName := ⟨RX0, "time", "(LPastWatch;I[J)I"⟩
def dkwX0_time_0 : List UInt8 := [44, 3, 42, 27, 182, 0, 43, 133, 80, 167, 0, 6, 78, 4, 172, 3, 172]
abbrev dktX0_time_0 : List UInt8 := dkwX0_time_0 ++ []
theorem dksX0_time_0 : cX0_time.data.toList.drop 0 = dktX0_time_0 := by decide +kernel
theorem dX0_time_0 : decode cX0_time 0 = .ok (.aload_n 2, 1) := dk_44 (dk_at dksX0_time_0 0 rfl rfl)
theorem dX0_time_1 : decode cX0_time 1 = .ok (.iconst 0, 1) := dk_3 (dk_at dksX0_time_0 1 rfl rfl)
theorem dX0_time_2 : decode cX0_time 2 = .ok (.aload_n 0, 1) := dk_42 (dk_at dksX0_time_0 2 rfl rfl)
theorem dX0_time_3 : decode cX0_time 3 = .ok (.iload_n 1, 1) := dk_27 (dk_at dksX0_time_0 3 rfl rfl)
theorem dX0_time_4 : decode cX0_time 4 = .ok (.invokevirtual 43, 3) := dk_182 0 43 (dk_at dksX0_time_0 4 rfl rfl)
theorem dX0_time_7 : decode cX0_time 7 = .ok (.i2l, 1) := dk_133 (dk_at dksX0_time_0 7 rfl rfl)
theorem dX0_time_8 : decode cX0_time 8 = .ok (.lastore, 1) := dk_80 (dk_at dksX0_time_0 8 rfl rfl)
theorem dX0_time_9 : decode cX0_time 9 = .ok (.goto 6, 3) := dk_167 0 6 (dk_at dksX0_time_0 9 rfl rfl)
theorem dX0_time_12 : decode cX0_time 12 = .ok (.astore_n 3, 1) := dk_78 (dk_at dksX0_time_0 12 rfl rfl)
theorem dX0_time_13 : decode cX0_time 13 = .ok (.iconst 1, 1) := dk_4 (dk_at dksX0_time_0 13 rfl rfl)
theorem dX0_time_14 : decode cX0_time 14 = .ok (.ireturn, 1) := dk_172 (dk_at dksX0_time_0 14 rfl rfl)
theorem dX0_time_15 : decode cX0_time 15 = .ok (.iconst 0, 1) := dk_3 (dk_at dksX0_time_0 15 rfl rfl)
theorem dX0_time_16 : decode cX0_time 16 = .ok (.ireturn, 1) := dk_172 (dk_at dksX0_time_0 16 rfl rfl)
abbrev cX0_signal : ByteArray := method_12_code
def yX0_signal : MethodName := ⟨RX0, "signal", "(LPastWatch;II[J)I"⟩
def dkwX0_signal_0 : List UInt8 := [45, 3, 42, 27, 28, 182, 0, 46, 80, 167, 0, 7, 58, 4, 4, 172, 3, 172]
abbrev dktX0_signal_0 : List UInt8 := dkwX0_signal_0 ++ []
theorem dksX0_signal_0 : cX0_signal.data.toList.drop 0 = dktX0_signal_0 := by decide +kernel
theorem dX0_signal_0 : decode cX0_signal 0 = .ok (.aload_n 3, 1) := dk_45 (dk_at dksX0_signal_0 0 rfl rfl)
theorem dX0_signal_1 : decode cX0_signal 1 = .ok (.iconst 0, 1) := dk_3 (dk_at dksX0_signal_0 1 rfl rfl)
theorem dX0_signal_2 : decode cX0_signal 2 = .ok (.aload_n 0, 1) := dk_42 (dk_at dksX0_signal_0 2 rfl rfl)
theorem dX0_signal_3 : decode cX0_signal 3 = .ok (.iload_n 1, 1) := dk_27 (dk_at dksX0_signal_0 3 rfl rfl)
theorem dX0_signal_4 : decode cX0_signal 4 = .ok (.iload_n 2, 1) := dk_28 (dk_at dksX0_signal_0 4 rfl rfl)
theorem dX0_signal_5 : decode cX0_signal 5 = .ok (.invokevirtual 46, 3) := dk_182 0 46 (dk_at dksX0_signal_0 5 rfl rfl)
theorem dX0_signal_8 : decode cX0_signal 8 = .ok (.lastore, 1) := dk_80 (dk_at dksX0_signal_0 8 rfl rfl)
theorem dX0_signal_9 : decode cX0_signal 9 = .ok (.goto 7, 3) := dk_167 0 7 (dk_at dksX0_signal_0 9 rfl rfl)
theorem dX0_signal_12 : decode cX0_signal 12 = .ok (.astore 4, 2) := dk_58 4 (dk_at dksX0_signal_0 12 rfl rfl)
theorem dX0_signal_14 : decode cX0_signal 14 = .ok (.iconst 1, 1) := dk_4 (dk_at dksX0_signal_0 14 rfl rfl)
theorem dX0_signal_15 : decode cX0_signal 15 = .ok (.ireturn, 1) := dk_172 (dk_at dksX0_signal_0 15 rfl rfl)
theorem dX0_signal_16 : decode cX0_signal 16 = .ok (.iconst 0, 1) := dk_3 (dk_at dksX0_signal_0 16 rfl rfl)
theorem dX0_signal_17 : decode cX0_signal 17 = .ok (.ireturn, 1) := dk_172 (dk_at dksX0_signal_0 17 rfl rfl)
abbrev cX0_value : ByteArray := method_13_code
def yX0_value : MethodName := ⟨RX0, "value", "(LPastWatch;II[J)I"⟩
def dkwX0_value_0 : List UInt8 := [45, 3, 42, 27, 28, 182, 0, 50, 80, 167, 0, 7, 58, 4, 4, 172, 3, 172]
abbrev dktX0_value_0 : List UInt8 := dkwX0_value_0 ++ []
theorem dksX0_value_0 : cX0_value.data.toList.drop 0 = dktX0_value_0 := by decide +kernel
theorem dX0_value_0 : decode cX0_value 0 = .ok (.aload_n 3, 1) := dk_45 (dk_at dksX0_value_0 0 rfl rfl)
theorem dX0_value_1 : decode cX0_value 1 = .ok (.iconst 0, 1) := dk_3 (dk_at dksX0_value_0 1 rfl rfl)
theorem dX0_value_2 : decode cX0_value 2 = .ok (.aload_n 0, 1) := dk_42 (dk_at dksX0_value_0 2 rfl rfl)
theorem dX0_value_3 : decode cX0_value 3 = .ok (.iload_n 1, 1) := dk_27 (dk_at dksX0_value_0 3 rfl rfl)
theorem dX0_value_4 : decode cX0_value 4 = .ok (.iload_n 2, 1) := dk_28 (dk_at dksX0_value_0 4 rfl rfl)
theorem dX0_value_5 : decode cX0_value 5 = .ok (.invokevirtual 50, 3) := dk_182 0 50 (dk_at dksX0_value_0 5 rfl rfl)
theorem dX0_value_8 : decode cX0_value 8 = .ok (.lastore, 1) := dk_80 (dk_at dksX0_value_0 8 rfl rfl)
theorem dX0_value_9 : decode cX0_value 9 = .ok (.goto 7, 3) := dk_167 0 7 (dk_at dksX0_value_0 9 rfl rfl)
theorem dX0_value_12 : decode cX0_value 12 = .ok (.astore 4, 2) := dk_58 4 (dk_at dksX0_value_0 12 rfl rfl)
theorem dX0_value_14 : decode cX0_value 14 = .ok (.iconst 1, 1) := dk_4 (dk_at dksX0_value_0 14 rfl rfl)
theorem dX0_value_15 : decode cX0_value 15 = .ok (.ireturn, 1) := dk_172 (dk_at dksX0_value_0 15 rfl rfl)
theorem dX0_value_16 : decode cX0_value 16 = .ok (.iconst 0, 1) := dk_3 (dk_at dksX0_value_0 16 rfl rfl)
theorem dX0_value_17 : decode cX0_value 17 = .ok (.ireturn, 1) := dk_172 (dk_at dksX0_value_0 17 rfl rfl)
abbrev cX0_let : ByteArray := method_14_code
def yX0_let : MethodName := ⟨RX0, "let", "(LPastWatch;II[J)I"⟩
def dkwX0_let_1 : List UInt8 := [3, 172]
abbrev dktX0_let_1 : List UInt8 := dkwX0_let_1 ++ []
def dkwX0_let_0 : List UInt8 := [45, 3, 42, 27, 28, 182, 0, 53, 153, 0, 7, 10, 167, 0, 4, 9, 80, 167, 0, 7, 58, 4, 4, 172]
abbrev dktX0_let_0 : List UInt8 := dkwX0_let_0 ++ dktX0_let_1
theorem dksX0_let_0 : cX0_let.data.toList.drop 0 = dktX0_let_0 := by decide +kernel
theorem dksX0_let_1 : cX0_let.data.toList.drop 24 = dktX0_let_1 := dk_seg dksX0_let_0 24 rfl rfl
theorem dX0_let_0 : decode cX0_let 0 = .ok (.aload_n 3, 1) := dk_45 (dk_at dksX0_let_0 0 rfl rfl)
theorem dX0_let_1 : decode cX0_let 1 = .ok (.iconst 0, 1) := dk_3 (dk_at dksX0_let_0 1 rfl rfl)
theorem dX0_let_2 : decode cX0_let 2 = .ok (.aload_n 0, 1) := dk_42 (dk_at dksX0_let_0 2 rfl rfl)
theorem dX0_let_3 : decode cX0_let 3 = .ok (.iload_n 1, 1) := dk_27 (dk_at dksX0_let_0 3 rfl rfl)
theorem dX0_let_4 : decode cX0_let 4 = .ok (.iload_n 2, 1) := dk_28 (dk_at dksX0_let_0 4 rfl rfl)
theorem dX0_let_5 : decode cX0_let 5 = .ok (.invokevirtual 53, 3) := dk_182 0 53 (dk_at dksX0_let_0 5 rfl rfl)
theorem dX0_let_8 : decode cX0_let 8 = .ok (.ifCond .eq 7, 3) := dk_153 0 7 (dk_at dksX0_let_0 8 rfl rfl)
theorem dX0_let_11 : decode cX0_let 11 = .ok (.lconst 1, 1) := dk_10 (dk_at dksX0_let_0 11 rfl rfl)
theorem dX0_let_12 : decode cX0_let 12 = .ok (.goto 4, 3) := dk_167 0 4 (dk_at dksX0_let_0 12 rfl rfl)
theorem dX0_let_15 : decode cX0_let 15 = .ok (.lconst 0, 1) := dk_9 (dk_at dksX0_let_0 15 rfl rfl)
theorem dX0_let_16 : decode cX0_let 16 = .ok (.lastore, 1) := dk_80 (dk_at dksX0_let_0 16 rfl rfl)
theorem dX0_let_17 : decode cX0_let 17 = .ok (.goto 7, 3) := dk_167 0 7 (dk_at dksX0_let_0 17 rfl rfl)
theorem dX0_let_20 : decode cX0_let 20 = .ok (.astore 4, 2) := dk_58 4 (dk_at dksX0_let_0 20 rfl rfl)
theorem dX0_let_22 : decode cX0_let 22 = .ok (.iconst 1, 1) := dk_4 (dk_at dksX0_let_0 22 rfl rfl)
theorem dX0_let_23 : decode cX0_let 23 = .ok (.ireturn, 1) := dk_172 (dk_at dksX0_let_0 23 rfl rfl)
theorem dX0_let_24 : decode cX0_let 24 = .ok (.iconst 0, 1) := dk_3 (dk_at dksX0_let_1 0 rfl rfl)
theorem dX0_let_25 : decode cX0_let 25 = .ok (.ireturn, 1) := dk_172 (dk_at dksX0_let_1 1 rfl rfl)
abbrev cX0_watch : ByteArray := method_15_code
def yX0_watch : MethodName := ⟨RX0, "watch", "(LPastWatch;II[J)I"⟩
def dkwX0_watch_1 : List UInt8 := [3, 172]
abbrev dktX0_watch_1 : List UInt8 := dkwX0_watch_1 ++ []
def dkwX0_watch_0 : List UInt8 := [45, 3, 42, 27, 28, 182, 0, 57, 153, 0, 7, 10, 167, 0, 4, 9, 80, 167, 0, 7, 58, 4, 4, 172]
abbrev dktX0_watch_0 : List UInt8 := dkwX0_watch_0 ++ dktX0_watch_1
theorem dksX0_watch_0 : cX0_watch.data.toList.drop 0 = dktX0_watch_0 := by decide +kernel
theorem dksX0_watch_1 : cX0_watch.data.toList.drop 24 = dktX0_watch_1 := dk_seg dksX0_watch_0 24 rfl rfl
theorem dX0_watch_0 : decode cX0_watch 0 = .ok (.aload_n 3, 1) := dk_45 (dk_at dksX0_watch_0 0 rfl rfl)
theorem dX0_watch_1 : decode cX0_watch 1 = .ok (.iconst 0, 1) := dk_3 (dk_at dksX0_watch_0 1 rfl rfl)
theorem dX0_watch_2 : decode cX0_watch 2 = .ok (.aload_n 0, 1) := dk_42 (dk_at dksX0_watch_0 2 rfl rfl)
theorem dX0_watch_3 : decode cX0_watch 3 = .ok (.iload_n 1, 1) := dk_27 (dk_at dksX0_watch_0 3 rfl rfl)
theorem dX0_watch_4 : decode cX0_watch 4 = .ok (.iload_n 2, 1) := dk_28 (dk_at dksX0_watch_0 4 rfl rfl)
theorem dX0_watch_5 : decode cX0_watch 5 = .ok (.invokevirtual 57, 3) := dk_182 0 57 (dk_at dksX0_watch_0 5 rfl rfl)
theorem dX0_watch_8 : decode cX0_watch 8 = .ok (.ifCond .eq 7, 3) := dk_153 0 7 (dk_at dksX0_watch_0 8 rfl rfl)
theorem dX0_watch_11 : decode cX0_watch 11 = .ok (.lconst 1, 1) := dk_10 (dk_at dksX0_watch_0 11 rfl rfl)
theorem dX0_watch_12 : decode cX0_watch 12 = .ok (.goto 4, 3) := dk_167 0 4 (dk_at dksX0_watch_0 12 rfl rfl)
theorem dX0_watch_15 : decode cX0_watch 15 = .ok (.lconst 0, 1) := dk_9 (dk_at dksX0_watch_0 15 rfl rfl)
theorem dX0_watch_16 : decode cX0_watch 16 = .ok (.lastore, 1) := dk_80 (dk_at dksX0_watch_0 16 rfl rfl)
theorem dX0_watch_17 : decode cX0_watch 17 = .ok (.goto 7, 3) := dk_167 0 7 (dk_at dksX0_watch_0 17 rfl rfl)
theorem dX0_watch_20 : decode cX0_watch 20 = .ok (.astore 4, 2) := dk_58 4 (dk_at dksX0_watch_0 20 rfl rfl)
theorem dX0_watch_22 : decode cX0_watch 22 = .ok (.iconst 1, 1) := dk_4 (dk_at dksX0_watch_0 22 rfl rfl)
theorem dX0_watch_23 : decode cX0_watch 23 = .ok (.ireturn, 1) := dk_172 (dk_at dksX0_watch_0 23 rfl rfl)
theorem dX0_watch_24 : decode cX0_watch 24 = .ok (.iconst 0, 1) := dk_3 (dk_at dksX0_watch_1 0 rfl rfl)
theorem dX0_watch_25 : decode cX0_watch 25 = .ok (.ireturn, 1) := dk_172 (dk_at dksX0_watch_1 1 rfl rfl)
abbrev cX0_told : ByteArray := method_16_code
def yX0_told : MethodName := ⟨RX0, "told", "(LPastWatch;II[J)I"⟩
def dkwX0_told_0 : List UInt8 := [45, 3, 42, 27, 28, 182, 0, 60, 133, 80, 167, 0, 7, 58, 4, 4, 172, 3, 172]
abbrev dktX0_told_0 : List UInt8 := dkwX0_told_0 ++ []
theorem dksX0_told_0 : cX0_told.data.toList.drop 0 = dktX0_told_0 := by decide +kernel
theorem dX0_told_0 : decode cX0_told 0 = .ok (.aload_n 3, 1) := dk_45 (dk_at dksX0_told_0 0 rfl rfl)
theorem dX0_told_1 : decode cX0_told 1 = .ok (.iconst 0, 1) := dk_3 (dk_at dksX0_told_0 1 rfl rfl)
theorem dX0_told_2 : decode cX0_told 2 = .ok (.aload_n 0, 1) := dk_42 (dk_at dksX0_told_0 2 rfl rfl)
theorem dX0_told_3 : decode cX0_told 3 = .ok (.iload_n 1, 1) := dk_27 (dk_at dksX0_told_0 3 rfl rfl)
theorem dX0_told_4 : decode cX0_told 4 = .ok (.iload_n 2, 1) := dk_28 (dk_at dksX0_told_0 4 rfl rfl)
theorem dX0_told_5 : decode cX0_told 5 = .ok (.invokevirtual 60, 3) := dk_182 0 60 (dk_at dksX0_told_0 5 rfl rfl)
theorem dX0_told_8 : decode cX0_told 8 = .ok (.i2l, 1) := dk_133 (dk_at dksX0_told_0 8 rfl rfl)
theorem dX0_told_9 : decode cX0_told 9 = .ok (.lastore, 1) := dk_80 (dk_at dksX0_told_0 9 rfl rfl)
theorem dX0_told_10 : decode cX0_told 10 = .ok (.goto 7, 3) := dk_167 0 7 (dk_at dksX0_told_0 10 rfl rfl)
theorem dX0_told_13 : decode cX0_told 13 = .ok (.astore 4, 2) := dk_58 4 (dk_at dksX0_told_0 13 rfl rfl)
theorem dX0_told_15 : decode cX0_told 15 = .ok (.iconst 1, 1) := dk_4 (dk_at dksX0_told_0 15 rfl rfl)
theorem dX0_told_16 : decode cX0_told 16 = .ok (.ireturn, 1) := dk_172 (dk_at dksX0_told_0 16 rfl rfl)
theorem dX0_told_17 : decode cX0_told 17 = .ok (.iconst 0, 1) := dk_3 (dk_at dksX0_told_0 17 rfl rfl)
theorem dX0_told_18 : decode cX0_told 18 = .ok (.ireturn, 1) := dk_172 (dk_at dksX0_told_0 18 rfl rfl)
abbrev cX0_alarms : ByteArray := method_17_code
def yX0_alarms : MethodName := ⟨RX0, "alarms", "(LPastWatch;I[J)I"⟩
def dkwX0_alarms_0 : List UInt8 := [44, 3, 42, 27, 182, 0, 64, 133, 80, 167, 0, 6, 78, 4, 172, 3, 172]
abbrev dktX0_alarms_0 : List UInt8 := dkwX0_alarms_0 ++ []
theorem dksX0_alarms_0 : cX0_alarms.data.toList.drop 0 = dktX0_alarms_0 := by decide +kernel
theorem dX0_alarms_0 : decode cX0_alarms 0 = .ok (.aload_n 2, 1) := dk_44 (dk_at dksX0_alarms_0 0 rfl rfl)
theorem dX0_alarms_1 : decode cX0_alarms 1 = .ok (.iconst 0, 1) := dk_3 (dk_at dksX0_alarms_0 1 rfl rfl)
theorem dX0_alarms_2 : decode cX0_alarms 2 = .ok (.aload_n 0, 1) := dk_42 (dk_at dksX0_alarms_0 2 rfl rfl)
theorem dX0_alarms_3 : decode cX0_alarms 3 = .ok (.iload_n 1, 1) := dk_27 (dk_at dksX0_alarms_0 3 rfl rfl)
theorem dX0_alarms_4 : decode cX0_alarms 4 = .ok (.invokevirtual 64, 3) := dk_182 0 64 (dk_at dksX0_alarms_0 4 rfl rfl)
theorem dX0_alarms_7 : decode cX0_alarms 7 = .ok (.i2l, 1) := dk_133 (dk_at dksX0_alarms_0 7 rfl rfl)
theorem dX0_alarms_8 : decode cX0_alarms 8 = .ok (.lastore, 1) := dk_80 (dk_at dksX0_alarms_0 8 rfl rfl)
theorem dX0_alarms_9 : decode cX0_alarms 9 = .ok (.goto 6, 3) := dk_167 0 6 (dk_at dksX0_alarms_0 9 rfl rfl)
theorem dX0_alarms_12 : decode cX0_alarms 12 = .ok (.astore_n 3, 1) := dk_78 (dk_at dksX0_alarms_0 12 rfl rfl)
theorem dX0_alarms_13 : decode cX0_alarms 13 = .ok (.iconst 1, 1) := dk_4 (dk_at dksX0_alarms_0 13 rfl rfl)
theorem dX0_alarms_14 : decode cX0_alarms 14 = .ok (.ireturn, 1) := dk_172 (dk_at dksX0_alarms_0 14 rfl rfl)
theorem dX0_alarms_15 : decode cX0_alarms 15 = .ok (.iconst 0, 1) := dk_3 (dk_at dksX0_alarms_0 15 rfl rfl)
theorem dX0_alarms_16 : decode cX0_alarms 16 = .ok (.ireturn, 1) := dk_172 (dk_at dksX0_alarms_0 16 rfl rfl)
abbrev cX0_why : ByteArray := method_18_code
def yX0_why : MethodName := ⟨RX0, "why", "(LPastWatch;IIZ[J)I"⟩
def dkwX0_why_1 : List UInt8 := [172]
abbrev dktX0_why_1 : List UInt8 := dkwX0_why_1 ++ []
def dkwX0_why_0 : List UInt8 := [25, 4, 3, 42, 27, 28, 29, 182, 0, 67, 133, 80, 167, 0, 11, 58, 5, 4, 172, 58, 5, 5, 172, 3]
abbrev dktX0_why_0 : List UInt8 := dkwX0_why_0 ++ dktX0_why_1
theorem dksX0_why_0 : cX0_why.data.toList.drop 0 = dktX0_why_0 := by decide +kernel
theorem dksX0_why_1 : cX0_why.data.toList.drop 24 = dktX0_why_1 := dk_seg dksX0_why_0 24 rfl rfl
theorem dX0_why_0 : decode cX0_why 0 = .ok (.aload 4, 2) := dk_25 4 (dk_at dksX0_why_0 0 rfl rfl)
theorem dX0_why_2 : decode cX0_why 2 = .ok (.iconst 0, 1) := dk_3 (dk_at dksX0_why_0 2 rfl rfl)
theorem dX0_why_3 : decode cX0_why 3 = .ok (.aload_n 0, 1) := dk_42 (dk_at dksX0_why_0 3 rfl rfl)
theorem dX0_why_4 : decode cX0_why 4 = .ok (.iload_n 1, 1) := dk_27 (dk_at dksX0_why_0 4 rfl rfl)
theorem dX0_why_5 : decode cX0_why 5 = .ok (.iload_n 2, 1) := dk_28 (dk_at dksX0_why_0 5 rfl rfl)
theorem dX0_why_6 : decode cX0_why 6 = .ok (.iload_n 3, 1) := dk_29 (dk_at dksX0_why_0 6 rfl rfl)
theorem dX0_why_7 : decode cX0_why 7 = .ok (.invokevirtual 67, 3) := dk_182 0 67 (dk_at dksX0_why_0 7 rfl rfl)
theorem dX0_why_10 : decode cX0_why 10 = .ok (.i2l, 1) := dk_133 (dk_at dksX0_why_0 10 rfl rfl)
theorem dX0_why_11 : decode cX0_why 11 = .ok (.lastore, 1) := dk_80 (dk_at dksX0_why_0 11 rfl rfl)
theorem dX0_why_12 : decode cX0_why 12 = .ok (.goto 11, 3) := dk_167 0 11 (dk_at dksX0_why_0 12 rfl rfl)
theorem dX0_why_15 : decode cX0_why 15 = .ok (.astore 5, 2) := dk_58 5 (dk_at dksX0_why_0 15 rfl rfl)
theorem dX0_why_17 : decode cX0_why 17 = .ok (.iconst 1, 1) := dk_4 (dk_at dksX0_why_0 17 rfl rfl)
theorem dX0_why_18 : decode cX0_why 18 = .ok (.ireturn, 1) := dk_172 (dk_at dksX0_why_0 18 rfl rfl)
theorem dX0_why_19 : decode cX0_why 19 = .ok (.astore 5, 2) := dk_58 5 (dk_at dksX0_why_0 19 rfl rfl)
theorem dX0_why_21 : decode cX0_why 21 = .ok (.iconst 2, 1) := dk_5 (dk_at dksX0_why_0 21 rfl rfl)
theorem dX0_why_22 : decode cX0_why 22 = .ok (.ireturn, 1) := dk_172 (dk_at dksX0_why_0 22 rfl rfl)
theorem dX0_why_23 : decode cX0_why 23 = .ok (.iconst 0, 1) := dk_3 (dk_at dksX0_why_0 23 rfl rfl)
theorem dX0_why_24 : decode cX0_why 24 = .ok (.ireturn, 1) := dk_172 (dk_at dksX0_why_1 0 rfl rfl)
abbrev cX0_differ : ByteArray := method_19_code
def yX0_differ : MethodName := ⟨RX0, "differ", "(LPastWatch;II[J)I"⟩
def dkwX0_differ_0 : List UInt8 := [45, 3, 42, 27, 28, 182, 0, 71, 133, 80, 167, 0, 7, 58, 4, 4, 172, 3, 172]
abbrev dktX0_differ_0 : List UInt8 := dkwX0_differ_0 ++ []
theorem dksX0_differ_0 : cX0_differ.data.toList.drop 0 = dktX0_differ_0 := by decide +kernel
theorem dX0_differ_0 : decode cX0_differ 0 = .ok (.aload_n 3, 1) := dk_45 (dk_at dksX0_differ_0 0 rfl rfl)
theorem dX0_differ_1 : decode cX0_differ 1 = .ok (.iconst 0, 1) := dk_3 (dk_at dksX0_differ_0 1 rfl rfl)
theorem dX0_differ_2 : decode cX0_differ 2 = .ok (.aload_n 0, 1) := dk_42 (dk_at dksX0_differ_0 2 rfl rfl)
theorem dX0_differ_3 : decode cX0_differ 3 = .ok (.iload_n 1, 1) := dk_27 (dk_at dksX0_differ_0 3 rfl rfl)
theorem dX0_differ_4 : decode cX0_differ 4 = .ok (.iload_n 2, 1) := dk_28 (dk_at dksX0_differ_0 4 rfl rfl)
theorem dX0_differ_5 : decode cX0_differ 5 = .ok (.invokevirtual 71, 3) := dk_182 0 71 (dk_at dksX0_differ_0 5 rfl rfl)
theorem dX0_differ_8 : decode cX0_differ 8 = .ok (.i2l, 1) := dk_133 (dk_at dksX0_differ_0 8 rfl rfl)
theorem dX0_differ_9 : decode cX0_differ 9 = .ok (.lastore, 1) := dk_80 (dk_at dksX0_differ_0 9 rfl rfl)
theorem dX0_differ_10 : decode cX0_differ 10 = .ok (.goto 7, 3) := dk_167 0 7 (dk_at dksX0_differ_0 10 rfl rfl)
theorem dX0_differ_13 : decode cX0_differ 13 = .ok (.astore 4, 2) := dk_58 4 (dk_at dksX0_differ_0 13 rfl rfl)
theorem dX0_differ_15 : decode cX0_differ 15 = .ok (.iconst 1, 1) := dk_4 (dk_at dksX0_differ_0 15 rfl rfl)
theorem dX0_differ_16 : decode cX0_differ 16 = .ok (.ireturn, 1) := dk_172 (dk_at dksX0_differ_0 16 rfl rfl)
theorem dX0_differ_17 : decode cX0_differ 17 = .ok (.iconst 0, 1) := dk_3 (dk_at dksX0_differ_0 17 rfl rfl)
theorem dX0_differ_18 : decode cX0_differ 18 = .ok (.ireturn, 1) := dk_172 (dk_at dksX0_differ_0 18 rfl rfl)
abbrev cX0_share : ByteArray := method_20_code
def yX0_share : MethodName := ⟨RX0, "share", "(LPastWatch;I[D)I"⟩
def dkwX0_share_0 : List UInt8 := [44, 3, 42, 27, 182, 0, 74, 82, 167, 0, 6, 78, 4, 172, 3, 172]
abbrev dktX0_share_0 : List UInt8 := dkwX0_share_0 ++ []
theorem dksX0_share_0 : cX0_share.data.toList.drop 0 = dktX0_share_0 := by decide +kernel
theorem dX0_share_0 : decode cX0_share 0 = .ok (.aload_n 2, 1) := dk_44 (dk_at dksX0_share_0 0 rfl rfl)
theorem dX0_share_1 : decode cX0_share 1 = .ok (.iconst 0, 1) := dk_3 (dk_at dksX0_share_0 1 rfl rfl)
theorem dX0_share_2 : decode cX0_share 2 = .ok (.aload_n 0, 1) := dk_42 (dk_at dksX0_share_0 2 rfl rfl)
theorem dX0_share_3 : decode cX0_share 3 = .ok (.iload_n 1, 1) := dk_27 (dk_at dksX0_share_0 3 rfl rfl)
theorem dX0_share_4 : decode cX0_share 4 = .ok (.invokevirtual 74, 3) := dk_182 0 74 (dk_at dksX0_share_0 4 rfl rfl)
theorem dX0_share_7 : decode cX0_share 7 = .ok (.dastore, 1) := dk_82 (dk_at dksX0_share_0 7 rfl rfl)
theorem dX0_share_8 : decode cX0_share 8 = .ok (.goto 6, 3) := dk_167 0 6 (dk_at dksX0_share_0 8 rfl rfl)
theorem dX0_share_11 : decode cX0_share 11 = .ok (.astore_n 3, 1) := dk_78 (dk_at dksX0_share_0 11 rfl rfl)
theorem dX0_share_12 : decode cX0_share 12 = .ok (.iconst 1, 1) := dk_4 (dk_at dksX0_share_0 12 rfl rfl)
theorem dX0_share_13 : decode cX0_share 13 = .ok (.ireturn, 1) := dk_172 (dk_at dksX0_share_0 13 rfl rfl)
theorem dX0_share_14 : decode cX0_share 14 = .ok (.iconst 0, 1) := dk_3 (dk_at dksX0_share_0 14 rfl rfl)
theorem dX0_share_15 : decode cX0_share 15 = .ok (.ireturn, 1) := dk_172 (dk_at dksX0_share_0 15 rfl rfl)
abbrev cX0_answer : ByteArray := method_21_code
def yX0_answer : MethodName := ⟨RX0, "answer", "(LPastWatch;I[J)I"⟩
def dkwX0_answer_1 : List UInt8 := [172, 3, 172]
abbrev dktX0_answer_1 : List UInt8 := dkwX0_answer_1 ++ []
def dkwX0_answer_0 : List UInt8 := [44, 3, 42, 27, 182, 0, 78, 153, 0, 7, 10, 167, 0, 4, 9, 80, 167, 0, 9, 78, 4, 172, 78, 5]
abbrev dktX0_answer_0 : List UInt8 := dkwX0_answer_0 ++ dktX0_answer_1
theorem dksX0_answer_0 : cX0_answer.data.toList.drop 0 = dktX0_answer_0 := by decide +kernel
theorem dksX0_answer_1 : cX0_answer.data.toList.drop 24 = dktX0_answer_1 := dk_seg dksX0_answer_0 24 rfl rfl
theorem dX0_answer_0 : decode cX0_answer 0 = .ok (.aload_n 2, 1) := dk_44 (dk_at dksX0_answer_0 0 rfl rfl)
theorem dX0_answer_1 : decode cX0_answer 1 = .ok (.iconst 0, 1) := dk_3 (dk_at dksX0_answer_0 1 rfl rfl)
theorem dX0_answer_2 : decode cX0_answer 2 = .ok (.aload_n 0, 1) := dk_42 (dk_at dksX0_answer_0 2 rfl rfl)
theorem dX0_answer_3 : decode cX0_answer 3 = .ok (.iload_n 1, 1) := dk_27 (dk_at dksX0_answer_0 3 rfl rfl)
theorem dX0_answer_4 : decode cX0_answer 4 = .ok (.invokevirtual 78, 3) := dk_182 0 78 (dk_at dksX0_answer_0 4 rfl rfl)
theorem dX0_answer_7 : decode cX0_answer 7 = .ok (.ifCond .eq 7, 3) := dk_153 0 7 (dk_at dksX0_answer_0 7 rfl rfl)
theorem dX0_answer_10 : decode cX0_answer 10 = .ok (.lconst 1, 1) := dk_10 (dk_at dksX0_answer_0 10 rfl rfl)
theorem dX0_answer_11 : decode cX0_answer 11 = .ok (.goto 4, 3) := dk_167 0 4 (dk_at dksX0_answer_0 11 rfl rfl)
theorem dX0_answer_14 : decode cX0_answer 14 = .ok (.lconst 0, 1) := dk_9 (dk_at dksX0_answer_0 14 rfl rfl)
theorem dX0_answer_15 : decode cX0_answer 15 = .ok (.lastore, 1) := dk_80 (dk_at dksX0_answer_0 15 rfl rfl)
theorem dX0_answer_16 : decode cX0_answer 16 = .ok (.goto 9, 3) := dk_167 0 9 (dk_at dksX0_answer_0 16 rfl rfl)
theorem dX0_answer_19 : decode cX0_answer 19 = .ok (.astore_n 3, 1) := dk_78 (dk_at dksX0_answer_0 19 rfl rfl)
theorem dX0_answer_20 : decode cX0_answer 20 = .ok (.iconst 1, 1) := dk_4 (dk_at dksX0_answer_0 20 rfl rfl)
theorem dX0_answer_21 : decode cX0_answer 21 = .ok (.ireturn, 1) := dk_172 (dk_at dksX0_answer_0 21 rfl rfl)
theorem dX0_answer_22 : decode cX0_answer 22 = .ok (.astore_n 3, 1) := dk_78 (dk_at dksX0_answer_0 22 rfl rfl)
theorem dX0_answer_23 : decode cX0_answer 23 = .ok (.iconst 2, 1) := dk_5 (dk_at dksX0_answer_0 23 rfl rfl)
theorem dX0_answer_24 : decode cX0_answer 24 = .ok (.ireturn, 1) := dk_172 (dk_at dksX0_answer_1 0 rfl rfl)
theorem dX0_answer_25 : decode cX0_answer 25 = .ok (.iconst 0, 1) := dk_3 (dk_at dksX0_answer_1 1 rfl rfl)
theorem dX0_answer_26 : decode cX0_answer 26 = .ok (.ireturn, 1) := dk_172 (dk_at dksX0_answer_1 2 rfl rfl)
theorem q105 : (Jvm.Cond.initialized "PastWatchLaw") ∈ lw_all := lw_g (lw_at lw_m1 0 rfl) rfl
theorem q169 : (Jvm.Cond.classLink "PastWatchLaw" (8 : Nat) "PastWatch") ∈ lw_all := lw_g (lw_at lw_m1 64 rfl) rfl
theorem q171 : (Jvm.Cond.methodLink "PastWatchLaw" (82 : Nat) ({ cls := "PastWatch", name := "<init>", desc := "()V" } : Jvm.MethodName)) ∈ lw_all := lw_g (lw_at lw_m1 66 rfl) rfl
theorem q315 : (Jvm.Cond.methodLink "PastWatchLaw" (99 : Nat) ({ cls := "PastWatch", name := "compile", desc := "()I" } : Jvm.MethodName)) ∈ lw_all := lw_g (lw_at lw_m1 210 rfl) rfl
theorem q2066 : (Jvm.Cond.methodLink "PastWatchLaw" (103 : Nat) ({ cls := "PastWatch", name := "errorAt", desc := "()I" } : Jvm.MethodName)) ∈ lw_all := lw_g (lw_at lw_m9 41 rfl) rfl
theorem q2070 : (Jvm.Cond.methodLink "PastWatchLaw" (126 : Nat) ({ cls := "PastWatch", name := "keep", desc := "()I" } : Jvm.MethodName)) ∈ lw_all := lw_g (lw_at lw_m9 45 rfl) rfl
theorem q2137 : (Jvm.Cond.methodLink "PastWatchLaw" (166 : Nat) ({ cls := "PastWatch", name := "ask", desc := "()I" } : Jvm.MethodName)) ∈ lw_all := lw_g (lw_at lw_m9 112 rfl) rfl
theorem q2336 : (Jvm.Cond.methodLink "PastWatchLaw" (173 : Nat) ({ cls := "PastWatch", name := "digest", desc := "()J" } : Jvm.MethodName)) ∈ lw_all := lw_g (lw_at lw_m10 71 rfl) rfl
theorem q2372 : (Jvm.Cond.methodLink "PastWatchLaw" (86 : Nat) ({ cls := "PastWatchLaw", name := "feed", desc := "(LPastWatch;IIIII[J)I" } : Jvm.MethodName)) ∈ lw_all := lw_g (lw_at lw_m10 107 rfl) rfl
theorem q2373 : (Jvm.Cond.static ({ cls := "PastWatchLaw", name := "feed", desc := "(LPastWatch;IIIII[J)I" } : Jvm.MethodName)) ∈ lw_all := lw_g (lw_at lw_m10 108 rfl) rfl
theorem q2374 : (Jvm.Cond.codeWith ({ cls := "PastWatchLaw", name := "feed", desc := "(LPastWatch;IIIII[J)I" } : Jvm.MethodName) method_3_code (8 : Nat) (Option.some Jvm.ClassFile.FieldType.int) [((0 : Nat), (16 : Nat), (19 : Nat), (13 : Nat))]) ∈ lw_all := lw_g (lw_at lw_m10 109 rfl) rfl
theorem q2375 : (Jvm.Cond.classLink "PastWatchLaw" (13 : Nat) "java/lang/IllegalStateException") ∈ lw_all := lw_g (lw_at lw_m10 110 rfl) rfl
theorem q2376 : (Jvm.Cond.methodLink "PastWatchLaw" (7 : Nat) ({ cls := "PastWatch", name := "feed", desc := "(IIIII)I" } : Jvm.MethodName)) ∈ lw_all := lw_g (lw_at lw_m10 111 rfl) rfl
theorem q2402 : (Jvm.Cond.methodLink "PastWatchLaw" (95 : Nat) ({ cls := "PastWatchLaw", name := "trim", desc := "(LPastWatch;I[J)I" } : Jvm.MethodName)) ∈ lw_all := lw_g (lw_at lw_m10 137 rfl) rfl
theorem q2403 : (Jvm.Cond.static ({ cls := "PastWatchLaw", name := "trim", desc := "(LPastWatch;I[J)I" } : Jvm.MethodName)) ∈ lw_all := lw_g (lw_at lw_m10 138 rfl) rfl
theorem q2404 : (Jvm.Cond.codeWith ({ cls := "PastWatchLaw", name := "trim", desc := "(LPastWatch;I[J)I" } : Jvm.MethodName) method_4_code (4 : Nat) (Option.some Jvm.ClassFile.FieldType.int) [((0 : Nat), (9 : Nat), (12 : Nat), (19 : Nat))]) ∈ lw_all := lw_g (lw_at lw_m10 139 rfl) rfl
theorem q2405 : (Jvm.Cond.classLink "PastWatchLaw" (19 : Nat) "java/lang/IllegalArgumentException") ∈ lw_all := lw_g (lw_at lw_m10 140 rfl) rfl
theorem q2406 : (Jvm.Cond.methodLink "PastWatchLaw" (15 : Nat) ({ cls := "PastWatch", name := "trim", desc := "(I)I" } : Jvm.MethodName)) ∈ lw_all := lw_g (lw_at lw_m10 141 rfl) rfl
theorem q2418 : (Jvm.Cond.methodLink "PastWatchLaw" (107 : Nat) ({ cls := "PastWatchLaw", name := "count", desc := "(LPastWatch;I[J)I" } : Jvm.MethodName)) ∈ lw_all := lw_g (lw_at lw_m10 153 rfl) rfl
theorem q2419 : (Jvm.Cond.static ({ cls := "PastWatchLaw", name := "count", desc := "(LPastWatch;I[J)I" } : Jvm.MethodName)) ∈ lw_all := lw_g (lw_at lw_m10 154 rfl) rfl
theorem q2420 : (Jvm.Cond.codeWith ({ cls := "PastWatchLaw", name := "count", desc := "(LPastWatch;I[J)I" } : Jvm.MethodName) method_5_code (4 : Nat) (Option.some Jvm.ClassFile.FieldType.int) [((0 : Nat), (9 : Nat), (12 : Nat), (24 : Nat))]) ∈ lw_all := lw_g (lw_at lw_m10 155 rfl) rfl
theorem q2421 : (Jvm.Cond.classLink "PastWatchLaw" (24 : Nat) "java/lang/IndexOutOfBoundsException") ∈ lw_all := lw_g (lw_at lw_m10 156 rfl) rfl
theorem q2440 : (Jvm.Cond.methodLink "PastWatchLaw" (21 : Nat) ({ cls := "PastWatch", name := "count", desc := "(I)I" } : Jvm.MethodName)) ∈ lw_all := lw_g (lw_at lw_m10 175 rfl) rfl
theorem q2441 : (Jvm.Cond.methodLink "PastWatchLaw" (112 : Nat) ({ cls := "PastWatchLaw", name := "set", desc := "(LPastWatch;IJ[J)I" } : Jvm.MethodName)) ∈ lw_all := lw_g (lw_at lw_m10 176 rfl) rfl
theorem q2442 : (Jvm.Cond.static ({ cls := "PastWatchLaw", name := "set", desc := "(LPastWatch;IJ[J)I" } : Jvm.MethodName)) ∈ lw_all := lw_g (lw_at lw_m10 177 rfl) rfl
theorem q2443 : (Jvm.Cond.codeWith ({ cls := "PastWatchLaw", name := "set", desc := "(LPastWatch;IJ[J)I" } : Jvm.MethodName) method_6_code (6 : Nat) (Option.some Jvm.ClassFile.FieldType.int) [((0 : Nat), (10 : Nat), (13 : Nat), (24 : Nat))]) ∈ lw_all := lw_g (lw_at lw_m10 178 rfl) rfl
theorem q2444 : (Jvm.Cond.methodLink "PastWatchLaw" (26 : Nat) ({ cls := "PastWatch", name := "set", desc := "(IJ)J" } : Jvm.MethodName)) ∈ lw_all := lw_g (lw_at lw_m10 179 rfl) rfl
theorem q2449 : (Jvm.Cond.methodLink "PastWatchLaw" (116 : Nat) ({ cls := "PastWatchLaw", name := "tick", desc := "(LPastWatch;I[J)I" } : Jvm.MethodName)) ∈ lw_all := lw_g (lw_at lw_m10 184 rfl) rfl
theorem q2450 : (Jvm.Cond.static ({ cls := "PastWatchLaw", name := "tick", desc := "(LPastWatch;I[J)I" } : Jvm.MethodName)) ∈ lw_all := lw_g (lw_at lw_m10 185 rfl) rfl
theorem q2451 : (Jvm.Cond.codeWith ({ cls := "PastWatchLaw", name := "tick", desc := "(LPastWatch;I[J)I" } : Jvm.MethodName) method_7_code (4 : Nat) (Option.some Jvm.ClassFile.FieldType.int) [((0 : Nat), (9 : Nat), (12 : Nat), (19 : Nat)), ((0 : Nat), (9 : Nat), (15 : Nat), (13 : Nat))]) ∈ lw_all := lw_g (lw_at lw_m10 186 rfl) rfl
theorem q2452 : (Jvm.Cond.methodLink "PastWatchLaw" (30 : Nat) ({ cls := "PastWatch", name := "tick", desc := "(I)I" } : Jvm.MethodName)) ∈ lw_all := lw_g (lw_at lw_m10 187 rfl) rfl
theorem q2473 : (Jvm.Cond.methodLink "PastWatchLaw" (119 : Nat) ({ cls := "PastWatchLaw", name := "back", desc := "(LPastWatch;I[J)I" } : Jvm.MethodName)) ∈ lw_all := lw_g (lw_at lw_m10 208 rfl) rfl
theorem q2474 : (Jvm.Cond.static ({ cls := "PastWatchLaw", name := "back", desc := "(LPastWatch;I[J)I" } : Jvm.MethodName)) ∈ lw_all := lw_g (lw_at lw_m10 209 rfl) rfl
theorem q2475 : (Jvm.Cond.codeWith ({ cls := "PastWatchLaw", name := "back", desc := "(LPastWatch;I[J)I" } : Jvm.MethodName) method_8_code (4 : Nat) (Option.some Jvm.ClassFile.FieldType.int) [((0 : Nat), (9 : Nat), (12 : Nat), (19 : Nat))]) ∈ lw_all := lw_g (lw_at lw_m10 210 rfl) rfl
theorem q2476 : (Jvm.Cond.methodLink "PastWatchLaw" (33 : Nat) ({ cls := "PastWatch", name := "back", desc := "(I)I" } : Jvm.MethodName)) ∈ lw_all := lw_g (lw_at lw_m10 211 rfl) rfl
theorem q2480 : (Jvm.Cond.methodLink "PastWatchLaw" (122 : Nat) ({ cls := "PastWatchLaw", name := "restart", desc := "(LPastWatch;[J)I" } : Jvm.MethodName)) ∈ lw_all := lw_g (lw_at lw_m10 215 rfl) rfl
theorem q2481 : (Jvm.Cond.static ({ cls := "PastWatchLaw", name := "restart", desc := "(LPastWatch;[J)I" } : Jvm.MethodName)) ∈ lw_all := lw_g (lw_at lw_m10 216 rfl) rfl
theorem q2482 : (Jvm.Cond.codeWith ({ cls := "PastWatchLaw", name := "restart", desc := "(LPastWatch;[J)I" } : Jvm.MethodName) method_9_code (3 : Nat) (Option.some Jvm.ClassFile.FieldType.int) [((0 : Nat), (8 : Nat), (11 : Nat), (13 : Nat))]) ∈ lw_all := lw_g (lw_at lw_m10 217 rfl) rfl
theorem q2483 : (Jvm.Cond.methodLink "PastWatchLaw" (36 : Nat) ({ cls := "PastWatch", name := "restart", desc := "()I" } : Jvm.MethodName)) ∈ lw_all := lw_g (lw_at lw_m10 218 rfl) rfl
theorem q2491 : (Jvm.Cond.methodLink "PastWatchLaw" (130 : Nat) ({ cls := "PastWatchLaw", name := "replay", desc := "(LPastWatch;[J)I" } : Jvm.MethodName)) ∈ lw_all := lw_g (lw_at lw_m10 226 rfl) rfl
theorem q2492 : (Jvm.Cond.static ({ cls := "PastWatchLaw", name := "replay", desc := "(LPastWatch;[J)I" } : Jvm.MethodName)) ∈ lw_all := lw_g (lw_at lw_m10 227 rfl) rfl
theorem q2493 : (Jvm.Cond.codeWith ({ cls := "PastWatchLaw", name := "replay", desc := "(LPastWatch;[J)I" } : Jvm.MethodName) method_10_code (3 : Nat) (Option.some Jvm.ClassFile.FieldType.int) [((0 : Nat), (8 : Nat), (11 : Nat), (13 : Nat))]) ∈ lw_all := lw_g (lw_at lw_m10 228 rfl) rfl
theorem q2494 : (Jvm.Cond.methodLink "PastWatchLaw" (40 : Nat) ({ cls := "PastWatch", name := "replay", desc := "()I" } : Jvm.MethodName)) ∈ lw_all := lw_g (lw_at lw_m10 229 rfl) rfl
theorem q2499 : (Jvm.Cond.methodLink "PastWatchLaw" (133 : Nat) ({ cls := "PastWatchLaw", name := "time", desc := "(LPastWatch;I[J)I" } : Jvm.MethodName)) ∈ lw_all := lw_g (lw_at lw_m10 234 rfl) rfl
theorem q2500 : (Jvm.Cond.static ({ cls := "PastWatchLaw", name := "time", desc := "(LPastWatch;I[J)I" } : Jvm.MethodName)) ∈ lw_all := lw_g (lw_at lw_m10 235 rfl) rfl
theorem q2501 : (Jvm.Cond.codeWith ({ cls := "PastWatchLaw", name := "time", desc := "(LPastWatch;I[J)I" } : Jvm.MethodName) method_11_code (4 : Nat) (Option.some Jvm.ClassFile.FieldType.int) [((0 : Nat), (9 : Nat), (12 : Nat), (24 : Nat))]) ∈ lw_all := lw_g (lw_at lw_m10 236 rfl) rfl
theorem q2502 : (Jvm.Cond.methodLink "PastWatchLaw" (43 : Nat) ({ cls := "PastWatch", name := "time", desc := "(I)I" } : Jvm.MethodName)) ∈ lw_all := lw_g (lw_at lw_m10 237 rfl) rfl
theorem q2510 : (Jvm.Cond.methodLink "PastWatchLaw" (136 : Nat) ({ cls := "PastWatchLaw", name := "signal", desc := "(LPastWatch;II[J)I" } : Jvm.MethodName)) ∈ lw_all := lw_g (lw_at lw_m11 5 rfl) rfl
theorem q2511 : (Jvm.Cond.static ({ cls := "PastWatchLaw", name := "signal", desc := "(LPastWatch;II[J)I" } : Jvm.MethodName)) ∈ lw_all := lw_g (lw_at lw_m11 6 rfl) rfl
theorem q2512 : (Jvm.Cond.codeWith ({ cls := "PastWatchLaw", name := "signal", desc := "(LPastWatch;II[J)I" } : Jvm.MethodName) method_12_code (5 : Nat) (Option.some Jvm.ClassFile.FieldType.int) [((0 : Nat), (9 : Nat), (12 : Nat), (24 : Nat))]) ∈ lw_all := lw_g (lw_at lw_m11 7 rfl) rfl
theorem q2513 : (Jvm.Cond.methodLink "PastWatchLaw" (46 : Nat) ({ cls := "PastWatch", name := "signal", desc := "(II)J" } : Jvm.MethodName)) ∈ lw_all := lw_g (lw_at lw_m11 8 rfl) rfl
theorem q2517 : (Jvm.Cond.methodLink "PastWatchLaw" (140 : Nat) ({ cls := "PastWatchLaw", name := "value", desc := "(LPastWatch;II[J)I" } : Jvm.MethodName)) ∈ lw_all := lw_g (lw_at lw_m11 12 rfl) rfl
theorem q2518 : (Jvm.Cond.static ({ cls := "PastWatchLaw", name := "value", desc := "(LPastWatch;II[J)I" } : Jvm.MethodName)) ∈ lw_all := lw_g (lw_at lw_m11 13 rfl) rfl
theorem q2519 : (Jvm.Cond.codeWith ({ cls := "PastWatchLaw", name := "value", desc := "(LPastWatch;II[J)I" } : Jvm.MethodName) method_13_code (5 : Nat) (Option.some Jvm.ClassFile.FieldType.int) [((0 : Nat), (9 : Nat), (12 : Nat), (24 : Nat))]) ∈ lw_all := lw_g (lw_at lw_m11 14 rfl) rfl
theorem q2520 : (Jvm.Cond.methodLink "PastWatchLaw" (50 : Nat) ({ cls := "PastWatch", name := "value", desc := "(II)J" } : Jvm.MethodName)) ∈ lw_all := lw_g (lw_at lw_m11 15 rfl) rfl
theorem q2524 : (Jvm.Cond.methodLink "PastWatchLaw" (143 : Nat) ({ cls := "PastWatchLaw", name := "let", desc := "(LPastWatch;II[J)I" } : Jvm.MethodName)) ∈ lw_all := lw_g (lw_at lw_m11 19 rfl) rfl
theorem q2525 : (Jvm.Cond.static ({ cls := "PastWatchLaw", name := "let", desc := "(LPastWatch;II[J)I" } : Jvm.MethodName)) ∈ lw_all := lw_g (lw_at lw_m11 20 rfl) rfl
theorem q2526 : (Jvm.Cond.codeWith ({ cls := "PastWatchLaw", name := "let", desc := "(LPastWatch;II[J)I" } : Jvm.MethodName) method_14_code (5 : Nat) (Option.some Jvm.ClassFile.FieldType.int) [((0 : Nat), (17 : Nat), (20 : Nat), (24 : Nat))]) ∈ lw_all := lw_g (lw_at lw_m11 21 rfl) rfl
theorem q2527 : (Jvm.Cond.methodLink "PastWatchLaw" (53 : Nat) ({ cls := "PastWatch", name := "let", desc := "(II)Z" } : Jvm.MethodName)) ∈ lw_all := lw_g (lw_at lw_m11 22 rfl) rfl
theorem q2531 : (Jvm.Cond.methodLink "PastWatchLaw" (146 : Nat) ({ cls := "PastWatchLaw", name := "watch", desc := "(LPastWatch;II[J)I" } : Jvm.MethodName)) ∈ lw_all := lw_g (lw_at lw_m11 26 rfl) rfl
theorem q2532 : (Jvm.Cond.static ({ cls := "PastWatchLaw", name := "watch", desc := "(LPastWatch;II[J)I" } : Jvm.MethodName)) ∈ lw_all := lw_g (lw_at lw_m11 27 rfl) rfl
theorem q2533 : (Jvm.Cond.codeWith ({ cls := "PastWatchLaw", name := "watch", desc := "(LPastWatch;II[J)I" } : Jvm.MethodName) method_15_code (5 : Nat) (Option.some Jvm.ClassFile.FieldType.int) [((0 : Nat), (17 : Nat), (20 : Nat), (24 : Nat))]) ∈ lw_all := lw_g (lw_at lw_m11 28 rfl) rfl
theorem q2534 : (Jvm.Cond.methodLink "PastWatchLaw" (57 : Nat) ({ cls := "PastWatch", name := "watch", desc := "(II)Z" } : Jvm.MethodName)) ∈ lw_all := lw_g (lw_at lw_m11 29 rfl) rfl
theorem q2542 : (Jvm.Cond.methodLink "PastWatchLaw" (149 : Nat) ({ cls := "PastWatchLaw", name := "told", desc := "(LPastWatch;II[J)I" } : Jvm.MethodName)) ∈ lw_all := lw_g (lw_at lw_m11 37 rfl) rfl
theorem q2543 : (Jvm.Cond.static ({ cls := "PastWatchLaw", name := "told", desc := "(LPastWatch;II[J)I" } : Jvm.MethodName)) ∈ lw_all := lw_g (lw_at lw_m11 38 rfl) rfl
theorem q2544 : (Jvm.Cond.codeWith ({ cls := "PastWatchLaw", name := "told", desc := "(LPastWatch;II[J)I" } : Jvm.MethodName) method_16_code (5 : Nat) (Option.some Jvm.ClassFile.FieldType.int) [((0 : Nat), (10 : Nat), (13 : Nat), (24 : Nat))]) ∈ lw_all := lw_g (lw_at lw_m11 39 rfl) rfl
theorem q2545 : (Jvm.Cond.methodLink "PastWatchLaw" (60 : Nat) ({ cls := "PastWatch", name := "told", desc := "(II)I" } : Jvm.MethodName)) ∈ lw_all := lw_g (lw_at lw_m11 40 rfl) rfl
theorem q2549 : (Jvm.Cond.methodLink "PastWatchLaw" (152 : Nat) ({ cls := "PastWatchLaw", name := "alarms", desc := "(LPastWatch;I[J)I" } : Jvm.MethodName)) ∈ lw_all := lw_g (lw_at lw_m11 44 rfl) rfl
theorem q2550 : (Jvm.Cond.static ({ cls := "PastWatchLaw", name := "alarms", desc := "(LPastWatch;I[J)I" } : Jvm.MethodName)) ∈ lw_all := lw_g (lw_at lw_m11 45 rfl) rfl
theorem q2551 : (Jvm.Cond.codeWith ({ cls := "PastWatchLaw", name := "alarms", desc := "(LPastWatch;I[J)I" } : Jvm.MethodName) method_17_code (4 : Nat) (Option.some Jvm.ClassFile.FieldType.int) [((0 : Nat), (9 : Nat), (12 : Nat), (19 : Nat))]) ∈ lw_all := lw_g (lw_at lw_m11 46 rfl) rfl
theorem q2552 : (Jvm.Cond.methodLink "PastWatchLaw" (64 : Nat) ({ cls := "PastWatch", name := "alarms", desc := "(I)I" } : Jvm.MethodName)) ∈ lw_all := lw_g (lw_at lw_m11 47 rfl) rfl
theorem q2556 : (Jvm.Cond.methodLink "PastWatchLaw" (155 : Nat) ({ cls := "PastWatchLaw", name := "why", desc := "(LPastWatch;IIZ[J)I" } : Jvm.MethodName)) ∈ lw_all := lw_g (lw_at lw_m11 51 rfl) rfl
theorem q2557 : (Jvm.Cond.static ({ cls := "PastWatchLaw", name := "why", desc := "(LPastWatch;IIZ[J)I" } : Jvm.MethodName)) ∈ lw_all := lw_g (lw_at lw_m11 52 rfl) rfl
theorem q2558 : (Jvm.Cond.codeWith ({ cls := "PastWatchLaw", name := "why", desc := "(LPastWatch;IIZ[J)I" } : Jvm.MethodName) method_18_code (6 : Nat) (Option.some Jvm.ClassFile.FieldType.int) [((0 : Nat), (12 : Nat), (15 : Nat), (24 : Nat)), ((0 : Nat), (12 : Nat), (19 : Nat), (13 : Nat))]) ∈ lw_all := lw_g (lw_at lw_m11 53 rfl) rfl
theorem q2559 : (Jvm.Cond.methodLink "PastWatchLaw" (67 : Nat) ({ cls := "PastWatch", name := "why", desc := "(IIZ)I" } : Jvm.MethodName)) ∈ lw_all := lw_g (lw_at lw_m11 54 rfl) rfl
theorem q2613 : (Jvm.Cond.methodLink "PastWatchLaw" (159 : Nat) ({ cls := "PastWatchLaw", name := "differ", desc := "(LPastWatch;II[J)I" } : Jvm.MethodName)) ∈ lw_all := lw_g (lw_at lw_m11 108 rfl) rfl
theorem q2614 : (Jvm.Cond.static ({ cls := "PastWatchLaw", name := "differ", desc := "(LPastWatch;II[J)I" } : Jvm.MethodName)) ∈ lw_all := lw_g (lw_at lw_m11 109 rfl) rfl
theorem q2615 : (Jvm.Cond.codeWith ({ cls := "PastWatchLaw", name := "differ", desc := "(LPastWatch;II[J)I" } : Jvm.MethodName) method_19_code (5 : Nat) (Option.some Jvm.ClassFile.FieldType.int) [((0 : Nat), (10 : Nat), (13 : Nat), (24 : Nat))]) ∈ lw_all := lw_g (lw_at lw_m11 110 rfl) rfl
theorem q2616 : (Jvm.Cond.methodLink "PastWatchLaw" (71 : Nat) ({ cls := "PastWatch", name := "differ", desc := "(II)I" } : Jvm.MethodName)) ∈ lw_all := lw_g (lw_at lw_m11 111 rfl) rfl
theorem q2620 : (Jvm.Cond.methodLink "PastWatchLaw" (162 : Nat) ({ cls := "PastWatchLaw", name := "share", desc := "(LPastWatch;I[D)I" } : Jvm.MethodName)) ∈ lw_all := lw_g (lw_at lw_m11 115 rfl) rfl
theorem q2621 : (Jvm.Cond.static ({ cls := "PastWatchLaw", name := "share", desc := "(LPastWatch;I[D)I" } : Jvm.MethodName)) ∈ lw_all := lw_g (lw_at lw_m11 116 rfl) rfl
theorem q2622 : (Jvm.Cond.codeWith ({ cls := "PastWatchLaw", name := "share", desc := "(LPastWatch;I[D)I" } : Jvm.MethodName) method_20_code (4 : Nat) (Option.some Jvm.ClassFile.FieldType.int) [((0 : Nat), (8 : Nat), (11 : Nat), (24 : Nat))]) ∈ lw_all := lw_g (lw_at lw_m11 117 rfl) rfl
theorem q2623 : (Jvm.Cond.methodLink "PastWatchLaw" (74 : Nat) ({ cls := "PastWatch", name := "share", desc := "(I)D" } : Jvm.MethodName)) ∈ lw_all := lw_g (lw_at lw_m11 118 rfl) rfl
theorem q2627 : (Jvm.Cond.methodLink "PastWatchLaw" (170 : Nat) ({ cls := "PastWatchLaw", name := "answer", desc := "(LPastWatch;I[J)I" } : Jvm.MethodName)) ∈ lw_all := lw_g (lw_at lw_m11 122 rfl) rfl
theorem q2628 : (Jvm.Cond.static ({ cls := "PastWatchLaw", name := "answer", desc := "(LPastWatch;I[J)I" } : Jvm.MethodName)) ∈ lw_all := lw_g (lw_at lw_m11 123 rfl) rfl
theorem q2629 : (Jvm.Cond.codeWith ({ cls := "PastWatchLaw", name := "answer", desc := "(LPastWatch;I[J)I" } : Jvm.MethodName) method_21_code (4 : Nat) (Option.some Jvm.ClassFile.FieldType.int) [((0 : Nat), (16 : Nat), (19 : Nat), (24 : Nat)), ((0 : Nat), (16 : Nat), (22 : Nat), (13 : Nat))]) ∈ lw_all := lw_g (lw_at lw_m11 124 rfl) rfl
theorem q2630 : (Jvm.Cond.methodLink "PastWatchLaw" (78 : Nat) ({ cls := "PastWatch", name := "answer", desc := "(I)Z" } : Jvm.MethodName)) ∈ lw_all := lw_g (lw_at lw_m11 125 rfl) rfl
theorem q2634 : (Jvm.Cond.classLink "PastWatchLaw" (83 : Nat) "PastWatchModel") ∈ lw_all := lw_g (lw_at lw_m11 129 rfl) rfl
theorem q2636 : (Jvm.Cond.methodLink "PastWatchLaw" (85 : Nat) ({ cls := "PastWatchModel", name := "<init>", desc := "()V" } : Jvm.MethodName)) ∈ lw_all := lw_g (lw_at lw_m11 131 rfl) rfl
theorem q2765 : (Jvm.Cond.methodLink "PastWatchLaw" (92 : Nat) ({ cls := "PastWatchModel", name := "thrown", desc := "()I" } : Jvm.MethodName)) ∈ lw_all := lw_g (lw_at lw_m12 20 rfl) rfl
theorem q2769 : (Jvm.Cond.methodLink "PastWatchLaw" (91 : Nat) ({ cls := "PastWatchModel", name := "feed", desc := "(IIIII)I" } : Jvm.MethodName)) ∈ lw_all := lw_g (lw_at lw_m12 24 rfl) rfl
theorem q2777 : (Jvm.Cond.methodLink "PastWatchLaw" (98 : Nat) ({ cls := "PastWatchModel", name := "trim", desc := "(I)I" } : Jvm.MethodName)) ∈ lw_all := lw_g (lw_at lw_m12 32 rfl) rfl
theorem q2784 : (Jvm.Cond.methodLink "PastWatchLaw" (102 : Nat) ({ cls := "PastWatchModel", name := "compile", desc := "()I" } : Jvm.MethodName)) ∈ lw_all := lw_g (lw_at lw_m12 39 rfl) rfl
theorem q3024 : (Jvm.Cond.methodLink "PastWatchLaw" (106 : Nat) ({ cls := "PastWatchModel", name := "errorAt", desc := "()I" } : Jvm.MethodName)) ∈ lw_all := lw_g (lw_at lw_m13 39 rfl) rfl
theorem q3028 : (Jvm.Cond.methodLink "PastWatchLaw" (109 : Nat) ({ cls := "PastWatchModel", name := "count", desc := "(I)I" } : Jvm.MethodName)) ∈ lw_all := lw_g (lw_at lw_m13 43 rfl) rfl
theorem q3036 : (Jvm.Cond.methodLink "PastWatchLaw" (115 : Nat) ({ cls := "PastWatchModel", name := "set", desc := "(IJ)J" } : Jvm.MethodName)) ∈ lw_all := lw_g (lw_at lw_m13 51 rfl) rfl
theorem q3040 : (Jvm.Cond.methodLink "PastWatchLaw" (118 : Nat) ({ cls := "PastWatchModel", name := "tick", desc := "(I)I" } : Jvm.MethodName)) ∈ lw_all := lw_g (lw_at lw_m13 55 rfl) rfl
theorem q3104 : (Jvm.Cond.methodLink "PastWatchLaw" (121 : Nat) ({ cls := "PastWatchModel", name := "back", desc := "(I)I" } : Jvm.MethodName)) ∈ lw_all := lw_g (lw_at lw_m13 119 rfl) rfl
theorem q3108 : (Jvm.Cond.methodLink "PastWatchLaw" (125 : Nat) ({ cls := "PastWatchModel", name := "restart", desc := "()I" } : Jvm.MethodName)) ∈ lw_all := lw_g (lw_at lw_m13 123 rfl) rfl
theorem q3112 : (Jvm.Cond.methodLink "PastWatchLaw" (129 : Nat) ({ cls := "PastWatchModel", name := "keep", desc := "()I" } : Jvm.MethodName)) ∈ lw_all := lw_g (lw_at lw_m13 127 rfl) rfl
theorem q3117 : (Jvm.Cond.methodLink "PastWatchLaw" (132 : Nat) ({ cls := "PastWatchModel", name := "replay", desc := "()I" } : Jvm.MethodName)) ∈ lw_all := lw_g (lw_at lw_m13 132 rfl) rfl
theorem q3122 : (Jvm.Cond.methodLink "PastWatchLaw" (135 : Nat) ({ cls := "PastWatchModel", name := "time", desc := "(I)I" } : Jvm.MethodName)) ∈ lw_all := lw_g (lw_at lw_m13 137 rfl) rfl
theorem q3130 : (Jvm.Cond.methodLink "PastWatchLaw" (139 : Nat) ({ cls := "PastWatchModel", name := "signal", desc := "(II)J" } : Jvm.MethodName)) ∈ lw_all := lw_g (lw_at lw_m13 145 rfl) rfl
theorem q3134 : (Jvm.Cond.methodLink "PastWatchLaw" (142 : Nat) ({ cls := "PastWatchModel", name := "value", desc := "(II)J" } : Jvm.MethodName)) ∈ lw_all := lw_g (lw_at lw_m13 149 rfl) rfl
theorem q3138 : (Jvm.Cond.methodLink "PastWatchLaw" (145 : Nat) ({ cls := "PastWatchModel", name := "let", desc := "(II)Z" } : Jvm.MethodName)) ∈ lw_all := lw_g (lw_at lw_m13 153 rfl) rfl
theorem q3142 : (Jvm.Cond.methodLink "PastWatchLaw" (148 : Nat) ({ cls := "PastWatchModel", name := "watch", desc := "(II)Z" } : Jvm.MethodName)) ∈ lw_all := lw_g (lw_at lw_m13 157 rfl) rfl
theorem q3150 : (Jvm.Cond.methodLink "PastWatchLaw" (151 : Nat) ({ cls := "PastWatchModel", name := "told", desc := "(II)I" } : Jvm.MethodName)) ∈ lw_all := lw_g (lw_at lw_m13 165 rfl) rfl
theorem q3158 : (Jvm.Cond.methodLink "PastWatchLaw" (154 : Nat) ({ cls := "PastWatchModel", name := "alarms", desc := "(I)I" } : Jvm.MethodName)) ∈ lw_all := lw_g (lw_at lw_m13 173 rfl) rfl
theorem q3162 : (Jvm.Cond.methodLink "PastWatchLaw" (158 : Nat) ({ cls := "PastWatchModel", name := "why", desc := "(IIZ)I" } : Jvm.MethodName)) ∈ lw_all := lw_g (lw_at lw_m13 177 rfl) rfl
theorem q3170 : (Jvm.Cond.methodLink "PastWatchLaw" (161 : Nat) ({ cls := "PastWatchModel", name := "differ", desc := "(II)I" } : Jvm.MethodName)) ∈ lw_all := lw_g (lw_at lw_m13 185 rfl) rfl
theorem q3174 : (Jvm.Cond.methodLink "PastWatchLaw" (165 : Nat) ({ cls := "PastWatchModel", name := "share", desc := "(I)D" } : Jvm.MethodName)) ∈ lw_all := lw_g (lw_at lw_m13 189 rfl) rfl
theorem q3178 : (Jvm.Cond.methodLink "PastWatchLaw" (169 : Nat) ({ cls := "PastWatchModel", name := "ask", desc := "()I" } : Jvm.MethodName)) ∈ lw_all := lw_g (lw_at lw_m13 193 rfl) rfl
theorem q3192 : (Jvm.Cond.methodLink "PastWatchLaw" (172 : Nat) ({ cls := "PastWatchModel", name := "answer", desc := "(I)Z" } : Jvm.MethodName)) ∈ lw_all := lw_g (lw_at lw_m13 207 rfl) rfl
theorem q3196 : (Jvm.Cond.methodLink "PastWatchLaw" (177 : Nat) ({ cls := "PastWatchModel", name := "digest", desc := "()J" } : Jvm.MethodName)) ∈ lw_all := lw_g (lw_at lw_m13 211 rfl) rfl
theorem q3202 : (Jvm.Cond.constantLong "PastWatchLaw" (110 : Nat) (4294967295 : Int64)) ∈ lw_all := lw_g (lw_at lw_m13 217 rfl) rfl

/-! the law's own entry -/

abbrev cL_law : ByteArray := code
def dkwL_law_60 : List UInt8 := [44, 182, 0, 177, 148, 153, 0, 5, 3, 172, 132, 5, 6, 167, 250, 56, 4, 172]
abbrev dktL_law_60 : List UInt8 := dkwL_law_60 ++ []
def dkwL_law_59 : List UInt8 := [47, 21, 7, 153, 0, 7, 10, 167, 0, 4, 9, 148, 153, 0, 5, 3, 172, 167, 0, 17, 43, 182, 0, 173]
abbrev dktL_law_59 : List UInt8 := dkwL_law_59 ++ dktL_law_60
def dkwL_law_58 : List UInt8 := [46, 182, 0, 172, 54, 7, 44, 182, 0, 92, 21, 6, 159, 0, 5, 3, 172, 21, 6, 154, 0, 22, 45, 3]
abbrev dktL_law_58 : List UInt8 := dkwL_law_58 ++ dktL_law_59
def dkwL_law_57 : List UInt8 := [159, 0, 82, 3, 172, 43, 42, 21, 5, 4, 96, 46, 45, 184, 0, 170, 54, 6, 44, 42, 21, 5, 4, 96]
abbrev dktL_law_57 : List UInt8 := dkwL_law_57 ++ dktL_law_58
def dkwL_law_56 : List UInt8 := [153, 0, 11, 24, 7, 24, 7, 151, 154, 0, 5, 3, 172, 167, 0, 93, 43, 182, 0, 166, 44, 182, 0, 169]
abbrev dktL_law_56 : List UInt8 := dkwL_law_56 ++ dktL_law_57
def dkwL_law_55 : List UInt8 := [154, 0, 35, 25, 4, 3, 49, 24, 7, 151, 153, 0, 25, 25, 4, 3, 49, 25, 4, 3, 49, 151]
abbrev dktL_law_55 : List UInt8 := dkwL_law_55 ++ dktL_law_56
def dkwL_law_54 : List UInt8 := [42, 21, 5, 4, 96, 46, 182, 0, 165, 57, 7, 44, 182, 0, 92, 21, 6, 159, 0, 5, 3, 172, 21, 6]
abbrev dktL_law_54 : List UInt8 := dkwL_law_54 ++ dktL_law_55
def dkwL_law_53 : List UInt8 := [148, 153, 0, 5, 3, 172, 167, 0, 170, 43, 42, 21, 5, 4, 96, 46, 25, 4, 184, 0, 162, 54, 6, 44]
abbrev dktL_law_53 : List UInt8 := dkwL_law_53 ++ dktL_law_54
def dkwL_law_52 : List UInt8 := [54, 7, 44, 182, 0, 92, 21, 6, 159, 0, 5, 3, 172, 21, 6, 154, 0, 15, 45, 3, 47, 21, 7, 133]
abbrev dktL_law_52 : List UInt8 := dkwL_law_52 ++ dktL_law_53
def dkwL_law_51 : List UInt8 := [96, 46, 45, 184, 0, 159, 54, 6, 44, 42, 21, 5, 4, 96, 46, 42, 21, 5, 5, 96, 46, 182, 0, 161]
abbrev dktL_law_51 : List UInt8 := dkwL_law_51 ++ dktL_law_52
def dkwL_law_50 : List UInt8 := [47, 21, 7, 133, 148, 153, 0, 5, 3, 172, 167, 0, 238, 43, 42, 21, 5, 4, 96, 46, 42, 21, 5, 5]
abbrev dktL_law_50 : List UInt8 := dkwL_law_50 ++ dktL_law_51
def dkwL_law_49 : List UInt8 := [3, 182, 0, 158, 54, 7, 44, 182, 0, 92, 21, 6, 159, 0, 5, 3, 172, 21, 6, 154, 0, 15, 45, 3]
abbrev dktL_law_49 : List UInt8 := dkwL_law_49 ++ dktL_law_50
def dkwL_law_48 : List UInt8 := [21, 5, 4, 96, 46, 42, 21, 5, 5, 96, 46, 42, 21, 5, 6, 96, 46, 153, 0, 7, 4, 167, 0, 4]
abbrev dktL_law_48 : List UInt8 := dkwL_law_48 ++ dktL_law_49
def dkwL_law_47 : List UInt8 := [46, 42, 21, 5, 6, 96, 46, 153, 0, 7, 4, 167, 0, 4, 3, 45, 184, 0, 155, 54, 6, 44, 42]
abbrev dktL_law_47 : List UInt8 := dkwL_law_47 ++ dktL_law_48
def dkwL_law_46 : List UInt8 := [21, 7, 133, 148, 153, 0, 5, 3, 172, 167, 1, 78, 43, 42, 21, 5, 4, 96, 46, 42, 21, 5, 5, 96]
abbrev dktL_law_46 : List UInt8 := dkwL_law_46 ++ dktL_law_47
def dkwL_law_45 : List UInt8 := [182, 0, 154, 54, 7, 44, 182, 0, 92, 21, 6, 159, 0, 5, 3, 172, 21, 6, 154, 0, 15, 45, 3, 47]
abbrev dktL_law_45 : List UInt8 := dkwL_law_45 ++ dktL_law_46
def dkwL_law_44 : List UInt8 := [167, 1, 134, 43, 42, 21, 5, 4, 96, 46, 45, 184, 0, 152, 54, 6, 44, 42, 21, 5, 4, 96, 46]
abbrev dktL_law_44 : List UInt8 := dkwL_law_44 ++ dktL_law_45
def dkwL_law_43 : List UInt8 := [159, 0, 5, 3, 172, 21, 6, 154, 0, 15, 45, 3, 47, 21, 7, 133, 148, 153, 0, 5, 3, 172]
abbrev dktL_law_43 : List UInt8 := dkwL_law_43 ++ dktL_law_44
def dkwL_law_42 : List UInt8 := [21, 5, 4, 96, 46, 42, 21, 5, 5, 96, 46, 182, 0, 151, 54, 7, 44, 182, 0, 92, 21, 6]
abbrev dktL_law_42 : List UInt8 := dkwL_law_42 ++ dktL_law_43
def dkwL_law_41 : List UInt8 := [167, 1, 202, 43, 42, 21, 5, 4, 96, 46, 42, 21, 5, 5, 96, 46, 45, 184, 0, 149, 54, 6, 44, 42]
abbrev dktL_law_41 : List UInt8 := dkwL_law_41 ++ dktL_law_42
def dkwL_law_40 : List UInt8 := [154, 0, 22, 45, 3, 47, 21, 7, 153, 0, 7, 10, 167, 0, 4, 9, 148, 153, 0, 5, 3, 172]
abbrev dktL_law_40 : List UInt8 := dkwL_law_40 ++ dktL_law_41
def dkwL_law_39 : List UInt8 := [42, 21, 5, 5, 96, 46, 182, 0, 148, 54, 7, 44, 182, 0, 92, 21, 6, 159, 0, 5, 3, 172, 21, 6]
abbrev dktL_law_39 : List UInt8 := dkwL_law_39 ++ dktL_law_40
def dkwL_law_38 : List UInt8 := [21, 5, 4, 96, 46, 42, 21, 5, 5, 96, 46, 45, 184, 0, 146, 54, 6, 44, 42, 21, 5, 4, 96, 46]
abbrev dktL_law_38 : List UInt8 := dkwL_law_38 ++ dktL_law_39
def dkwL_law_37 : List UInt8 := [45, 3, 47, 21, 7, 153, 0, 7, 10, 167, 0, 4, 9, 148, 153, 0, 5, 3, 172, 167, 2, 21, 43, 42]
abbrev dktL_law_37 : List UInt8 := dkwL_law_37 ++ dktL_law_38
def dkwL_law_36 : List UInt8 := [5, 96, 46, 182, 0, 145, 54, 7, 44, 182, 0, 92, 21, 6, 159, 0, 5, 3, 172, 21, 6, 154, 0, 22]
abbrev dktL_law_36 : List UInt8 := dkwL_law_36 ++ dktL_law_37
def dkwL_law_35 : List UInt8 := [96, 46, 42, 21, 5, 5, 96, 46, 45, 184, 0, 143, 54, 6, 44, 42, 21, 5, 4, 96, 46, 42, 21, 5]
abbrev dktL_law_35 : List UInt8 := dkwL_law_35 ++ dktL_law_36
def dkwL_law_34 : List UInt8 := [21, 6, 154, 0, 14, 45, 3, 47, 22, 7, 148, 153, 0, 5, 3, 172, 167, 2, 96, 43, 42, 21, 5, 4]
abbrev dktL_law_34 : List UInt8 := dkwL_law_34 ++ dktL_law_35
def dkwL_law_33 : List UInt8 := [96, 46, 42, 21, 5, 5, 96, 46, 182, 0, 142, 55, 7, 44, 182, 0, 92, 21, 6, 159, 0, 5, 3, 172]
abbrev dktL_law_33 : List UInt8 := dkwL_law_33 ++ dktL_law_34
def dkwL_law_32 : List UInt8 := [43, 42, 21, 5, 4, 96, 46, 42, 21, 5, 5, 96, 46, 45, 184, 0, 140, 54, 6, 44, 42, 21, 5, 4]
abbrev dktL_law_32 : List UInt8 := dkwL_law_32 ++ dktL_law_33
def dkwL_law_31 : List UInt8 := [159, 0, 5, 3, 172, 21, 6, 154, 0, 14, 45, 3, 47, 22, 7, 148, 153, 0, 5, 3, 172, 167, 2, 163]
abbrev dktL_law_31 : List UInt8 := dkwL_law_31 ++ dktL_law_32
def dkwL_law_30 : List UInt8 := [21, 5, 4, 96, 46, 42, 21, 5, 5, 96, 46, 182, 0, 139, 55, 7, 44, 182, 0, 92, 21, 6]
abbrev dktL_law_30 : List UInt8 := dkwL_law_30 ++ dktL_law_31
def dkwL_law_29 : List UInt8 := [167, 2, 230, 43, 42, 21, 5, 4, 96, 46, 42, 21, 5, 5, 96, 46, 45, 184, 0, 136, 54, 6, 44, 42]
abbrev dktL_law_29 : List UInt8 := dkwL_law_29 ++ dktL_law_30
def dkwL_law_28 : List UInt8 := [21, 6, 159, 0, 5, 3, 172, 21, 6, 154, 0, 15, 45, 3, 47, 21, 7, 133, 148, 153, 0, 5, 3, 172]
abbrev dktL_law_28 : List UInt8 := dkwL_law_28 ++ dktL_law_29
def dkwL_law_27 : List UInt8 := [46, 45, 184, 0, 133, 54, 6, 44, 42, 21, 5, 4, 96, 46, 182, 0, 135, 54, 7, 44, 182, 0, 92]
abbrev dktL_law_27 : List UInt8 := dkwL_law_27 ++ dktL_law_28
def dkwL_law_26 : List UInt8 := [154, 0, 15, 45, 3, 47, 21, 7, 133, 148, 153, 0, 5, 3, 172, 167, 3, 30, 43, 42, 21, 5, 4, 96]
abbrev dktL_law_26 : List UInt8 := dkwL_law_26 ++ dktL_law_27
def dkwL_law_25 : List UInt8 := [184, 0, 130, 54, 6, 44, 182, 0, 132, 54, 7, 44, 182, 0, 92, 21, 6, 159, 0, 5, 3, 172, 21, 6]
abbrev dktL_law_25 : List UInt8 := dkwL_law_25 ++ dktL_law_26
def dkwL_law_24 : List UInt8 := [153, 0, 5, 3, 172, 167, 3, 87, 43, 182, 0, 126, 44, 182, 0, 129, 159, 3, 76, 3, 172, 43, 45]
abbrev dktL_law_24 : List UInt8 := dkwL_law_24 ++ dktL_law_25
def dkwL_law_23 : List UInt8 := [182, 0, 92, 21, 6, 159, 0, 5, 3, 172, 21, 6, 154, 0, 15, 45, 3, 47, 21, 7, 133, 148]
abbrev dktL_law_23 : List UInt8 := dkwL_law_23 ++ dktL_law_24
def dkwL_law_22 : List UInt8 := [153, 0, 5, 3, 172, 167, 3, 131, 43, 45, 184, 0, 122, 54, 6, 44, 182, 0, 125, 54, 7, 44]
abbrev dktL_law_22 : List UInt8 := dkwL_law_22 ++ dktL_law_23
def dkwL_law_21 : List UInt8 := [182, 0, 92, 21, 6, 159, 0, 5, 3, 172, 21, 6, 154, 0, 15, 45, 3, 47, 21, 7, 133, 148]
abbrev dktL_law_21 : List UInt8 := dkwL_law_21 ++ dktL_law_22
def dkwL_law_20 : List UInt8 := [4, 96, 46, 45, 184, 0, 119, 54, 6, 44, 42, 21, 5, 4, 96, 46, 182, 0, 121, 54, 7, 44]
abbrev dktL_law_20 : List UInt8 := dkwL_law_20 ++ dktL_law_21
def dkwL_law_19 : List UInt8 := [21, 6, 154, 0, 15, 45, 3, 47, 21, 7, 133, 148, 153, 0, 5, 3, 172, 167, 3, 187, 43, 42, 21, 5]
abbrev dktL_law_19 : List UInt8 := dkwL_law_19 ++ dktL_law_20
def dkwL_law_18 : List UInt8 := [44, 42, 21, 5, 4, 96, 46, 182, 0, 118, 54, 7, 44, 182, 0, 92, 21, 6, 159, 0, 5, 3, 172]
abbrev dktL_law_18 : List UInt8 := dkwL_law_18 ++ dktL_law_19
def dkwL_law_17 : List UInt8 := [22, 7, 148, 153, 0, 5, 3, 172, 167, 3, 243, 43, 42, 21, 5, 4, 96, 46, 45, 184, 0, 116, 54, 6]
abbrev dktL_law_17 : List UInt8 := dkwL_law_17 ++ dktL_law_18
def dkwL_law_16 : List UInt8 := [182, 0, 115, 55, 7, 44, 182, 0, 92, 21, 6, 159, 0, 5, 3, 172, 21, 6, 154, 0, 14, 45, 3, 47]
abbrev dktL_law_16 : List UInt8 := dkwL_law_16 ++ dktL_law_17
def dkwL_law_15 : List UInt8 := [96, 46, 42, 21, 5, 5, 96, 46, 133, 16, 32, 121, 42, 21, 5, 6, 96, 46, 133, 20, 0, 110, 127, 129]
abbrev dktL_law_15 : List UInt8 := dkwL_law_15 ++ dktL_law_16
def dkwL_law_14 : List UInt8 := [121, 42, 21, 5, 6, 96, 46, 133, 20, 0, 110, 127, 129, 45, 184, 0, 112, 54, 6, 44, 42, 21, 5, 4]
abbrev dktL_law_14 : List UInt8 := dkwL_law_14 ++ dktL_law_15
def dkwL_law_13 : List UInt8 := [153, 0, 5, 3, 172, 167, 4, 86, 43, 42, 21, 5, 4, 96, 46, 42, 21, 5, 5, 96, 46, 133, 16, 32]
abbrev dktL_law_13 : List UInt8 := dkwL_law_13 ++ dktL_law_14
def dkwL_law_12 : List UInt8 := [182, 0, 92, 21, 6, 159, 0, 5, 3, 172, 21, 6, 154, 0, 15, 45, 3, 47, 21, 7, 133, 148]
abbrev dktL_law_12 : List UInt8 := dkwL_law_12 ++ dktL_law_13
def dkwL_law_11 : List UInt8 := [21, 5, 4, 96, 46, 45, 184, 0, 107, 54, 6, 44, 42, 21, 5, 4, 96, 46, 182, 0, 109, 54, 7, 44]
abbrev dktL_law_11 : List UInt8 := dkwL_law_11 ++ dktL_law_12
def dkwL_law_10 : List UInt8 := [182, 0, 102, 159, 4, 157, 3, 172, 43, 182, 0, 103, 44, 182, 0, 106, 159, 4, 144, 3, 172, 43, 42]
abbrev dktL_law_10 : List UInt8 := dkwL_law_10 ++ dktL_law_11
def dkwL_law_9 : List UInt8 := [154, 0, 15, 45, 3, 47, 21, 7, 133, 148, 153, 0, 5, 3, 172, 167, 4, 168, 43, 182, 0, 99, 44]
abbrev dktL_law_9 : List UInt8 := dkwL_law_9 ++ dktL_law_10
def dkwL_law_8 : List UInt8 := [21, 5, 4, 96, 46, 182, 0, 98, 54, 7, 44, 182, 0, 92, 21, 6, 159, 0, 5, 3, 172, 21, 6]
abbrev dktL_law_8 : List UInt8 := dkwL_law_8 ++ dktL_law_9
def dkwL_law_7 : List UInt8 := [148, 153, 0, 5, 3, 172, 167, 4, 224, 43, 42, 21, 5, 4, 96, 46, 45, 184, 0, 95, 54, 6, 44, 42]
abbrev dktL_law_7 : List UInt8 := dkwL_law_7 ++ dktL_law_8
def dkwL_law_6 : List UInt8 := [54, 7, 44, 182, 0, 92, 21, 6, 159, 0, 5, 3, 172, 21, 6, 154, 0, 15, 45, 3, 47, 21, 7, 133]
abbrev dktL_law_6 : List UInt8 := dkwL_law_6 ++ dktL_law_7
def dkwL_law_5 : List UInt8 := [96, 46, 42, 21, 5, 6, 96, 46, 42, 21, 5, 7, 96, 46, 42, 21, 5, 8, 96, 46, 182, 0, 91]
abbrev dktL_law_5 : List UInt8 := dkwL_law_5 ++ dktL_law_6
def dkwL_law_4 : List UInt8 := [46, 42, 21, 5, 8, 96, 46, 45, 184, 0, 86, 54, 6, 44, 42, 21, 5, 4, 96, 46, 42, 21, 5, 5]
abbrev dktL_law_4 : List UInt8 := dkwL_law_4 ++ dktL_law_5
def dkwL_law_3 : List UInt8 := [43, 42, 21, 5, 4, 96, 46, 42, 21, 5, 5, 96, 46, 42, 21, 5, 6, 96, 46, 42, 21, 5, 7, 96]
abbrev dktL_law_3 : List UInt8 := dkwL_law_3 ++ dktL_law_4
def dkwL_law_2 : List UInt8 := [170, 0, 0, 0, 0, 5, 180, 0, 0, 0, 0, 0, 0, 0, 23, 0, 0, 0, 111, 0, 0, 0, 215, 0, 0, 1, 15, 0, 0, 1, 28, 0, 0, 1, 41, 0, 0, 1, 97, 0, 0, 1, 196, 0, 0, 1, 252, 0, 0, 2, 52, 0, 0, 2, 96, 0, 0, 2, 109, 0, 0, 2, 153, 0, 0, 2, 209, 0, 0, 3, 20, 0, 0, 3, 87, 0, 0, 3, 162, 0, 0, 3, 237, 0, 0, 4, 49, 0, 0, 4, 105, 0, 0, 4, 201, 0, 0, 5, 13, 0, 0, 5, 90, 0, 0, 5, 103, 0, 0, 5, 166]
abbrev dktL_law_2 : List UInt8 := dkwL_law_2 ++ dktL_law_3
def dkwL_law_1 : List UInt8 := [58, 4, 3, 54, 5, 21, 5, 42, 190, 16, 6, 100, 163, 5, 196, 42, 21, 5, 46, 16, 31, 126]
abbrev dktL_law_1 : List UInt8 := dkwL_law_1 ++ dktL_law_2
def dkwL_law_0 : List UInt8 := [187, 0, 8, 89, 183, 0, 82, 76, 187, 0, 83, 89, 183, 0, 85, 77, 4, 188, 11, 78, 4, 188, 7]
abbrev dktL_law_0 : List UInt8 := dkwL_law_0 ++ dktL_law_1
theorem dksL_law_0 : cL_law.data.toList.drop 0 = dktL_law_0 := by decide +kernel
theorem dksL_law_1 : cL_law.data.toList.drop 23 = dktL_law_1 := dk_seg dksL_law_0 23 rfl rfl
theorem dksL_law_2 : cL_law.data.toList.drop 45 = dktL_law_2 := dk_seg dksL_law_1 22 rfl rfl
theorem dksL_law_3 : cL_law.data.toList.drop 156 = dktL_law_3 := dk_seg dksL_law_2 111 rfl rfl
theorem dksL_law_4 : cL_law.data.toList.drop 180 = dktL_law_4 := dk_seg dksL_law_3 24 rfl rfl
theorem dksL_law_5 : cL_law.data.toList.drop 204 = dktL_law_5 := dk_seg dksL_law_4 24 rfl rfl
theorem dksL_law_6 : cL_law.data.toList.drop 227 = dktL_law_6 := dk_seg dksL_law_5 23 rfl rfl
theorem dksL_law_7 : cL_law.data.toList.drop 251 = dktL_law_7 := dk_seg dksL_law_6 24 rfl rfl
theorem dksL_law_8 : cL_law.data.toList.drop 275 = dktL_law_8 := dk_seg dksL_law_7 24 rfl rfl
theorem dksL_law_9 : cL_law.data.toList.drop 298 = dktL_law_9 := dk_seg dksL_law_8 23 rfl rfl
theorem dksL_law_10 : cL_law.data.toList.drop 321 = dktL_law_10 := dk_seg dksL_law_9 23 rfl rfl
theorem dksL_law_11 : cL_law.data.toList.drop 344 = dktL_law_11 := dk_seg dksL_law_10 23 rfl rfl
theorem dksL_law_12 : cL_law.data.toList.drop 368 = dktL_law_12 := dk_seg dksL_law_11 24 rfl rfl
theorem dksL_law_13 : cL_law.data.toList.drop 390 = dktL_law_13 := dk_seg dksL_law_12 22 rfl rfl
theorem dksL_law_14 : cL_law.data.toList.drop 414 = dktL_law_14 := dk_seg dksL_law_13 24 rfl rfl
theorem dksL_law_15 : cL_law.data.toList.drop 438 = dktL_law_15 := dk_seg dksL_law_14 24 rfl rfl
theorem dksL_law_16 : cL_law.data.toList.drop 462 = dktL_law_16 := dk_seg dksL_law_15 24 rfl rfl
theorem dksL_law_17 : cL_law.data.toList.drop 486 = dktL_law_17 := dk_seg dksL_law_16 24 rfl rfl
theorem dksL_law_18 : cL_law.data.toList.drop 510 = dktL_law_18 := dk_seg dksL_law_17 24 rfl rfl
theorem dksL_law_19 : cL_law.data.toList.drop 533 = dktL_law_19 := dk_seg dksL_law_18 23 rfl rfl
theorem dksL_law_20 : cL_law.data.toList.drop 557 = dktL_law_20 := dk_seg dksL_law_19 24 rfl rfl
theorem dksL_law_21 : cL_law.data.toList.drop 579 = dktL_law_21 := dk_seg dksL_law_20 22 rfl rfl
theorem dksL_law_22 : cL_law.data.toList.drop 601 = dktL_law_22 := dk_seg dksL_law_21 22 rfl rfl
theorem dksL_law_23 : cL_law.data.toList.drop 623 = dktL_law_23 := dk_seg dksL_law_22 22 rfl rfl
theorem dksL_law_24 : cL_law.data.toList.drop 645 = dktL_law_24 := dk_seg dksL_law_23 22 rfl rfl
theorem dksL_law_25 : cL_law.data.toList.drop 668 = dktL_law_25 := dk_seg dksL_law_24 23 rfl rfl
theorem dksL_law_26 : cL_law.data.toList.drop 692 = dktL_law_26 := dk_seg dksL_law_25 24 rfl rfl
theorem dksL_law_27 : cL_law.data.toList.drop 716 = dktL_law_27 := dk_seg dksL_law_26 24 rfl rfl
theorem dksL_law_28 : cL_law.data.toList.drop 739 = dktL_law_28 := dk_seg dksL_law_27 23 rfl rfl
theorem dksL_law_29 : cL_law.data.toList.drop 763 = dktL_law_29 := dk_seg dksL_law_28 24 rfl rfl
theorem dksL_law_30 : cL_law.data.toList.drop 787 = dktL_law_30 := dk_seg dksL_law_29 24 rfl rfl
theorem dksL_law_31 : cL_law.data.toList.drop 809 = dktL_law_31 := dk_seg dksL_law_30 22 rfl rfl
theorem dksL_law_32 : cL_law.data.toList.drop 833 = dktL_law_32 := dk_seg dksL_law_31 24 rfl rfl
theorem dksL_law_33 : cL_law.data.toList.drop 857 = dktL_law_33 := dk_seg dksL_law_32 24 rfl rfl
theorem dksL_law_34 : cL_law.data.toList.drop 881 = dktL_law_34 := dk_seg dksL_law_33 24 rfl rfl
theorem dksL_law_35 : cL_law.data.toList.drop 905 = dktL_law_35 := dk_seg dksL_law_34 24 rfl rfl
theorem dksL_law_36 : cL_law.data.toList.drop 929 = dktL_law_36 := dk_seg dksL_law_35 24 rfl rfl
theorem dksL_law_37 : cL_law.data.toList.drop 953 = dktL_law_37 := dk_seg dksL_law_36 24 rfl rfl
theorem dksL_law_38 : cL_law.data.toList.drop 977 = dktL_law_38 := dk_seg dksL_law_37 24 rfl rfl
theorem dksL_law_39 : cL_law.data.toList.drop 1001 = dktL_law_39 := dk_seg dksL_law_38 24 rfl rfl
theorem dksL_law_40 : cL_law.data.toList.drop 1025 = dktL_law_40 := dk_seg dksL_law_39 24 rfl rfl
theorem dksL_law_41 : cL_law.data.toList.drop 1047 = dktL_law_41 := dk_seg dksL_law_40 22 rfl rfl
theorem dksL_law_42 : cL_law.data.toList.drop 1071 = dktL_law_42 := dk_seg dksL_law_41 24 rfl rfl
theorem dksL_law_43 : cL_law.data.toList.drop 1093 = dktL_law_43 := dk_seg dksL_law_42 22 rfl rfl
theorem dksL_law_44 : cL_law.data.toList.drop 1115 = dktL_law_44 := dk_seg dksL_law_43 22 rfl rfl
theorem dksL_law_45 : cL_law.data.toList.drop 1138 = dktL_law_45 := dk_seg dksL_law_44 23 rfl rfl
theorem dksL_law_46 : cL_law.data.toList.drop 1162 = dktL_law_46 := dk_seg dksL_law_45 24 rfl rfl
theorem dksL_law_47 : cL_law.data.toList.drop 1186 = dktL_law_47 := dk_seg dksL_law_46 24 rfl rfl
theorem dksL_law_48 : cL_law.data.toList.drop 1209 = dktL_law_48 := dk_seg dksL_law_47 23 rfl rfl
theorem dksL_law_49 : cL_law.data.toList.drop 1233 = dktL_law_49 := dk_seg dksL_law_48 24 rfl rfl
theorem dksL_law_50 : cL_law.data.toList.drop 1257 = dktL_law_50 := dk_seg dksL_law_49 24 rfl rfl
theorem dksL_law_51 : cL_law.data.toList.drop 1281 = dktL_law_51 := dk_seg dksL_law_50 24 rfl rfl
theorem dksL_law_52 : cL_law.data.toList.drop 1305 = dktL_law_52 := dk_seg dksL_law_51 24 rfl rfl
theorem dksL_law_53 : cL_law.data.toList.drop 1329 = dktL_law_53 := dk_seg dksL_law_52 24 rfl rfl
theorem dksL_law_54 : cL_law.data.toList.drop 1353 = dktL_law_54 := dk_seg dksL_law_53 24 rfl rfl
theorem dksL_law_55 : cL_law.data.toList.drop 1377 = dktL_law_55 := dk_seg dksL_law_54 24 rfl rfl
theorem dksL_law_56 : cL_law.data.toList.drop 1399 = dktL_law_56 := dk_seg dksL_law_55 22 rfl rfl
theorem dksL_law_57 : cL_law.data.toList.drop 1423 = dktL_law_57 := dk_seg dksL_law_56 24 rfl rfl
theorem dksL_law_58 : cL_law.data.toList.drop 1447 = dktL_law_58 := dk_seg dksL_law_57 24 rfl rfl
theorem dksL_law_59 : cL_law.data.toList.drop 1471 = dktL_law_59 := dk_seg dksL_law_58 24 rfl rfl
theorem dksL_law_60 : cL_law.data.toList.drop 1495 = dktL_law_60 := dk_seg dksL_law_59 24 rfl rfl
theorem dL_law_0 : decode cL_law 0 = .ok (.new 8, 3) := dk_187 0 8 (dk_at dksL_law_0 0 rfl rfl)
theorem dL_law_3 : decode cL_law 3 = .ok (.dup, 1) := dk_89 (dk_at dksL_law_0 3 rfl rfl)
theorem dL_law_4 : decode cL_law 4 = .ok (.invokespecial 82, 3) := dk_183 0 82 (dk_at dksL_law_0 4 rfl rfl)
theorem dL_law_7 : decode cL_law 7 = .ok (.astore_n 1, 1) := dk_76 (dk_at dksL_law_0 7 rfl rfl)
theorem dL_law_8 : decode cL_law 8 = .ok (.new 83, 3) := dk_187 0 83 (dk_at dksL_law_0 8 rfl rfl)
theorem dL_law_11 : decode cL_law 11 = .ok (.dup, 1) := dk_89 (dk_at dksL_law_0 11 rfl rfl)
theorem dL_law_12 : decode cL_law 12 = .ok (.invokespecial 85, 3) := dk_183 0 85 (dk_at dksL_law_0 12 rfl rfl)
theorem dL_law_15 : decode cL_law 15 = .ok (.astore_n 2, 1) := dk_77 (dk_at dksL_law_0 15 rfl rfl)
theorem dL_law_16 : decode cL_law 16 = .ok (.iconst 1, 1) := dk_4 (dk_at dksL_law_0 16 rfl rfl)
theorem dL_law_17 : decode cL_law 17 = .ok (.newarray .long, 2) := dk_188_11 (dk_at dksL_law_0 17 rfl rfl)
theorem dL_law_19 : decode cL_law 19 = .ok (.astore_n 3, 1) := dk_78 (dk_at dksL_law_0 19 rfl rfl)
theorem dL_law_20 : decode cL_law 20 = .ok (.iconst 1, 1) := dk_4 (dk_at dksL_law_0 20 rfl rfl)
theorem dL_law_21 : decode cL_law 21 = .ok (.newarray .double, 2) := dk_188_7 (dk_at dksL_law_0 21 rfl rfl)
theorem dL_law_23 : decode cL_law 23 = .ok (.astore 4, 2) := dk_58 4 (dk_at dksL_law_1 0 rfl rfl)
theorem dL_law_25 : decode cL_law 25 = .ok (.iconst 0, 1) := dk_3 (dk_at dksL_law_1 2 rfl rfl)
theorem dL_law_26 : decode cL_law 26 = .ok (.istore 5, 2) := dk_54 5 (dk_at dksL_law_1 3 rfl rfl)
theorem dL_law_28 : decode cL_law 28 = .ok (.iload 5, 2) := dk_21 5 (dk_at dksL_law_1 5 rfl rfl)
theorem dL_law_30 : decode cL_law 30 = .ok (.aload_n 0, 1) := dk_42 (dk_at dksL_law_1 7 rfl rfl)
theorem dL_law_31 : decode cL_law 31 = .ok (.arraylength, 1) := dk_190 (dk_at dksL_law_1 8 rfl rfl)
theorem dL_law_32 : decode cL_law 32 = .ok (.bipush 6, 2) := dk_16 6 (dk_at dksL_law_1 9 rfl rfl)
theorem dL_law_34 : decode cL_law 34 = .ok (.isub, 1) := dk_100 (dk_at dksL_law_1 11 rfl rfl)
theorem dL_law_35 : decode cL_law 35 = .ok (.if_icmp .gt 1476, 3) := dk_163 5 196 (dk_at dksL_law_1 12 rfl rfl)
theorem dL_law_38 : decode cL_law 38 = .ok (.aload_n 0, 1) := dk_42 (dk_at dksL_law_1 15 rfl rfl)
theorem dL_law_39 : decode cL_law 39 = .ok (.iload 5, 2) := dk_21 5 (dk_at dksL_law_1 16 rfl rfl)
theorem dL_law_41 : decode cL_law 41 = .ok (.iaload, 1) := dk_46 (dk_at dksL_law_1 18 rfl rfl)
theorem dL_law_42 : decode cL_law 42 = .ok (.bipush 31, 2) := dk_16 31 (dk_at dksL_law_1 19 rfl rfl)
theorem dL_law_44 : decode cL_law 44 = .ok (.iand, 1) := dk_126 (dk_at dksL_law_1 21 rfl rfl)
theorem dL_law_45 : decode cL_law 45 = .ok (.tableswitch 1460 0 23 #[111, 215, 271, 284, 297, 353, 452, 508, 564, 608, 621, 665, 721, 788, 855, 930, 1005, 1073, 1129, 1225, 1293, 1370, 1383, 1446], 111) := by decide +kernel
theorem dL_law_156 : decode cL_law 156 = .ok (.aload_n 1, 1) := dk_43 (dk_at dksL_law_3 0 rfl rfl)
theorem dL_law_157 : decode cL_law 157 = .ok (.aload_n 0, 1) := dk_42 (dk_at dksL_law_3 1 rfl rfl)
theorem dL_law_158 : decode cL_law 158 = .ok (.iload 5, 2) := dk_21 5 (dk_at dksL_law_3 2 rfl rfl)
theorem dL_law_160 : decode cL_law 160 = .ok (.iconst 1, 1) := dk_4 (dk_at dksL_law_3 4 rfl rfl)
theorem dL_law_161 : decode cL_law 161 = .ok (.iadd, 1) := dk_96 (dk_at dksL_law_3 5 rfl rfl)
theorem dL_law_162 : decode cL_law 162 = .ok (.iaload, 1) := dk_46 (dk_at dksL_law_3 6 rfl rfl)
theorem dL_law_163 : decode cL_law 163 = .ok (.aload_n 0, 1) := dk_42 (dk_at dksL_law_3 7 rfl rfl)
theorem dL_law_164 : decode cL_law 164 = .ok (.iload 5, 2) := dk_21 5 (dk_at dksL_law_3 8 rfl rfl)
theorem dL_law_166 : decode cL_law 166 = .ok (.iconst 2, 1) := dk_5 (dk_at dksL_law_3 10 rfl rfl)
theorem dL_law_167 : decode cL_law 167 = .ok (.iadd, 1) := dk_96 (dk_at dksL_law_3 11 rfl rfl)
theorem dL_law_168 : decode cL_law 168 = .ok (.iaload, 1) := dk_46 (dk_at dksL_law_3 12 rfl rfl)
theorem dL_law_169 : decode cL_law 169 = .ok (.aload_n 0, 1) := dk_42 (dk_at dksL_law_3 13 rfl rfl)
theorem dL_law_170 : decode cL_law 170 = .ok (.iload 5, 2) := dk_21 5 (dk_at dksL_law_3 14 rfl rfl)
theorem dL_law_172 : decode cL_law 172 = .ok (.iconst 3, 1) := dk_6 (dk_at dksL_law_3 16 rfl rfl)
theorem dL_law_173 : decode cL_law 173 = .ok (.iadd, 1) := dk_96 (dk_at dksL_law_3 17 rfl rfl)
theorem dL_law_174 : decode cL_law 174 = .ok (.iaload, 1) := dk_46 (dk_at dksL_law_3 18 rfl rfl)
theorem dL_law_175 : decode cL_law 175 = .ok (.aload_n 0, 1) := dk_42 (dk_at dksL_law_3 19 rfl rfl)
theorem dL_law_176 : decode cL_law 176 = .ok (.iload 5, 2) := dk_21 5 (dk_at dksL_law_3 20 rfl rfl)
theorem dL_law_178 : decode cL_law 178 = .ok (.iconst 4, 1) := dk_7 (dk_at dksL_law_3 22 rfl rfl)
theorem dL_law_179 : decode cL_law 179 = .ok (.iadd, 1) := dk_96 (dk_at dksL_law_3 23 rfl rfl)
theorem dL_law_180 : decode cL_law 180 = .ok (.iaload, 1) := dk_46 (dk_at dksL_law_4 0 rfl rfl)
theorem dL_law_181 : decode cL_law 181 = .ok (.aload_n 0, 1) := dk_42 (dk_at dksL_law_4 1 rfl rfl)
theorem dL_law_182 : decode cL_law 182 = .ok (.iload 5, 2) := dk_21 5 (dk_at dksL_law_4 2 rfl rfl)
theorem dL_law_184 : decode cL_law 184 = .ok (.iconst 5, 1) := dk_8 (dk_at dksL_law_4 4 rfl rfl)
theorem dL_law_185 : decode cL_law 185 = .ok (.iadd, 1) := dk_96 (dk_at dksL_law_4 5 rfl rfl)
theorem dL_law_186 : decode cL_law 186 = .ok (.iaload, 1) := dk_46 (dk_at dksL_law_4 6 rfl rfl)
theorem dL_law_187 : decode cL_law 187 = .ok (.aload_n 3, 1) := dk_45 (dk_at dksL_law_4 7 rfl rfl)
theorem dL_law_188 : decode cL_law 188 = .ok (.invokestatic 86, 3) := dk_184 0 86 (dk_at dksL_law_4 8 rfl rfl)
theorem dL_law_191 : decode cL_law 191 = .ok (.istore 6, 2) := dk_54 6 (dk_at dksL_law_4 11 rfl rfl)
theorem dL_law_193 : decode cL_law 193 = .ok (.aload_n 2, 1) := dk_44 (dk_at dksL_law_4 13 rfl rfl)
theorem dL_law_194 : decode cL_law 194 = .ok (.aload_n 0, 1) := dk_42 (dk_at dksL_law_4 14 rfl rfl)
theorem dL_law_195 : decode cL_law 195 = .ok (.iload 5, 2) := dk_21 5 (dk_at dksL_law_4 15 rfl rfl)
theorem dL_law_197 : decode cL_law 197 = .ok (.iconst 1, 1) := dk_4 (dk_at dksL_law_4 17 rfl rfl)
theorem dL_law_198 : decode cL_law 198 = .ok (.iadd, 1) := dk_96 (dk_at dksL_law_4 18 rfl rfl)
theorem dL_law_199 : decode cL_law 199 = .ok (.iaload, 1) := dk_46 (dk_at dksL_law_4 19 rfl rfl)
theorem dL_law_200 : decode cL_law 200 = .ok (.aload_n 0, 1) := dk_42 (dk_at dksL_law_4 20 rfl rfl)
theorem dL_law_201 : decode cL_law 201 = .ok (.iload 5, 2) := dk_21 5 (dk_at dksL_law_4 21 rfl rfl)
theorem dL_law_203 : decode cL_law 203 = .ok (.iconst 2, 1) := dk_5 (dk_at dksL_law_4 23 rfl rfl)
theorem dL_law_204 : decode cL_law 204 = .ok (.iadd, 1) := dk_96 (dk_at dksL_law_5 0 rfl rfl)
theorem dL_law_205 : decode cL_law 205 = .ok (.iaload, 1) := dk_46 (dk_at dksL_law_5 1 rfl rfl)
theorem dL_law_206 : decode cL_law 206 = .ok (.aload_n 0, 1) := dk_42 (dk_at dksL_law_5 2 rfl rfl)
theorem dL_law_207 : decode cL_law 207 = .ok (.iload 5, 2) := dk_21 5 (dk_at dksL_law_5 3 rfl rfl)
theorem dL_law_209 : decode cL_law 209 = .ok (.iconst 3, 1) := dk_6 (dk_at dksL_law_5 5 rfl rfl)
theorem dL_law_210 : decode cL_law 210 = .ok (.iadd, 1) := dk_96 (dk_at dksL_law_5 6 rfl rfl)
theorem dL_law_211 : decode cL_law 211 = .ok (.iaload, 1) := dk_46 (dk_at dksL_law_5 7 rfl rfl)
theorem dL_law_212 : decode cL_law 212 = .ok (.aload_n 0, 1) := dk_42 (dk_at dksL_law_5 8 rfl rfl)
theorem dL_law_213 : decode cL_law 213 = .ok (.iload 5, 2) := dk_21 5 (dk_at dksL_law_5 9 rfl rfl)
theorem dL_law_215 : decode cL_law 215 = .ok (.iconst 4, 1) := dk_7 (dk_at dksL_law_5 11 rfl rfl)
theorem dL_law_216 : decode cL_law 216 = .ok (.iadd, 1) := dk_96 (dk_at dksL_law_5 12 rfl rfl)
theorem dL_law_217 : decode cL_law 217 = .ok (.iaload, 1) := dk_46 (dk_at dksL_law_5 13 rfl rfl)
theorem dL_law_218 : decode cL_law 218 = .ok (.aload_n 0, 1) := dk_42 (dk_at dksL_law_5 14 rfl rfl)
theorem dL_law_219 : decode cL_law 219 = .ok (.iload 5, 2) := dk_21 5 (dk_at dksL_law_5 15 rfl rfl)
theorem dL_law_221 : decode cL_law 221 = .ok (.iconst 5, 1) := dk_8 (dk_at dksL_law_5 17 rfl rfl)
theorem dL_law_222 : decode cL_law 222 = .ok (.iadd, 1) := dk_96 (dk_at dksL_law_5 18 rfl rfl)
theorem dL_law_223 : decode cL_law 223 = .ok (.iaload, 1) := dk_46 (dk_at dksL_law_5 19 rfl rfl)
theorem dL_law_224 : decode cL_law 224 = .ok (.invokevirtual 91, 3) := dk_182 0 91 (dk_at dksL_law_5 20 rfl rfl)
theorem dL_law_227 : decode cL_law 227 = .ok (.istore 7, 2) := dk_54 7 (dk_at dksL_law_6 0 rfl rfl)
theorem dL_law_229 : decode cL_law 229 = .ok (.aload_n 2, 1) := dk_44 (dk_at dksL_law_6 2 rfl rfl)
theorem dL_law_230 : decode cL_law 230 = .ok (.invokevirtual 92, 3) := dk_182 0 92 (dk_at dksL_law_6 3 rfl rfl)
theorem dL_law_233 : decode cL_law 233 = .ok (.iload 6, 2) := dk_21 6 (dk_at dksL_law_6 6 rfl rfl)
theorem dL_law_235 : decode cL_law 235 = .ok (.if_icmp .eq 5, 3) := dk_159 0 5 (dk_at dksL_law_6 8 rfl rfl)
theorem dL_law_238 : decode cL_law 238 = .ok (.iconst 0, 1) := dk_3 (dk_at dksL_law_6 11 rfl rfl)
theorem dL_law_239 : decode cL_law 239 = .ok (.ireturn, 1) := dk_172 (dk_at dksL_law_6 12 rfl rfl)
theorem dL_law_240 : decode cL_law 240 = .ok (.iload 6, 2) := dk_21 6 (dk_at dksL_law_6 13 rfl rfl)
theorem dL_law_242 : decode cL_law 242 = .ok (.ifCond .ne 15, 3) := dk_154 0 15 (dk_at dksL_law_6 15 rfl rfl)
theorem dL_law_245 : decode cL_law 245 = .ok (.aload_n 3, 1) := dk_45 (dk_at dksL_law_6 18 rfl rfl)
theorem dL_law_246 : decode cL_law 246 = .ok (.iconst 0, 1) := dk_3 (dk_at dksL_law_6 19 rfl rfl)
theorem dL_law_247 : decode cL_law 247 = .ok (.laload, 1) := dk_47 (dk_at dksL_law_6 20 rfl rfl)
theorem dL_law_248 : decode cL_law 248 = .ok (.iload 7, 2) := dk_21 7 (dk_at dksL_law_6 21 rfl rfl)
theorem dL_law_250 : decode cL_law 250 = .ok (.i2l, 1) := dk_133 (dk_at dksL_law_6 23 rfl rfl)
theorem dL_law_251 : decode cL_law 251 = .ok (.lcmp, 1) := dk_148 (dk_at dksL_law_7 0 rfl rfl)
theorem dL_law_252 : decode cL_law 252 = .ok (.ifCond .eq 5, 3) := dk_153 0 5 (dk_at dksL_law_7 1 rfl rfl)
theorem dL_law_255 : decode cL_law 255 = .ok (.iconst 0, 1) := dk_3 (dk_at dksL_law_7 4 rfl rfl)
theorem dL_law_256 : decode cL_law 256 = .ok (.ireturn, 1) := dk_172 (dk_at dksL_law_7 5 rfl rfl)
theorem dL_law_257 : decode cL_law 257 = .ok (.goto 1248, 3) := dk_167 4 224 (dk_at dksL_law_7 6 rfl rfl)
theorem dL_law_260 : decode cL_law 260 = .ok (.aload_n 1, 1) := dk_43 (dk_at dksL_law_7 9 rfl rfl)
theorem dL_law_261 : decode cL_law 261 = .ok (.aload_n 0, 1) := dk_42 (dk_at dksL_law_7 10 rfl rfl)
theorem dL_law_262 : decode cL_law 262 = .ok (.iload 5, 2) := dk_21 5 (dk_at dksL_law_7 11 rfl rfl)
theorem dL_law_264 : decode cL_law 264 = .ok (.iconst 1, 1) := dk_4 (dk_at dksL_law_7 13 rfl rfl)
theorem dL_law_265 : decode cL_law 265 = .ok (.iadd, 1) := dk_96 (dk_at dksL_law_7 14 rfl rfl)
theorem dL_law_266 : decode cL_law 266 = .ok (.iaload, 1) := dk_46 (dk_at dksL_law_7 15 rfl rfl)
theorem dL_law_267 : decode cL_law 267 = .ok (.aload_n 3, 1) := dk_45 (dk_at dksL_law_7 16 rfl rfl)
theorem dL_law_268 : decode cL_law 268 = .ok (.invokestatic 95, 3) := dk_184 0 95 (dk_at dksL_law_7 17 rfl rfl)
theorem dL_law_271 : decode cL_law 271 = .ok (.istore 6, 2) := dk_54 6 (dk_at dksL_law_7 20 rfl rfl)
theorem dL_law_273 : decode cL_law 273 = .ok (.aload_n 2, 1) := dk_44 (dk_at dksL_law_7 22 rfl rfl)
theorem dL_law_274 : decode cL_law 274 = .ok (.aload_n 0, 1) := dk_42 (dk_at dksL_law_7 23 rfl rfl)
theorem dL_law_275 : decode cL_law 275 = .ok (.iload 5, 2) := dk_21 5 (dk_at dksL_law_8 0 rfl rfl)
theorem dL_law_277 : decode cL_law 277 = .ok (.iconst 1, 1) := dk_4 (dk_at dksL_law_8 2 rfl rfl)
theorem dL_law_278 : decode cL_law 278 = .ok (.iadd, 1) := dk_96 (dk_at dksL_law_8 3 rfl rfl)
theorem dL_law_279 : decode cL_law 279 = .ok (.iaload, 1) := dk_46 (dk_at dksL_law_8 4 rfl rfl)
theorem dL_law_280 : decode cL_law 280 = .ok (.invokevirtual 98, 3) := dk_182 0 98 (dk_at dksL_law_8 5 rfl rfl)
theorem dL_law_283 : decode cL_law 283 = .ok (.istore 7, 2) := dk_54 7 (dk_at dksL_law_8 8 rfl rfl)
theorem dL_law_285 : decode cL_law 285 = .ok (.aload_n 2, 1) := dk_44 (dk_at dksL_law_8 10 rfl rfl)
theorem dL_law_286 : decode cL_law 286 = .ok (.invokevirtual 92, 3) := dk_182 0 92 (dk_at dksL_law_8 11 rfl rfl)
theorem dL_law_289 : decode cL_law 289 = .ok (.iload 6, 2) := dk_21 6 (dk_at dksL_law_8 14 rfl rfl)
theorem dL_law_291 : decode cL_law 291 = .ok (.if_icmp .eq 5, 3) := dk_159 0 5 (dk_at dksL_law_8 16 rfl rfl)
theorem dL_law_294 : decode cL_law 294 = .ok (.iconst 0, 1) := dk_3 (dk_at dksL_law_8 19 rfl rfl)
theorem dL_law_295 : decode cL_law 295 = .ok (.ireturn, 1) := dk_172 (dk_at dksL_law_8 20 rfl rfl)
theorem dL_law_296 : decode cL_law 296 = .ok (.iload 6, 2) := dk_21 6 (dk_at dksL_law_8 21 rfl rfl)
theorem dL_law_298 : decode cL_law 298 = .ok (.ifCond .ne 15, 3) := dk_154 0 15 (dk_at dksL_law_9 0 rfl rfl)
theorem dL_law_301 : decode cL_law 301 = .ok (.aload_n 3, 1) := dk_45 (dk_at dksL_law_9 3 rfl rfl)
theorem dL_law_302 : decode cL_law 302 = .ok (.iconst 0, 1) := dk_3 (dk_at dksL_law_9 4 rfl rfl)
theorem dL_law_303 : decode cL_law 303 = .ok (.laload, 1) := dk_47 (dk_at dksL_law_9 5 rfl rfl)
theorem dL_law_304 : decode cL_law 304 = .ok (.iload 7, 2) := dk_21 7 (dk_at dksL_law_9 6 rfl rfl)
theorem dL_law_306 : decode cL_law 306 = .ok (.i2l, 1) := dk_133 (dk_at dksL_law_9 8 rfl rfl)
theorem dL_law_307 : decode cL_law 307 = .ok (.lcmp, 1) := dk_148 (dk_at dksL_law_9 9 rfl rfl)
theorem dL_law_308 : decode cL_law 308 = .ok (.ifCond .eq 5, 3) := dk_153 0 5 (dk_at dksL_law_9 10 rfl rfl)
theorem dL_law_311 : decode cL_law 311 = .ok (.iconst 0, 1) := dk_3 (dk_at dksL_law_9 13 rfl rfl)
theorem dL_law_312 : decode cL_law 312 = .ok (.ireturn, 1) := dk_172 (dk_at dksL_law_9 14 rfl rfl)
theorem dL_law_313 : decode cL_law 313 = .ok (.goto 1192, 3) := dk_167 4 168 (dk_at dksL_law_9 15 rfl rfl)
theorem dL_law_316 : decode cL_law 316 = .ok (.aload_n 1, 1) := dk_43 (dk_at dksL_law_9 18 rfl rfl)
theorem dL_law_317 : decode cL_law 317 = .ok (.invokevirtual 99, 3) := dk_182 0 99 (dk_at dksL_law_9 19 rfl rfl)
theorem dL_law_320 : decode cL_law 320 = .ok (.aload_n 2, 1) := dk_44 (dk_at dksL_law_9 22 rfl rfl)
theorem dL_law_321 : decode cL_law 321 = .ok (.invokevirtual 102, 3) := dk_182 0 102 (dk_at dksL_law_10 0 rfl rfl)
theorem dL_law_324 : decode cL_law 324 = .ok (.if_icmp .eq 1181, 3) := dk_159 4 157 (dk_at dksL_law_10 3 rfl rfl)
theorem dL_law_327 : decode cL_law 327 = .ok (.iconst 0, 1) := dk_3 (dk_at dksL_law_10 6 rfl rfl)
theorem dL_law_328 : decode cL_law 328 = .ok (.ireturn, 1) := dk_172 (dk_at dksL_law_10 7 rfl rfl)
theorem dL_law_329 : decode cL_law 329 = .ok (.aload_n 1, 1) := dk_43 (dk_at dksL_law_10 8 rfl rfl)
theorem dL_law_330 : decode cL_law 330 = .ok (.invokevirtual 103, 3) := dk_182 0 103 (dk_at dksL_law_10 9 rfl rfl)
theorem dL_law_333 : decode cL_law 333 = .ok (.aload_n 2, 1) := dk_44 (dk_at dksL_law_10 12 rfl rfl)
theorem dL_law_334 : decode cL_law 334 = .ok (.invokevirtual 106, 3) := dk_182 0 106 (dk_at dksL_law_10 13 rfl rfl)
theorem dL_law_337 : decode cL_law 337 = .ok (.if_icmp .eq 1168, 3) := dk_159 4 144 (dk_at dksL_law_10 16 rfl rfl)
theorem dL_law_340 : decode cL_law 340 = .ok (.iconst 0, 1) := dk_3 (dk_at dksL_law_10 19 rfl rfl)
theorem dL_law_341 : decode cL_law 341 = .ok (.ireturn, 1) := dk_172 (dk_at dksL_law_10 20 rfl rfl)
theorem dL_law_342 : decode cL_law 342 = .ok (.aload_n 1, 1) := dk_43 (dk_at dksL_law_10 21 rfl rfl)
theorem dL_law_343 : decode cL_law 343 = .ok (.aload_n 0, 1) := dk_42 (dk_at dksL_law_10 22 rfl rfl)
theorem dL_law_344 : decode cL_law 344 = .ok (.iload 5, 2) := dk_21 5 (dk_at dksL_law_11 0 rfl rfl)
theorem dL_law_346 : decode cL_law 346 = .ok (.iconst 1, 1) := dk_4 (dk_at dksL_law_11 2 rfl rfl)
theorem dL_law_347 : decode cL_law 347 = .ok (.iadd, 1) := dk_96 (dk_at dksL_law_11 3 rfl rfl)
theorem dL_law_348 : decode cL_law 348 = .ok (.iaload, 1) := dk_46 (dk_at dksL_law_11 4 rfl rfl)
theorem dL_law_349 : decode cL_law 349 = .ok (.aload_n 3, 1) := dk_45 (dk_at dksL_law_11 5 rfl rfl)
theorem dL_law_350 : decode cL_law 350 = .ok (.invokestatic 107, 3) := dk_184 0 107 (dk_at dksL_law_11 6 rfl rfl)
theorem dL_law_353 : decode cL_law 353 = .ok (.istore 6, 2) := dk_54 6 (dk_at dksL_law_11 9 rfl rfl)
theorem dL_law_355 : decode cL_law 355 = .ok (.aload_n 2, 1) := dk_44 (dk_at dksL_law_11 11 rfl rfl)
theorem dL_law_356 : decode cL_law 356 = .ok (.aload_n 0, 1) := dk_42 (dk_at dksL_law_11 12 rfl rfl)
theorem dL_law_357 : decode cL_law 357 = .ok (.iload 5, 2) := dk_21 5 (dk_at dksL_law_11 13 rfl rfl)
theorem dL_law_359 : decode cL_law 359 = .ok (.iconst 1, 1) := dk_4 (dk_at dksL_law_11 15 rfl rfl)
theorem dL_law_360 : decode cL_law 360 = .ok (.iadd, 1) := dk_96 (dk_at dksL_law_11 16 rfl rfl)
theorem dL_law_361 : decode cL_law 361 = .ok (.iaload, 1) := dk_46 (dk_at dksL_law_11 17 rfl rfl)
theorem dL_law_362 : decode cL_law 362 = .ok (.invokevirtual 109, 3) := dk_182 0 109 (dk_at dksL_law_11 18 rfl rfl)
theorem dL_law_365 : decode cL_law 365 = .ok (.istore 7, 2) := dk_54 7 (dk_at dksL_law_11 21 rfl rfl)
theorem dL_law_367 : decode cL_law 367 = .ok (.aload_n 2, 1) := dk_44 (dk_at dksL_law_11 23 rfl rfl)
theorem dL_law_368 : decode cL_law 368 = .ok (.invokevirtual 92, 3) := dk_182 0 92 (dk_at dksL_law_12 0 rfl rfl)
theorem dL_law_371 : decode cL_law 371 = .ok (.iload 6, 2) := dk_21 6 (dk_at dksL_law_12 3 rfl rfl)
theorem dL_law_373 : decode cL_law 373 = .ok (.if_icmp .eq 5, 3) := dk_159 0 5 (dk_at dksL_law_12 5 rfl rfl)
theorem dL_law_376 : decode cL_law 376 = .ok (.iconst 0, 1) := dk_3 (dk_at dksL_law_12 8 rfl rfl)
theorem dL_law_377 : decode cL_law 377 = .ok (.ireturn, 1) := dk_172 (dk_at dksL_law_12 9 rfl rfl)
theorem dL_law_378 : decode cL_law 378 = .ok (.iload 6, 2) := dk_21 6 (dk_at dksL_law_12 10 rfl rfl)
theorem dL_law_380 : decode cL_law 380 = .ok (.ifCond .ne 15, 3) := dk_154 0 15 (dk_at dksL_law_12 12 rfl rfl)
theorem dL_law_383 : decode cL_law 383 = .ok (.aload_n 3, 1) := dk_45 (dk_at dksL_law_12 15 rfl rfl)
theorem dL_law_384 : decode cL_law 384 = .ok (.iconst 0, 1) := dk_3 (dk_at dksL_law_12 16 rfl rfl)
theorem dL_law_385 : decode cL_law 385 = .ok (.laload, 1) := dk_47 (dk_at dksL_law_12 17 rfl rfl)
theorem dL_law_386 : decode cL_law 386 = .ok (.iload 7, 2) := dk_21 7 (dk_at dksL_law_12 18 rfl rfl)
theorem dL_law_388 : decode cL_law 388 = .ok (.i2l, 1) := dk_133 (dk_at dksL_law_12 20 rfl rfl)
theorem dL_law_389 : decode cL_law 389 = .ok (.lcmp, 1) := dk_148 (dk_at dksL_law_12 21 rfl rfl)
theorem dL_law_390 : decode cL_law 390 = .ok (.ifCond .eq 5, 3) := dk_153 0 5 (dk_at dksL_law_13 0 rfl rfl)
theorem dL_law_393 : decode cL_law 393 = .ok (.iconst 0, 1) := dk_3 (dk_at dksL_law_13 3 rfl rfl)
theorem dL_law_394 : decode cL_law 394 = .ok (.ireturn, 1) := dk_172 (dk_at dksL_law_13 4 rfl rfl)
theorem dL_law_395 : decode cL_law 395 = .ok (.goto 1110, 3) := dk_167 4 86 (dk_at dksL_law_13 5 rfl rfl)
theorem dL_law_398 : decode cL_law 398 = .ok (.aload_n 1, 1) := dk_43 (dk_at dksL_law_13 8 rfl rfl)
theorem dL_law_399 : decode cL_law 399 = .ok (.aload_n 0, 1) := dk_42 (dk_at dksL_law_13 9 rfl rfl)
theorem dL_law_400 : decode cL_law 400 = .ok (.iload 5, 2) := dk_21 5 (dk_at dksL_law_13 10 rfl rfl)
theorem dL_law_402 : decode cL_law 402 = .ok (.iconst 1, 1) := dk_4 (dk_at dksL_law_13 12 rfl rfl)
theorem dL_law_403 : decode cL_law 403 = .ok (.iadd, 1) := dk_96 (dk_at dksL_law_13 13 rfl rfl)
theorem dL_law_404 : decode cL_law 404 = .ok (.iaload, 1) := dk_46 (dk_at dksL_law_13 14 rfl rfl)
theorem dL_law_405 : decode cL_law 405 = .ok (.aload_n 0, 1) := dk_42 (dk_at dksL_law_13 15 rfl rfl)
theorem dL_law_406 : decode cL_law 406 = .ok (.iload 5, 2) := dk_21 5 (dk_at dksL_law_13 16 rfl rfl)
theorem dL_law_408 : decode cL_law 408 = .ok (.iconst 2, 1) := dk_5 (dk_at dksL_law_13 18 rfl rfl)
theorem dL_law_409 : decode cL_law 409 = .ok (.iadd, 1) := dk_96 (dk_at dksL_law_13 19 rfl rfl)
theorem dL_law_410 : decode cL_law 410 = .ok (.iaload, 1) := dk_46 (dk_at dksL_law_13 20 rfl rfl)
theorem dL_law_411 : decode cL_law 411 = .ok (.i2l, 1) := dk_133 (dk_at dksL_law_13 21 rfl rfl)
theorem dL_law_412 : decode cL_law 412 = .ok (.bipush 32, 2) := dk_16 32 (dk_at dksL_law_13 22 rfl rfl)
theorem dL_law_414 : decode cL_law 414 = .ok (.lshl, 1) := dk_121 (dk_at dksL_law_14 0 rfl rfl)
theorem dL_law_415 : decode cL_law 415 = .ok (.aload_n 0, 1) := dk_42 (dk_at dksL_law_14 1 rfl rfl)
theorem dL_law_416 : decode cL_law 416 = .ok (.iload 5, 2) := dk_21 5 (dk_at dksL_law_14 2 rfl rfl)
theorem dL_law_418 : decode cL_law 418 = .ok (.iconst 3, 1) := dk_6 (dk_at dksL_law_14 4 rfl rfl)
theorem dL_law_419 : decode cL_law 419 = .ok (.iadd, 1) := dk_96 (dk_at dksL_law_14 5 rfl rfl)
theorem dL_law_420 : decode cL_law 420 = .ok (.iaload, 1) := dk_46 (dk_at dksL_law_14 6 rfl rfl)
theorem dL_law_421 : decode cL_law 421 = .ok (.i2l, 1) := dk_133 (dk_at dksL_law_14 7 rfl rfl)
theorem dL_law_422 : decode cL_law 422 = .ok (.ldc2_w 110, 3) := dk_20 0 110 (dk_at dksL_law_14 8 rfl rfl)
theorem dL_law_425 : decode cL_law 425 = .ok (.land, 1) := dk_127 (dk_at dksL_law_14 11 rfl rfl)
theorem dL_law_426 : decode cL_law 426 = .ok (.lor, 1) := dk_129 (dk_at dksL_law_14 12 rfl rfl)
theorem dL_law_427 : decode cL_law 427 = .ok (.aload_n 3, 1) := dk_45 (dk_at dksL_law_14 13 rfl rfl)
theorem dL_law_428 : decode cL_law 428 = .ok (.invokestatic 112, 3) := dk_184 0 112 (dk_at dksL_law_14 14 rfl rfl)
theorem dL_law_431 : decode cL_law 431 = .ok (.istore 6, 2) := dk_54 6 (dk_at dksL_law_14 17 rfl rfl)
theorem dL_law_433 : decode cL_law 433 = .ok (.aload_n 2, 1) := dk_44 (dk_at dksL_law_14 19 rfl rfl)
theorem dL_law_434 : decode cL_law 434 = .ok (.aload_n 0, 1) := dk_42 (dk_at dksL_law_14 20 rfl rfl)
theorem dL_law_435 : decode cL_law 435 = .ok (.iload 5, 2) := dk_21 5 (dk_at dksL_law_14 21 rfl rfl)
theorem dL_law_437 : decode cL_law 437 = .ok (.iconst 1, 1) := dk_4 (dk_at dksL_law_14 23 rfl rfl)
theorem dL_law_438 : decode cL_law 438 = .ok (.iadd, 1) := dk_96 (dk_at dksL_law_15 0 rfl rfl)
theorem dL_law_439 : decode cL_law 439 = .ok (.iaload, 1) := dk_46 (dk_at dksL_law_15 1 rfl rfl)
theorem dL_law_440 : decode cL_law 440 = .ok (.aload_n 0, 1) := dk_42 (dk_at dksL_law_15 2 rfl rfl)
theorem dL_law_441 : decode cL_law 441 = .ok (.iload 5, 2) := dk_21 5 (dk_at dksL_law_15 3 rfl rfl)
theorem dL_law_443 : decode cL_law 443 = .ok (.iconst 2, 1) := dk_5 (dk_at dksL_law_15 5 rfl rfl)
theorem dL_law_444 : decode cL_law 444 = .ok (.iadd, 1) := dk_96 (dk_at dksL_law_15 6 rfl rfl)
theorem dL_law_445 : decode cL_law 445 = .ok (.iaload, 1) := dk_46 (dk_at dksL_law_15 7 rfl rfl)
theorem dL_law_446 : decode cL_law 446 = .ok (.i2l, 1) := dk_133 (dk_at dksL_law_15 8 rfl rfl)
theorem dL_law_447 : decode cL_law 447 = .ok (.bipush 32, 2) := dk_16 32 (dk_at dksL_law_15 9 rfl rfl)
theorem dL_law_449 : decode cL_law 449 = .ok (.lshl, 1) := dk_121 (dk_at dksL_law_15 11 rfl rfl)
theorem dL_law_450 : decode cL_law 450 = .ok (.aload_n 0, 1) := dk_42 (dk_at dksL_law_15 12 rfl rfl)
theorem dL_law_451 : decode cL_law 451 = .ok (.iload 5, 2) := dk_21 5 (dk_at dksL_law_15 13 rfl rfl)
theorem dL_law_453 : decode cL_law 453 = .ok (.iconst 3, 1) := dk_6 (dk_at dksL_law_15 15 rfl rfl)
theorem dL_law_454 : decode cL_law 454 = .ok (.iadd, 1) := dk_96 (dk_at dksL_law_15 16 rfl rfl)
theorem dL_law_455 : decode cL_law 455 = .ok (.iaload, 1) := dk_46 (dk_at dksL_law_15 17 rfl rfl)
theorem dL_law_456 : decode cL_law 456 = .ok (.i2l, 1) := dk_133 (dk_at dksL_law_15 18 rfl rfl)
theorem dL_law_457 : decode cL_law 457 = .ok (.ldc2_w 110, 3) := dk_20 0 110 (dk_at dksL_law_15 19 rfl rfl)
theorem dL_law_460 : decode cL_law 460 = .ok (.land, 1) := dk_127 (dk_at dksL_law_15 22 rfl rfl)
theorem dL_law_461 : decode cL_law 461 = .ok (.lor, 1) := dk_129 (dk_at dksL_law_15 23 rfl rfl)
theorem dL_law_462 : decode cL_law 462 = .ok (.invokevirtual 115, 3) := dk_182 0 115 (dk_at dksL_law_16 0 rfl rfl)
theorem dL_law_465 : decode cL_law 465 = .ok (.lstore 7, 2) := dk_55 7 (dk_at dksL_law_16 3 rfl rfl)
theorem dL_law_467 : decode cL_law 467 = .ok (.aload_n 2, 1) := dk_44 (dk_at dksL_law_16 5 rfl rfl)
theorem dL_law_468 : decode cL_law 468 = .ok (.invokevirtual 92, 3) := dk_182 0 92 (dk_at dksL_law_16 6 rfl rfl)
theorem dL_law_471 : decode cL_law 471 = .ok (.iload 6, 2) := dk_21 6 (dk_at dksL_law_16 9 rfl rfl)
theorem dL_law_473 : decode cL_law 473 = .ok (.if_icmp .eq 5, 3) := dk_159 0 5 (dk_at dksL_law_16 11 rfl rfl)
theorem dL_law_476 : decode cL_law 476 = .ok (.iconst 0, 1) := dk_3 (dk_at dksL_law_16 14 rfl rfl)
theorem dL_law_477 : decode cL_law 477 = .ok (.ireturn, 1) := dk_172 (dk_at dksL_law_16 15 rfl rfl)
theorem dL_law_478 : decode cL_law 478 = .ok (.iload 6, 2) := dk_21 6 (dk_at dksL_law_16 16 rfl rfl)
theorem dL_law_480 : decode cL_law 480 = .ok (.ifCond .ne 14, 3) := dk_154 0 14 (dk_at dksL_law_16 18 rfl rfl)
theorem dL_law_483 : decode cL_law 483 = .ok (.aload_n 3, 1) := dk_45 (dk_at dksL_law_16 21 rfl rfl)
theorem dL_law_484 : decode cL_law 484 = .ok (.iconst 0, 1) := dk_3 (dk_at dksL_law_16 22 rfl rfl)
theorem dL_law_485 : decode cL_law 485 = .ok (.laload, 1) := dk_47 (dk_at dksL_law_16 23 rfl rfl)
theorem dL_law_486 : decode cL_law 486 = .ok (.lload 7, 2) := dk_22 7 (dk_at dksL_law_17 0 rfl rfl)
theorem dL_law_488 : decode cL_law 488 = .ok (.lcmp, 1) := dk_148 (dk_at dksL_law_17 2 rfl rfl)
theorem dL_law_489 : decode cL_law 489 = .ok (.ifCond .eq 5, 3) := dk_153 0 5 (dk_at dksL_law_17 3 rfl rfl)
theorem dL_law_492 : decode cL_law 492 = .ok (.iconst 0, 1) := dk_3 (dk_at dksL_law_17 6 rfl rfl)
theorem dL_law_493 : decode cL_law 493 = .ok (.ireturn, 1) := dk_172 (dk_at dksL_law_17 7 rfl rfl)
theorem dL_law_494 : decode cL_law 494 = .ok (.goto 1011, 3) := dk_167 3 243 (dk_at dksL_law_17 8 rfl rfl)
theorem dL_law_497 : decode cL_law 497 = .ok (.aload_n 1, 1) := dk_43 (dk_at dksL_law_17 11 rfl rfl)
theorem dL_law_498 : decode cL_law 498 = .ok (.aload_n 0, 1) := dk_42 (dk_at dksL_law_17 12 rfl rfl)
theorem dL_law_499 : decode cL_law 499 = .ok (.iload 5, 2) := dk_21 5 (dk_at dksL_law_17 13 rfl rfl)
theorem dL_law_501 : decode cL_law 501 = .ok (.iconst 1, 1) := dk_4 (dk_at dksL_law_17 15 rfl rfl)
theorem dL_law_502 : decode cL_law 502 = .ok (.iadd, 1) := dk_96 (dk_at dksL_law_17 16 rfl rfl)
theorem dL_law_503 : decode cL_law 503 = .ok (.iaload, 1) := dk_46 (dk_at dksL_law_17 17 rfl rfl)
theorem dL_law_504 : decode cL_law 504 = .ok (.aload_n 3, 1) := dk_45 (dk_at dksL_law_17 18 rfl rfl)
theorem dL_law_505 : decode cL_law 505 = .ok (.invokestatic 116, 3) := dk_184 0 116 (dk_at dksL_law_17 19 rfl rfl)
theorem dL_law_508 : decode cL_law 508 = .ok (.istore 6, 2) := dk_54 6 (dk_at dksL_law_17 22 rfl rfl)
theorem dL_law_510 : decode cL_law 510 = .ok (.aload_n 2, 1) := dk_44 (dk_at dksL_law_18 0 rfl rfl)
theorem dL_law_511 : decode cL_law 511 = .ok (.aload_n 0, 1) := dk_42 (dk_at dksL_law_18 1 rfl rfl)
theorem dL_law_512 : decode cL_law 512 = .ok (.iload 5, 2) := dk_21 5 (dk_at dksL_law_18 2 rfl rfl)
theorem dL_law_514 : decode cL_law 514 = .ok (.iconst 1, 1) := dk_4 (dk_at dksL_law_18 4 rfl rfl)
theorem dL_law_515 : decode cL_law 515 = .ok (.iadd, 1) := dk_96 (dk_at dksL_law_18 5 rfl rfl)
theorem dL_law_516 : decode cL_law 516 = .ok (.iaload, 1) := dk_46 (dk_at dksL_law_18 6 rfl rfl)
theorem dL_law_517 : decode cL_law 517 = .ok (.invokevirtual 118, 3) := dk_182 0 118 (dk_at dksL_law_18 7 rfl rfl)
theorem dL_law_520 : decode cL_law 520 = .ok (.istore 7, 2) := dk_54 7 (dk_at dksL_law_18 10 rfl rfl)
theorem dL_law_522 : decode cL_law 522 = .ok (.aload_n 2, 1) := dk_44 (dk_at dksL_law_18 12 rfl rfl)
theorem dL_law_523 : decode cL_law 523 = .ok (.invokevirtual 92, 3) := dk_182 0 92 (dk_at dksL_law_18 13 rfl rfl)
theorem dL_law_526 : decode cL_law 526 = .ok (.iload 6, 2) := dk_21 6 (dk_at dksL_law_18 16 rfl rfl)
theorem dL_law_528 : decode cL_law 528 = .ok (.if_icmp .eq 5, 3) := dk_159 0 5 (dk_at dksL_law_18 18 rfl rfl)
theorem dL_law_531 : decode cL_law 531 = .ok (.iconst 0, 1) := dk_3 (dk_at dksL_law_18 21 rfl rfl)
theorem dL_law_532 : decode cL_law 532 = .ok (.ireturn, 1) := dk_172 (dk_at dksL_law_18 22 rfl rfl)
theorem dL_law_533 : decode cL_law 533 = .ok (.iload 6, 2) := dk_21 6 (dk_at dksL_law_19 0 rfl rfl)
theorem dL_law_535 : decode cL_law 535 = .ok (.ifCond .ne 15, 3) := dk_154 0 15 (dk_at dksL_law_19 2 rfl rfl)
theorem dL_law_538 : decode cL_law 538 = .ok (.aload_n 3, 1) := dk_45 (dk_at dksL_law_19 5 rfl rfl)
theorem dL_law_539 : decode cL_law 539 = .ok (.iconst 0, 1) := dk_3 (dk_at dksL_law_19 6 rfl rfl)
theorem dL_law_540 : decode cL_law 540 = .ok (.laload, 1) := dk_47 (dk_at dksL_law_19 7 rfl rfl)
theorem dL_law_541 : decode cL_law 541 = .ok (.iload 7, 2) := dk_21 7 (dk_at dksL_law_19 8 rfl rfl)
theorem dL_law_543 : decode cL_law 543 = .ok (.i2l, 1) := dk_133 (dk_at dksL_law_19 10 rfl rfl)
theorem dL_law_544 : decode cL_law 544 = .ok (.lcmp, 1) := dk_148 (dk_at dksL_law_19 11 rfl rfl)
theorem dL_law_545 : decode cL_law 545 = .ok (.ifCond .eq 5, 3) := dk_153 0 5 (dk_at dksL_law_19 12 rfl rfl)
theorem dL_law_548 : decode cL_law 548 = .ok (.iconst 0, 1) := dk_3 (dk_at dksL_law_19 15 rfl rfl)
theorem dL_law_549 : decode cL_law 549 = .ok (.ireturn, 1) := dk_172 (dk_at dksL_law_19 16 rfl rfl)
theorem dL_law_550 : decode cL_law 550 = .ok (.goto 955, 3) := dk_167 3 187 (dk_at dksL_law_19 17 rfl rfl)
theorem dL_law_553 : decode cL_law 553 = .ok (.aload_n 1, 1) := dk_43 (dk_at dksL_law_19 20 rfl rfl)
theorem dL_law_554 : decode cL_law 554 = .ok (.aload_n 0, 1) := dk_42 (dk_at dksL_law_19 21 rfl rfl)
theorem dL_law_555 : decode cL_law 555 = .ok (.iload 5, 2) := dk_21 5 (dk_at dksL_law_19 22 rfl rfl)
theorem dL_law_557 : decode cL_law 557 = .ok (.iconst 1, 1) := dk_4 (dk_at dksL_law_20 0 rfl rfl)
theorem dL_law_558 : decode cL_law 558 = .ok (.iadd, 1) := dk_96 (dk_at dksL_law_20 1 rfl rfl)
theorem dL_law_559 : decode cL_law 559 = .ok (.iaload, 1) := dk_46 (dk_at dksL_law_20 2 rfl rfl)
theorem dL_law_560 : decode cL_law 560 = .ok (.aload_n 3, 1) := dk_45 (dk_at dksL_law_20 3 rfl rfl)
theorem dL_law_561 : decode cL_law 561 = .ok (.invokestatic 119, 3) := dk_184 0 119 (dk_at dksL_law_20 4 rfl rfl)
theorem dL_law_564 : decode cL_law 564 = .ok (.istore 6, 2) := dk_54 6 (dk_at dksL_law_20 7 rfl rfl)
theorem dL_law_566 : decode cL_law 566 = .ok (.aload_n 2, 1) := dk_44 (dk_at dksL_law_20 9 rfl rfl)
theorem dL_law_567 : decode cL_law 567 = .ok (.aload_n 0, 1) := dk_42 (dk_at dksL_law_20 10 rfl rfl)
theorem dL_law_568 : decode cL_law 568 = .ok (.iload 5, 2) := dk_21 5 (dk_at dksL_law_20 11 rfl rfl)
theorem dL_law_570 : decode cL_law 570 = .ok (.iconst 1, 1) := dk_4 (dk_at dksL_law_20 13 rfl rfl)
theorem dL_law_571 : decode cL_law 571 = .ok (.iadd, 1) := dk_96 (dk_at dksL_law_20 14 rfl rfl)
theorem dL_law_572 : decode cL_law 572 = .ok (.iaload, 1) := dk_46 (dk_at dksL_law_20 15 rfl rfl)
theorem dL_law_573 : decode cL_law 573 = .ok (.invokevirtual 121, 3) := dk_182 0 121 (dk_at dksL_law_20 16 rfl rfl)
theorem dL_law_576 : decode cL_law 576 = .ok (.istore 7, 2) := dk_54 7 (dk_at dksL_law_20 19 rfl rfl)
theorem dL_law_578 : decode cL_law 578 = .ok (.aload_n 2, 1) := dk_44 (dk_at dksL_law_20 21 rfl rfl)
theorem dL_law_579 : decode cL_law 579 = .ok (.invokevirtual 92, 3) := dk_182 0 92 (dk_at dksL_law_21 0 rfl rfl)
theorem dL_law_582 : decode cL_law 582 = .ok (.iload 6, 2) := dk_21 6 (dk_at dksL_law_21 3 rfl rfl)
theorem dL_law_584 : decode cL_law 584 = .ok (.if_icmp .eq 5, 3) := dk_159 0 5 (dk_at dksL_law_21 5 rfl rfl)
theorem dL_law_587 : decode cL_law 587 = .ok (.iconst 0, 1) := dk_3 (dk_at dksL_law_21 8 rfl rfl)
theorem dL_law_588 : decode cL_law 588 = .ok (.ireturn, 1) := dk_172 (dk_at dksL_law_21 9 rfl rfl)
theorem dL_law_589 : decode cL_law 589 = .ok (.iload 6, 2) := dk_21 6 (dk_at dksL_law_21 10 rfl rfl)
theorem dL_law_591 : decode cL_law 591 = .ok (.ifCond .ne 15, 3) := dk_154 0 15 (dk_at dksL_law_21 12 rfl rfl)
theorem dL_law_594 : decode cL_law 594 = .ok (.aload_n 3, 1) := dk_45 (dk_at dksL_law_21 15 rfl rfl)
theorem dL_law_595 : decode cL_law 595 = .ok (.iconst 0, 1) := dk_3 (dk_at dksL_law_21 16 rfl rfl)
theorem dL_law_596 : decode cL_law 596 = .ok (.laload, 1) := dk_47 (dk_at dksL_law_21 17 rfl rfl)
theorem dL_law_597 : decode cL_law 597 = .ok (.iload 7, 2) := dk_21 7 (dk_at dksL_law_21 18 rfl rfl)
theorem dL_law_599 : decode cL_law 599 = .ok (.i2l, 1) := dk_133 (dk_at dksL_law_21 20 rfl rfl)
theorem dL_law_600 : decode cL_law 600 = .ok (.lcmp, 1) := dk_148 (dk_at dksL_law_21 21 rfl rfl)
theorem dL_law_601 : decode cL_law 601 = .ok (.ifCond .eq 5, 3) := dk_153 0 5 (dk_at dksL_law_22 0 rfl rfl)
theorem dL_law_604 : decode cL_law 604 = .ok (.iconst 0, 1) := dk_3 (dk_at dksL_law_22 3 rfl rfl)
theorem dL_law_605 : decode cL_law 605 = .ok (.ireturn, 1) := dk_172 (dk_at dksL_law_22 4 rfl rfl)
theorem dL_law_606 : decode cL_law 606 = .ok (.goto 899, 3) := dk_167 3 131 (dk_at dksL_law_22 5 rfl rfl)
theorem dL_law_609 : decode cL_law 609 = .ok (.aload_n 1, 1) := dk_43 (dk_at dksL_law_22 8 rfl rfl)
theorem dL_law_610 : decode cL_law 610 = .ok (.aload_n 3, 1) := dk_45 (dk_at dksL_law_22 9 rfl rfl)
theorem dL_law_611 : decode cL_law 611 = .ok (.invokestatic 122, 3) := dk_184 0 122 (dk_at dksL_law_22 10 rfl rfl)
theorem dL_law_614 : decode cL_law 614 = .ok (.istore 6, 2) := dk_54 6 (dk_at dksL_law_22 13 rfl rfl)
theorem dL_law_616 : decode cL_law 616 = .ok (.aload_n 2, 1) := dk_44 (dk_at dksL_law_22 15 rfl rfl)
theorem dL_law_617 : decode cL_law 617 = .ok (.invokevirtual 125, 3) := dk_182 0 125 (dk_at dksL_law_22 16 rfl rfl)
theorem dL_law_620 : decode cL_law 620 = .ok (.istore 7, 2) := dk_54 7 (dk_at dksL_law_22 19 rfl rfl)
theorem dL_law_622 : decode cL_law 622 = .ok (.aload_n 2, 1) := dk_44 (dk_at dksL_law_22 21 rfl rfl)
theorem dL_law_623 : decode cL_law 623 = .ok (.invokevirtual 92, 3) := dk_182 0 92 (dk_at dksL_law_23 0 rfl rfl)
theorem dL_law_626 : decode cL_law 626 = .ok (.iload 6, 2) := dk_21 6 (dk_at dksL_law_23 3 rfl rfl)
theorem dL_law_628 : decode cL_law 628 = .ok (.if_icmp .eq 5, 3) := dk_159 0 5 (dk_at dksL_law_23 5 rfl rfl)
theorem dL_law_631 : decode cL_law 631 = .ok (.iconst 0, 1) := dk_3 (dk_at dksL_law_23 8 rfl rfl)
theorem dL_law_632 : decode cL_law 632 = .ok (.ireturn, 1) := dk_172 (dk_at dksL_law_23 9 rfl rfl)
theorem dL_law_633 : decode cL_law 633 = .ok (.iload 6, 2) := dk_21 6 (dk_at dksL_law_23 10 rfl rfl)
theorem dL_law_635 : decode cL_law 635 = .ok (.ifCond .ne 15, 3) := dk_154 0 15 (dk_at dksL_law_23 12 rfl rfl)
theorem dL_law_638 : decode cL_law 638 = .ok (.aload_n 3, 1) := dk_45 (dk_at dksL_law_23 15 rfl rfl)
theorem dL_law_639 : decode cL_law 639 = .ok (.iconst 0, 1) := dk_3 (dk_at dksL_law_23 16 rfl rfl)
theorem dL_law_640 : decode cL_law 640 = .ok (.laload, 1) := dk_47 (dk_at dksL_law_23 17 rfl rfl)
theorem dL_law_641 : decode cL_law 641 = .ok (.iload 7, 2) := dk_21 7 (dk_at dksL_law_23 18 rfl rfl)
theorem dL_law_643 : decode cL_law 643 = .ok (.i2l, 1) := dk_133 (dk_at dksL_law_23 20 rfl rfl)
theorem dL_law_644 : decode cL_law 644 = .ok (.lcmp, 1) := dk_148 (dk_at dksL_law_23 21 rfl rfl)
theorem dL_law_645 : decode cL_law 645 = .ok (.ifCond .eq 5, 3) := dk_153 0 5 (dk_at dksL_law_24 0 rfl rfl)
theorem dL_law_648 : decode cL_law 648 = .ok (.iconst 0, 1) := dk_3 (dk_at dksL_law_24 3 rfl rfl)
theorem dL_law_649 : decode cL_law 649 = .ok (.ireturn, 1) := dk_172 (dk_at dksL_law_24 4 rfl rfl)
theorem dL_law_650 : decode cL_law 650 = .ok (.goto 855, 3) := dk_167 3 87 (dk_at dksL_law_24 5 rfl rfl)
theorem dL_law_653 : decode cL_law 653 = .ok (.aload_n 1, 1) := dk_43 (dk_at dksL_law_24 8 rfl rfl)
theorem dL_law_654 : decode cL_law 654 = .ok (.invokevirtual 126, 3) := dk_182 0 126 (dk_at dksL_law_24 9 rfl rfl)
theorem dL_law_657 : decode cL_law 657 = .ok (.aload_n 2, 1) := dk_44 (dk_at dksL_law_24 12 rfl rfl)
theorem dL_law_658 : decode cL_law 658 = .ok (.invokevirtual 129, 3) := dk_182 0 129 (dk_at dksL_law_24 13 rfl rfl)
theorem dL_law_661 : decode cL_law 661 = .ok (.if_icmp .eq 844, 3) := dk_159 3 76 (dk_at dksL_law_24 16 rfl rfl)
theorem dL_law_664 : decode cL_law 664 = .ok (.iconst 0, 1) := dk_3 (dk_at dksL_law_24 19 rfl rfl)
theorem dL_law_665 : decode cL_law 665 = .ok (.ireturn, 1) := dk_172 (dk_at dksL_law_24 20 rfl rfl)
theorem dL_law_666 : decode cL_law 666 = .ok (.aload_n 1, 1) := dk_43 (dk_at dksL_law_24 21 rfl rfl)
theorem dL_law_667 : decode cL_law 667 = .ok (.aload_n 3, 1) := dk_45 (dk_at dksL_law_24 22 rfl rfl)
theorem dL_law_668 : decode cL_law 668 = .ok (.invokestatic 130, 3) := dk_184 0 130 (dk_at dksL_law_25 0 rfl rfl)
theorem dL_law_671 : decode cL_law 671 = .ok (.istore 6, 2) := dk_54 6 (dk_at dksL_law_25 3 rfl rfl)
theorem dL_law_673 : decode cL_law 673 = .ok (.aload_n 2, 1) := dk_44 (dk_at dksL_law_25 5 rfl rfl)
theorem dL_law_674 : decode cL_law 674 = .ok (.invokevirtual 132, 3) := dk_182 0 132 (dk_at dksL_law_25 6 rfl rfl)
theorem dL_law_677 : decode cL_law 677 = .ok (.istore 7, 2) := dk_54 7 (dk_at dksL_law_25 9 rfl rfl)
theorem dL_law_679 : decode cL_law 679 = .ok (.aload_n 2, 1) := dk_44 (dk_at dksL_law_25 11 rfl rfl)
theorem dL_law_680 : decode cL_law 680 = .ok (.invokevirtual 92, 3) := dk_182 0 92 (dk_at dksL_law_25 12 rfl rfl)
theorem dL_law_683 : decode cL_law 683 = .ok (.iload 6, 2) := dk_21 6 (dk_at dksL_law_25 15 rfl rfl)
theorem dL_law_685 : decode cL_law 685 = .ok (.if_icmp .eq 5, 3) := dk_159 0 5 (dk_at dksL_law_25 17 rfl rfl)
theorem dL_law_688 : decode cL_law 688 = .ok (.iconst 0, 1) := dk_3 (dk_at dksL_law_25 20 rfl rfl)
theorem dL_law_689 : decode cL_law 689 = .ok (.ireturn, 1) := dk_172 (dk_at dksL_law_25 21 rfl rfl)
theorem dL_law_690 : decode cL_law 690 = .ok (.iload 6, 2) := dk_21 6 (dk_at dksL_law_25 22 rfl rfl)
theorem dL_law_692 : decode cL_law 692 = .ok (.ifCond .ne 15, 3) := dk_154 0 15 (dk_at dksL_law_26 0 rfl rfl)
theorem dL_law_695 : decode cL_law 695 = .ok (.aload_n 3, 1) := dk_45 (dk_at dksL_law_26 3 rfl rfl)
theorem dL_law_696 : decode cL_law 696 = .ok (.iconst 0, 1) := dk_3 (dk_at dksL_law_26 4 rfl rfl)
theorem dL_law_697 : decode cL_law 697 = .ok (.laload, 1) := dk_47 (dk_at dksL_law_26 5 rfl rfl)
theorem dL_law_698 : decode cL_law 698 = .ok (.iload 7, 2) := dk_21 7 (dk_at dksL_law_26 6 rfl rfl)
theorem dL_law_700 : decode cL_law 700 = .ok (.i2l, 1) := dk_133 (dk_at dksL_law_26 8 rfl rfl)
theorem dL_law_701 : decode cL_law 701 = .ok (.lcmp, 1) := dk_148 (dk_at dksL_law_26 9 rfl rfl)
theorem dL_law_702 : decode cL_law 702 = .ok (.ifCond .eq 5, 3) := dk_153 0 5 (dk_at dksL_law_26 10 rfl rfl)
theorem dL_law_705 : decode cL_law 705 = .ok (.iconst 0, 1) := dk_3 (dk_at dksL_law_26 13 rfl rfl)
theorem dL_law_706 : decode cL_law 706 = .ok (.ireturn, 1) := dk_172 (dk_at dksL_law_26 14 rfl rfl)
theorem dL_law_707 : decode cL_law 707 = .ok (.goto 798, 3) := dk_167 3 30 (dk_at dksL_law_26 15 rfl rfl)
theorem dL_law_710 : decode cL_law 710 = .ok (.aload_n 1, 1) := dk_43 (dk_at dksL_law_26 18 rfl rfl)
theorem dL_law_711 : decode cL_law 711 = .ok (.aload_n 0, 1) := dk_42 (dk_at dksL_law_26 19 rfl rfl)
theorem dL_law_712 : decode cL_law 712 = .ok (.iload 5, 2) := dk_21 5 (dk_at dksL_law_26 20 rfl rfl)
theorem dL_law_714 : decode cL_law 714 = .ok (.iconst 1, 1) := dk_4 (dk_at dksL_law_26 22 rfl rfl)
theorem dL_law_715 : decode cL_law 715 = .ok (.iadd, 1) := dk_96 (dk_at dksL_law_26 23 rfl rfl)
theorem dL_law_716 : decode cL_law 716 = .ok (.iaload, 1) := dk_46 (dk_at dksL_law_27 0 rfl rfl)
theorem dL_law_717 : decode cL_law 717 = .ok (.aload_n 3, 1) := dk_45 (dk_at dksL_law_27 1 rfl rfl)
theorem dL_law_718 : decode cL_law 718 = .ok (.invokestatic 133, 3) := dk_184 0 133 (dk_at dksL_law_27 2 rfl rfl)
theorem dL_law_721 : decode cL_law 721 = .ok (.istore 6, 2) := dk_54 6 (dk_at dksL_law_27 5 rfl rfl)
theorem dL_law_723 : decode cL_law 723 = .ok (.aload_n 2, 1) := dk_44 (dk_at dksL_law_27 7 rfl rfl)
theorem dL_law_724 : decode cL_law 724 = .ok (.aload_n 0, 1) := dk_42 (dk_at dksL_law_27 8 rfl rfl)
theorem dL_law_725 : decode cL_law 725 = .ok (.iload 5, 2) := dk_21 5 (dk_at dksL_law_27 9 rfl rfl)
theorem dL_law_727 : decode cL_law 727 = .ok (.iconst 1, 1) := dk_4 (dk_at dksL_law_27 11 rfl rfl)
theorem dL_law_728 : decode cL_law 728 = .ok (.iadd, 1) := dk_96 (dk_at dksL_law_27 12 rfl rfl)
theorem dL_law_729 : decode cL_law 729 = .ok (.iaload, 1) := dk_46 (dk_at dksL_law_27 13 rfl rfl)
theorem dL_law_730 : decode cL_law 730 = .ok (.invokevirtual 135, 3) := dk_182 0 135 (dk_at dksL_law_27 14 rfl rfl)
theorem dL_law_733 : decode cL_law 733 = .ok (.istore 7, 2) := dk_54 7 (dk_at dksL_law_27 17 rfl rfl)
theorem dL_law_735 : decode cL_law 735 = .ok (.aload_n 2, 1) := dk_44 (dk_at dksL_law_27 19 rfl rfl)
theorem dL_law_736 : decode cL_law 736 = .ok (.invokevirtual 92, 3) := dk_182 0 92 (dk_at dksL_law_27 20 rfl rfl)
theorem dL_law_739 : decode cL_law 739 = .ok (.iload 6, 2) := dk_21 6 (dk_at dksL_law_28 0 rfl rfl)
theorem dL_law_741 : decode cL_law 741 = .ok (.if_icmp .eq 5, 3) := dk_159 0 5 (dk_at dksL_law_28 2 rfl rfl)
theorem dL_law_744 : decode cL_law 744 = .ok (.iconst 0, 1) := dk_3 (dk_at dksL_law_28 5 rfl rfl)
theorem dL_law_745 : decode cL_law 745 = .ok (.ireturn, 1) := dk_172 (dk_at dksL_law_28 6 rfl rfl)
theorem dL_law_746 : decode cL_law 746 = .ok (.iload 6, 2) := dk_21 6 (dk_at dksL_law_28 7 rfl rfl)
theorem dL_law_748 : decode cL_law 748 = .ok (.ifCond .ne 15, 3) := dk_154 0 15 (dk_at dksL_law_28 9 rfl rfl)
theorem dL_law_751 : decode cL_law 751 = .ok (.aload_n 3, 1) := dk_45 (dk_at dksL_law_28 12 rfl rfl)
theorem dL_law_752 : decode cL_law 752 = .ok (.iconst 0, 1) := dk_3 (dk_at dksL_law_28 13 rfl rfl)
theorem dL_law_753 : decode cL_law 753 = .ok (.laload, 1) := dk_47 (dk_at dksL_law_28 14 rfl rfl)
theorem dL_law_754 : decode cL_law 754 = .ok (.iload 7, 2) := dk_21 7 (dk_at dksL_law_28 15 rfl rfl)
theorem dL_law_756 : decode cL_law 756 = .ok (.i2l, 1) := dk_133 (dk_at dksL_law_28 17 rfl rfl)
theorem dL_law_757 : decode cL_law 757 = .ok (.lcmp, 1) := dk_148 (dk_at dksL_law_28 18 rfl rfl)
theorem dL_law_758 : decode cL_law 758 = .ok (.ifCond .eq 5, 3) := dk_153 0 5 (dk_at dksL_law_28 19 rfl rfl)
theorem dL_law_761 : decode cL_law 761 = .ok (.iconst 0, 1) := dk_3 (dk_at dksL_law_28 22 rfl rfl)
theorem dL_law_762 : decode cL_law 762 = .ok (.ireturn, 1) := dk_172 (dk_at dksL_law_28 23 rfl rfl)
theorem dL_law_763 : decode cL_law 763 = .ok (.goto 742, 3) := dk_167 2 230 (dk_at dksL_law_29 0 rfl rfl)
theorem dL_law_766 : decode cL_law 766 = .ok (.aload_n 1, 1) := dk_43 (dk_at dksL_law_29 3 rfl rfl)
theorem dL_law_767 : decode cL_law 767 = .ok (.aload_n 0, 1) := dk_42 (dk_at dksL_law_29 4 rfl rfl)
theorem dL_law_768 : decode cL_law 768 = .ok (.iload 5, 2) := dk_21 5 (dk_at dksL_law_29 5 rfl rfl)
theorem dL_law_770 : decode cL_law 770 = .ok (.iconst 1, 1) := dk_4 (dk_at dksL_law_29 7 rfl rfl)
theorem dL_law_771 : decode cL_law 771 = .ok (.iadd, 1) := dk_96 (dk_at dksL_law_29 8 rfl rfl)
theorem dL_law_772 : decode cL_law 772 = .ok (.iaload, 1) := dk_46 (dk_at dksL_law_29 9 rfl rfl)
theorem dL_law_773 : decode cL_law 773 = .ok (.aload_n 0, 1) := dk_42 (dk_at dksL_law_29 10 rfl rfl)
theorem dL_law_774 : decode cL_law 774 = .ok (.iload 5, 2) := dk_21 5 (dk_at dksL_law_29 11 rfl rfl)
theorem dL_law_776 : decode cL_law 776 = .ok (.iconst 2, 1) := dk_5 (dk_at dksL_law_29 13 rfl rfl)
theorem dL_law_777 : decode cL_law 777 = .ok (.iadd, 1) := dk_96 (dk_at dksL_law_29 14 rfl rfl)
theorem dL_law_778 : decode cL_law 778 = .ok (.iaload, 1) := dk_46 (dk_at dksL_law_29 15 rfl rfl)
theorem dL_law_779 : decode cL_law 779 = .ok (.aload_n 3, 1) := dk_45 (dk_at dksL_law_29 16 rfl rfl)
theorem dL_law_780 : decode cL_law 780 = .ok (.invokestatic 136, 3) := dk_184 0 136 (dk_at dksL_law_29 17 rfl rfl)
theorem dL_law_783 : decode cL_law 783 = .ok (.istore 6, 2) := dk_54 6 (dk_at dksL_law_29 20 rfl rfl)
theorem dL_law_785 : decode cL_law 785 = .ok (.aload_n 2, 1) := dk_44 (dk_at dksL_law_29 22 rfl rfl)
theorem dL_law_786 : decode cL_law 786 = .ok (.aload_n 0, 1) := dk_42 (dk_at dksL_law_29 23 rfl rfl)
theorem dL_law_787 : decode cL_law 787 = .ok (.iload 5, 2) := dk_21 5 (dk_at dksL_law_30 0 rfl rfl)
theorem dL_law_789 : decode cL_law 789 = .ok (.iconst 1, 1) := dk_4 (dk_at dksL_law_30 2 rfl rfl)
theorem dL_law_790 : decode cL_law 790 = .ok (.iadd, 1) := dk_96 (dk_at dksL_law_30 3 rfl rfl)
theorem dL_law_791 : decode cL_law 791 = .ok (.iaload, 1) := dk_46 (dk_at dksL_law_30 4 rfl rfl)
theorem dL_law_792 : decode cL_law 792 = .ok (.aload_n 0, 1) := dk_42 (dk_at dksL_law_30 5 rfl rfl)
theorem dL_law_793 : decode cL_law 793 = .ok (.iload 5, 2) := dk_21 5 (dk_at dksL_law_30 6 rfl rfl)
theorem dL_law_795 : decode cL_law 795 = .ok (.iconst 2, 1) := dk_5 (dk_at dksL_law_30 8 rfl rfl)
theorem dL_law_796 : decode cL_law 796 = .ok (.iadd, 1) := dk_96 (dk_at dksL_law_30 9 rfl rfl)
theorem dL_law_797 : decode cL_law 797 = .ok (.iaload, 1) := dk_46 (dk_at dksL_law_30 10 rfl rfl)
theorem dL_law_798 : decode cL_law 798 = .ok (.invokevirtual 139, 3) := dk_182 0 139 (dk_at dksL_law_30 11 rfl rfl)
theorem dL_law_801 : decode cL_law 801 = .ok (.lstore 7, 2) := dk_55 7 (dk_at dksL_law_30 14 rfl rfl)
theorem dL_law_803 : decode cL_law 803 = .ok (.aload_n 2, 1) := dk_44 (dk_at dksL_law_30 16 rfl rfl)
theorem dL_law_804 : decode cL_law 804 = .ok (.invokevirtual 92, 3) := dk_182 0 92 (dk_at dksL_law_30 17 rfl rfl)
theorem dL_law_807 : decode cL_law 807 = .ok (.iload 6, 2) := dk_21 6 (dk_at dksL_law_30 20 rfl rfl)
theorem dL_law_809 : decode cL_law 809 = .ok (.if_icmp .eq 5, 3) := dk_159 0 5 (dk_at dksL_law_31 0 rfl rfl)
theorem dL_law_812 : decode cL_law 812 = .ok (.iconst 0, 1) := dk_3 (dk_at dksL_law_31 3 rfl rfl)
theorem dL_law_813 : decode cL_law 813 = .ok (.ireturn, 1) := dk_172 (dk_at dksL_law_31 4 rfl rfl)
theorem dL_law_814 : decode cL_law 814 = .ok (.iload 6, 2) := dk_21 6 (dk_at dksL_law_31 5 rfl rfl)
theorem dL_law_816 : decode cL_law 816 = .ok (.ifCond .ne 14, 3) := dk_154 0 14 (dk_at dksL_law_31 7 rfl rfl)
theorem dL_law_819 : decode cL_law 819 = .ok (.aload_n 3, 1) := dk_45 (dk_at dksL_law_31 10 rfl rfl)
theorem dL_law_820 : decode cL_law 820 = .ok (.iconst 0, 1) := dk_3 (dk_at dksL_law_31 11 rfl rfl)
theorem dL_law_821 : decode cL_law 821 = .ok (.laload, 1) := dk_47 (dk_at dksL_law_31 12 rfl rfl)
theorem dL_law_822 : decode cL_law 822 = .ok (.lload 7, 2) := dk_22 7 (dk_at dksL_law_31 13 rfl rfl)
theorem dL_law_824 : decode cL_law 824 = .ok (.lcmp, 1) := dk_148 (dk_at dksL_law_31 15 rfl rfl)
theorem dL_law_825 : decode cL_law 825 = .ok (.ifCond .eq 5, 3) := dk_153 0 5 (dk_at dksL_law_31 16 rfl rfl)
theorem dL_law_828 : decode cL_law 828 = .ok (.iconst 0, 1) := dk_3 (dk_at dksL_law_31 19 rfl rfl)
theorem dL_law_829 : decode cL_law 829 = .ok (.ireturn, 1) := dk_172 (dk_at dksL_law_31 20 rfl rfl)
theorem dL_law_830 : decode cL_law 830 = .ok (.goto 675, 3) := dk_167 2 163 (dk_at dksL_law_31 21 rfl rfl)
theorem dL_law_833 : decode cL_law 833 = .ok (.aload_n 1, 1) := dk_43 (dk_at dksL_law_32 0 rfl rfl)
theorem dL_law_834 : decode cL_law 834 = .ok (.aload_n 0, 1) := dk_42 (dk_at dksL_law_32 1 rfl rfl)
theorem dL_law_835 : decode cL_law 835 = .ok (.iload 5, 2) := dk_21 5 (dk_at dksL_law_32 2 rfl rfl)
theorem dL_law_837 : decode cL_law 837 = .ok (.iconst 1, 1) := dk_4 (dk_at dksL_law_32 4 rfl rfl)
theorem dL_law_838 : decode cL_law 838 = .ok (.iadd, 1) := dk_96 (dk_at dksL_law_32 5 rfl rfl)
theorem dL_law_839 : decode cL_law 839 = .ok (.iaload, 1) := dk_46 (dk_at dksL_law_32 6 rfl rfl)
theorem dL_law_840 : decode cL_law 840 = .ok (.aload_n 0, 1) := dk_42 (dk_at dksL_law_32 7 rfl rfl)
theorem dL_law_841 : decode cL_law 841 = .ok (.iload 5, 2) := dk_21 5 (dk_at dksL_law_32 8 rfl rfl)
theorem dL_law_843 : decode cL_law 843 = .ok (.iconst 2, 1) := dk_5 (dk_at dksL_law_32 10 rfl rfl)
theorem dL_law_844 : decode cL_law 844 = .ok (.iadd, 1) := dk_96 (dk_at dksL_law_32 11 rfl rfl)
theorem dL_law_845 : decode cL_law 845 = .ok (.iaload, 1) := dk_46 (dk_at dksL_law_32 12 rfl rfl)
theorem dL_law_846 : decode cL_law 846 = .ok (.aload_n 3, 1) := dk_45 (dk_at dksL_law_32 13 rfl rfl)
theorem dL_law_847 : decode cL_law 847 = .ok (.invokestatic 140, 3) := dk_184 0 140 (dk_at dksL_law_32 14 rfl rfl)
theorem dL_law_850 : decode cL_law 850 = .ok (.istore 6, 2) := dk_54 6 (dk_at dksL_law_32 17 rfl rfl)
theorem dL_law_852 : decode cL_law 852 = .ok (.aload_n 2, 1) := dk_44 (dk_at dksL_law_32 19 rfl rfl)
theorem dL_law_853 : decode cL_law 853 = .ok (.aload_n 0, 1) := dk_42 (dk_at dksL_law_32 20 rfl rfl)
theorem dL_law_854 : decode cL_law 854 = .ok (.iload 5, 2) := dk_21 5 (dk_at dksL_law_32 21 rfl rfl)
theorem dL_law_856 : decode cL_law 856 = .ok (.iconst 1, 1) := dk_4 (dk_at dksL_law_32 23 rfl rfl)
theorem dL_law_857 : decode cL_law 857 = .ok (.iadd, 1) := dk_96 (dk_at dksL_law_33 0 rfl rfl)
theorem dL_law_858 : decode cL_law 858 = .ok (.iaload, 1) := dk_46 (dk_at dksL_law_33 1 rfl rfl)
theorem dL_law_859 : decode cL_law 859 = .ok (.aload_n 0, 1) := dk_42 (dk_at dksL_law_33 2 rfl rfl)
theorem dL_law_860 : decode cL_law 860 = .ok (.iload 5, 2) := dk_21 5 (dk_at dksL_law_33 3 rfl rfl)
theorem dL_law_862 : decode cL_law 862 = .ok (.iconst 2, 1) := dk_5 (dk_at dksL_law_33 5 rfl rfl)
theorem dL_law_863 : decode cL_law 863 = .ok (.iadd, 1) := dk_96 (dk_at dksL_law_33 6 rfl rfl)
theorem dL_law_864 : decode cL_law 864 = .ok (.iaload, 1) := dk_46 (dk_at dksL_law_33 7 rfl rfl)
theorem dL_law_865 : decode cL_law 865 = .ok (.invokevirtual 142, 3) := dk_182 0 142 (dk_at dksL_law_33 8 rfl rfl)
theorem dL_law_868 : decode cL_law 868 = .ok (.lstore 7, 2) := dk_55 7 (dk_at dksL_law_33 11 rfl rfl)
theorem dL_law_870 : decode cL_law 870 = .ok (.aload_n 2, 1) := dk_44 (dk_at dksL_law_33 13 rfl rfl)
theorem dL_law_871 : decode cL_law 871 = .ok (.invokevirtual 92, 3) := dk_182 0 92 (dk_at dksL_law_33 14 rfl rfl)
theorem dL_law_874 : decode cL_law 874 = .ok (.iload 6, 2) := dk_21 6 (dk_at dksL_law_33 17 rfl rfl)
theorem dL_law_876 : decode cL_law 876 = .ok (.if_icmp .eq 5, 3) := dk_159 0 5 (dk_at dksL_law_33 19 rfl rfl)
theorem dL_law_879 : decode cL_law 879 = .ok (.iconst 0, 1) := dk_3 (dk_at dksL_law_33 22 rfl rfl)
theorem dL_law_880 : decode cL_law 880 = .ok (.ireturn, 1) := dk_172 (dk_at dksL_law_33 23 rfl rfl)
theorem dL_law_881 : decode cL_law 881 = .ok (.iload 6, 2) := dk_21 6 (dk_at dksL_law_34 0 rfl rfl)
theorem dL_law_883 : decode cL_law 883 = .ok (.ifCond .ne 14, 3) := dk_154 0 14 (dk_at dksL_law_34 2 rfl rfl)
theorem dL_law_886 : decode cL_law 886 = .ok (.aload_n 3, 1) := dk_45 (dk_at dksL_law_34 5 rfl rfl)
theorem dL_law_887 : decode cL_law 887 = .ok (.iconst 0, 1) := dk_3 (dk_at dksL_law_34 6 rfl rfl)
theorem dL_law_888 : decode cL_law 888 = .ok (.laload, 1) := dk_47 (dk_at dksL_law_34 7 rfl rfl)
theorem dL_law_889 : decode cL_law 889 = .ok (.lload 7, 2) := dk_22 7 (dk_at dksL_law_34 8 rfl rfl)
theorem dL_law_891 : decode cL_law 891 = .ok (.lcmp, 1) := dk_148 (dk_at dksL_law_34 10 rfl rfl)
theorem dL_law_892 : decode cL_law 892 = .ok (.ifCond .eq 5, 3) := dk_153 0 5 (dk_at dksL_law_34 11 rfl rfl)
theorem dL_law_895 : decode cL_law 895 = .ok (.iconst 0, 1) := dk_3 (dk_at dksL_law_34 14 rfl rfl)
theorem dL_law_896 : decode cL_law 896 = .ok (.ireturn, 1) := dk_172 (dk_at dksL_law_34 15 rfl rfl)
theorem dL_law_897 : decode cL_law 897 = .ok (.goto 608, 3) := dk_167 2 96 (dk_at dksL_law_34 16 rfl rfl)
theorem dL_law_900 : decode cL_law 900 = .ok (.aload_n 1, 1) := dk_43 (dk_at dksL_law_34 19 rfl rfl)
theorem dL_law_901 : decode cL_law 901 = .ok (.aload_n 0, 1) := dk_42 (dk_at dksL_law_34 20 rfl rfl)
theorem dL_law_902 : decode cL_law 902 = .ok (.iload 5, 2) := dk_21 5 (dk_at dksL_law_34 21 rfl rfl)
theorem dL_law_904 : decode cL_law 904 = .ok (.iconst 1, 1) := dk_4 (dk_at dksL_law_34 23 rfl rfl)
theorem dL_law_905 : decode cL_law 905 = .ok (.iadd, 1) := dk_96 (dk_at dksL_law_35 0 rfl rfl)
theorem dL_law_906 : decode cL_law 906 = .ok (.iaload, 1) := dk_46 (dk_at dksL_law_35 1 rfl rfl)
theorem dL_law_907 : decode cL_law 907 = .ok (.aload_n 0, 1) := dk_42 (dk_at dksL_law_35 2 rfl rfl)
theorem dL_law_908 : decode cL_law 908 = .ok (.iload 5, 2) := dk_21 5 (dk_at dksL_law_35 3 rfl rfl)
theorem dL_law_910 : decode cL_law 910 = .ok (.iconst 2, 1) := dk_5 (dk_at dksL_law_35 5 rfl rfl)
theorem dL_law_911 : decode cL_law 911 = .ok (.iadd, 1) := dk_96 (dk_at dksL_law_35 6 rfl rfl)
theorem dL_law_912 : decode cL_law 912 = .ok (.iaload, 1) := dk_46 (dk_at dksL_law_35 7 rfl rfl)
theorem dL_law_913 : decode cL_law 913 = .ok (.aload_n 3, 1) := dk_45 (dk_at dksL_law_35 8 rfl rfl)
theorem dL_law_914 : decode cL_law 914 = .ok (.invokestatic 143, 3) := dk_184 0 143 (dk_at dksL_law_35 9 rfl rfl)
theorem dL_law_917 : decode cL_law 917 = .ok (.istore 6, 2) := dk_54 6 (dk_at dksL_law_35 12 rfl rfl)
theorem dL_law_919 : decode cL_law 919 = .ok (.aload_n 2, 1) := dk_44 (dk_at dksL_law_35 14 rfl rfl)
theorem dL_law_920 : decode cL_law 920 = .ok (.aload_n 0, 1) := dk_42 (dk_at dksL_law_35 15 rfl rfl)
theorem dL_law_921 : decode cL_law 921 = .ok (.iload 5, 2) := dk_21 5 (dk_at dksL_law_35 16 rfl rfl)
theorem dL_law_923 : decode cL_law 923 = .ok (.iconst 1, 1) := dk_4 (dk_at dksL_law_35 18 rfl rfl)
theorem dL_law_924 : decode cL_law 924 = .ok (.iadd, 1) := dk_96 (dk_at dksL_law_35 19 rfl rfl)
theorem dL_law_925 : decode cL_law 925 = .ok (.iaload, 1) := dk_46 (dk_at dksL_law_35 20 rfl rfl)
theorem dL_law_926 : decode cL_law 926 = .ok (.aload_n 0, 1) := dk_42 (dk_at dksL_law_35 21 rfl rfl)
theorem dL_law_927 : decode cL_law 927 = .ok (.iload 5, 2) := dk_21 5 (dk_at dksL_law_35 22 rfl rfl)
theorem dL_law_929 : decode cL_law 929 = .ok (.iconst 2, 1) := dk_5 (dk_at dksL_law_36 0 rfl rfl)
theorem dL_law_930 : decode cL_law 930 = .ok (.iadd, 1) := dk_96 (dk_at dksL_law_36 1 rfl rfl)
theorem dL_law_931 : decode cL_law 931 = .ok (.iaload, 1) := dk_46 (dk_at dksL_law_36 2 rfl rfl)
theorem dL_law_932 : decode cL_law 932 = .ok (.invokevirtual 145, 3) := dk_182 0 145 (dk_at dksL_law_36 3 rfl rfl)
theorem dL_law_935 : decode cL_law 935 = .ok (.istore 7, 2) := dk_54 7 (dk_at dksL_law_36 6 rfl rfl)
theorem dL_law_937 : decode cL_law 937 = .ok (.aload_n 2, 1) := dk_44 (dk_at dksL_law_36 8 rfl rfl)
theorem dL_law_938 : decode cL_law 938 = .ok (.invokevirtual 92, 3) := dk_182 0 92 (dk_at dksL_law_36 9 rfl rfl)
theorem dL_law_941 : decode cL_law 941 = .ok (.iload 6, 2) := dk_21 6 (dk_at dksL_law_36 12 rfl rfl)
theorem dL_law_943 : decode cL_law 943 = .ok (.if_icmp .eq 5, 3) := dk_159 0 5 (dk_at dksL_law_36 14 rfl rfl)
theorem dL_law_946 : decode cL_law 946 = .ok (.iconst 0, 1) := dk_3 (dk_at dksL_law_36 17 rfl rfl)
theorem dL_law_947 : decode cL_law 947 = .ok (.ireturn, 1) := dk_172 (dk_at dksL_law_36 18 rfl rfl)
theorem dL_law_948 : decode cL_law 948 = .ok (.iload 6, 2) := dk_21 6 (dk_at dksL_law_36 19 rfl rfl)
theorem dL_law_950 : decode cL_law 950 = .ok (.ifCond .ne 22, 3) := dk_154 0 22 (dk_at dksL_law_36 21 rfl rfl)
theorem dL_law_953 : decode cL_law 953 = .ok (.aload_n 3, 1) := dk_45 (dk_at dksL_law_37 0 rfl rfl)
theorem dL_law_954 : decode cL_law 954 = .ok (.iconst 0, 1) := dk_3 (dk_at dksL_law_37 1 rfl rfl)
theorem dL_law_955 : decode cL_law 955 = .ok (.laload, 1) := dk_47 (dk_at dksL_law_37 2 rfl rfl)
theorem dL_law_956 : decode cL_law 956 = .ok (.iload 7, 2) := dk_21 7 (dk_at dksL_law_37 3 rfl rfl)
theorem dL_law_958 : decode cL_law 958 = .ok (.ifCond .eq 7, 3) := dk_153 0 7 (dk_at dksL_law_37 5 rfl rfl)
theorem dL_law_961 : decode cL_law 961 = .ok (.lconst 1, 1) := dk_10 (dk_at dksL_law_37 8 rfl rfl)
theorem dL_law_962 : decode cL_law 962 = .ok (.goto 4, 3) := dk_167 0 4 (dk_at dksL_law_37 9 rfl rfl)
theorem dL_law_965 : decode cL_law 965 = .ok (.lconst 0, 1) := dk_9 (dk_at dksL_law_37 12 rfl rfl)
theorem dL_law_966 : decode cL_law 966 = .ok (.lcmp, 1) := dk_148 (dk_at dksL_law_37 13 rfl rfl)
theorem dL_law_967 : decode cL_law 967 = .ok (.ifCond .eq 5, 3) := dk_153 0 5 (dk_at dksL_law_37 14 rfl rfl)
theorem dL_law_970 : decode cL_law 970 = .ok (.iconst 0, 1) := dk_3 (dk_at dksL_law_37 17 rfl rfl)
theorem dL_law_971 : decode cL_law 971 = .ok (.ireturn, 1) := dk_172 (dk_at dksL_law_37 18 rfl rfl)
theorem dL_law_972 : decode cL_law 972 = .ok (.goto 533, 3) := dk_167 2 21 (dk_at dksL_law_37 19 rfl rfl)
theorem dL_law_975 : decode cL_law 975 = .ok (.aload_n 1, 1) := dk_43 (dk_at dksL_law_37 22 rfl rfl)
theorem dL_law_976 : decode cL_law 976 = .ok (.aload_n 0, 1) := dk_42 (dk_at dksL_law_37 23 rfl rfl)
theorem dL_law_977 : decode cL_law 977 = .ok (.iload 5, 2) := dk_21 5 (dk_at dksL_law_38 0 rfl rfl)
theorem dL_law_979 : decode cL_law 979 = .ok (.iconst 1, 1) := dk_4 (dk_at dksL_law_38 2 rfl rfl)
theorem dL_law_980 : decode cL_law 980 = .ok (.iadd, 1) := dk_96 (dk_at dksL_law_38 3 rfl rfl)
theorem dL_law_981 : decode cL_law 981 = .ok (.iaload, 1) := dk_46 (dk_at dksL_law_38 4 rfl rfl)
theorem dL_law_982 : decode cL_law 982 = .ok (.aload_n 0, 1) := dk_42 (dk_at dksL_law_38 5 rfl rfl)
theorem dL_law_983 : decode cL_law 983 = .ok (.iload 5, 2) := dk_21 5 (dk_at dksL_law_38 6 rfl rfl)
theorem dL_law_985 : decode cL_law 985 = .ok (.iconst 2, 1) := dk_5 (dk_at dksL_law_38 8 rfl rfl)
theorem dL_law_986 : decode cL_law 986 = .ok (.iadd, 1) := dk_96 (dk_at dksL_law_38 9 rfl rfl)
theorem dL_law_987 : decode cL_law 987 = .ok (.iaload, 1) := dk_46 (dk_at dksL_law_38 10 rfl rfl)
theorem dL_law_988 : decode cL_law 988 = .ok (.aload_n 3, 1) := dk_45 (dk_at dksL_law_38 11 rfl rfl)
theorem dL_law_989 : decode cL_law 989 = .ok (.invokestatic 146, 3) := dk_184 0 146 (dk_at dksL_law_38 12 rfl rfl)
theorem dL_law_992 : decode cL_law 992 = .ok (.istore 6, 2) := dk_54 6 (dk_at dksL_law_38 15 rfl rfl)
theorem dL_law_994 : decode cL_law 994 = .ok (.aload_n 2, 1) := dk_44 (dk_at dksL_law_38 17 rfl rfl)
theorem dL_law_995 : decode cL_law 995 = .ok (.aload_n 0, 1) := dk_42 (dk_at dksL_law_38 18 rfl rfl)
theorem dL_law_996 : decode cL_law 996 = .ok (.iload 5, 2) := dk_21 5 (dk_at dksL_law_38 19 rfl rfl)
theorem dL_law_998 : decode cL_law 998 = .ok (.iconst 1, 1) := dk_4 (dk_at dksL_law_38 21 rfl rfl)
theorem dL_law_999 : decode cL_law 999 = .ok (.iadd, 1) := dk_96 (dk_at dksL_law_38 22 rfl rfl)
theorem dL_law_1000 : decode cL_law 1000 = .ok (.iaload, 1) := dk_46 (dk_at dksL_law_38 23 rfl rfl)
theorem dL_law_1001 : decode cL_law 1001 = .ok (.aload_n 0, 1) := dk_42 (dk_at dksL_law_39 0 rfl rfl)
theorem dL_law_1002 : decode cL_law 1002 = .ok (.iload 5, 2) := dk_21 5 (dk_at dksL_law_39 1 rfl rfl)
theorem dL_law_1004 : decode cL_law 1004 = .ok (.iconst 2, 1) := dk_5 (dk_at dksL_law_39 3 rfl rfl)
theorem dL_law_1005 : decode cL_law 1005 = .ok (.iadd, 1) := dk_96 (dk_at dksL_law_39 4 rfl rfl)
theorem dL_law_1006 : decode cL_law 1006 = .ok (.iaload, 1) := dk_46 (dk_at dksL_law_39 5 rfl rfl)
theorem dL_law_1007 : decode cL_law 1007 = .ok (.invokevirtual 148, 3) := dk_182 0 148 (dk_at dksL_law_39 6 rfl rfl)
theorem dL_law_1010 : decode cL_law 1010 = .ok (.istore 7, 2) := dk_54 7 (dk_at dksL_law_39 9 rfl rfl)
theorem dL_law_1012 : decode cL_law 1012 = .ok (.aload_n 2, 1) := dk_44 (dk_at dksL_law_39 11 rfl rfl)
theorem dL_law_1013 : decode cL_law 1013 = .ok (.invokevirtual 92, 3) := dk_182 0 92 (dk_at dksL_law_39 12 rfl rfl)
theorem dL_law_1016 : decode cL_law 1016 = .ok (.iload 6, 2) := dk_21 6 (dk_at dksL_law_39 15 rfl rfl)
theorem dL_law_1018 : decode cL_law 1018 = .ok (.if_icmp .eq 5, 3) := dk_159 0 5 (dk_at dksL_law_39 17 rfl rfl)
theorem dL_law_1021 : decode cL_law 1021 = .ok (.iconst 0, 1) := dk_3 (dk_at dksL_law_39 20 rfl rfl)
theorem dL_law_1022 : decode cL_law 1022 = .ok (.ireturn, 1) := dk_172 (dk_at dksL_law_39 21 rfl rfl)
theorem dL_law_1023 : decode cL_law 1023 = .ok (.iload 6, 2) := dk_21 6 (dk_at dksL_law_39 22 rfl rfl)
theorem dL_law_1025 : decode cL_law 1025 = .ok (.ifCond .ne 22, 3) := dk_154 0 22 (dk_at dksL_law_40 0 rfl rfl)
theorem dL_law_1028 : decode cL_law 1028 = .ok (.aload_n 3, 1) := dk_45 (dk_at dksL_law_40 3 rfl rfl)
theorem dL_law_1029 : decode cL_law 1029 = .ok (.iconst 0, 1) := dk_3 (dk_at dksL_law_40 4 rfl rfl)
theorem dL_law_1030 : decode cL_law 1030 = .ok (.laload, 1) := dk_47 (dk_at dksL_law_40 5 rfl rfl)
theorem dL_law_1031 : decode cL_law 1031 = .ok (.iload 7, 2) := dk_21 7 (dk_at dksL_law_40 6 rfl rfl)
theorem dL_law_1033 : decode cL_law 1033 = .ok (.ifCond .eq 7, 3) := dk_153 0 7 (dk_at dksL_law_40 8 rfl rfl)
theorem dL_law_1036 : decode cL_law 1036 = .ok (.lconst 1, 1) := dk_10 (dk_at dksL_law_40 11 rfl rfl)
theorem dL_law_1037 : decode cL_law 1037 = .ok (.goto 4, 3) := dk_167 0 4 (dk_at dksL_law_40 12 rfl rfl)
theorem dL_law_1040 : decode cL_law 1040 = .ok (.lconst 0, 1) := dk_9 (dk_at dksL_law_40 15 rfl rfl)
theorem dL_law_1041 : decode cL_law 1041 = .ok (.lcmp, 1) := dk_148 (dk_at dksL_law_40 16 rfl rfl)
theorem dL_law_1042 : decode cL_law 1042 = .ok (.ifCond .eq 5, 3) := dk_153 0 5 (dk_at dksL_law_40 17 rfl rfl)
theorem dL_law_1045 : decode cL_law 1045 = .ok (.iconst 0, 1) := dk_3 (dk_at dksL_law_40 20 rfl rfl)
theorem dL_law_1046 : decode cL_law 1046 = .ok (.ireturn, 1) := dk_172 (dk_at dksL_law_40 21 rfl rfl)
theorem dL_law_1047 : decode cL_law 1047 = .ok (.goto 458, 3) := dk_167 1 202 (dk_at dksL_law_41 0 rfl rfl)
theorem dL_law_1050 : decode cL_law 1050 = .ok (.aload_n 1, 1) := dk_43 (dk_at dksL_law_41 3 rfl rfl)
theorem dL_law_1051 : decode cL_law 1051 = .ok (.aload_n 0, 1) := dk_42 (dk_at dksL_law_41 4 rfl rfl)
theorem dL_law_1052 : decode cL_law 1052 = .ok (.iload 5, 2) := dk_21 5 (dk_at dksL_law_41 5 rfl rfl)
theorem dL_law_1054 : decode cL_law 1054 = .ok (.iconst 1, 1) := dk_4 (dk_at dksL_law_41 7 rfl rfl)
theorem dL_law_1055 : decode cL_law 1055 = .ok (.iadd, 1) := dk_96 (dk_at dksL_law_41 8 rfl rfl)
theorem dL_law_1056 : decode cL_law 1056 = .ok (.iaload, 1) := dk_46 (dk_at dksL_law_41 9 rfl rfl)
theorem dL_law_1057 : decode cL_law 1057 = .ok (.aload_n 0, 1) := dk_42 (dk_at dksL_law_41 10 rfl rfl)
theorem dL_law_1058 : decode cL_law 1058 = .ok (.iload 5, 2) := dk_21 5 (dk_at dksL_law_41 11 rfl rfl)
theorem dL_law_1060 : decode cL_law 1060 = .ok (.iconst 2, 1) := dk_5 (dk_at dksL_law_41 13 rfl rfl)
theorem dL_law_1061 : decode cL_law 1061 = .ok (.iadd, 1) := dk_96 (dk_at dksL_law_41 14 rfl rfl)
theorem dL_law_1062 : decode cL_law 1062 = .ok (.iaload, 1) := dk_46 (dk_at dksL_law_41 15 rfl rfl)
theorem dL_law_1063 : decode cL_law 1063 = .ok (.aload_n 3, 1) := dk_45 (dk_at dksL_law_41 16 rfl rfl)
theorem dL_law_1064 : decode cL_law 1064 = .ok (.invokestatic 149, 3) := dk_184 0 149 (dk_at dksL_law_41 17 rfl rfl)
theorem dL_law_1067 : decode cL_law 1067 = .ok (.istore 6, 2) := dk_54 6 (dk_at dksL_law_41 20 rfl rfl)
theorem dL_law_1069 : decode cL_law 1069 = .ok (.aload_n 2, 1) := dk_44 (dk_at dksL_law_41 22 rfl rfl)
theorem dL_law_1070 : decode cL_law 1070 = .ok (.aload_n 0, 1) := dk_42 (dk_at dksL_law_41 23 rfl rfl)
theorem dL_law_1071 : decode cL_law 1071 = .ok (.iload 5, 2) := dk_21 5 (dk_at dksL_law_42 0 rfl rfl)
theorem dL_law_1073 : decode cL_law 1073 = .ok (.iconst 1, 1) := dk_4 (dk_at dksL_law_42 2 rfl rfl)
theorem dL_law_1074 : decode cL_law 1074 = .ok (.iadd, 1) := dk_96 (dk_at dksL_law_42 3 rfl rfl)
theorem dL_law_1075 : decode cL_law 1075 = .ok (.iaload, 1) := dk_46 (dk_at dksL_law_42 4 rfl rfl)
theorem dL_law_1076 : decode cL_law 1076 = .ok (.aload_n 0, 1) := dk_42 (dk_at dksL_law_42 5 rfl rfl)
theorem dL_law_1077 : decode cL_law 1077 = .ok (.iload 5, 2) := dk_21 5 (dk_at dksL_law_42 6 rfl rfl)
theorem dL_law_1079 : decode cL_law 1079 = .ok (.iconst 2, 1) := dk_5 (dk_at dksL_law_42 8 rfl rfl)
theorem dL_law_1080 : decode cL_law 1080 = .ok (.iadd, 1) := dk_96 (dk_at dksL_law_42 9 rfl rfl)
theorem dL_law_1081 : decode cL_law 1081 = .ok (.iaload, 1) := dk_46 (dk_at dksL_law_42 10 rfl rfl)
theorem dL_law_1082 : decode cL_law 1082 = .ok (.invokevirtual 151, 3) := dk_182 0 151 (dk_at dksL_law_42 11 rfl rfl)
theorem dL_law_1085 : decode cL_law 1085 = .ok (.istore 7, 2) := dk_54 7 (dk_at dksL_law_42 14 rfl rfl)
theorem dL_law_1087 : decode cL_law 1087 = .ok (.aload_n 2, 1) := dk_44 (dk_at dksL_law_42 16 rfl rfl)
theorem dL_law_1088 : decode cL_law 1088 = .ok (.invokevirtual 92, 3) := dk_182 0 92 (dk_at dksL_law_42 17 rfl rfl)
theorem dL_law_1091 : decode cL_law 1091 = .ok (.iload 6, 2) := dk_21 6 (dk_at dksL_law_42 20 rfl rfl)
theorem dL_law_1093 : decode cL_law 1093 = .ok (.if_icmp .eq 5, 3) := dk_159 0 5 (dk_at dksL_law_43 0 rfl rfl)
theorem dL_law_1096 : decode cL_law 1096 = .ok (.iconst 0, 1) := dk_3 (dk_at dksL_law_43 3 rfl rfl)
theorem dL_law_1097 : decode cL_law 1097 = .ok (.ireturn, 1) := dk_172 (dk_at dksL_law_43 4 rfl rfl)
theorem dL_law_1098 : decode cL_law 1098 = .ok (.iload 6, 2) := dk_21 6 (dk_at dksL_law_43 5 rfl rfl)
theorem dL_law_1100 : decode cL_law 1100 = .ok (.ifCond .ne 15, 3) := dk_154 0 15 (dk_at dksL_law_43 7 rfl rfl)
theorem dL_law_1103 : decode cL_law 1103 = .ok (.aload_n 3, 1) := dk_45 (dk_at dksL_law_43 10 rfl rfl)
theorem dL_law_1104 : decode cL_law 1104 = .ok (.iconst 0, 1) := dk_3 (dk_at dksL_law_43 11 rfl rfl)
theorem dL_law_1105 : decode cL_law 1105 = .ok (.laload, 1) := dk_47 (dk_at dksL_law_43 12 rfl rfl)
theorem dL_law_1106 : decode cL_law 1106 = .ok (.iload 7, 2) := dk_21 7 (dk_at dksL_law_43 13 rfl rfl)
theorem dL_law_1108 : decode cL_law 1108 = .ok (.i2l, 1) := dk_133 (dk_at dksL_law_43 15 rfl rfl)
theorem dL_law_1109 : decode cL_law 1109 = .ok (.lcmp, 1) := dk_148 (dk_at dksL_law_43 16 rfl rfl)
theorem dL_law_1110 : decode cL_law 1110 = .ok (.ifCond .eq 5, 3) := dk_153 0 5 (dk_at dksL_law_43 17 rfl rfl)
theorem dL_law_1113 : decode cL_law 1113 = .ok (.iconst 0, 1) := dk_3 (dk_at dksL_law_43 20 rfl rfl)
theorem dL_law_1114 : decode cL_law 1114 = .ok (.ireturn, 1) := dk_172 (dk_at dksL_law_43 21 rfl rfl)
theorem dL_law_1115 : decode cL_law 1115 = .ok (.goto 390, 3) := dk_167 1 134 (dk_at dksL_law_44 0 rfl rfl)
theorem dL_law_1118 : decode cL_law 1118 = .ok (.aload_n 1, 1) := dk_43 (dk_at dksL_law_44 3 rfl rfl)
theorem dL_law_1119 : decode cL_law 1119 = .ok (.aload_n 0, 1) := dk_42 (dk_at dksL_law_44 4 rfl rfl)
theorem dL_law_1120 : decode cL_law 1120 = .ok (.iload 5, 2) := dk_21 5 (dk_at dksL_law_44 5 rfl rfl)
theorem dL_law_1122 : decode cL_law 1122 = .ok (.iconst 1, 1) := dk_4 (dk_at dksL_law_44 7 rfl rfl)
theorem dL_law_1123 : decode cL_law 1123 = .ok (.iadd, 1) := dk_96 (dk_at dksL_law_44 8 rfl rfl)
theorem dL_law_1124 : decode cL_law 1124 = .ok (.iaload, 1) := dk_46 (dk_at dksL_law_44 9 rfl rfl)
theorem dL_law_1125 : decode cL_law 1125 = .ok (.aload_n 3, 1) := dk_45 (dk_at dksL_law_44 10 rfl rfl)
theorem dL_law_1126 : decode cL_law 1126 = .ok (.invokestatic 152, 3) := dk_184 0 152 (dk_at dksL_law_44 11 rfl rfl)
theorem dL_law_1129 : decode cL_law 1129 = .ok (.istore 6, 2) := dk_54 6 (dk_at dksL_law_44 14 rfl rfl)
theorem dL_law_1131 : decode cL_law 1131 = .ok (.aload_n 2, 1) := dk_44 (dk_at dksL_law_44 16 rfl rfl)
theorem dL_law_1132 : decode cL_law 1132 = .ok (.aload_n 0, 1) := dk_42 (dk_at dksL_law_44 17 rfl rfl)
theorem dL_law_1133 : decode cL_law 1133 = .ok (.iload 5, 2) := dk_21 5 (dk_at dksL_law_44 18 rfl rfl)
theorem dL_law_1135 : decode cL_law 1135 = .ok (.iconst 1, 1) := dk_4 (dk_at dksL_law_44 20 rfl rfl)
theorem dL_law_1136 : decode cL_law 1136 = .ok (.iadd, 1) := dk_96 (dk_at dksL_law_44 21 rfl rfl)
theorem dL_law_1137 : decode cL_law 1137 = .ok (.iaload, 1) := dk_46 (dk_at dksL_law_44 22 rfl rfl)
theorem dL_law_1138 : decode cL_law 1138 = .ok (.invokevirtual 154, 3) := dk_182 0 154 (dk_at dksL_law_45 0 rfl rfl)
theorem dL_law_1141 : decode cL_law 1141 = .ok (.istore 7, 2) := dk_54 7 (dk_at dksL_law_45 3 rfl rfl)
theorem dL_law_1143 : decode cL_law 1143 = .ok (.aload_n 2, 1) := dk_44 (dk_at dksL_law_45 5 rfl rfl)
theorem dL_law_1144 : decode cL_law 1144 = .ok (.invokevirtual 92, 3) := dk_182 0 92 (dk_at dksL_law_45 6 rfl rfl)
theorem dL_law_1147 : decode cL_law 1147 = .ok (.iload 6, 2) := dk_21 6 (dk_at dksL_law_45 9 rfl rfl)
theorem dL_law_1149 : decode cL_law 1149 = .ok (.if_icmp .eq 5, 3) := dk_159 0 5 (dk_at dksL_law_45 11 rfl rfl)
theorem dL_law_1152 : decode cL_law 1152 = .ok (.iconst 0, 1) := dk_3 (dk_at dksL_law_45 14 rfl rfl)
theorem dL_law_1153 : decode cL_law 1153 = .ok (.ireturn, 1) := dk_172 (dk_at dksL_law_45 15 rfl rfl)
theorem dL_law_1154 : decode cL_law 1154 = .ok (.iload 6, 2) := dk_21 6 (dk_at dksL_law_45 16 rfl rfl)
theorem dL_law_1156 : decode cL_law 1156 = .ok (.ifCond .ne 15, 3) := dk_154 0 15 (dk_at dksL_law_45 18 rfl rfl)
theorem dL_law_1159 : decode cL_law 1159 = .ok (.aload_n 3, 1) := dk_45 (dk_at dksL_law_45 21 rfl rfl)
theorem dL_law_1160 : decode cL_law 1160 = .ok (.iconst 0, 1) := dk_3 (dk_at dksL_law_45 22 rfl rfl)
theorem dL_law_1161 : decode cL_law 1161 = .ok (.laload, 1) := dk_47 (dk_at dksL_law_45 23 rfl rfl)
theorem dL_law_1162 : decode cL_law 1162 = .ok (.iload 7, 2) := dk_21 7 (dk_at dksL_law_46 0 rfl rfl)
theorem dL_law_1164 : decode cL_law 1164 = .ok (.i2l, 1) := dk_133 (dk_at dksL_law_46 2 rfl rfl)
theorem dL_law_1165 : decode cL_law 1165 = .ok (.lcmp, 1) := dk_148 (dk_at dksL_law_46 3 rfl rfl)
theorem dL_law_1166 : decode cL_law 1166 = .ok (.ifCond .eq 5, 3) := dk_153 0 5 (dk_at dksL_law_46 4 rfl rfl)
theorem dL_law_1169 : decode cL_law 1169 = .ok (.iconst 0, 1) := dk_3 (dk_at dksL_law_46 7 rfl rfl)
theorem dL_law_1170 : decode cL_law 1170 = .ok (.ireturn, 1) := dk_172 (dk_at dksL_law_46 8 rfl rfl)
theorem dL_law_1171 : decode cL_law 1171 = .ok (.goto 334, 3) := dk_167 1 78 (dk_at dksL_law_46 9 rfl rfl)
theorem dL_law_1174 : decode cL_law 1174 = .ok (.aload_n 1, 1) := dk_43 (dk_at dksL_law_46 12 rfl rfl)
theorem dL_law_1175 : decode cL_law 1175 = .ok (.aload_n 0, 1) := dk_42 (dk_at dksL_law_46 13 rfl rfl)
theorem dL_law_1176 : decode cL_law 1176 = .ok (.iload 5, 2) := dk_21 5 (dk_at dksL_law_46 14 rfl rfl)
theorem dL_law_1178 : decode cL_law 1178 = .ok (.iconst 1, 1) := dk_4 (dk_at dksL_law_46 16 rfl rfl)
theorem dL_law_1179 : decode cL_law 1179 = .ok (.iadd, 1) := dk_96 (dk_at dksL_law_46 17 rfl rfl)
theorem dL_law_1180 : decode cL_law 1180 = .ok (.iaload, 1) := dk_46 (dk_at dksL_law_46 18 rfl rfl)
theorem dL_law_1181 : decode cL_law 1181 = .ok (.aload_n 0, 1) := dk_42 (dk_at dksL_law_46 19 rfl rfl)
theorem dL_law_1182 : decode cL_law 1182 = .ok (.iload 5, 2) := dk_21 5 (dk_at dksL_law_46 20 rfl rfl)
theorem dL_law_1184 : decode cL_law 1184 = .ok (.iconst 2, 1) := dk_5 (dk_at dksL_law_46 22 rfl rfl)
theorem dL_law_1185 : decode cL_law 1185 = .ok (.iadd, 1) := dk_96 (dk_at dksL_law_46 23 rfl rfl)
theorem dL_law_1186 : decode cL_law 1186 = .ok (.iaload, 1) := dk_46 (dk_at dksL_law_47 0 rfl rfl)
theorem dL_law_1187 : decode cL_law 1187 = .ok (.aload_n 0, 1) := dk_42 (dk_at dksL_law_47 1 rfl rfl)
theorem dL_law_1188 : decode cL_law 1188 = .ok (.iload 5, 2) := dk_21 5 (dk_at dksL_law_47 2 rfl rfl)
theorem dL_law_1190 : decode cL_law 1190 = .ok (.iconst 3, 1) := dk_6 (dk_at dksL_law_47 4 rfl rfl)
theorem dL_law_1191 : decode cL_law 1191 = .ok (.iadd, 1) := dk_96 (dk_at dksL_law_47 5 rfl rfl)
theorem dL_law_1192 : decode cL_law 1192 = .ok (.iaload, 1) := dk_46 (dk_at dksL_law_47 6 rfl rfl)
theorem dL_law_1193 : decode cL_law 1193 = .ok (.ifCond .eq 7, 3) := dk_153 0 7 (dk_at dksL_law_47 7 rfl rfl)
theorem dL_law_1196 : decode cL_law 1196 = .ok (.iconst 1, 1) := dk_4 (dk_at dksL_law_47 10 rfl rfl)
theorem dL_law_1197 : decode cL_law 1197 = .ok (.goto 4, 3) := dk_167 0 4 (dk_at dksL_law_47 11 rfl rfl)
theorem dL_law_1200 : decode cL_law 1200 = .ok (.iconst 0, 1) := dk_3 (dk_at dksL_law_47 14 rfl rfl)
theorem dL_law_1201 : decode cL_law 1201 = .ok (.aload_n 3, 1) := dk_45 (dk_at dksL_law_47 15 rfl rfl)
theorem dL_law_1202 : decode cL_law 1202 = .ok (.invokestatic 155, 3) := dk_184 0 155 (dk_at dksL_law_47 16 rfl rfl)
theorem dL_law_1205 : decode cL_law 1205 = .ok (.istore 6, 2) := dk_54 6 (dk_at dksL_law_47 19 rfl rfl)
theorem dL_law_1207 : decode cL_law 1207 = .ok (.aload_n 2, 1) := dk_44 (dk_at dksL_law_47 21 rfl rfl)
theorem dL_law_1208 : decode cL_law 1208 = .ok (.aload_n 0, 1) := dk_42 (dk_at dksL_law_47 22 rfl rfl)
theorem dL_law_1209 : decode cL_law 1209 = .ok (.iload 5, 2) := dk_21 5 (dk_at dksL_law_48 0 rfl rfl)
theorem dL_law_1211 : decode cL_law 1211 = .ok (.iconst 1, 1) := dk_4 (dk_at dksL_law_48 2 rfl rfl)
theorem dL_law_1212 : decode cL_law 1212 = .ok (.iadd, 1) := dk_96 (dk_at dksL_law_48 3 rfl rfl)
theorem dL_law_1213 : decode cL_law 1213 = .ok (.iaload, 1) := dk_46 (dk_at dksL_law_48 4 rfl rfl)
theorem dL_law_1214 : decode cL_law 1214 = .ok (.aload_n 0, 1) := dk_42 (dk_at dksL_law_48 5 rfl rfl)
theorem dL_law_1215 : decode cL_law 1215 = .ok (.iload 5, 2) := dk_21 5 (dk_at dksL_law_48 6 rfl rfl)
theorem dL_law_1217 : decode cL_law 1217 = .ok (.iconst 2, 1) := dk_5 (dk_at dksL_law_48 8 rfl rfl)
theorem dL_law_1218 : decode cL_law 1218 = .ok (.iadd, 1) := dk_96 (dk_at dksL_law_48 9 rfl rfl)
theorem dL_law_1219 : decode cL_law 1219 = .ok (.iaload, 1) := dk_46 (dk_at dksL_law_48 10 rfl rfl)
theorem dL_law_1220 : decode cL_law 1220 = .ok (.aload_n 0, 1) := dk_42 (dk_at dksL_law_48 11 rfl rfl)
theorem dL_law_1221 : decode cL_law 1221 = .ok (.iload 5, 2) := dk_21 5 (dk_at dksL_law_48 12 rfl rfl)
theorem dL_law_1223 : decode cL_law 1223 = .ok (.iconst 3, 1) := dk_6 (dk_at dksL_law_48 14 rfl rfl)
theorem dL_law_1224 : decode cL_law 1224 = .ok (.iadd, 1) := dk_96 (dk_at dksL_law_48 15 rfl rfl)
theorem dL_law_1225 : decode cL_law 1225 = .ok (.iaload, 1) := dk_46 (dk_at dksL_law_48 16 rfl rfl)
theorem dL_law_1226 : decode cL_law 1226 = .ok (.ifCond .eq 7, 3) := dk_153 0 7 (dk_at dksL_law_48 17 rfl rfl)
theorem dL_law_1229 : decode cL_law 1229 = .ok (.iconst 1, 1) := dk_4 (dk_at dksL_law_48 20 rfl rfl)
theorem dL_law_1230 : decode cL_law 1230 = .ok (.goto 4, 3) := dk_167 0 4 (dk_at dksL_law_48 21 rfl rfl)
theorem dL_law_1233 : decode cL_law 1233 = .ok (.iconst 0, 1) := dk_3 (dk_at dksL_law_49 0 rfl rfl)
theorem dL_law_1234 : decode cL_law 1234 = .ok (.invokevirtual 158, 3) := dk_182 0 158 (dk_at dksL_law_49 1 rfl rfl)
theorem dL_law_1237 : decode cL_law 1237 = .ok (.istore 7, 2) := dk_54 7 (dk_at dksL_law_49 4 rfl rfl)
theorem dL_law_1239 : decode cL_law 1239 = .ok (.aload_n 2, 1) := dk_44 (dk_at dksL_law_49 6 rfl rfl)
theorem dL_law_1240 : decode cL_law 1240 = .ok (.invokevirtual 92, 3) := dk_182 0 92 (dk_at dksL_law_49 7 rfl rfl)
theorem dL_law_1243 : decode cL_law 1243 = .ok (.iload 6, 2) := dk_21 6 (dk_at dksL_law_49 10 rfl rfl)
theorem dL_law_1245 : decode cL_law 1245 = .ok (.if_icmp .eq 5, 3) := dk_159 0 5 (dk_at dksL_law_49 12 rfl rfl)
theorem dL_law_1248 : decode cL_law 1248 = .ok (.iconst 0, 1) := dk_3 (dk_at dksL_law_49 15 rfl rfl)
theorem dL_law_1249 : decode cL_law 1249 = .ok (.ireturn, 1) := dk_172 (dk_at dksL_law_49 16 rfl rfl)
theorem dL_law_1250 : decode cL_law 1250 = .ok (.iload 6, 2) := dk_21 6 (dk_at dksL_law_49 17 rfl rfl)
theorem dL_law_1252 : decode cL_law 1252 = .ok (.ifCond .ne 15, 3) := dk_154 0 15 (dk_at dksL_law_49 19 rfl rfl)
theorem dL_law_1255 : decode cL_law 1255 = .ok (.aload_n 3, 1) := dk_45 (dk_at dksL_law_49 22 rfl rfl)
theorem dL_law_1256 : decode cL_law 1256 = .ok (.iconst 0, 1) := dk_3 (dk_at dksL_law_49 23 rfl rfl)
theorem dL_law_1257 : decode cL_law 1257 = .ok (.laload, 1) := dk_47 (dk_at dksL_law_50 0 rfl rfl)
theorem dL_law_1258 : decode cL_law 1258 = .ok (.iload 7, 2) := dk_21 7 (dk_at dksL_law_50 1 rfl rfl)
theorem dL_law_1260 : decode cL_law 1260 = .ok (.i2l, 1) := dk_133 (dk_at dksL_law_50 3 rfl rfl)
theorem dL_law_1261 : decode cL_law 1261 = .ok (.lcmp, 1) := dk_148 (dk_at dksL_law_50 4 rfl rfl)
theorem dL_law_1262 : decode cL_law 1262 = .ok (.ifCond .eq 5, 3) := dk_153 0 5 (dk_at dksL_law_50 5 rfl rfl)
theorem dL_law_1265 : decode cL_law 1265 = .ok (.iconst 0, 1) := dk_3 (dk_at dksL_law_50 8 rfl rfl)
theorem dL_law_1266 : decode cL_law 1266 = .ok (.ireturn, 1) := dk_172 (dk_at dksL_law_50 9 rfl rfl)
theorem dL_law_1267 : decode cL_law 1267 = .ok (.goto 238, 3) := dk_167 0 238 (dk_at dksL_law_50 10 rfl rfl)
theorem dL_law_1270 : decode cL_law 1270 = .ok (.aload_n 1, 1) := dk_43 (dk_at dksL_law_50 13 rfl rfl)
theorem dL_law_1271 : decode cL_law 1271 = .ok (.aload_n 0, 1) := dk_42 (dk_at dksL_law_50 14 rfl rfl)
theorem dL_law_1272 : decode cL_law 1272 = .ok (.iload 5, 2) := dk_21 5 (dk_at dksL_law_50 15 rfl rfl)
theorem dL_law_1274 : decode cL_law 1274 = .ok (.iconst 1, 1) := dk_4 (dk_at dksL_law_50 17 rfl rfl)
theorem dL_law_1275 : decode cL_law 1275 = .ok (.iadd, 1) := dk_96 (dk_at dksL_law_50 18 rfl rfl)
theorem dL_law_1276 : decode cL_law 1276 = .ok (.iaload, 1) := dk_46 (dk_at dksL_law_50 19 rfl rfl)
theorem dL_law_1277 : decode cL_law 1277 = .ok (.aload_n 0, 1) := dk_42 (dk_at dksL_law_50 20 rfl rfl)
theorem dL_law_1278 : decode cL_law 1278 = .ok (.iload 5, 2) := dk_21 5 (dk_at dksL_law_50 21 rfl rfl)
theorem dL_law_1280 : decode cL_law 1280 = .ok (.iconst 2, 1) := dk_5 (dk_at dksL_law_50 23 rfl rfl)
theorem dL_law_1281 : decode cL_law 1281 = .ok (.iadd, 1) := dk_96 (dk_at dksL_law_51 0 rfl rfl)
theorem dL_law_1282 : decode cL_law 1282 = .ok (.iaload, 1) := dk_46 (dk_at dksL_law_51 1 rfl rfl)
theorem dL_law_1283 : decode cL_law 1283 = .ok (.aload_n 3, 1) := dk_45 (dk_at dksL_law_51 2 rfl rfl)
theorem dL_law_1284 : decode cL_law 1284 = .ok (.invokestatic 159, 3) := dk_184 0 159 (dk_at dksL_law_51 3 rfl rfl)
theorem dL_law_1287 : decode cL_law 1287 = .ok (.istore 6, 2) := dk_54 6 (dk_at dksL_law_51 6 rfl rfl)
theorem dL_law_1289 : decode cL_law 1289 = .ok (.aload_n 2, 1) := dk_44 (dk_at dksL_law_51 8 rfl rfl)
theorem dL_law_1290 : decode cL_law 1290 = .ok (.aload_n 0, 1) := dk_42 (dk_at dksL_law_51 9 rfl rfl)
theorem dL_law_1291 : decode cL_law 1291 = .ok (.iload 5, 2) := dk_21 5 (dk_at dksL_law_51 10 rfl rfl)
theorem dL_law_1293 : decode cL_law 1293 = .ok (.iconst 1, 1) := dk_4 (dk_at dksL_law_51 12 rfl rfl)
theorem dL_law_1294 : decode cL_law 1294 = .ok (.iadd, 1) := dk_96 (dk_at dksL_law_51 13 rfl rfl)
theorem dL_law_1295 : decode cL_law 1295 = .ok (.iaload, 1) := dk_46 (dk_at dksL_law_51 14 rfl rfl)
theorem dL_law_1296 : decode cL_law 1296 = .ok (.aload_n 0, 1) := dk_42 (dk_at dksL_law_51 15 rfl rfl)
theorem dL_law_1297 : decode cL_law 1297 = .ok (.iload 5, 2) := dk_21 5 (dk_at dksL_law_51 16 rfl rfl)
theorem dL_law_1299 : decode cL_law 1299 = .ok (.iconst 2, 1) := dk_5 (dk_at dksL_law_51 18 rfl rfl)
theorem dL_law_1300 : decode cL_law 1300 = .ok (.iadd, 1) := dk_96 (dk_at dksL_law_51 19 rfl rfl)
theorem dL_law_1301 : decode cL_law 1301 = .ok (.iaload, 1) := dk_46 (dk_at dksL_law_51 20 rfl rfl)
theorem dL_law_1302 : decode cL_law 1302 = .ok (.invokevirtual 161, 3) := dk_182 0 161 (dk_at dksL_law_51 21 rfl rfl)
theorem dL_law_1305 : decode cL_law 1305 = .ok (.istore 7, 2) := dk_54 7 (dk_at dksL_law_52 0 rfl rfl)
theorem dL_law_1307 : decode cL_law 1307 = .ok (.aload_n 2, 1) := dk_44 (dk_at dksL_law_52 2 rfl rfl)
theorem dL_law_1308 : decode cL_law 1308 = .ok (.invokevirtual 92, 3) := dk_182 0 92 (dk_at dksL_law_52 3 rfl rfl)
theorem dL_law_1311 : decode cL_law 1311 = .ok (.iload 6, 2) := dk_21 6 (dk_at dksL_law_52 6 rfl rfl)
theorem dL_law_1313 : decode cL_law 1313 = .ok (.if_icmp .eq 5, 3) := dk_159 0 5 (dk_at dksL_law_52 8 rfl rfl)
theorem dL_law_1316 : decode cL_law 1316 = .ok (.iconst 0, 1) := dk_3 (dk_at dksL_law_52 11 rfl rfl)
theorem dL_law_1317 : decode cL_law 1317 = .ok (.ireturn, 1) := dk_172 (dk_at dksL_law_52 12 rfl rfl)
theorem dL_law_1318 : decode cL_law 1318 = .ok (.iload 6, 2) := dk_21 6 (dk_at dksL_law_52 13 rfl rfl)
theorem dL_law_1320 : decode cL_law 1320 = .ok (.ifCond .ne 15, 3) := dk_154 0 15 (dk_at dksL_law_52 15 rfl rfl)
theorem dL_law_1323 : decode cL_law 1323 = .ok (.aload_n 3, 1) := dk_45 (dk_at dksL_law_52 18 rfl rfl)
theorem dL_law_1324 : decode cL_law 1324 = .ok (.iconst 0, 1) := dk_3 (dk_at dksL_law_52 19 rfl rfl)
theorem dL_law_1325 : decode cL_law 1325 = .ok (.laload, 1) := dk_47 (dk_at dksL_law_52 20 rfl rfl)
theorem dL_law_1326 : decode cL_law 1326 = .ok (.iload 7, 2) := dk_21 7 (dk_at dksL_law_52 21 rfl rfl)
theorem dL_law_1328 : decode cL_law 1328 = .ok (.i2l, 1) := dk_133 (dk_at dksL_law_52 23 rfl rfl)
theorem dL_law_1329 : decode cL_law 1329 = .ok (.lcmp, 1) := dk_148 (dk_at dksL_law_53 0 rfl rfl)
theorem dL_law_1330 : decode cL_law 1330 = .ok (.ifCond .eq 5, 3) := dk_153 0 5 (dk_at dksL_law_53 1 rfl rfl)
theorem dL_law_1333 : decode cL_law 1333 = .ok (.iconst 0, 1) := dk_3 (dk_at dksL_law_53 4 rfl rfl)
theorem dL_law_1334 : decode cL_law 1334 = .ok (.ireturn, 1) := dk_172 (dk_at dksL_law_53 5 rfl rfl)
theorem dL_law_1335 : decode cL_law 1335 = .ok (.goto 170, 3) := dk_167 0 170 (dk_at dksL_law_53 6 rfl rfl)
theorem dL_law_1338 : decode cL_law 1338 = .ok (.aload_n 1, 1) := dk_43 (dk_at dksL_law_53 9 rfl rfl)
theorem dL_law_1339 : decode cL_law 1339 = .ok (.aload_n 0, 1) := dk_42 (dk_at dksL_law_53 10 rfl rfl)
theorem dL_law_1340 : decode cL_law 1340 = .ok (.iload 5, 2) := dk_21 5 (dk_at dksL_law_53 11 rfl rfl)
theorem dL_law_1342 : decode cL_law 1342 = .ok (.iconst 1, 1) := dk_4 (dk_at dksL_law_53 13 rfl rfl)
theorem dL_law_1343 : decode cL_law 1343 = .ok (.iadd, 1) := dk_96 (dk_at dksL_law_53 14 rfl rfl)
theorem dL_law_1344 : decode cL_law 1344 = .ok (.iaload, 1) := dk_46 (dk_at dksL_law_53 15 rfl rfl)
theorem dL_law_1345 : decode cL_law 1345 = .ok (.aload 4, 2) := dk_25 4 (dk_at dksL_law_53 16 rfl rfl)
theorem dL_law_1347 : decode cL_law 1347 = .ok (.invokestatic 162, 3) := dk_184 0 162 (dk_at dksL_law_53 18 rfl rfl)
theorem dL_law_1350 : decode cL_law 1350 = .ok (.istore 6, 2) := dk_54 6 (dk_at dksL_law_53 21 rfl rfl)
theorem dL_law_1352 : decode cL_law 1352 = .ok (.aload_n 2, 1) := dk_44 (dk_at dksL_law_53 23 rfl rfl)
theorem dL_law_1353 : decode cL_law 1353 = .ok (.aload_n 0, 1) := dk_42 (dk_at dksL_law_54 0 rfl rfl)
theorem dL_law_1354 : decode cL_law 1354 = .ok (.iload 5, 2) := dk_21 5 (dk_at dksL_law_54 1 rfl rfl)
theorem dL_law_1356 : decode cL_law 1356 = .ok (.iconst 1, 1) := dk_4 (dk_at dksL_law_54 3 rfl rfl)
theorem dL_law_1357 : decode cL_law 1357 = .ok (.iadd, 1) := dk_96 (dk_at dksL_law_54 4 rfl rfl)
theorem dL_law_1358 : decode cL_law 1358 = .ok (.iaload, 1) := dk_46 (dk_at dksL_law_54 5 rfl rfl)
theorem dL_law_1359 : decode cL_law 1359 = .ok (.invokevirtual 165, 3) := dk_182 0 165 (dk_at dksL_law_54 6 rfl rfl)
theorem dL_law_1362 : decode cL_law 1362 = .ok (.dstore 7, 2) := dk_57 7 (dk_at dksL_law_54 9 rfl rfl)
theorem dL_law_1364 : decode cL_law 1364 = .ok (.aload_n 2, 1) := dk_44 (dk_at dksL_law_54 11 rfl rfl)
theorem dL_law_1365 : decode cL_law 1365 = .ok (.invokevirtual 92, 3) := dk_182 0 92 (dk_at dksL_law_54 12 rfl rfl)
theorem dL_law_1368 : decode cL_law 1368 = .ok (.iload 6, 2) := dk_21 6 (dk_at dksL_law_54 15 rfl rfl)
theorem dL_law_1370 : decode cL_law 1370 = .ok (.if_icmp .eq 5, 3) := dk_159 0 5 (dk_at dksL_law_54 17 rfl rfl)
theorem dL_law_1373 : decode cL_law 1373 = .ok (.iconst 0, 1) := dk_3 (dk_at dksL_law_54 20 rfl rfl)
theorem dL_law_1374 : decode cL_law 1374 = .ok (.ireturn, 1) := dk_172 (dk_at dksL_law_54 21 rfl rfl)
theorem dL_law_1375 : decode cL_law 1375 = .ok (.iload 6, 2) := dk_21 6 (dk_at dksL_law_54 22 rfl rfl)
theorem dL_law_1377 : decode cL_law 1377 = .ok (.ifCond .ne 35, 3) := dk_154 0 35 (dk_at dksL_law_55 0 rfl rfl)
theorem dL_law_1380 : decode cL_law 1380 = .ok (.aload 4, 2) := dk_25 4 (dk_at dksL_law_55 3 rfl rfl)
theorem dL_law_1382 : decode cL_law 1382 = .ok (.iconst 0, 1) := dk_3 (dk_at dksL_law_55 5 rfl rfl)
theorem dL_law_1383 : decode cL_law 1383 = .ok (.daload, 1) := dk_49 (dk_at dksL_law_55 6 rfl rfl)
theorem dL_law_1384 : decode cL_law 1384 = .ok (.dload 7, 2) := dk_24 7 (dk_at dksL_law_55 7 rfl rfl)
theorem dL_law_1386 : decode cL_law 1386 = .ok (.dcmp .l, 1) := dk_151 (dk_at dksL_law_55 9 rfl rfl)
theorem dL_law_1387 : decode cL_law 1387 = .ok (.ifCond .eq 25, 3) := dk_153 0 25 (dk_at dksL_law_55 10 rfl rfl)
theorem dL_law_1390 : decode cL_law 1390 = .ok (.aload 4, 2) := dk_25 4 (dk_at dksL_law_55 13 rfl rfl)
theorem dL_law_1392 : decode cL_law 1392 = .ok (.iconst 0, 1) := dk_3 (dk_at dksL_law_55 15 rfl rfl)
theorem dL_law_1393 : decode cL_law 1393 = .ok (.daload, 1) := dk_49 (dk_at dksL_law_55 16 rfl rfl)
theorem dL_law_1394 : decode cL_law 1394 = .ok (.aload 4, 2) := dk_25 4 (dk_at dksL_law_55 17 rfl rfl)
theorem dL_law_1396 : decode cL_law 1396 = .ok (.iconst 0, 1) := dk_3 (dk_at dksL_law_55 19 rfl rfl)
theorem dL_law_1397 : decode cL_law 1397 = .ok (.daload, 1) := dk_49 (dk_at dksL_law_55 20 rfl rfl)
theorem dL_law_1398 : decode cL_law 1398 = .ok (.dcmp .l, 1) := dk_151 (dk_at dksL_law_55 21 rfl rfl)
theorem dL_law_1399 : decode cL_law 1399 = .ok (.ifCond .eq 11, 3) := dk_153 0 11 (dk_at dksL_law_56 0 rfl rfl)
theorem dL_law_1402 : decode cL_law 1402 = .ok (.dload 7, 2) := dk_24 7 (dk_at dksL_law_56 3 rfl rfl)
theorem dL_law_1404 : decode cL_law 1404 = .ok (.dload 7, 2) := dk_24 7 (dk_at dksL_law_56 5 rfl rfl)
theorem dL_law_1406 : decode cL_law 1406 = .ok (.dcmp .l, 1) := dk_151 (dk_at dksL_law_56 7 rfl rfl)
theorem dL_law_1407 : decode cL_law 1407 = .ok (.ifCond .ne 5, 3) := dk_154 0 5 (dk_at dksL_law_56 8 rfl rfl)
theorem dL_law_1410 : decode cL_law 1410 = .ok (.iconst 0, 1) := dk_3 (dk_at dksL_law_56 11 rfl rfl)
theorem dL_law_1411 : decode cL_law 1411 = .ok (.ireturn, 1) := dk_172 (dk_at dksL_law_56 12 rfl rfl)
theorem dL_law_1412 : decode cL_law 1412 = .ok (.goto 93, 3) := dk_167 0 93 (dk_at dksL_law_56 13 rfl rfl)
theorem dL_law_1415 : decode cL_law 1415 = .ok (.aload_n 1, 1) := dk_43 (dk_at dksL_law_56 16 rfl rfl)
theorem dL_law_1416 : decode cL_law 1416 = .ok (.invokevirtual 166, 3) := dk_182 0 166 (dk_at dksL_law_56 17 rfl rfl)
theorem dL_law_1419 : decode cL_law 1419 = .ok (.aload_n 2, 1) := dk_44 (dk_at dksL_law_56 20 rfl rfl)
theorem dL_law_1420 : decode cL_law 1420 = .ok (.invokevirtual 169, 3) := dk_182 0 169 (dk_at dksL_law_56 21 rfl rfl)
theorem dL_law_1423 : decode cL_law 1423 = .ok (.if_icmp .eq 82, 3) := dk_159 0 82 (dk_at dksL_law_57 0 rfl rfl)
theorem dL_law_1426 : decode cL_law 1426 = .ok (.iconst 0, 1) := dk_3 (dk_at dksL_law_57 3 rfl rfl)
theorem dL_law_1427 : decode cL_law 1427 = .ok (.ireturn, 1) := dk_172 (dk_at dksL_law_57 4 rfl rfl)
theorem dL_law_1428 : decode cL_law 1428 = .ok (.aload_n 1, 1) := dk_43 (dk_at dksL_law_57 5 rfl rfl)
theorem dL_law_1429 : decode cL_law 1429 = .ok (.aload_n 0, 1) := dk_42 (dk_at dksL_law_57 6 rfl rfl)
theorem dL_law_1430 : decode cL_law 1430 = .ok (.iload 5, 2) := dk_21 5 (dk_at dksL_law_57 7 rfl rfl)
theorem dL_law_1432 : decode cL_law 1432 = .ok (.iconst 1, 1) := dk_4 (dk_at dksL_law_57 9 rfl rfl)
theorem dL_law_1433 : decode cL_law 1433 = .ok (.iadd, 1) := dk_96 (dk_at dksL_law_57 10 rfl rfl)
theorem dL_law_1434 : decode cL_law 1434 = .ok (.iaload, 1) := dk_46 (dk_at dksL_law_57 11 rfl rfl)
theorem dL_law_1435 : decode cL_law 1435 = .ok (.aload_n 3, 1) := dk_45 (dk_at dksL_law_57 12 rfl rfl)
theorem dL_law_1436 : decode cL_law 1436 = .ok (.invokestatic 170, 3) := dk_184 0 170 (dk_at dksL_law_57 13 rfl rfl)
theorem dL_law_1439 : decode cL_law 1439 = .ok (.istore 6, 2) := dk_54 6 (dk_at dksL_law_57 16 rfl rfl)
theorem dL_law_1441 : decode cL_law 1441 = .ok (.aload_n 2, 1) := dk_44 (dk_at dksL_law_57 18 rfl rfl)
theorem dL_law_1442 : decode cL_law 1442 = .ok (.aload_n 0, 1) := dk_42 (dk_at dksL_law_57 19 rfl rfl)
theorem dL_law_1443 : decode cL_law 1443 = .ok (.iload 5, 2) := dk_21 5 (dk_at dksL_law_57 20 rfl rfl)
theorem dL_law_1445 : decode cL_law 1445 = .ok (.iconst 1, 1) := dk_4 (dk_at dksL_law_57 22 rfl rfl)
theorem dL_law_1446 : decode cL_law 1446 = .ok (.iadd, 1) := dk_96 (dk_at dksL_law_57 23 rfl rfl)
theorem dL_law_1447 : decode cL_law 1447 = .ok (.iaload, 1) := dk_46 (dk_at dksL_law_58 0 rfl rfl)
theorem dL_law_1448 : decode cL_law 1448 = .ok (.invokevirtual 172, 3) := dk_182 0 172 (dk_at dksL_law_58 1 rfl rfl)
theorem dL_law_1451 : decode cL_law 1451 = .ok (.istore 7, 2) := dk_54 7 (dk_at dksL_law_58 4 rfl rfl)
theorem dL_law_1453 : decode cL_law 1453 = .ok (.aload_n 2, 1) := dk_44 (dk_at dksL_law_58 6 rfl rfl)
theorem dL_law_1454 : decode cL_law 1454 = .ok (.invokevirtual 92, 3) := dk_182 0 92 (dk_at dksL_law_58 7 rfl rfl)
theorem dL_law_1457 : decode cL_law 1457 = .ok (.iload 6, 2) := dk_21 6 (dk_at dksL_law_58 10 rfl rfl)
theorem dL_law_1459 : decode cL_law 1459 = .ok (.if_icmp .eq 5, 3) := dk_159 0 5 (dk_at dksL_law_58 12 rfl rfl)
theorem dL_law_1462 : decode cL_law 1462 = .ok (.iconst 0, 1) := dk_3 (dk_at dksL_law_58 15 rfl rfl)
theorem dL_law_1463 : decode cL_law 1463 = .ok (.ireturn, 1) := dk_172 (dk_at dksL_law_58 16 rfl rfl)
theorem dL_law_1464 : decode cL_law 1464 = .ok (.iload 6, 2) := dk_21 6 (dk_at dksL_law_58 17 rfl rfl)
theorem dL_law_1466 : decode cL_law 1466 = .ok (.ifCond .ne 22, 3) := dk_154 0 22 (dk_at dksL_law_58 19 rfl rfl)
theorem dL_law_1469 : decode cL_law 1469 = .ok (.aload_n 3, 1) := dk_45 (dk_at dksL_law_58 22 rfl rfl)
theorem dL_law_1470 : decode cL_law 1470 = .ok (.iconst 0, 1) := dk_3 (dk_at dksL_law_58 23 rfl rfl)
theorem dL_law_1471 : decode cL_law 1471 = .ok (.laload, 1) := dk_47 (dk_at dksL_law_59 0 rfl rfl)
theorem dL_law_1472 : decode cL_law 1472 = .ok (.iload 7, 2) := dk_21 7 (dk_at dksL_law_59 1 rfl rfl)
theorem dL_law_1474 : decode cL_law 1474 = .ok (.ifCond .eq 7, 3) := dk_153 0 7 (dk_at dksL_law_59 3 rfl rfl)
theorem dL_law_1477 : decode cL_law 1477 = .ok (.lconst 1, 1) := dk_10 (dk_at dksL_law_59 6 rfl rfl)
theorem dL_law_1478 : decode cL_law 1478 = .ok (.goto 4, 3) := dk_167 0 4 (dk_at dksL_law_59 7 rfl rfl)
theorem dL_law_1481 : decode cL_law 1481 = .ok (.lconst 0, 1) := dk_9 (dk_at dksL_law_59 10 rfl rfl)
theorem dL_law_1482 : decode cL_law 1482 = .ok (.lcmp, 1) := dk_148 (dk_at dksL_law_59 11 rfl rfl)
theorem dL_law_1483 : decode cL_law 1483 = .ok (.ifCond .eq 5, 3) := dk_153 0 5 (dk_at dksL_law_59 12 rfl rfl)
theorem dL_law_1486 : decode cL_law 1486 = .ok (.iconst 0, 1) := dk_3 (dk_at dksL_law_59 15 rfl rfl)
theorem dL_law_1487 : decode cL_law 1487 = .ok (.ireturn, 1) := dk_172 (dk_at dksL_law_59 16 rfl rfl)
theorem dL_law_1488 : decode cL_law 1488 = .ok (.goto 17, 3) := dk_167 0 17 (dk_at dksL_law_59 17 rfl rfl)
theorem dL_law_1491 : decode cL_law 1491 = .ok (.aload_n 1, 1) := dk_43 (dk_at dksL_law_59 20 rfl rfl)
theorem dL_law_1492 : decode cL_law 1492 = .ok (.invokevirtual 173, 3) := dk_182 0 173 (dk_at dksL_law_59 21 rfl rfl)
theorem dL_law_1495 : decode cL_law 1495 = .ok (.aload_n 2, 1) := dk_44 (dk_at dksL_law_60 0 rfl rfl)
theorem dL_law_1496 : decode cL_law 1496 = .ok (.invokevirtual 177, 3) := dk_182 0 177 (dk_at dksL_law_60 1 rfl rfl)
theorem dL_law_1499 : decode cL_law 1499 = .ok (.lcmp, 1) := dk_148 (dk_at dksL_law_60 4 rfl rfl)
theorem dL_law_1500 : decode cL_law 1500 = .ok (.ifCond .eq 5, 3) := dk_153 0 5 (dk_at dksL_law_60 5 rfl rfl)
theorem dL_law_1503 : decode cL_law 1503 = .ok (.iconst 0, 1) := dk_3 (dk_at dksL_law_60 8 rfl rfl)
theorem dL_law_1504 : decode cL_law 1504 = .ok (.ireturn, 1) := dk_172 (dk_at dksL_law_60 9 rfl rfl)
theorem dL_law_1505 : decode cL_law 1505 = .ok (.iinc 5 6, 3) := dk_132 5 6 (dk_at dksL_law_60 10 rfl rfl)
theorem dL_law_1508 : decode cL_law 1508 = .ok (.goto (-1480), 3) := dk_167 250 56 (dk_at dksL_law_60 13 rfl rfl)
theorem dL_law_1511 : decode cL_law 1511 = .ok (.iconst 1, 1) := dk_4 (dk_at dksL_law_60 16 rfl rfl)
theorem dL_law_1512 : decode cL_law 1512 = .ok (.ireturn, 1) := dk_172 (dk_at dksL_law_60 17 rfl rfl)

