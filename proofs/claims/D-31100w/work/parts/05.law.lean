/-! KalmanQuayLaw -/
set_option maxRecDepth 100000
def RX0 : String := "KalmanQuayLaw"
abbrev cX0_setFilter : ByteArray := method_3_code
def yX0_setFilter : MethodName := ⟨RX0, "setFilter", "(LKalmanQuay;II[J)I"⟩
def dkwX0_setFilter_0 : List UInt8 := [45, 3, 42, 27, 28, 182, 0, 7, 133, 80, 167, 0, 7, 58, 4, 4, 172, 3, 172]
abbrev dktX0_setFilter_0 : List UInt8 := dkwX0_setFilter_0 ++ []
theorem dksX0_setFilter_0 : cX0_setFilter.data.toList.drop 0 = dktX0_setFilter_0 := by decide +kernel
theorem dX0_setFilter_0 : decode cX0_setFilter 0 = .ok (.aload_n 3, 1) := dk_45 (dk_at dksX0_setFilter_0 0 rfl rfl)
theorem dX0_setFilter_1 : decode cX0_setFilter 1 = .ok (.iconst 0, 1) := dk_3 (dk_at dksX0_setFilter_0 1 rfl rfl)
theorem dX0_setFilter_2 : decode cX0_setFilter 2 = .ok (.aload_n 0, 1) := dk_42 (dk_at dksX0_setFilter_0 2 rfl rfl)
theorem dX0_setFilter_3 : decode cX0_setFilter 3 = .ok (.iload_n 1, 1) := dk_27 (dk_at dksX0_setFilter_0 3 rfl rfl)
theorem dX0_setFilter_4 : decode cX0_setFilter 4 = .ok (.iload_n 2, 1) := dk_28 (dk_at dksX0_setFilter_0 4 rfl rfl)
theorem dX0_setFilter_5 : decode cX0_setFilter 5 = .ok (.invokevirtual 7, 3) := dk_182 0 7 (dk_at dksX0_setFilter_0 5 rfl rfl)
theorem dX0_setFilter_8 : decode cX0_setFilter 8 = .ok (.i2l, 1) := dk_133 (dk_at dksX0_setFilter_0 8 rfl rfl)
theorem dX0_setFilter_9 : decode cX0_setFilter 9 = .ok (.lastore, 1) := dk_80 (dk_at dksX0_setFilter_0 9 rfl rfl)
theorem dX0_setFilter_10 : decode cX0_setFilter 10 = .ok (.goto 7, 3) := dk_167 0 7 (dk_at dksX0_setFilter_0 10 rfl rfl)
theorem dX0_setFilter_13 : decode cX0_setFilter 13 = .ok (.astore 4, 2) := dk_58 4 (dk_at dksX0_setFilter_0 13 rfl rfl)
theorem dX0_setFilter_15 : decode cX0_setFilter 15 = .ok (.iconst 1, 1) := dk_4 (dk_at dksX0_setFilter_0 15 rfl rfl)
theorem dX0_setFilter_16 : decode cX0_setFilter 16 = .ok (.ireturn, 1) := dk_172 (dk_at dksX0_setFilter_0 16 rfl rfl)
theorem dX0_setFilter_17 : decode cX0_setFilter 17 = .ok (.iconst 0, 1) := dk_3 (dk_at dksX0_setFilter_0 17 rfl rfl)
theorem dX0_setFilter_18 : decode cX0_setFilter 18 = .ok (.ireturn, 1) := dk_172 (dk_at dksX0_setFilter_0 18 rfl rfl)
abbrev cX0_setTracks : ByteArray := method_4_code
def yX0_setTracks : MethodName := ⟨RX0, "setTracks", "(LKalmanQuay;III[J)I"⟩
def dkwX0_setTracks_0 : List UInt8 := [25, 4, 3, 42, 27, 28, 29, 182, 0, 15, 133, 80, 167, 0, 7, 58, 5, 4, 172, 3, 172]
abbrev dktX0_setTracks_0 : List UInt8 := dkwX0_setTracks_0 ++ []
theorem dksX0_setTracks_0 : cX0_setTracks.data.toList.drop 0 = dktX0_setTracks_0 := by decide +kernel
theorem dX0_setTracks_0 : decode cX0_setTracks 0 = .ok (.aload 4, 2) := dk_25 4 (dk_at dksX0_setTracks_0 0 rfl rfl)
theorem dX0_setTracks_2 : decode cX0_setTracks 2 = .ok (.iconst 0, 1) := dk_3 (dk_at dksX0_setTracks_0 2 rfl rfl)
theorem dX0_setTracks_3 : decode cX0_setTracks 3 = .ok (.aload_n 0, 1) := dk_42 (dk_at dksX0_setTracks_0 3 rfl rfl)
theorem dX0_setTracks_4 : decode cX0_setTracks 4 = .ok (.iload_n 1, 1) := dk_27 (dk_at dksX0_setTracks_0 4 rfl rfl)
theorem dX0_setTracks_5 : decode cX0_setTracks 5 = .ok (.iload_n 2, 1) := dk_28 (dk_at dksX0_setTracks_0 5 rfl rfl)
theorem dX0_setTracks_6 : decode cX0_setTracks 6 = .ok (.iload_n 3, 1) := dk_29 (dk_at dksX0_setTracks_0 6 rfl rfl)
theorem dX0_setTracks_7 : decode cX0_setTracks 7 = .ok (.invokevirtual 15, 3) := dk_182 0 15 (dk_at dksX0_setTracks_0 7 rfl rfl)
theorem dX0_setTracks_10 : decode cX0_setTracks 10 = .ok (.i2l, 1) := dk_133 (dk_at dksX0_setTracks_0 10 rfl rfl)
theorem dX0_setTracks_11 : decode cX0_setTracks 11 = .ok (.lastore, 1) := dk_80 (dk_at dksX0_setTracks_0 11 rfl rfl)
theorem dX0_setTracks_12 : decode cX0_setTracks 12 = .ok (.goto 7, 3) := dk_167 0 7 (dk_at dksX0_setTracks_0 12 rfl rfl)
theorem dX0_setTracks_15 : decode cX0_setTracks 15 = .ok (.astore 5, 2) := dk_58 5 (dk_at dksX0_setTracks_0 15 rfl rfl)
theorem dX0_setTracks_17 : decode cX0_setTracks 17 = .ok (.iconst 1, 1) := dk_4 (dk_at dksX0_setTracks_0 17 rfl rfl)
theorem dX0_setTracks_18 : decode cX0_setTracks 18 = .ok (.ireturn, 1) := dk_172 (dk_at dksX0_setTracks_0 18 rfl rfl)
theorem dX0_setTracks_19 : decode cX0_setTracks 19 = .ok (.iconst 0, 1) := dk_3 (dk_at dksX0_setTracks_0 19 rfl rfl)
theorem dX0_setTracks_20 : decode cX0_setTracks 20 = .ok (.ireturn, 1) := dk_172 (dk_at dksX0_setTracks_0 20 rfl rfl)
abbrev cX0_addSensor : ByteArray := method_5_code
def yX0_addSensor : MethodName := ⟨RX0, "addSensor", "(LKalmanQuay;I[J)I"⟩
def dkwX0_addSensor_0 : List UInt8 := [44, 3, 42, 27, 182, 0, 19, 133, 80, 167, 0, 9, 78, 4, 172, 78, 5, 172, 3, 172]
abbrev dktX0_addSensor_0 : List UInt8 := dkwX0_addSensor_0 ++ []
theorem dksX0_addSensor_0 : cX0_addSensor.data.toList.drop 0 = dktX0_addSensor_0 := by decide +kernel
theorem dX0_addSensor_0 : decode cX0_addSensor 0 = .ok (.aload_n 2, 1) := dk_44 (dk_at dksX0_addSensor_0 0 rfl rfl)
theorem dX0_addSensor_1 : decode cX0_addSensor 1 = .ok (.iconst 0, 1) := dk_3 (dk_at dksX0_addSensor_0 1 rfl rfl)
theorem dX0_addSensor_2 : decode cX0_addSensor 2 = .ok (.aload_n 0, 1) := dk_42 (dk_at dksX0_addSensor_0 2 rfl rfl)
theorem dX0_addSensor_3 : decode cX0_addSensor 3 = .ok (.iload_n 1, 1) := dk_27 (dk_at dksX0_addSensor_0 3 rfl rfl)
theorem dX0_addSensor_4 : decode cX0_addSensor 4 = .ok (.invokevirtual 19, 3) := dk_182 0 19 (dk_at dksX0_addSensor_0 4 rfl rfl)
theorem dX0_addSensor_7 : decode cX0_addSensor 7 = .ok (.i2l, 1) := dk_133 (dk_at dksX0_addSensor_0 7 rfl rfl)
theorem dX0_addSensor_8 : decode cX0_addSensor 8 = .ok (.lastore, 1) := dk_80 (dk_at dksX0_addSensor_0 8 rfl rfl)
theorem dX0_addSensor_9 : decode cX0_addSensor 9 = .ok (.goto 9, 3) := dk_167 0 9 (dk_at dksX0_addSensor_0 9 rfl rfl)
theorem dX0_addSensor_12 : decode cX0_addSensor 12 = .ok (.astore_n 3, 1) := dk_78 (dk_at dksX0_addSensor_0 12 rfl rfl)
theorem dX0_addSensor_13 : decode cX0_addSensor 13 = .ok (.iconst 1, 1) := dk_4 (dk_at dksX0_addSensor_0 13 rfl rfl)
theorem dX0_addSensor_14 : decode cX0_addSensor 14 = .ok (.ireturn, 1) := dk_172 (dk_at dksX0_addSensor_0 14 rfl rfl)
theorem dX0_addSensor_15 : decode cX0_addSensor 15 = .ok (.astore_n 3, 1) := dk_78 (dk_at dksX0_addSensor_0 15 rfl rfl)
theorem dX0_addSensor_16 : decode cX0_addSensor 16 = .ok (.iconst 2, 1) := dk_5 (dk_at dksX0_addSensor_0 16 rfl rfl)
theorem dX0_addSensor_17 : decode cX0_addSensor 17 = .ok (.ireturn, 1) := dk_172 (dk_at dksX0_addSensor_0 17 rfl rfl)
theorem dX0_addSensor_18 : decode cX0_addSensor 18 = .ok (.iconst 0, 1) := dk_3 (dk_at dksX0_addSensor_0 18 rfl rfl)
theorem dX0_addSensor_19 : decode cX0_addSensor 19 = .ok (.ireturn, 1) := dk_172 (dk_at dksX0_addSensor_0 19 rfl rfl)
abbrev cX0_hit : ByteArray := method_6_code
def yX0_hit : MethodName := ⟨RX0, "hit", "(LKalmanQuay;II[J)I"⟩
def dkwX0_hit_1 : List UInt8 := [172, 3, 172]
abbrev dktX0_hit_1 : List UInt8 := dkwX0_hit_1 ++ []
def dkwX0_hit_0 : List UInt8 := [45, 3, 42, 27, 28, 182, 0, 25, 133, 80, 167, 0, 15, 58, 4, 4, 172, 58, 4, 5, 172, 58, 4, 6]
abbrev dktX0_hit_0 : List UInt8 := dkwX0_hit_0 ++ dktX0_hit_1
theorem dksX0_hit_0 : cX0_hit.data.toList.drop 0 = dktX0_hit_0 := by decide +kernel
theorem dksX0_hit_1 : cX0_hit.data.toList.drop 24 = dktX0_hit_1 := dk_seg dksX0_hit_0 24 rfl rfl
theorem dX0_hit_0 : decode cX0_hit 0 = .ok (.aload_n 3, 1) := dk_45 (dk_at dksX0_hit_0 0 rfl rfl)
theorem dX0_hit_1 : decode cX0_hit 1 = .ok (.iconst 0, 1) := dk_3 (dk_at dksX0_hit_0 1 rfl rfl)
theorem dX0_hit_2 : decode cX0_hit 2 = .ok (.aload_n 0, 1) := dk_42 (dk_at dksX0_hit_0 2 rfl rfl)
theorem dX0_hit_3 : decode cX0_hit 3 = .ok (.iload_n 1, 1) := dk_27 (dk_at dksX0_hit_0 3 rfl rfl)
theorem dX0_hit_4 : decode cX0_hit 4 = .ok (.iload_n 2, 1) := dk_28 (dk_at dksX0_hit_0 4 rfl rfl)
theorem dX0_hit_5 : decode cX0_hit 5 = .ok (.invokevirtual 25, 3) := dk_182 0 25 (dk_at dksX0_hit_0 5 rfl rfl)
theorem dX0_hit_8 : decode cX0_hit 8 = .ok (.i2l, 1) := dk_133 (dk_at dksX0_hit_0 8 rfl rfl)
theorem dX0_hit_9 : decode cX0_hit 9 = .ok (.lastore, 1) := dk_80 (dk_at dksX0_hit_0 9 rfl rfl)
theorem dX0_hit_10 : decode cX0_hit 10 = .ok (.goto 15, 3) := dk_167 0 15 (dk_at dksX0_hit_0 10 rfl rfl)
theorem dX0_hit_13 : decode cX0_hit 13 = .ok (.astore 4, 2) := dk_58 4 (dk_at dksX0_hit_0 13 rfl rfl)
theorem dX0_hit_15 : decode cX0_hit 15 = .ok (.iconst 1, 1) := dk_4 (dk_at dksX0_hit_0 15 rfl rfl)
theorem dX0_hit_16 : decode cX0_hit 16 = .ok (.ireturn, 1) := dk_172 (dk_at dksX0_hit_0 16 rfl rfl)
theorem dX0_hit_17 : decode cX0_hit 17 = .ok (.astore 4, 2) := dk_58 4 (dk_at dksX0_hit_0 17 rfl rfl)
theorem dX0_hit_19 : decode cX0_hit 19 = .ok (.iconst 2, 1) := dk_5 (dk_at dksX0_hit_0 19 rfl rfl)
theorem dX0_hit_20 : decode cX0_hit 20 = .ok (.ireturn, 1) := dk_172 (dk_at dksX0_hit_0 20 rfl rfl)
theorem dX0_hit_21 : decode cX0_hit 21 = .ok (.astore 4, 2) := dk_58 4 (dk_at dksX0_hit_0 21 rfl rfl)
theorem dX0_hit_23 : decode cX0_hit 23 = .ok (.iconst 3, 1) := dk_6 (dk_at dksX0_hit_0 23 rfl rfl)
theorem dX0_hit_24 : decode cX0_hit 24 = .ok (.ireturn, 1) := dk_172 (dk_at dksX0_hit_1 0 rfl rfl)
theorem dX0_hit_25 : decode cX0_hit 25 = .ok (.iconst 0, 1) := dk_3 (dk_at dksX0_hit_1 1 rfl rfl)
theorem dX0_hit_26 : decode cX0_hit 26 = .ok (.ireturn, 1) := dk_172 (dk_at dksX0_hit_1 2 rfl rfl)
abbrev cX0_beat : ByteArray := method_7_code
def yX0_beat : MethodName := ⟨RX0, "beat", "(LKalmanQuay;[J)I"⟩
def dkwX0_beat_0 : List UInt8 := [43, 3, 42, 182, 0, 30, 133, 80, 167, 0, 6, 77, 4, 172, 3, 172]
abbrev dktX0_beat_0 : List UInt8 := dkwX0_beat_0 ++ []
theorem dksX0_beat_0 : cX0_beat.data.toList.drop 0 = dktX0_beat_0 := by decide +kernel
theorem dX0_beat_0 : decode cX0_beat 0 = .ok (.aload_n 1, 1) := dk_43 (dk_at dksX0_beat_0 0 rfl rfl)
theorem dX0_beat_1 : decode cX0_beat 1 = .ok (.iconst 0, 1) := dk_3 (dk_at dksX0_beat_0 1 rfl rfl)
theorem dX0_beat_2 : decode cX0_beat 2 = .ok (.aload_n 0, 1) := dk_42 (dk_at dksX0_beat_0 2 rfl rfl)
theorem dX0_beat_3 : decode cX0_beat 3 = .ok (.invokevirtual 30, 3) := dk_182 0 30 (dk_at dksX0_beat_0 3 rfl rfl)
theorem dX0_beat_6 : decode cX0_beat 6 = .ok (.i2l, 1) := dk_133 (dk_at dksX0_beat_0 6 rfl rfl)
theorem dX0_beat_7 : decode cX0_beat 7 = .ok (.lastore, 1) := dk_80 (dk_at dksX0_beat_0 7 rfl rfl)
theorem dX0_beat_8 : decode cX0_beat 8 = .ok (.goto 6, 3) := dk_167 0 6 (dk_at dksX0_beat_0 8 rfl rfl)
theorem dX0_beat_11 : decode cX0_beat 11 = .ok (.astore_n 2, 1) := dk_77 (dk_at dksX0_beat_0 11 rfl rfl)
theorem dX0_beat_12 : decode cX0_beat 12 = .ok (.iconst 1, 1) := dk_4 (dk_at dksX0_beat_0 12 rfl rfl)
theorem dX0_beat_13 : decode cX0_beat 13 = .ok (.ireturn, 1) := dk_172 (dk_at dksX0_beat_0 13 rfl rfl)
theorem dX0_beat_14 : decode cX0_beat 14 = .ok (.iconst 0, 1) := dk_3 (dk_at dksX0_beat_0 14 rfl rfl)
theorem dX0_beat_15 : decode cX0_beat 15 = .ok (.ireturn, 1) := dk_172 (dk_at dksX0_beat_0 15 rfl rfl)
abbrev cX0_beats : ByteArray := method_8_code
def yX0_beats : MethodName := ⟨RX0, "beats", "(LKalmanQuay;I[J)I"⟩
def dkwX0_beats_0 : List UInt8 := [44, 3, 42, 27, 182, 0, 34, 133, 80, 167, 0, 9, 78, 4, 172, 78, 5, 172, 3, 172]
abbrev dktX0_beats_0 : List UInt8 := dkwX0_beats_0 ++ []
theorem dksX0_beats_0 : cX0_beats.data.toList.drop 0 = dktX0_beats_0 := by decide +kernel
theorem dX0_beats_0 : decode cX0_beats 0 = .ok (.aload_n 2, 1) := dk_44 (dk_at dksX0_beats_0 0 rfl rfl)
theorem dX0_beats_1 : decode cX0_beats 1 = .ok (.iconst 0, 1) := dk_3 (dk_at dksX0_beats_0 1 rfl rfl)
theorem dX0_beats_2 : decode cX0_beats 2 = .ok (.aload_n 0, 1) := dk_42 (dk_at dksX0_beats_0 2 rfl rfl)
theorem dX0_beats_3 : decode cX0_beats 3 = .ok (.iload_n 1, 1) := dk_27 (dk_at dksX0_beats_0 3 rfl rfl)
theorem dX0_beats_4 : decode cX0_beats 4 = .ok (.invokevirtual 34, 3) := dk_182 0 34 (dk_at dksX0_beats_0 4 rfl rfl)
theorem dX0_beats_7 : decode cX0_beats 7 = .ok (.i2l, 1) := dk_133 (dk_at dksX0_beats_0 7 rfl rfl)
theorem dX0_beats_8 : decode cX0_beats 8 = .ok (.lastore, 1) := dk_80 (dk_at dksX0_beats_0 8 rfl rfl)
theorem dX0_beats_9 : decode cX0_beats 9 = .ok (.goto 9, 3) := dk_167 0 9 (dk_at dksX0_beats_0 9 rfl rfl)
theorem dX0_beats_12 : decode cX0_beats 12 = .ok (.astore_n 3, 1) := dk_78 (dk_at dksX0_beats_0 12 rfl rfl)
theorem dX0_beats_13 : decode cX0_beats 13 = .ok (.iconst 1, 1) := dk_4 (dk_at dksX0_beats_0 13 rfl rfl)
theorem dX0_beats_14 : decode cX0_beats 14 = .ok (.ireturn, 1) := dk_172 (dk_at dksX0_beats_0 14 rfl rfl)
theorem dX0_beats_15 : decode cX0_beats 15 = .ok (.astore_n 3, 1) := dk_78 (dk_at dksX0_beats_0 15 rfl rfl)
theorem dX0_beats_16 : decode cX0_beats 16 = .ok (.iconst 2, 1) := dk_5 (dk_at dksX0_beats_0 16 rfl rfl)
theorem dX0_beats_17 : decode cX0_beats 17 = .ok (.ireturn, 1) := dk_172 (dk_at dksX0_beats_0 17 rfl rfl)
theorem dX0_beats_18 : decode cX0_beats 18 = .ok (.iconst 0, 1) := dk_3 (dk_at dksX0_beats_0 18 rfl rfl)
theorem dX0_beats_19 : decode cX0_beats 19 = .ok (.ireturn, 1) := dk_172 (dk_at dksX0_beats_0 19 rfl rfl)
abbrev cX0_trackOf : ByteArray := method_9_code
def yX0_trackOf : MethodName := ⟨RX0, "trackOf", "(LKalmanQuay;I[J)I"⟩
def dkwX0_trackOf_0 : List UInt8 := [44, 3, 42, 27, 182, 0, 37, 133, 80, 167, 0, 6, 78, 4, 172, 3, 172]
abbrev dktX0_trackOf_0 : List UInt8 := dkwX0_trackOf_0 ++ []
theorem dksX0_trackOf_0 : cX0_trackOf.data.toList.drop 0 = dktX0_trackOf_0 := by decide +kernel
theorem dX0_trackOf_0 : decode cX0_trackOf 0 = .ok (.aload_n 2, 1) := dk_44 (dk_at dksX0_trackOf_0 0 rfl rfl)
theorem dX0_trackOf_1 : decode cX0_trackOf 1 = .ok (.iconst 0, 1) := dk_3 (dk_at dksX0_trackOf_0 1 rfl rfl)
theorem dX0_trackOf_2 : decode cX0_trackOf 2 = .ok (.aload_n 0, 1) := dk_42 (dk_at dksX0_trackOf_0 2 rfl rfl)
theorem dX0_trackOf_3 : decode cX0_trackOf 3 = .ok (.iload_n 1, 1) := dk_27 (dk_at dksX0_trackOf_0 3 rfl rfl)
theorem dX0_trackOf_4 : decode cX0_trackOf 4 = .ok (.invokevirtual 37, 3) := dk_182 0 37 (dk_at dksX0_trackOf_0 4 rfl rfl)
theorem dX0_trackOf_7 : decode cX0_trackOf 7 = .ok (.i2l, 1) := dk_133 (dk_at dksX0_trackOf_0 7 rfl rfl)
theorem dX0_trackOf_8 : decode cX0_trackOf 8 = .ok (.lastore, 1) := dk_80 (dk_at dksX0_trackOf_0 8 rfl rfl)
theorem dX0_trackOf_9 : decode cX0_trackOf 9 = .ok (.goto 6, 3) := dk_167 0 6 (dk_at dksX0_trackOf_0 9 rfl rfl)
theorem dX0_trackOf_12 : decode cX0_trackOf 12 = .ok (.astore_n 3, 1) := dk_78 (dk_at dksX0_trackOf_0 12 rfl rfl)
theorem dX0_trackOf_13 : decode cX0_trackOf 13 = .ok (.iconst 1, 1) := dk_4 (dk_at dksX0_trackOf_0 13 rfl rfl)
theorem dX0_trackOf_14 : decode cX0_trackOf 14 = .ok (.ireturn, 1) := dk_172 (dk_at dksX0_trackOf_0 14 rfl rfl)
theorem dX0_trackOf_15 : decode cX0_trackOf 15 = .ok (.iconst 0, 1) := dk_3 (dk_at dksX0_trackOf_0 15 rfl rfl)
theorem dX0_trackOf_16 : decode cX0_trackOf 16 = .ok (.ireturn, 1) := dk_172 (dk_at dksX0_trackOf_0 16 rfl rfl)
abbrev cX0_isAlive : ByteArray := method_10_code
def yX0_isAlive : MethodName := ⟨RX0, "isAlive", "(LKalmanQuay;I[J)I"⟩
def dkwX0_isAlive_0 : List UInt8 := [44, 3, 42, 27, 182, 0, 40, 153, 0, 7, 10, 167, 0, 4, 9, 80, 167, 0, 6, 78, 4, 172, 3, 172]
abbrev dktX0_isAlive_0 : List UInt8 := dkwX0_isAlive_0 ++ []
theorem dksX0_isAlive_0 : cX0_isAlive.data.toList.drop 0 = dktX0_isAlive_0 := by decide +kernel
theorem dX0_isAlive_0 : decode cX0_isAlive 0 = .ok (.aload_n 2, 1) := dk_44 (dk_at dksX0_isAlive_0 0 rfl rfl)
theorem dX0_isAlive_1 : decode cX0_isAlive 1 = .ok (.iconst 0, 1) := dk_3 (dk_at dksX0_isAlive_0 1 rfl rfl)
theorem dX0_isAlive_2 : decode cX0_isAlive 2 = .ok (.aload_n 0, 1) := dk_42 (dk_at dksX0_isAlive_0 2 rfl rfl)
theorem dX0_isAlive_3 : decode cX0_isAlive 3 = .ok (.iload_n 1, 1) := dk_27 (dk_at dksX0_isAlive_0 3 rfl rfl)
theorem dX0_isAlive_4 : decode cX0_isAlive 4 = .ok (.invokevirtual 40, 3) := dk_182 0 40 (dk_at dksX0_isAlive_0 4 rfl rfl)
theorem dX0_isAlive_7 : decode cX0_isAlive 7 = .ok (.ifCond .eq 7, 3) := dk_153 0 7 (dk_at dksX0_isAlive_0 7 rfl rfl)
theorem dX0_isAlive_10 : decode cX0_isAlive 10 = .ok (.lconst 1, 1) := dk_10 (dk_at dksX0_isAlive_0 10 rfl rfl)
theorem dX0_isAlive_11 : decode cX0_isAlive 11 = .ok (.goto 4, 3) := dk_167 0 4 (dk_at dksX0_isAlive_0 11 rfl rfl)
theorem dX0_isAlive_14 : decode cX0_isAlive 14 = .ok (.lconst 0, 1) := dk_9 (dk_at dksX0_isAlive_0 14 rfl rfl)
theorem dX0_isAlive_15 : decode cX0_isAlive 15 = .ok (.lastore, 1) := dk_80 (dk_at dksX0_isAlive_0 15 rfl rfl)
theorem dX0_isAlive_16 : decode cX0_isAlive 16 = .ok (.goto 6, 3) := dk_167 0 6 (dk_at dksX0_isAlive_0 16 rfl rfl)
theorem dX0_isAlive_19 : decode cX0_isAlive 19 = .ok (.astore_n 3, 1) := dk_78 (dk_at dksX0_isAlive_0 19 rfl rfl)
theorem dX0_isAlive_20 : decode cX0_isAlive 20 = .ok (.iconst 1, 1) := dk_4 (dk_at dksX0_isAlive_0 20 rfl rfl)
theorem dX0_isAlive_21 : decode cX0_isAlive 21 = .ok (.ireturn, 1) := dk_172 (dk_at dksX0_isAlive_0 21 rfl rfl)
theorem dX0_isAlive_22 : decode cX0_isAlive 22 = .ok (.iconst 0, 1) := dk_3 (dk_at dksX0_isAlive_0 22 rfl rfl)
theorem dX0_isAlive_23 : decode cX0_isAlive 23 = .ok (.ireturn, 1) := dk_172 (dk_at dksX0_isAlive_0 23 rfl rfl)
abbrev cX0_isProven : ByteArray := method_11_code
def yX0_isProven : MethodName := ⟨RX0, "isProven", "(LKalmanQuay;I[J)I"⟩
def dkwX0_isProven_0 : List UInt8 := [44, 3, 42, 27, 182, 0, 44, 153, 0, 7, 10, 167, 0, 4, 9, 80, 167, 0, 6, 78, 4, 172, 3, 172]
abbrev dktX0_isProven_0 : List UInt8 := dkwX0_isProven_0 ++ []
theorem dksX0_isProven_0 : cX0_isProven.data.toList.drop 0 = dktX0_isProven_0 := by decide +kernel
theorem dX0_isProven_0 : decode cX0_isProven 0 = .ok (.aload_n 2, 1) := dk_44 (dk_at dksX0_isProven_0 0 rfl rfl)
theorem dX0_isProven_1 : decode cX0_isProven 1 = .ok (.iconst 0, 1) := dk_3 (dk_at dksX0_isProven_0 1 rfl rfl)
theorem dX0_isProven_2 : decode cX0_isProven 2 = .ok (.aload_n 0, 1) := dk_42 (dk_at dksX0_isProven_0 2 rfl rfl)
theorem dX0_isProven_3 : decode cX0_isProven 3 = .ok (.iload_n 1, 1) := dk_27 (dk_at dksX0_isProven_0 3 rfl rfl)
theorem dX0_isProven_4 : decode cX0_isProven 4 = .ok (.invokevirtual 44, 3) := dk_182 0 44 (dk_at dksX0_isProven_0 4 rfl rfl)
theorem dX0_isProven_7 : decode cX0_isProven 7 = .ok (.ifCond .eq 7, 3) := dk_153 0 7 (dk_at dksX0_isProven_0 7 rfl rfl)
theorem dX0_isProven_10 : decode cX0_isProven 10 = .ok (.lconst 1, 1) := dk_10 (dk_at dksX0_isProven_0 10 rfl rfl)
theorem dX0_isProven_11 : decode cX0_isProven 11 = .ok (.goto 4, 3) := dk_167 0 4 (dk_at dksX0_isProven_0 11 rfl rfl)
theorem dX0_isProven_14 : decode cX0_isProven 14 = .ok (.lconst 0, 1) := dk_9 (dk_at dksX0_isProven_0 14 rfl rfl)
theorem dX0_isProven_15 : decode cX0_isProven 15 = .ok (.lastore, 1) := dk_80 (dk_at dksX0_isProven_0 15 rfl rfl)
theorem dX0_isProven_16 : decode cX0_isProven 16 = .ok (.goto 6, 3) := dk_167 0 6 (dk_at dksX0_isProven_0 16 rfl rfl)
theorem dX0_isProven_19 : decode cX0_isProven 19 = .ok (.astore_n 3, 1) := dk_78 (dk_at dksX0_isProven_0 19 rfl rfl)
theorem dX0_isProven_20 : decode cX0_isProven 20 = .ok (.iconst 1, 1) := dk_4 (dk_at dksX0_isProven_0 20 rfl rfl)
theorem dX0_isProven_21 : decode cX0_isProven 21 = .ok (.ireturn, 1) := dk_172 (dk_at dksX0_isProven_0 21 rfl rfl)
theorem dX0_isProven_22 : decode cX0_isProven 22 = .ok (.iconst 0, 1) := dk_3 (dk_at dksX0_isProven_0 22 rfl rfl)
theorem dX0_isProven_23 : decode cX0_isProven 23 = .ok (.ireturn, 1) := dk_172 (dk_at dksX0_isProven_0 23 rfl rfl)
abbrev cX0_placeOf : ByteArray := method_12_code
def yX0_placeOf : MethodName := ⟨RX0, "placeOf", "(LKalmanQuay;I[J)I"⟩
def dkwX0_placeOf_0 : List UInt8 := [44, 3, 42, 27, 182, 0, 47, 133, 80, 167, 0, 6, 78, 4, 172, 3, 172]
abbrev dktX0_placeOf_0 : List UInt8 := dkwX0_placeOf_0 ++ []
theorem dksX0_placeOf_0 : cX0_placeOf.data.toList.drop 0 = dktX0_placeOf_0 := by decide +kernel
theorem dX0_placeOf_0 : decode cX0_placeOf 0 = .ok (.aload_n 2, 1) := dk_44 (dk_at dksX0_placeOf_0 0 rfl rfl)
theorem dX0_placeOf_1 : decode cX0_placeOf 1 = .ok (.iconst 0, 1) := dk_3 (dk_at dksX0_placeOf_0 1 rfl rfl)
theorem dX0_placeOf_2 : decode cX0_placeOf 2 = .ok (.aload_n 0, 1) := dk_42 (dk_at dksX0_placeOf_0 2 rfl rfl)
theorem dX0_placeOf_3 : decode cX0_placeOf 3 = .ok (.iload_n 1, 1) := dk_27 (dk_at dksX0_placeOf_0 3 rfl rfl)
theorem dX0_placeOf_4 : decode cX0_placeOf 4 = .ok (.invokevirtual 47, 3) := dk_182 0 47 (dk_at dksX0_placeOf_0 4 rfl rfl)
theorem dX0_placeOf_7 : decode cX0_placeOf 7 = .ok (.i2l, 1) := dk_133 (dk_at dksX0_placeOf_0 7 rfl rfl)
theorem dX0_placeOf_8 : decode cX0_placeOf 8 = .ok (.lastore, 1) := dk_80 (dk_at dksX0_placeOf_0 8 rfl rfl)
theorem dX0_placeOf_9 : decode cX0_placeOf 9 = .ok (.goto 6, 3) := dk_167 0 6 (dk_at dksX0_placeOf_0 9 rfl rfl)
theorem dX0_placeOf_12 : decode cX0_placeOf 12 = .ok (.astore_n 3, 1) := dk_78 (dk_at dksX0_placeOf_0 12 rfl rfl)
theorem dX0_placeOf_13 : decode cX0_placeOf 13 = .ok (.iconst 1, 1) := dk_4 (dk_at dksX0_placeOf_0 13 rfl rfl)
theorem dX0_placeOf_14 : decode cX0_placeOf 14 = .ok (.ireturn, 1) := dk_172 (dk_at dksX0_placeOf_0 14 rfl rfl)
theorem dX0_placeOf_15 : decode cX0_placeOf 15 = .ok (.iconst 0, 1) := dk_3 (dk_at dksX0_placeOf_0 15 rfl rfl)
theorem dX0_placeOf_16 : decode cX0_placeOf 16 = .ok (.ireturn, 1) := dk_172 (dk_at dksX0_placeOf_0 16 rfl rfl)
abbrev cX0_speedOf : ByteArray := method_13_code
def yX0_speedOf : MethodName := ⟨RX0, "speedOf", "(LKalmanQuay;I[J)I"⟩
def dkwX0_speedOf_0 : List UInt8 := [44, 3, 42, 27, 182, 0, 50, 133, 80, 167, 0, 6, 78, 4, 172, 3, 172]
abbrev dktX0_speedOf_0 : List UInt8 := dkwX0_speedOf_0 ++ []
theorem dksX0_speedOf_0 : cX0_speedOf.data.toList.drop 0 = dktX0_speedOf_0 := by decide +kernel
theorem dX0_speedOf_0 : decode cX0_speedOf 0 = .ok (.aload_n 2, 1) := dk_44 (dk_at dksX0_speedOf_0 0 rfl rfl)
theorem dX0_speedOf_1 : decode cX0_speedOf 1 = .ok (.iconst 0, 1) := dk_3 (dk_at dksX0_speedOf_0 1 rfl rfl)
theorem dX0_speedOf_2 : decode cX0_speedOf 2 = .ok (.aload_n 0, 1) := dk_42 (dk_at dksX0_speedOf_0 2 rfl rfl)
theorem dX0_speedOf_3 : decode cX0_speedOf 3 = .ok (.iload_n 1, 1) := dk_27 (dk_at dksX0_speedOf_0 3 rfl rfl)
theorem dX0_speedOf_4 : decode cX0_speedOf 4 = .ok (.invokevirtual 50, 3) := dk_182 0 50 (dk_at dksX0_speedOf_0 4 rfl rfl)
theorem dX0_speedOf_7 : decode cX0_speedOf 7 = .ok (.i2l, 1) := dk_133 (dk_at dksX0_speedOf_0 7 rfl rfl)
theorem dX0_speedOf_8 : decode cX0_speedOf 8 = .ok (.lastore, 1) := dk_80 (dk_at dksX0_speedOf_0 8 rfl rfl)
theorem dX0_speedOf_9 : decode cX0_speedOf 9 = .ok (.goto 6, 3) := dk_167 0 6 (dk_at dksX0_speedOf_0 9 rfl rfl)
theorem dX0_speedOf_12 : decode cX0_speedOf 12 = .ok (.astore_n 3, 1) := dk_78 (dk_at dksX0_speedOf_0 12 rfl rfl)
theorem dX0_speedOf_13 : decode cX0_speedOf 13 = .ok (.iconst 1, 1) := dk_4 (dk_at dksX0_speedOf_0 13 rfl rfl)
theorem dX0_speedOf_14 : decode cX0_speedOf 14 = .ok (.ireturn, 1) := dk_172 (dk_at dksX0_speedOf_0 14 rfl rfl)
theorem dX0_speedOf_15 : decode cX0_speedOf 15 = .ok (.iconst 0, 1) := dk_3 (dk_at dksX0_speedOf_0 15 rfl rfl)
theorem dX0_speedOf_16 : decode cX0_speedOf 16 = .ok (.ireturn, 1) := dk_172 (dk_at dksX0_speedOf_0 16 rfl rfl)
abbrev cX0_varianceOf : ByteArray := method_14_code
def yX0_varianceOf : MethodName := ⟨RX0, "varianceOf", "(LKalmanQuay;II[J)I"⟩
def dkwX0_varianceOf_0 : List UInt8 := [45, 3, 42, 27, 28, 182, 0, 53, 133, 80, 167, 0, 11, 58, 4, 4, 172, 58, 4, 5, 172, 3, 172]
abbrev dktX0_varianceOf_0 : List UInt8 := dkwX0_varianceOf_0 ++ []
theorem dksX0_varianceOf_0 : cX0_varianceOf.data.toList.drop 0 = dktX0_varianceOf_0 := by decide +kernel
theorem dX0_varianceOf_0 : decode cX0_varianceOf 0 = .ok (.aload_n 3, 1) := dk_45 (dk_at dksX0_varianceOf_0 0 rfl rfl)
theorem dX0_varianceOf_1 : decode cX0_varianceOf 1 = .ok (.iconst 0, 1) := dk_3 (dk_at dksX0_varianceOf_0 1 rfl rfl)
theorem dX0_varianceOf_2 : decode cX0_varianceOf 2 = .ok (.aload_n 0, 1) := dk_42 (dk_at dksX0_varianceOf_0 2 rfl rfl)
theorem dX0_varianceOf_3 : decode cX0_varianceOf 3 = .ok (.iload_n 1, 1) := dk_27 (dk_at dksX0_varianceOf_0 3 rfl rfl)
theorem dX0_varianceOf_4 : decode cX0_varianceOf 4 = .ok (.iload_n 2, 1) := dk_28 (dk_at dksX0_varianceOf_0 4 rfl rfl)
theorem dX0_varianceOf_5 : decode cX0_varianceOf 5 = .ok (.invokevirtual 53, 3) := dk_182 0 53 (dk_at dksX0_varianceOf_0 5 rfl rfl)
theorem dX0_varianceOf_8 : decode cX0_varianceOf 8 = .ok (.i2l, 1) := dk_133 (dk_at dksX0_varianceOf_0 8 rfl rfl)
theorem dX0_varianceOf_9 : decode cX0_varianceOf 9 = .ok (.lastore, 1) := dk_80 (dk_at dksX0_varianceOf_0 9 rfl rfl)
theorem dX0_varianceOf_10 : decode cX0_varianceOf 10 = .ok (.goto 11, 3) := dk_167 0 11 (dk_at dksX0_varianceOf_0 10 rfl rfl)
theorem dX0_varianceOf_13 : decode cX0_varianceOf 13 = .ok (.astore 4, 2) := dk_58 4 (dk_at dksX0_varianceOf_0 13 rfl rfl)
theorem dX0_varianceOf_15 : decode cX0_varianceOf 15 = .ok (.iconst 1, 1) := dk_4 (dk_at dksX0_varianceOf_0 15 rfl rfl)
theorem dX0_varianceOf_16 : decode cX0_varianceOf 16 = .ok (.ireturn, 1) := dk_172 (dk_at dksX0_varianceOf_0 16 rfl rfl)
theorem dX0_varianceOf_17 : decode cX0_varianceOf 17 = .ok (.astore 4, 2) := dk_58 4 (dk_at dksX0_varianceOf_0 17 rfl rfl)
theorem dX0_varianceOf_19 : decode cX0_varianceOf 19 = .ok (.iconst 2, 1) := dk_5 (dk_at dksX0_varianceOf_0 19 rfl rfl)
theorem dX0_varianceOf_20 : decode cX0_varianceOf 20 = .ok (.ireturn, 1) := dk_172 (dk_at dksX0_varianceOf_0 20 rfl rfl)
theorem dX0_varianceOf_21 : decode cX0_varianceOf 21 = .ok (.iconst 0, 1) := dk_3 (dk_at dksX0_varianceOf_0 21 rfl rfl)
theorem dX0_varianceOf_22 : decode cX0_varianceOf 22 = .ok (.ireturn, 1) := dk_172 (dk_at dksX0_varianceOf_0 22 rfl rfl)
abbrev cX0_hitBeats : ByteArray := method_15_code
def yX0_hitBeats : MethodName := ⟨RX0, "hitBeats", "(LKalmanQuay;I[J)I"⟩
def dkwX0_hitBeats_0 : List UInt8 := [44, 3, 42, 27, 182, 0, 56, 133, 80, 167, 0, 6, 78, 4, 172, 3, 172]
abbrev dktX0_hitBeats_0 : List UInt8 := dkwX0_hitBeats_0 ++ []
theorem dksX0_hitBeats_0 : cX0_hitBeats.data.toList.drop 0 = dktX0_hitBeats_0 := by decide +kernel
theorem dX0_hitBeats_0 : decode cX0_hitBeats 0 = .ok (.aload_n 2, 1) := dk_44 (dk_at dksX0_hitBeats_0 0 rfl rfl)
theorem dX0_hitBeats_1 : decode cX0_hitBeats 1 = .ok (.iconst 0, 1) := dk_3 (dk_at dksX0_hitBeats_0 1 rfl rfl)
theorem dX0_hitBeats_2 : decode cX0_hitBeats 2 = .ok (.aload_n 0, 1) := dk_42 (dk_at dksX0_hitBeats_0 2 rfl rfl)
theorem dX0_hitBeats_3 : decode cX0_hitBeats 3 = .ok (.iload_n 1, 1) := dk_27 (dk_at dksX0_hitBeats_0 3 rfl rfl)
theorem dX0_hitBeats_4 : decode cX0_hitBeats 4 = .ok (.invokevirtual 56, 3) := dk_182 0 56 (dk_at dksX0_hitBeats_0 4 rfl rfl)
theorem dX0_hitBeats_7 : decode cX0_hitBeats 7 = .ok (.i2l, 1) := dk_133 (dk_at dksX0_hitBeats_0 7 rfl rfl)
theorem dX0_hitBeats_8 : decode cX0_hitBeats 8 = .ok (.lastore, 1) := dk_80 (dk_at dksX0_hitBeats_0 8 rfl rfl)
theorem dX0_hitBeats_9 : decode cX0_hitBeats 9 = .ok (.goto 6, 3) := dk_167 0 6 (dk_at dksX0_hitBeats_0 9 rfl rfl)
theorem dX0_hitBeats_12 : decode cX0_hitBeats 12 = .ok (.astore_n 3, 1) := dk_78 (dk_at dksX0_hitBeats_0 12 rfl rfl)
theorem dX0_hitBeats_13 : decode cX0_hitBeats 13 = .ok (.iconst 1, 1) := dk_4 (dk_at dksX0_hitBeats_0 13 rfl rfl)
theorem dX0_hitBeats_14 : decode cX0_hitBeats 14 = .ok (.ireturn, 1) := dk_172 (dk_at dksX0_hitBeats_0 14 rfl rfl)
theorem dX0_hitBeats_15 : decode cX0_hitBeats 15 = .ok (.iconst 0, 1) := dk_3 (dk_at dksX0_hitBeats_0 15 rfl rfl)
theorem dX0_hitBeats_16 : decode cX0_hitBeats 16 = .ok (.ireturn, 1) := dk_172 (dk_at dksX0_hitBeats_0 16 rfl rfl)
abbrev cX0_misses : ByteArray := method_16_code
def yX0_misses : MethodName := ⟨RX0, "misses", "(LKalmanQuay;I[J)I"⟩
def dkwX0_misses_0 : List UInt8 := [44, 3, 42, 27, 182, 0, 59, 133, 80, 167, 0, 6, 78, 4, 172, 3, 172]
abbrev dktX0_misses_0 : List UInt8 := dkwX0_misses_0 ++ []
theorem dksX0_misses_0 : cX0_misses.data.toList.drop 0 = dktX0_misses_0 := by decide +kernel
theorem dX0_misses_0 : decode cX0_misses 0 = .ok (.aload_n 2, 1) := dk_44 (dk_at dksX0_misses_0 0 rfl rfl)
theorem dX0_misses_1 : decode cX0_misses 1 = .ok (.iconst 0, 1) := dk_3 (dk_at dksX0_misses_0 1 rfl rfl)
theorem dX0_misses_2 : decode cX0_misses 2 = .ok (.aload_n 0, 1) := dk_42 (dk_at dksX0_misses_0 2 rfl rfl)
theorem dX0_misses_3 : decode cX0_misses 3 = .ok (.iload_n 1, 1) := dk_27 (dk_at dksX0_misses_0 3 rfl rfl)
theorem dX0_misses_4 : decode cX0_misses 4 = .ok (.invokevirtual 59, 3) := dk_182 0 59 (dk_at dksX0_misses_0 4 rfl rfl)
theorem dX0_misses_7 : decode cX0_misses 7 = .ok (.i2l, 1) := dk_133 (dk_at dksX0_misses_0 7 rfl rfl)
theorem dX0_misses_8 : decode cX0_misses 8 = .ok (.lastore, 1) := dk_80 (dk_at dksX0_misses_0 8 rfl rfl)
theorem dX0_misses_9 : decode cX0_misses 9 = .ok (.goto 6, 3) := dk_167 0 6 (dk_at dksX0_misses_0 9 rfl rfl)
theorem dX0_misses_12 : decode cX0_misses 12 = .ok (.astore_n 3, 1) := dk_78 (dk_at dksX0_misses_0 12 rfl rfl)
theorem dX0_misses_13 : decode cX0_misses 13 = .ok (.iconst 1, 1) := dk_4 (dk_at dksX0_misses_0 13 rfl rfl)
theorem dX0_misses_14 : decode cX0_misses 14 = .ok (.ireturn, 1) := dk_172 (dk_at dksX0_misses_0 14 rfl rfl)
theorem dX0_misses_15 : decode cX0_misses 15 = .ok (.iconst 0, 1) := dk_3 (dk_at dksX0_misses_0 15 rfl rfl)
theorem dX0_misses_16 : decode cX0_misses 16 = .ok (.ireturn, 1) := dk_172 (dk_at dksX0_misses_0 16 rfl rfl)
abbrev cX0_hitsOf : ByteArray := method_17_code
def yX0_hitsOf : MethodName := ⟨RX0, "hitsOf", "(LKalmanQuay;I[J)I"⟩
def dkwX0_hitsOf_0 : List UInt8 := [44, 3, 42, 27, 182, 0, 62, 133, 80, 167, 0, 6, 78, 4, 172, 3, 172]
abbrev dktX0_hitsOf_0 : List UInt8 := dkwX0_hitsOf_0 ++ []
theorem dksX0_hitsOf_0 : cX0_hitsOf.data.toList.drop 0 = dktX0_hitsOf_0 := by decide +kernel
theorem dX0_hitsOf_0 : decode cX0_hitsOf 0 = .ok (.aload_n 2, 1) := dk_44 (dk_at dksX0_hitsOf_0 0 rfl rfl)
theorem dX0_hitsOf_1 : decode cX0_hitsOf 1 = .ok (.iconst 0, 1) := dk_3 (dk_at dksX0_hitsOf_0 1 rfl rfl)
theorem dX0_hitsOf_2 : decode cX0_hitsOf 2 = .ok (.aload_n 0, 1) := dk_42 (dk_at dksX0_hitsOf_0 2 rfl rfl)
theorem dX0_hitsOf_3 : decode cX0_hitsOf 3 = .ok (.iload_n 1, 1) := dk_27 (dk_at dksX0_hitsOf_0 3 rfl rfl)
theorem dX0_hitsOf_4 : decode cX0_hitsOf 4 = .ok (.invokevirtual 62, 3) := dk_182 0 62 (dk_at dksX0_hitsOf_0 4 rfl rfl)
theorem dX0_hitsOf_7 : decode cX0_hitsOf 7 = .ok (.i2l, 1) := dk_133 (dk_at dksX0_hitsOf_0 7 rfl rfl)
theorem dX0_hitsOf_8 : decode cX0_hitsOf 8 = .ok (.lastore, 1) := dk_80 (dk_at dksX0_hitsOf_0 8 rfl rfl)
theorem dX0_hitsOf_9 : decode cX0_hitsOf 9 = .ok (.goto 6, 3) := dk_167 0 6 (dk_at dksX0_hitsOf_0 9 rfl rfl)
theorem dX0_hitsOf_12 : decode cX0_hitsOf 12 = .ok (.astore_n 3, 1) := dk_78 (dk_at dksX0_hitsOf_0 12 rfl rfl)
theorem dX0_hitsOf_13 : decode cX0_hitsOf 13 = .ok (.iconst 1, 1) := dk_4 (dk_at dksX0_hitsOf_0 13 rfl rfl)
theorem dX0_hitsOf_14 : decode cX0_hitsOf 14 = .ok (.ireturn, 1) := dk_172 (dk_at dksX0_hitsOf_0 14 rfl rfl)
theorem dX0_hitsOf_15 : decode cX0_hitsOf 15 = .ok (.iconst 0, 1) := dk_3 (dk_at dksX0_hitsOf_0 15 rfl rfl)
theorem dX0_hitsOf_16 : decode cX0_hitsOf 16 = .ok (.ireturn, 1) := dk_172 (dk_at dksX0_hitsOf_0 16 rfl rfl)
abbrev cX0_beginOf : ByteArray := method_18_code
def yX0_beginOf : MethodName := ⟨RX0, "beginOf", "(LKalmanQuay;I[J)I"⟩
def dkwX0_beginOf_0 : List UInt8 := [44, 3, 42, 27, 182, 0, 65, 133, 80, 167, 0, 6, 78, 4, 172, 3, 172]
abbrev dktX0_beginOf_0 : List UInt8 := dkwX0_beginOf_0 ++ []
theorem dksX0_beginOf_0 : cX0_beginOf.data.toList.drop 0 = dktX0_beginOf_0 := by decide +kernel
theorem dX0_beginOf_0 : decode cX0_beginOf 0 = .ok (.aload_n 2, 1) := dk_44 (dk_at dksX0_beginOf_0 0 rfl rfl)
theorem dX0_beginOf_1 : decode cX0_beginOf 1 = .ok (.iconst 0, 1) := dk_3 (dk_at dksX0_beginOf_0 1 rfl rfl)
theorem dX0_beginOf_2 : decode cX0_beginOf 2 = .ok (.aload_n 0, 1) := dk_42 (dk_at dksX0_beginOf_0 2 rfl rfl)
theorem dX0_beginOf_3 : decode cX0_beginOf 3 = .ok (.iload_n 1, 1) := dk_27 (dk_at dksX0_beginOf_0 3 rfl rfl)
theorem dX0_beginOf_4 : decode cX0_beginOf 4 = .ok (.invokevirtual 65, 3) := dk_182 0 65 (dk_at dksX0_beginOf_0 4 rfl rfl)
theorem dX0_beginOf_7 : decode cX0_beginOf 7 = .ok (.i2l, 1) := dk_133 (dk_at dksX0_beginOf_0 7 rfl rfl)
theorem dX0_beginOf_8 : decode cX0_beginOf 8 = .ok (.lastore, 1) := dk_80 (dk_at dksX0_beginOf_0 8 rfl rfl)
theorem dX0_beginOf_9 : decode cX0_beginOf 9 = .ok (.goto 6, 3) := dk_167 0 6 (dk_at dksX0_beginOf_0 9 rfl rfl)
theorem dX0_beginOf_12 : decode cX0_beginOf 12 = .ok (.astore_n 3, 1) := dk_78 (dk_at dksX0_beginOf_0 12 rfl rfl)
theorem dX0_beginOf_13 : decode cX0_beginOf 13 = .ok (.iconst 1, 1) := dk_4 (dk_at dksX0_beginOf_0 13 rfl rfl)
theorem dX0_beginOf_14 : decode cX0_beginOf 14 = .ok (.ireturn, 1) := dk_172 (dk_at dksX0_beginOf_0 14 rfl rfl)
theorem dX0_beginOf_15 : decode cX0_beginOf 15 = .ok (.iconst 0, 1) := dk_3 (dk_at dksX0_beginOf_0 15 rfl rfl)
theorem dX0_beginOf_16 : decode cX0_beginOf 16 = .ok (.ireturn, 1) := dk_172 (dk_at dksX0_beginOf_0 16 rfl rfl)
abbrev cX0_endOf : ByteArray := method_19_code
def yX0_endOf : MethodName := ⟨RX0, "endOf", "(LKalmanQuay;I[J)I"⟩
def dkwX0_endOf_0 : List UInt8 := [44, 3, 42, 27, 182, 0, 68, 133, 80, 167, 0, 6, 78, 4, 172, 3, 172]
abbrev dktX0_endOf_0 : List UInt8 := dkwX0_endOf_0 ++ []
theorem dksX0_endOf_0 : cX0_endOf.data.toList.drop 0 = dktX0_endOf_0 := by decide +kernel
theorem dX0_endOf_0 : decode cX0_endOf 0 = .ok (.aload_n 2, 1) := dk_44 (dk_at dksX0_endOf_0 0 rfl rfl)
theorem dX0_endOf_1 : decode cX0_endOf 1 = .ok (.iconst 0, 1) := dk_3 (dk_at dksX0_endOf_0 1 rfl rfl)
theorem dX0_endOf_2 : decode cX0_endOf 2 = .ok (.aload_n 0, 1) := dk_42 (dk_at dksX0_endOf_0 2 rfl rfl)
theorem dX0_endOf_3 : decode cX0_endOf 3 = .ok (.iload_n 1, 1) := dk_27 (dk_at dksX0_endOf_0 3 rfl rfl)
theorem dX0_endOf_4 : decode cX0_endOf 4 = .ok (.invokevirtual 68, 3) := dk_182 0 68 (dk_at dksX0_endOf_0 4 rfl rfl)
theorem dX0_endOf_7 : decode cX0_endOf 7 = .ok (.i2l, 1) := dk_133 (dk_at dksX0_endOf_0 7 rfl rfl)
theorem dX0_endOf_8 : decode cX0_endOf 8 = .ok (.lastore, 1) := dk_80 (dk_at dksX0_endOf_0 8 rfl rfl)
theorem dX0_endOf_9 : decode cX0_endOf 9 = .ok (.goto 6, 3) := dk_167 0 6 (dk_at dksX0_endOf_0 9 rfl rfl)
theorem dX0_endOf_12 : decode cX0_endOf 12 = .ok (.astore_n 3, 1) := dk_78 (dk_at dksX0_endOf_0 12 rfl rfl)
theorem dX0_endOf_13 : decode cX0_endOf 13 = .ok (.iconst 1, 1) := dk_4 (dk_at dksX0_endOf_0 13 rfl rfl)
theorem dX0_endOf_14 : decode cX0_endOf 14 = .ok (.ireturn, 1) := dk_172 (dk_at dksX0_endOf_0 14 rfl rfl)
theorem dX0_endOf_15 : decode cX0_endOf 15 = .ok (.iconst 0, 1) := dk_3 (dk_at dksX0_endOf_0 15 rfl rfl)
theorem dX0_endOf_16 : decode cX0_endOf 16 = .ok (.ireturn, 1) := dk_172 (dk_at dksX0_endOf_0 16 rfl rfl)
abbrev cX0_placeAt : ByteArray := method_20_code
def yX0_placeAt : MethodName := ⟨RX0, "placeAt", "(LKalmanQuay;II[J)I"⟩
def dkwX0_placeAt_0 : List UInt8 := [45, 3, 42, 27, 28, 182, 0, 71, 133, 80, 167, 0, 7, 58, 4, 4, 172, 3, 172]
abbrev dktX0_placeAt_0 : List UInt8 := dkwX0_placeAt_0 ++ []
theorem dksX0_placeAt_0 : cX0_placeAt.data.toList.drop 0 = dktX0_placeAt_0 := by decide +kernel
theorem dX0_placeAt_0 : decode cX0_placeAt 0 = .ok (.aload_n 3, 1) := dk_45 (dk_at dksX0_placeAt_0 0 rfl rfl)
theorem dX0_placeAt_1 : decode cX0_placeAt 1 = .ok (.iconst 0, 1) := dk_3 (dk_at dksX0_placeAt_0 1 rfl rfl)
theorem dX0_placeAt_2 : decode cX0_placeAt 2 = .ok (.aload_n 0, 1) := dk_42 (dk_at dksX0_placeAt_0 2 rfl rfl)
theorem dX0_placeAt_3 : decode cX0_placeAt 3 = .ok (.iload_n 1, 1) := dk_27 (dk_at dksX0_placeAt_0 3 rfl rfl)
theorem dX0_placeAt_4 : decode cX0_placeAt 4 = .ok (.iload_n 2, 1) := dk_28 (dk_at dksX0_placeAt_0 4 rfl rfl)
theorem dX0_placeAt_5 : decode cX0_placeAt 5 = .ok (.invokevirtual 71, 3) := dk_182 0 71 (dk_at dksX0_placeAt_0 5 rfl rfl)
theorem dX0_placeAt_8 : decode cX0_placeAt 8 = .ok (.i2l, 1) := dk_133 (dk_at dksX0_placeAt_0 8 rfl rfl)
theorem dX0_placeAt_9 : decode cX0_placeAt 9 = .ok (.lastore, 1) := dk_80 (dk_at dksX0_placeAt_0 9 rfl rfl)
theorem dX0_placeAt_10 : decode cX0_placeAt 10 = .ok (.goto 7, 3) := dk_167 0 7 (dk_at dksX0_placeAt_0 10 rfl rfl)
theorem dX0_placeAt_13 : decode cX0_placeAt 13 = .ok (.astore 4, 2) := dk_58 4 (dk_at dksX0_placeAt_0 13 rfl rfl)
theorem dX0_placeAt_15 : decode cX0_placeAt 15 = .ok (.iconst 1, 1) := dk_4 (dk_at dksX0_placeAt_0 15 rfl rfl)
theorem dX0_placeAt_16 : decode cX0_placeAt 16 = .ok (.ireturn, 1) := dk_172 (dk_at dksX0_placeAt_0 16 rfl rfl)
theorem dX0_placeAt_17 : decode cX0_placeAt 17 = .ok (.iconst 0, 1) := dk_3 (dk_at dksX0_placeAt_0 17 rfl rfl)
theorem dX0_placeAt_18 : decode cX0_placeAt 18 = .ok (.ireturn, 1) := dk_172 (dk_at dksX0_placeAt_0 18 rfl rfl)
abbrev cX0_foretoldAt : ByteArray := method_21_code
def yX0_foretoldAt : MethodName := ⟨RX0, "foretoldAt", "(LKalmanQuay;II[J)I"⟩
def dkwX0_foretoldAt_0 : List UInt8 := [45, 3, 42, 27, 28, 182, 0, 74, 133, 80, 167, 0, 7, 58, 4, 4, 172, 3, 172]
abbrev dktX0_foretoldAt_0 : List UInt8 := dkwX0_foretoldAt_0 ++ []
theorem dksX0_foretoldAt_0 : cX0_foretoldAt.data.toList.drop 0 = dktX0_foretoldAt_0 := by decide +kernel
theorem dX0_foretoldAt_0 : decode cX0_foretoldAt 0 = .ok (.aload_n 3, 1) := dk_45 (dk_at dksX0_foretoldAt_0 0 rfl rfl)
theorem dX0_foretoldAt_1 : decode cX0_foretoldAt 1 = .ok (.iconst 0, 1) := dk_3 (dk_at dksX0_foretoldAt_0 1 rfl rfl)
theorem dX0_foretoldAt_2 : decode cX0_foretoldAt 2 = .ok (.aload_n 0, 1) := dk_42 (dk_at dksX0_foretoldAt_0 2 rfl rfl)
theorem dX0_foretoldAt_3 : decode cX0_foretoldAt 3 = .ok (.iload_n 1, 1) := dk_27 (dk_at dksX0_foretoldAt_0 3 rfl rfl)
theorem dX0_foretoldAt_4 : decode cX0_foretoldAt 4 = .ok (.iload_n 2, 1) := dk_28 (dk_at dksX0_foretoldAt_0 4 rfl rfl)
theorem dX0_foretoldAt_5 : decode cX0_foretoldAt 5 = .ok (.invokevirtual 74, 3) := dk_182 0 74 (dk_at dksX0_foretoldAt_0 5 rfl rfl)
theorem dX0_foretoldAt_8 : decode cX0_foretoldAt 8 = .ok (.i2l, 1) := dk_133 (dk_at dksX0_foretoldAt_0 8 rfl rfl)
theorem dX0_foretoldAt_9 : decode cX0_foretoldAt 9 = .ok (.lastore, 1) := dk_80 (dk_at dksX0_foretoldAt_0 9 rfl rfl)
theorem dX0_foretoldAt_10 : decode cX0_foretoldAt 10 = .ok (.goto 7, 3) := dk_167 0 7 (dk_at dksX0_foretoldAt_0 10 rfl rfl)
theorem dX0_foretoldAt_13 : decode cX0_foretoldAt 13 = .ok (.astore 4, 2) := dk_58 4 (dk_at dksX0_foretoldAt_0 13 rfl rfl)
theorem dX0_foretoldAt_15 : decode cX0_foretoldAt 15 = .ok (.iconst 1, 1) := dk_4 (dk_at dksX0_foretoldAt_0 15 rfl rfl)
theorem dX0_foretoldAt_16 : decode cX0_foretoldAt 16 = .ok (.ireturn, 1) := dk_172 (dk_at dksX0_foretoldAt_0 16 rfl rfl)
theorem dX0_foretoldAt_17 : decode cX0_foretoldAt 17 = .ok (.iconst 0, 1) := dk_3 (dk_at dksX0_foretoldAt_0 17 rfl rfl)
theorem dX0_foretoldAt_18 : decode cX0_foretoldAt 18 = .ok (.ireturn, 1) := dk_172 (dk_at dksX0_foretoldAt_0 18 rfl rfl)
abbrev cX0_smoothedAt : ByteArray := method_22_code
def yX0_smoothedAt : MethodName := ⟨RX0, "smoothedAt", "(LKalmanQuay;II[J)I"⟩
def dkwX0_smoothedAt_0 : List UInt8 := [45, 3, 42, 27, 28, 182, 0, 77, 80, 167, 0, 7, 58, 4, 4, 172, 3, 172]
abbrev dktX0_smoothedAt_0 : List UInt8 := dkwX0_smoothedAt_0 ++ []
theorem dksX0_smoothedAt_0 : cX0_smoothedAt.data.toList.drop 0 = dktX0_smoothedAt_0 := by decide +kernel
theorem dX0_smoothedAt_0 : decode cX0_smoothedAt 0 = .ok (.aload_n 3, 1) := dk_45 (dk_at dksX0_smoothedAt_0 0 rfl rfl)
theorem dX0_smoothedAt_1 : decode cX0_smoothedAt 1 = .ok (.iconst 0, 1) := dk_3 (dk_at dksX0_smoothedAt_0 1 rfl rfl)
theorem dX0_smoothedAt_2 : decode cX0_smoothedAt 2 = .ok (.aload_n 0, 1) := dk_42 (dk_at dksX0_smoothedAt_0 2 rfl rfl)
theorem dX0_smoothedAt_3 : decode cX0_smoothedAt 3 = .ok (.iload_n 1, 1) := dk_27 (dk_at dksX0_smoothedAt_0 3 rfl rfl)
theorem dX0_smoothedAt_4 : decode cX0_smoothedAt 4 = .ok (.iload_n 2, 1) := dk_28 (dk_at dksX0_smoothedAt_0 4 rfl rfl)
theorem dX0_smoothedAt_5 : decode cX0_smoothedAt 5 = .ok (.invokevirtual 77, 3) := dk_182 0 77 (dk_at dksX0_smoothedAt_0 5 rfl rfl)
theorem dX0_smoothedAt_8 : decode cX0_smoothedAt 8 = .ok (.lastore, 1) := dk_80 (dk_at dksX0_smoothedAt_0 8 rfl rfl)
theorem dX0_smoothedAt_9 : decode cX0_smoothedAt 9 = .ok (.goto 7, 3) := dk_167 0 7 (dk_at dksX0_smoothedAt_0 9 rfl rfl)
theorem dX0_smoothedAt_12 : decode cX0_smoothedAt 12 = .ok (.astore 4, 2) := dk_58 4 (dk_at dksX0_smoothedAt_0 12 rfl rfl)
theorem dX0_smoothedAt_14 : decode cX0_smoothedAt 14 = .ok (.iconst 1, 1) := dk_4 (dk_at dksX0_smoothedAt_0 14 rfl rfl)
theorem dX0_smoothedAt_15 : decode cX0_smoothedAt 15 = .ok (.ireturn, 1) := dk_172 (dk_at dksX0_smoothedAt_0 15 rfl rfl)
theorem dX0_smoothedAt_16 : decode cX0_smoothedAt 16 = .ok (.iconst 0, 1) := dk_3 (dk_at dksX0_smoothedAt_0 16 rfl rfl)
theorem dX0_smoothedAt_17 : decode cX0_smoothedAt 17 = .ok (.ireturn, 1) := dk_172 (dk_at dksX0_smoothedAt_0 17 rfl rfl)
abbrev cX0_smoothedSpeedAt : ByteArray := method_23_code
def yX0_smoothedSpeedAt : MethodName := ⟨RX0, "smoothedSpeedAt", "(LKalmanQuay;II[J)I"⟩
def dkwX0_smoothedSpeedAt_0 : List UInt8 := [45, 3, 42, 27, 28, 182, 0, 81, 80, 167, 0, 7, 58, 4, 4, 172, 3, 172]
abbrev dktX0_smoothedSpeedAt_0 : List UInt8 := dkwX0_smoothedSpeedAt_0 ++ []
theorem dksX0_smoothedSpeedAt_0 : cX0_smoothedSpeedAt.data.toList.drop 0 = dktX0_smoothedSpeedAt_0 := by decide +kernel
theorem dX0_smoothedSpeedAt_0 : decode cX0_smoothedSpeedAt 0 = .ok (.aload_n 3, 1) := dk_45 (dk_at dksX0_smoothedSpeedAt_0 0 rfl rfl)
theorem dX0_smoothedSpeedAt_1 : decode cX0_smoothedSpeedAt 1 = .ok (.iconst 0, 1) := dk_3 (dk_at dksX0_smoothedSpeedAt_0 1 rfl rfl)
theorem dX0_smoothedSpeedAt_2 : decode cX0_smoothedSpeedAt 2 = .ok (.aload_n 0, 1) := dk_42 (dk_at dksX0_smoothedSpeedAt_0 2 rfl rfl)
theorem dX0_smoothedSpeedAt_3 : decode cX0_smoothedSpeedAt 3 = .ok (.iload_n 1, 1) := dk_27 (dk_at dksX0_smoothedSpeedAt_0 3 rfl rfl)
theorem dX0_smoothedSpeedAt_4 : decode cX0_smoothedSpeedAt 4 = .ok (.iload_n 2, 1) := dk_28 (dk_at dksX0_smoothedSpeedAt_0 4 rfl rfl)
theorem dX0_smoothedSpeedAt_5 : decode cX0_smoothedSpeedAt 5 = .ok (.invokevirtual 81, 3) := dk_182 0 81 (dk_at dksX0_smoothedSpeedAt_0 5 rfl rfl)
theorem dX0_smoothedSpeedAt_8 : decode cX0_smoothedSpeedAt 8 = .ok (.lastore, 1) := dk_80 (dk_at dksX0_smoothedSpeedAt_0 8 rfl rfl)
theorem dX0_smoothedSpeedAt_9 : decode cX0_smoothedSpeedAt 9 = .ok (.goto 7, 3) := dk_167 0 7 (dk_at dksX0_smoothedSpeedAt_0 9 rfl rfl)
theorem dX0_smoothedSpeedAt_12 : decode cX0_smoothedSpeedAt 12 = .ok (.astore 4, 2) := dk_58 4 (dk_at dksX0_smoothedSpeedAt_0 12 rfl rfl)
theorem dX0_smoothedSpeedAt_14 : decode cX0_smoothedSpeedAt 14 = .ok (.iconst 1, 1) := dk_4 (dk_at dksX0_smoothedSpeedAt_0 14 rfl rfl)
theorem dX0_smoothedSpeedAt_15 : decode cX0_smoothedSpeedAt 15 = .ok (.ireturn, 1) := dk_172 (dk_at dksX0_smoothedSpeedAt_0 15 rfl rfl)
theorem dX0_smoothedSpeedAt_16 : decode cX0_smoothedSpeedAt 16 = .ok (.iconst 0, 1) := dk_3 (dk_at dksX0_smoothedSpeedAt_0 16 rfl rfl)
theorem dX0_smoothedSpeedAt_17 : decode cX0_smoothedSpeedAt 17 = .ok (.ireturn, 1) := dk_172 (dk_at dksX0_smoothedSpeedAt_0 17 rfl rfl)
abbrev cX0_bend : ByteArray := method_24_code
def yX0_bend : MethodName := ⟨RX0, "bend", "(LKalmanQuay;I[J)I"⟩
def dkwX0_bend_0 : List UInt8 := [44, 3, 42, 27, 182, 0, 84, 80, 167, 0, 6, 78, 4, 172, 3, 172]
abbrev dktX0_bend_0 : List UInt8 := dkwX0_bend_0 ++ []
theorem dksX0_bend_0 : cX0_bend.data.toList.drop 0 = dktX0_bend_0 := by decide +kernel
theorem dX0_bend_0 : decode cX0_bend 0 = .ok (.aload_n 2, 1) := dk_44 (dk_at dksX0_bend_0 0 rfl rfl)
theorem dX0_bend_1 : decode cX0_bend 1 = .ok (.iconst 0, 1) := dk_3 (dk_at dksX0_bend_0 1 rfl rfl)
theorem dX0_bend_2 : decode cX0_bend 2 = .ok (.aload_n 0, 1) := dk_42 (dk_at dksX0_bend_0 2 rfl rfl)
theorem dX0_bend_3 : decode cX0_bend 3 = .ok (.iload_n 1, 1) := dk_27 (dk_at dksX0_bend_0 3 rfl rfl)
theorem dX0_bend_4 : decode cX0_bend 4 = .ok (.invokevirtual 84, 3) := dk_182 0 84 (dk_at dksX0_bend_0 4 rfl rfl)
theorem dX0_bend_7 : decode cX0_bend 7 = .ok (.lastore, 1) := dk_80 (dk_at dksX0_bend_0 7 rfl rfl)
theorem dX0_bend_8 : decode cX0_bend 8 = .ok (.goto 6, 3) := dk_167 0 6 (dk_at dksX0_bend_0 8 rfl rfl)
theorem dX0_bend_11 : decode cX0_bend 11 = .ok (.astore_n 3, 1) := dk_78 (dk_at dksX0_bend_0 11 rfl rfl)
theorem dX0_bend_12 : decode cX0_bend 12 = .ok (.iconst 1, 1) := dk_4 (dk_at dksX0_bend_0 12 rfl rfl)
theorem dX0_bend_13 : decode cX0_bend 13 = .ok (.ireturn, 1) := dk_172 (dk_at dksX0_bend_0 13 rfl rfl)
theorem dX0_bend_14 : decode cX0_bend 14 = .ok (.iconst 0, 1) := dk_3 (dk_at dksX0_bend_0 14 rfl rfl)
theorem dX0_bend_15 : decode cX0_bend 15 = .ok (.ireturn, 1) := dk_172 (dk_at dksX0_bend_0 15 rfl rfl)
abbrev cX0_fittedPlace : ByteArray := method_25_code
def yX0_fittedPlace : MethodName := ⟨RX0, "fittedPlace", "(LKalmanQuay;I[J)I"⟩
def dkwX0_fittedPlace_0 : List UInt8 := [44, 3, 42, 27, 182, 0, 88, 80, 167, 0, 6, 78, 4, 172, 3, 172]
abbrev dktX0_fittedPlace_0 : List UInt8 := dkwX0_fittedPlace_0 ++ []
theorem dksX0_fittedPlace_0 : cX0_fittedPlace.data.toList.drop 0 = dktX0_fittedPlace_0 := by decide +kernel
theorem dX0_fittedPlace_0 : decode cX0_fittedPlace 0 = .ok (.aload_n 2, 1) := dk_44 (dk_at dksX0_fittedPlace_0 0 rfl rfl)
theorem dX0_fittedPlace_1 : decode cX0_fittedPlace 1 = .ok (.iconst 0, 1) := dk_3 (dk_at dksX0_fittedPlace_0 1 rfl rfl)
theorem dX0_fittedPlace_2 : decode cX0_fittedPlace 2 = .ok (.aload_n 0, 1) := dk_42 (dk_at dksX0_fittedPlace_0 2 rfl rfl)
theorem dX0_fittedPlace_3 : decode cX0_fittedPlace 3 = .ok (.iload_n 1, 1) := dk_27 (dk_at dksX0_fittedPlace_0 3 rfl rfl)
theorem dX0_fittedPlace_4 : decode cX0_fittedPlace 4 = .ok (.invokevirtual 88, 3) := dk_182 0 88 (dk_at dksX0_fittedPlace_0 4 rfl rfl)
theorem dX0_fittedPlace_7 : decode cX0_fittedPlace 7 = .ok (.lastore, 1) := dk_80 (dk_at dksX0_fittedPlace_0 7 rfl rfl)
theorem dX0_fittedPlace_8 : decode cX0_fittedPlace 8 = .ok (.goto 6, 3) := dk_167 0 6 (dk_at dksX0_fittedPlace_0 8 rfl rfl)
theorem dX0_fittedPlace_11 : decode cX0_fittedPlace 11 = .ok (.astore_n 3, 1) := dk_78 (dk_at dksX0_fittedPlace_0 11 rfl rfl)
theorem dX0_fittedPlace_12 : decode cX0_fittedPlace 12 = .ok (.iconst 1, 1) := dk_4 (dk_at dksX0_fittedPlace_0 12 rfl rfl)
theorem dX0_fittedPlace_13 : decode cX0_fittedPlace 13 = .ok (.ireturn, 1) := dk_172 (dk_at dksX0_fittedPlace_0 13 rfl rfl)
theorem dX0_fittedPlace_14 : decode cX0_fittedPlace 14 = .ok (.iconst 0, 1) := dk_3 (dk_at dksX0_fittedPlace_0 14 rfl rfl)
theorem dX0_fittedPlace_15 : decode cX0_fittedPlace 15 = .ok (.ireturn, 1) := dk_172 (dk_at dksX0_fittedPlace_0 15 rfl rfl)
abbrev cX0_fittedSpeed : ByteArray := method_26_code
def yX0_fittedSpeed : MethodName := ⟨RX0, "fittedSpeed", "(LKalmanQuay;I[J)I"⟩
def dkwX0_fittedSpeed_0 : List UInt8 := [44, 3, 42, 27, 182, 0, 91, 80, 167, 0, 6, 78, 4, 172, 3, 172]
abbrev dktX0_fittedSpeed_0 : List UInt8 := dkwX0_fittedSpeed_0 ++ []
theorem dksX0_fittedSpeed_0 : cX0_fittedSpeed.data.toList.drop 0 = dktX0_fittedSpeed_0 := by decide +kernel
theorem dX0_fittedSpeed_0 : decode cX0_fittedSpeed 0 = .ok (.aload_n 2, 1) := dk_44 (dk_at dksX0_fittedSpeed_0 0 rfl rfl)
theorem dX0_fittedSpeed_1 : decode cX0_fittedSpeed 1 = .ok (.iconst 0, 1) := dk_3 (dk_at dksX0_fittedSpeed_0 1 rfl rfl)
theorem dX0_fittedSpeed_2 : decode cX0_fittedSpeed 2 = .ok (.aload_n 0, 1) := dk_42 (dk_at dksX0_fittedSpeed_0 2 rfl rfl)
theorem dX0_fittedSpeed_3 : decode cX0_fittedSpeed 3 = .ok (.iload_n 1, 1) := dk_27 (dk_at dksX0_fittedSpeed_0 3 rfl rfl)
theorem dX0_fittedSpeed_4 : decode cX0_fittedSpeed 4 = .ok (.invokevirtual 91, 3) := dk_182 0 91 (dk_at dksX0_fittedSpeed_0 4 rfl rfl)
theorem dX0_fittedSpeed_7 : decode cX0_fittedSpeed 7 = .ok (.lastore, 1) := dk_80 (dk_at dksX0_fittedSpeed_0 7 rfl rfl)
theorem dX0_fittedSpeed_8 : decode cX0_fittedSpeed 8 = .ok (.goto 6, 3) := dk_167 0 6 (dk_at dksX0_fittedSpeed_0 8 rfl rfl)
theorem dX0_fittedSpeed_11 : decode cX0_fittedSpeed 11 = .ok (.astore_n 3, 1) := dk_78 (dk_at dksX0_fittedSpeed_0 11 rfl rfl)
theorem dX0_fittedSpeed_12 : decode cX0_fittedSpeed 12 = .ok (.iconst 1, 1) := dk_4 (dk_at dksX0_fittedSpeed_0 12 rfl rfl)
theorem dX0_fittedSpeed_13 : decode cX0_fittedSpeed 13 = .ok (.ireturn, 1) := dk_172 (dk_at dksX0_fittedSpeed_0 13 rfl rfl)
theorem dX0_fittedSpeed_14 : decode cX0_fittedSpeed 14 = .ok (.iconst 0, 1) := dk_3 (dk_at dksX0_fittedSpeed_0 14 rfl rfl)
theorem dX0_fittedSpeed_15 : decode cX0_fittedSpeed 15 = .ok (.ireturn, 1) := dk_172 (dk_at dksX0_fittedSpeed_0 15 rfl rfl)
abbrev cX0_apart : ByteArray := method_27_code
def yX0_apart : MethodName := ⟨RX0, "apart", "(LKalmanQuay;I[J)I"⟩
def dkwX0_apart_0 : List UInt8 := [44, 3, 42, 27, 182, 0, 94, 80, 167, 0, 6, 78, 4, 172, 3, 172]
abbrev dktX0_apart_0 : List UInt8 := dkwX0_apart_0 ++ []
theorem dksX0_apart_0 : cX0_apart.data.toList.drop 0 = dktX0_apart_0 := by decide +kernel
theorem dX0_apart_0 : decode cX0_apart 0 = .ok (.aload_n 2, 1) := dk_44 (dk_at dksX0_apart_0 0 rfl rfl)
theorem dX0_apart_1 : decode cX0_apart 1 = .ok (.iconst 0, 1) := dk_3 (dk_at dksX0_apart_0 1 rfl rfl)
theorem dX0_apart_2 : decode cX0_apart 2 = .ok (.aload_n 0, 1) := dk_42 (dk_at dksX0_apart_0 2 rfl rfl)
theorem dX0_apart_3 : decode cX0_apart 3 = .ok (.iload_n 1, 1) := dk_27 (dk_at dksX0_apart_0 3 rfl rfl)
theorem dX0_apart_4 : decode cX0_apart 4 = .ok (.invokevirtual 94, 3) := dk_182 0 94 (dk_at dksX0_apart_0 4 rfl rfl)
theorem dX0_apart_7 : decode cX0_apart 7 = .ok (.lastore, 1) := dk_80 (dk_at dksX0_apart_0 7 rfl rfl)
theorem dX0_apart_8 : decode cX0_apart 8 = .ok (.goto 6, 3) := dk_167 0 6 (dk_at dksX0_apart_0 8 rfl rfl)
theorem dX0_apart_11 : decode cX0_apart 11 = .ok (.astore_n 3, 1) := dk_78 (dk_at dksX0_apart_0 11 rfl rfl)
theorem dX0_apart_12 : decode cX0_apart 12 = .ok (.iconst 1, 1) := dk_4 (dk_at dksX0_apart_0 12 rfl rfl)
theorem dX0_apart_13 : decode cX0_apart 13 = .ok (.ireturn, 1) := dk_172 (dk_at dksX0_apart_0 13 rfl rfl)
theorem dX0_apart_14 : decode cX0_apart 14 = .ok (.iconst 0, 1) := dk_3 (dk_at dksX0_apart_0 14 rfl rfl)
theorem dX0_apart_15 : decode cX0_apart 15 = .ok (.ireturn, 1) := dk_172 (dk_at dksX0_apart_0 15 rfl rfl)
abbrev cX0_nearest : ByteArray := method_28_code
def yX0_nearest : MethodName := ⟨RX0, "nearest", "(LKalmanQuay;I[J)I"⟩
def dkwX0_nearest_0 : List UInt8 := [44, 3, 42, 27, 182, 0, 97, 133, 80, 167, 0, 9, 78, 4, 172, 78, 5, 172, 3, 172]
abbrev dktX0_nearest_0 : List UInt8 := dkwX0_nearest_0 ++ []
theorem dksX0_nearest_0 : cX0_nearest.data.toList.drop 0 = dktX0_nearest_0 := by decide +kernel
theorem dX0_nearest_0 : decode cX0_nearest 0 = .ok (.aload_n 2, 1) := dk_44 (dk_at dksX0_nearest_0 0 rfl rfl)
theorem dX0_nearest_1 : decode cX0_nearest 1 = .ok (.iconst 0, 1) := dk_3 (dk_at dksX0_nearest_0 1 rfl rfl)
theorem dX0_nearest_2 : decode cX0_nearest 2 = .ok (.aload_n 0, 1) := dk_42 (dk_at dksX0_nearest_0 2 rfl rfl)
theorem dX0_nearest_3 : decode cX0_nearest 3 = .ok (.iload_n 1, 1) := dk_27 (dk_at dksX0_nearest_0 3 rfl rfl)
theorem dX0_nearest_4 : decode cX0_nearest 4 = .ok (.invokevirtual 97, 3) := dk_182 0 97 (dk_at dksX0_nearest_0 4 rfl rfl)
theorem dX0_nearest_7 : decode cX0_nearest 7 = .ok (.i2l, 1) := dk_133 (dk_at dksX0_nearest_0 7 rfl rfl)
theorem dX0_nearest_8 : decode cX0_nearest 8 = .ok (.lastore, 1) := dk_80 (dk_at dksX0_nearest_0 8 rfl rfl)
theorem dX0_nearest_9 : decode cX0_nearest 9 = .ok (.goto 9, 3) := dk_167 0 9 (dk_at dksX0_nearest_0 9 rfl rfl)
theorem dX0_nearest_12 : decode cX0_nearest 12 = .ok (.astore_n 3, 1) := dk_78 (dk_at dksX0_nearest_0 12 rfl rfl)
theorem dX0_nearest_13 : decode cX0_nearest 13 = .ok (.iconst 1, 1) := dk_4 (dk_at dksX0_nearest_0 13 rfl rfl)
theorem dX0_nearest_14 : decode cX0_nearest 14 = .ok (.ireturn, 1) := dk_172 (dk_at dksX0_nearest_0 14 rfl rfl)
theorem dX0_nearest_15 : decode cX0_nearest 15 = .ok (.astore_n 3, 1) := dk_78 (dk_at dksX0_nearest_0 15 rfl rfl)
theorem dX0_nearest_16 : decode cX0_nearest 16 = .ok (.iconst 2, 1) := dk_5 (dk_at dksX0_nearest_0 16 rfl rfl)
theorem dX0_nearest_17 : decode cX0_nearest 17 = .ok (.ireturn, 1) := dk_172 (dk_at dksX0_nearest_0 17 rfl rfl)
theorem dX0_nearest_18 : decode cX0_nearest 18 = .ok (.iconst 0, 1) := dk_3 (dk_at dksX0_nearest_0 18 rfl rfl)
theorem dX0_nearest_19 : decode cX0_nearest 19 = .ok (.ireturn, 1) := dk_172 (dk_at dksX0_nearest_0 19 rfl rfl)
theorem q37 : (Jvm.Cond.initialized "KalmanQuayLaw") ∈ lw_all := lw_g (lw_at lw_m1 0 rfl) rfl
theorem q77 : (Jvm.Cond.classLink "KalmanQuayLaw" (8 : Nat) "KalmanQuay") ∈ lw_all := lw_g (lw_at lw_m1 40 rfl) rfl
theorem q79 : (Jvm.Cond.methodLink "KalmanQuayLaw" (102 : Nat) ({ cls := "KalmanQuay", name := "<init>", desc := "()V" } : Jvm.MethodName)) ∈ lw_all := lw_g (lw_at lw_m1 42 rfl) rfl
theorem q149 : (Jvm.Cond.methodLink "KalmanQuayLaw" (106 : Nat) ({ cls := "KalmanQuay", name := "begin", desc := "()I" } : Jvm.MethodName)) ∈ lw_all := lw_g (lw_at lw_m1 112 rfl) rfl
theorem q157 : (Jvm.Cond.methodLink "KalmanQuayLaw" (127 : Nat) ({ cls := "KalmanQuay", name := "sensorCount", desc := "()I" } : Jvm.MethodName)) ∈ lw_all := lw_g (lw_at lw_m1 120 rfl) rfl
theorem q165 : (Jvm.Cond.methodLink "KalmanQuayLaw" (134 : Nat) ({ cls := "KalmanQuay", name := "hits", desc := "()I" } : Jvm.MethodName)) ∈ lw_all := lw_g (lw_at lw_m1 128 rfl) rfl
theorem q169 : (Jvm.Cond.methodLink "KalmanQuayLaw" (145 : Nat) ({ cls := "KalmanQuay", name := "beatCount", desc := "()I" } : Jvm.MethodName)) ∈ lw_all := lw_g (lw_at lw_m1 132 rfl) rfl
theorem q173 : (Jvm.Cond.methodLink "KalmanQuayLaw" (152 : Nat) ({ cls := "KalmanQuay", name := "trackCount", desc := "()I" } : Jvm.MethodName)) ∈ lw_all := lw_g (lw_at lw_m1 136 rfl) rfl
theorem q177 : (Jvm.Cond.methodLink "KalmanQuayLaw" (156 : Nat) ({ cls := "KalmanQuay", name := "alive", desc := "()I" } : Jvm.MethodName)) ∈ lw_all := lw_g (lw_at lw_m1 140 rfl) rfl
theorem q287 : (Jvm.Cond.methodLink "KalmanQuayLaw" (217 : Nat) ({ cls := "KalmanQuay", name := "assignedShare", desc := "()F" } : Jvm.MethodName)) ∈ lw_all := lw_g (lw_at lw_m2 10 rfl) rfl
theorem q291 : (Jvm.Cond.methodLink "KalmanQuayLaw" (222 : Nat) ({ cls := "KalmanQuay", name := "meanLength", desc := "()D" } : Jvm.MethodName)) ∈ lw_all := lw_g (lw_at lw_m2 14 rfl) rfl
theorem q299 : (Jvm.Cond.methodLink "KalmanQuayLaw" (110 : Nat) ({ cls := "KalmanQuayLaw", name := "setFilter", desc := "(LKalmanQuay;II[J)I" } : Jvm.MethodName)) ∈ lw_all := lw_g (lw_at lw_m2 22 rfl) rfl
theorem q300 : (Jvm.Cond.static ({ cls := "KalmanQuayLaw", name := "setFilter", desc := "(LKalmanQuay;II[J)I" } : Jvm.MethodName)) ∈ lw_all := lw_g (lw_at lw_m2 23 rfl) rfl
theorem q301 : (Jvm.Cond.codeWith ({ cls := "KalmanQuayLaw", name := "setFilter", desc := "(LKalmanQuay;II[J)I" } : Jvm.MethodName) method_3_code (5 : Nat) (Option.some Jvm.ClassFile.FieldType.int) [((0 : Nat), (10 : Nat), (13 : Nat), (13 : Nat))]) ∈ lw_all := lw_g (lw_at lw_m2 24 rfl) rfl
theorem q302 : (Jvm.Cond.classLink "KalmanQuayLaw" (13 : Nat) "java/lang/IllegalArgumentException") ∈ lw_all := lw_g (lw_at lw_m2 25 rfl) rfl
theorem q303 : (Jvm.Cond.methodLink "KalmanQuayLaw" (7 : Nat) ({ cls := "KalmanQuay", name := "setFilter", desc := "(II)I" } : Jvm.MethodName)) ∈ lw_all := lw_g (lw_at lw_m2 26 rfl) rfl
theorem q376 : (Jvm.Cond.methodLink "KalmanQuayLaw" (119 : Nat) ({ cls := "KalmanQuayLaw", name := "setTracks", desc := "(LKalmanQuay;III[J)I" } : Jvm.MethodName)) ∈ lw_all := lw_g (lw_at lw_m2 99 rfl) rfl
theorem q377 : (Jvm.Cond.static ({ cls := "KalmanQuayLaw", name := "setTracks", desc := "(LKalmanQuay;III[J)I" } : Jvm.MethodName)) ∈ lw_all := lw_g (lw_at lw_m2 100 rfl) rfl
theorem q378 : (Jvm.Cond.codeWith ({ cls := "KalmanQuayLaw", name := "setTracks", desc := "(LKalmanQuay;III[J)I" } : Jvm.MethodName) method_4_code (6 : Nat) (Option.some Jvm.ClassFile.FieldType.int) [((0 : Nat), (12 : Nat), (15 : Nat), (13 : Nat))]) ∈ lw_all := lw_g (lw_at lw_m2 101 rfl) rfl
theorem q379 : (Jvm.Cond.methodLink "KalmanQuayLaw" (15 : Nat) ({ cls := "KalmanQuay", name := "setTracks", desc := "(III)I" } : Jvm.MethodName)) ∈ lw_all := lw_g (lw_at lw_m2 102 rfl) rfl
theorem q384 : (Jvm.Cond.methodLink "KalmanQuayLaw" (123 : Nat) ({ cls := "KalmanQuayLaw", name := "addSensor", desc := "(LKalmanQuay;I[J)I" } : Jvm.MethodName)) ∈ lw_all := lw_g (lw_at lw_m2 107 rfl) rfl
theorem q385 : (Jvm.Cond.static ({ cls := "KalmanQuayLaw", name := "addSensor", desc := "(LKalmanQuay;I[J)I" } : Jvm.MethodName)) ∈ lw_all := lw_g (lw_at lw_m2 108 rfl) rfl
theorem q386 : (Jvm.Cond.codeWith ({ cls := "KalmanQuayLaw", name := "addSensor", desc := "(LKalmanQuay;I[J)I" } : Jvm.MethodName) method_5_code (4 : Nat) (Option.some Jvm.ClassFile.FieldType.int) [((0 : Nat), (9 : Nat), (12 : Nat), (13 : Nat)), ((0 : Nat), (9 : Nat), (15 : Nat), (23 : Nat))]) ∈ lw_all := lw_g (lw_at lw_m2 109 rfl) rfl
theorem q387 : (Jvm.Cond.classLink "KalmanQuayLaw" (23 : Nat) "java/lang/IllegalStateException") ∈ lw_all := lw_g (lw_at lw_m2 110 rfl) rfl
theorem q388 : (Jvm.Cond.methodLink "KalmanQuayLaw" (19 : Nat) ({ cls := "KalmanQuay", name := "addSensor", desc := "(I)I" } : Jvm.MethodName)) ∈ lw_all := lw_g (lw_at lw_m2 111 rfl) rfl
theorem q410 : (Jvm.Cond.methodLink "KalmanQuayLaw" (131 : Nat) ({ cls := "KalmanQuayLaw", name := "hit", desc := "(LKalmanQuay;II[J)I" } : Jvm.MethodName)) ∈ lw_all := lw_g (lw_at lw_m2 133 rfl) rfl
theorem q411 : (Jvm.Cond.static ({ cls := "KalmanQuayLaw", name := "hit", desc := "(LKalmanQuay;II[J)I" } : Jvm.MethodName)) ∈ lw_all := lw_g (lw_at lw_m2 134 rfl) rfl
theorem q412 : (Jvm.Cond.codeWith ({ cls := "KalmanQuayLaw", name := "hit", desc := "(LKalmanQuay;II[J)I" } : Jvm.MethodName) method_6_code (5 : Nat) (Option.some Jvm.ClassFile.FieldType.int) [((0 : Nat), (10 : Nat), (13 : Nat), (28 : Nat)), ((0 : Nat), (10 : Nat), (17 : Nat), (13 : Nat)), ((0 : Nat), (10 : Nat), (21 : Nat), (23 : Nat))]) ∈ lw_all := lw_g (lw_at lw_m2 135 rfl) rfl
theorem q413 : (Jvm.Cond.classLink "KalmanQuayLaw" (28 : Nat) "java/lang/IndexOutOfBoundsException") ∈ lw_all := lw_g (lw_at lw_m2 136 rfl) rfl
theorem q446 : (Jvm.Cond.methodLink "KalmanQuayLaw" (25 : Nat) ({ cls := "KalmanQuay", name := "hit", desc := "(II)I" } : Jvm.MethodName)) ∈ lw_all := lw_g (lw_at lw_m2 169 rfl) rfl
theorem q489 : (Jvm.Cond.methodLink "KalmanQuayLaw" (138 : Nat) ({ cls := "KalmanQuayLaw", name := "beat", desc := "(LKalmanQuay;[J)I" } : Jvm.MethodName)) ∈ lw_all := lw_g (lw_at lw_m2 212 rfl) rfl
theorem q490 : (Jvm.Cond.static ({ cls := "KalmanQuayLaw", name := "beat", desc := "(LKalmanQuay;[J)I" } : Jvm.MethodName)) ∈ lw_all := lw_g (lw_at lw_m2 213 rfl) rfl
theorem q491 : (Jvm.Cond.codeWith ({ cls := "KalmanQuayLaw", name := "beat", desc := "(LKalmanQuay;[J)I" } : Jvm.MethodName) method_7_code (3 : Nat) (Option.some Jvm.ClassFile.FieldType.int) [((0 : Nat), (8 : Nat), (11 : Nat), (23 : Nat))]) ∈ lw_all := lw_g (lw_at lw_m2 214 rfl) rfl
theorem q492 : (Jvm.Cond.methodLink "KalmanQuayLaw" (30 : Nat) ({ cls := "KalmanQuay", name := "beat", desc := "()I" } : Jvm.MethodName)) ∈ lw_all := lw_g (lw_at lw_m2 215 rfl) rfl
theorem q1072 : (Jvm.Cond.methodLink "KalmanQuayLaw" (142 : Nat) ({ cls := "KalmanQuayLaw", name := "beats", desc := "(LKalmanQuay;I[J)I" } : Jvm.MethodName)) ∈ lw_all := lw_g (lw_at lw_m5 75 rfl) rfl
theorem q1073 : (Jvm.Cond.static ({ cls := "KalmanQuayLaw", name := "beats", desc := "(LKalmanQuay;I[J)I" } : Jvm.MethodName)) ∈ lw_all := lw_g (lw_at lw_m5 76 rfl) rfl
theorem q1074 : (Jvm.Cond.codeWith ({ cls := "KalmanQuayLaw", name := "beats", desc := "(LKalmanQuay;I[J)I" } : Jvm.MethodName) method_8_code (4 : Nat) (Option.some Jvm.ClassFile.FieldType.int) [((0 : Nat), (9 : Nat), (12 : Nat), (13 : Nat)), ((0 : Nat), (9 : Nat), (15 : Nat), (23 : Nat))]) ∈ lw_all := lw_g (lw_at lw_m5 77 rfl) rfl
theorem q1075 : (Jvm.Cond.methodLink "KalmanQuayLaw" (34 : Nat) ({ cls := "KalmanQuay", name := "beats", desc := "(I)I" } : Jvm.MethodName)) ∈ lw_all := lw_g (lw_at lw_m5 78 rfl) rfl
theorem q1079 : (Jvm.Cond.methodLink "KalmanQuayLaw" (149 : Nat) ({ cls := "KalmanQuayLaw", name := "trackOf", desc := "(LKalmanQuay;I[J)I" } : Jvm.MethodName)) ∈ lw_all := lw_g (lw_at lw_m5 82 rfl) rfl
theorem q1080 : (Jvm.Cond.static ({ cls := "KalmanQuayLaw", name := "trackOf", desc := "(LKalmanQuay;I[J)I" } : Jvm.MethodName)) ∈ lw_all := lw_g (lw_at lw_m5 83 rfl) rfl
theorem q1081 : (Jvm.Cond.codeWith ({ cls := "KalmanQuayLaw", name := "trackOf", desc := "(LKalmanQuay;I[J)I" } : Jvm.MethodName) method_9_code (4 : Nat) (Option.some Jvm.ClassFile.FieldType.int) [((0 : Nat), (9 : Nat), (12 : Nat), (28 : Nat))]) ∈ lw_all := lw_g (lw_at lw_m5 84 rfl) rfl
theorem q1082 : (Jvm.Cond.methodLink "KalmanQuayLaw" (37 : Nat) ({ cls := "KalmanQuay", name := "trackOf", desc := "(I)I" } : Jvm.MethodName)) ∈ lw_all := lw_g (lw_at lw_m5 85 rfl) rfl
theorem q1086 : (Jvm.Cond.methodLink "KalmanQuayLaw" (160 : Nat) ({ cls := "KalmanQuayLaw", name := "isAlive", desc := "(LKalmanQuay;I[J)I" } : Jvm.MethodName)) ∈ lw_all := lw_g (lw_at lw_m5 89 rfl) rfl
theorem q1087 : (Jvm.Cond.static ({ cls := "KalmanQuayLaw", name := "isAlive", desc := "(LKalmanQuay;I[J)I" } : Jvm.MethodName)) ∈ lw_all := lw_g (lw_at lw_m5 90 rfl) rfl
theorem q1088 : (Jvm.Cond.codeWith ({ cls := "KalmanQuayLaw", name := "isAlive", desc := "(LKalmanQuay;I[J)I" } : Jvm.MethodName) method_10_code (4 : Nat) (Option.some Jvm.ClassFile.FieldType.int) [((0 : Nat), (16 : Nat), (19 : Nat), (28 : Nat))]) ∈ lw_all := lw_g (lw_at lw_m5 91 rfl) rfl
theorem q1089 : (Jvm.Cond.methodLink "KalmanQuayLaw" (40 : Nat) ({ cls := "KalmanQuay", name := "isAlive", desc := "(I)Z" } : Jvm.MethodName)) ∈ lw_all := lw_g (lw_at lw_m5 92 rfl) rfl
theorem q1097 : (Jvm.Cond.methodLink "KalmanQuayLaw" (163 : Nat) ({ cls := "KalmanQuayLaw", name := "isProven", desc := "(LKalmanQuay;I[J)I" } : Jvm.MethodName)) ∈ lw_all := lw_g (lw_at lw_m5 100 rfl) rfl
theorem q1098 : (Jvm.Cond.static ({ cls := "KalmanQuayLaw", name := "isProven", desc := "(LKalmanQuay;I[J)I" } : Jvm.MethodName)) ∈ lw_all := lw_g (lw_at lw_m5 101 rfl) rfl
theorem q1099 : (Jvm.Cond.codeWith ({ cls := "KalmanQuayLaw", name := "isProven", desc := "(LKalmanQuay;I[J)I" } : Jvm.MethodName) method_11_code (4 : Nat) (Option.some Jvm.ClassFile.FieldType.int) [((0 : Nat), (16 : Nat), (19 : Nat), (28 : Nat))]) ∈ lw_all := lw_g (lw_at lw_m5 102 rfl) rfl
theorem q1100 : (Jvm.Cond.methodLink "KalmanQuayLaw" (44 : Nat) ({ cls := "KalmanQuay", name := "isProven", desc := "(I)Z" } : Jvm.MethodName)) ∈ lw_all := lw_g (lw_at lw_m5 103 rfl) rfl
theorem q1104 : (Jvm.Cond.methodLink "KalmanQuayLaw" (166 : Nat) ({ cls := "KalmanQuayLaw", name := "placeOf", desc := "(LKalmanQuay;I[J)I" } : Jvm.MethodName)) ∈ lw_all := lw_g (lw_at lw_m5 107 rfl) rfl
theorem q1105 : (Jvm.Cond.static ({ cls := "KalmanQuayLaw", name := "placeOf", desc := "(LKalmanQuay;I[J)I" } : Jvm.MethodName)) ∈ lw_all := lw_g (lw_at lw_m5 108 rfl) rfl
theorem q1106 : (Jvm.Cond.codeWith ({ cls := "KalmanQuayLaw", name := "placeOf", desc := "(LKalmanQuay;I[J)I" } : Jvm.MethodName) method_12_code (4 : Nat) (Option.some Jvm.ClassFile.FieldType.int) [((0 : Nat), (9 : Nat), (12 : Nat), (28 : Nat))]) ∈ lw_all := lw_g (lw_at lw_m5 109 rfl) rfl
theorem q1107 : (Jvm.Cond.methodLink "KalmanQuayLaw" (47 : Nat) ({ cls := "KalmanQuay", name := "placeOf", desc := "(I)I" } : Jvm.MethodName)) ∈ lw_all := lw_g (lw_at lw_m5 110 rfl) rfl
theorem q1111 : (Jvm.Cond.methodLink "KalmanQuayLaw" (169 : Nat) ({ cls := "KalmanQuayLaw", name := "speedOf", desc := "(LKalmanQuay;I[J)I" } : Jvm.MethodName)) ∈ lw_all := lw_g (lw_at lw_m5 114 rfl) rfl
theorem q1112 : (Jvm.Cond.static ({ cls := "KalmanQuayLaw", name := "speedOf", desc := "(LKalmanQuay;I[J)I" } : Jvm.MethodName)) ∈ lw_all := lw_g (lw_at lw_m5 115 rfl) rfl
theorem q1113 : (Jvm.Cond.codeWith ({ cls := "KalmanQuayLaw", name := "speedOf", desc := "(LKalmanQuay;I[J)I" } : Jvm.MethodName) method_13_code (4 : Nat) (Option.some Jvm.ClassFile.FieldType.int) [((0 : Nat), (9 : Nat), (12 : Nat), (28 : Nat))]) ∈ lw_all := lw_g (lw_at lw_m5 116 rfl) rfl
theorem q1114 : (Jvm.Cond.methodLink "KalmanQuayLaw" (50 : Nat) ({ cls := "KalmanQuay", name := "speedOf", desc := "(I)I" } : Jvm.MethodName)) ∈ lw_all := lw_g (lw_at lw_m5 117 rfl) rfl
theorem q1118 : (Jvm.Cond.methodLink "KalmanQuayLaw" (172 : Nat) ({ cls := "KalmanQuayLaw", name := "varianceOf", desc := "(LKalmanQuay;II[J)I" } : Jvm.MethodName)) ∈ lw_all := lw_g (lw_at lw_m5 121 rfl) rfl
theorem q1119 : (Jvm.Cond.static ({ cls := "KalmanQuayLaw", name := "varianceOf", desc := "(LKalmanQuay;II[J)I" } : Jvm.MethodName)) ∈ lw_all := lw_g (lw_at lw_m5 122 rfl) rfl
theorem q1120 : (Jvm.Cond.codeWith ({ cls := "KalmanQuayLaw", name := "varianceOf", desc := "(LKalmanQuay;II[J)I" } : Jvm.MethodName) method_14_code (5 : Nat) (Option.some Jvm.ClassFile.FieldType.int) [((0 : Nat), (10 : Nat), (13 : Nat), (28 : Nat)), ((0 : Nat), (10 : Nat), (17 : Nat), (13 : Nat))]) ∈ lw_all := lw_g (lw_at lw_m5 123 rfl) rfl
theorem q1121 : (Jvm.Cond.methodLink "KalmanQuayLaw" (53 : Nat) ({ cls := "KalmanQuay", name := "varianceOf", desc := "(II)I" } : Jvm.MethodName)) ∈ lw_all := lw_g (lw_at lw_m5 124 rfl) rfl
theorem q1125 : (Jvm.Cond.methodLink "KalmanQuayLaw" (175 : Nat) ({ cls := "KalmanQuayLaw", name := "hitBeats", desc := "(LKalmanQuay;I[J)I" } : Jvm.MethodName)) ∈ lw_all := lw_g (lw_at lw_m5 128 rfl) rfl
theorem q1126 : (Jvm.Cond.static ({ cls := "KalmanQuayLaw", name := "hitBeats", desc := "(LKalmanQuay;I[J)I" } : Jvm.MethodName)) ∈ lw_all := lw_g (lw_at lw_m5 129 rfl) rfl
theorem q1127 : (Jvm.Cond.codeWith ({ cls := "KalmanQuayLaw", name := "hitBeats", desc := "(LKalmanQuay;I[J)I" } : Jvm.MethodName) method_15_code (4 : Nat) (Option.some Jvm.ClassFile.FieldType.int) [((0 : Nat), (9 : Nat), (12 : Nat), (28 : Nat))]) ∈ lw_all := lw_g (lw_at lw_m5 130 rfl) rfl
theorem q1128 : (Jvm.Cond.methodLink "KalmanQuayLaw" (56 : Nat) ({ cls := "KalmanQuay", name := "hitBeats", desc := "(I)I" } : Jvm.MethodName)) ∈ lw_all := lw_g (lw_at lw_m5 131 rfl) rfl
theorem q1132 : (Jvm.Cond.methodLink "KalmanQuayLaw" (178 : Nat) ({ cls := "KalmanQuayLaw", name := "misses", desc := "(LKalmanQuay;I[J)I" } : Jvm.MethodName)) ∈ lw_all := lw_g (lw_at lw_m5 135 rfl) rfl
theorem q1133 : (Jvm.Cond.static ({ cls := "KalmanQuayLaw", name := "misses", desc := "(LKalmanQuay;I[J)I" } : Jvm.MethodName)) ∈ lw_all := lw_g (lw_at lw_m5 136 rfl) rfl
theorem q1134 : (Jvm.Cond.codeWith ({ cls := "KalmanQuayLaw", name := "misses", desc := "(LKalmanQuay;I[J)I" } : Jvm.MethodName) method_16_code (4 : Nat) (Option.some Jvm.ClassFile.FieldType.int) [((0 : Nat), (9 : Nat), (12 : Nat), (28 : Nat))]) ∈ lw_all := lw_g (lw_at lw_m5 137 rfl) rfl
theorem q1135 : (Jvm.Cond.methodLink "KalmanQuayLaw" (59 : Nat) ({ cls := "KalmanQuay", name := "misses", desc := "(I)I" } : Jvm.MethodName)) ∈ lw_all := lw_g (lw_at lw_m5 138 rfl) rfl
theorem q1139 : (Jvm.Cond.methodLink "KalmanQuayLaw" (181 : Nat) ({ cls := "KalmanQuayLaw", name := "hitsOf", desc := "(LKalmanQuay;I[J)I" } : Jvm.MethodName)) ∈ lw_all := lw_g (lw_at lw_m5 142 rfl) rfl
theorem q1140 : (Jvm.Cond.static ({ cls := "KalmanQuayLaw", name := "hitsOf", desc := "(LKalmanQuay;I[J)I" } : Jvm.MethodName)) ∈ lw_all := lw_g (lw_at lw_m5 143 rfl) rfl
theorem q1141 : (Jvm.Cond.codeWith ({ cls := "KalmanQuayLaw", name := "hitsOf", desc := "(LKalmanQuay;I[J)I" } : Jvm.MethodName) method_17_code (4 : Nat) (Option.some Jvm.ClassFile.FieldType.int) [((0 : Nat), (9 : Nat), (12 : Nat), (28 : Nat))]) ∈ lw_all := lw_g (lw_at lw_m5 144 rfl) rfl
theorem q1142 : (Jvm.Cond.methodLink "KalmanQuayLaw" (62 : Nat) ({ cls := "KalmanQuay", name := "hitsOf", desc := "(I)I" } : Jvm.MethodName)) ∈ lw_all := lw_g (lw_at lw_m5 145 rfl) rfl
theorem q1146 : (Jvm.Cond.methodLink "KalmanQuayLaw" (184 : Nat) ({ cls := "KalmanQuayLaw", name := "beginOf", desc := "(LKalmanQuay;I[J)I" } : Jvm.MethodName)) ∈ lw_all := lw_g (lw_at lw_m5 149 rfl) rfl
theorem q1147 : (Jvm.Cond.static ({ cls := "KalmanQuayLaw", name := "beginOf", desc := "(LKalmanQuay;I[J)I" } : Jvm.MethodName)) ∈ lw_all := lw_g (lw_at lw_m5 150 rfl) rfl
theorem q1148 : (Jvm.Cond.codeWith ({ cls := "KalmanQuayLaw", name := "beginOf", desc := "(LKalmanQuay;I[J)I" } : Jvm.MethodName) method_18_code (4 : Nat) (Option.some Jvm.ClassFile.FieldType.int) [((0 : Nat), (9 : Nat), (12 : Nat), (28 : Nat))]) ∈ lw_all := lw_g (lw_at lw_m5 151 rfl) rfl
theorem q1149 : (Jvm.Cond.methodLink "KalmanQuayLaw" (65 : Nat) ({ cls := "KalmanQuay", name := "beginOf", desc := "(I)I" } : Jvm.MethodName)) ∈ lw_all := lw_g (lw_at lw_m5 152 rfl) rfl
theorem q1153 : (Jvm.Cond.methodLink "KalmanQuayLaw" (187 : Nat) ({ cls := "KalmanQuayLaw", name := "endOf", desc := "(LKalmanQuay;I[J)I" } : Jvm.MethodName)) ∈ lw_all := lw_g (lw_at lw_m5 156 rfl) rfl
theorem q1154 : (Jvm.Cond.static ({ cls := "KalmanQuayLaw", name := "endOf", desc := "(LKalmanQuay;I[J)I" } : Jvm.MethodName)) ∈ lw_all := lw_g (lw_at lw_m5 157 rfl) rfl
theorem q1155 : (Jvm.Cond.codeWith ({ cls := "KalmanQuayLaw", name := "endOf", desc := "(LKalmanQuay;I[J)I" } : Jvm.MethodName) method_19_code (4 : Nat) (Option.some Jvm.ClassFile.FieldType.int) [((0 : Nat), (9 : Nat), (12 : Nat), (28 : Nat))]) ∈ lw_all := lw_g (lw_at lw_m5 158 rfl) rfl
theorem q1156 : (Jvm.Cond.methodLink "KalmanQuayLaw" (68 : Nat) ({ cls := "KalmanQuay", name := "endOf", desc := "(I)I" } : Jvm.MethodName)) ∈ lw_all := lw_g (lw_at lw_m5 159 rfl) rfl
theorem q1165 : (Jvm.Cond.methodLink "KalmanQuayLaw" (190 : Nat) ({ cls := "KalmanQuayLaw", name := "placeAt", desc := "(LKalmanQuay;II[J)I" } : Jvm.MethodName)) ∈ lw_all := lw_g (lw_at lw_m5 168 rfl) rfl
theorem q1166 : (Jvm.Cond.static ({ cls := "KalmanQuayLaw", name := "placeAt", desc := "(LKalmanQuay;II[J)I" } : Jvm.MethodName)) ∈ lw_all := lw_g (lw_at lw_m5 169 rfl) rfl
theorem q1167 : (Jvm.Cond.codeWith ({ cls := "KalmanQuayLaw", name := "placeAt", desc := "(LKalmanQuay;II[J)I" } : Jvm.MethodName) method_20_code (5 : Nat) (Option.some Jvm.ClassFile.FieldType.int) [((0 : Nat), (10 : Nat), (13 : Nat), (28 : Nat))]) ∈ lw_all := lw_g (lw_at lw_m5 170 rfl) rfl
theorem q1168 : (Jvm.Cond.methodLink "KalmanQuayLaw" (71 : Nat) ({ cls := "KalmanQuay", name := "placeAt", desc := "(II)I" } : Jvm.MethodName)) ∈ lw_all := lw_g (lw_at lw_m5 171 rfl) rfl
theorem q1176 : (Jvm.Cond.methodLink "KalmanQuayLaw" (193 : Nat) ({ cls := "KalmanQuayLaw", name := "foretoldAt", desc := "(LKalmanQuay;II[J)I" } : Jvm.MethodName)) ∈ lw_all := lw_g (lw_at lw_m5 179 rfl) rfl
theorem q1177 : (Jvm.Cond.static ({ cls := "KalmanQuayLaw", name := "foretoldAt", desc := "(LKalmanQuay;II[J)I" } : Jvm.MethodName)) ∈ lw_all := lw_g (lw_at lw_m5 180 rfl) rfl
theorem q1178 : (Jvm.Cond.codeWith ({ cls := "KalmanQuayLaw", name := "foretoldAt", desc := "(LKalmanQuay;II[J)I" } : Jvm.MethodName) method_21_code (5 : Nat) (Option.some Jvm.ClassFile.FieldType.int) [((0 : Nat), (10 : Nat), (13 : Nat), (28 : Nat))]) ∈ lw_all := lw_g (lw_at lw_m5 181 rfl) rfl
theorem q1179 : (Jvm.Cond.methodLink "KalmanQuayLaw" (74 : Nat) ({ cls := "KalmanQuay", name := "foretoldAt", desc := "(II)I" } : Jvm.MethodName)) ∈ lw_all := lw_g (lw_at lw_m5 182 rfl) rfl
theorem q1183 : (Jvm.Cond.methodLink "KalmanQuayLaw" (196 : Nat) ({ cls := "KalmanQuayLaw", name := "smoothedAt", desc := "(LKalmanQuay;II[J)I" } : Jvm.MethodName)) ∈ lw_all := lw_g (lw_at lw_m5 186 rfl) rfl
theorem q1184 : (Jvm.Cond.static ({ cls := "KalmanQuayLaw", name := "smoothedAt", desc := "(LKalmanQuay;II[J)I" } : Jvm.MethodName)) ∈ lw_all := lw_g (lw_at lw_m5 187 rfl) rfl
theorem q1185 : (Jvm.Cond.codeWith ({ cls := "KalmanQuayLaw", name := "smoothedAt", desc := "(LKalmanQuay;II[J)I" } : Jvm.MethodName) method_22_code (5 : Nat) (Option.some Jvm.ClassFile.FieldType.int) [((0 : Nat), (9 : Nat), (12 : Nat), (28 : Nat))]) ∈ lw_all := lw_g (lw_at lw_m5 188 rfl) rfl
theorem q1186 : (Jvm.Cond.methodLink "KalmanQuayLaw" (77 : Nat) ({ cls := "KalmanQuay", name := "smoothedAt", desc := "(II)J" } : Jvm.MethodName)) ∈ lw_all := lw_g (lw_at lw_m5 189 rfl) rfl
theorem q1195 : (Jvm.Cond.methodLink "KalmanQuayLaw" (199 : Nat) ({ cls := "KalmanQuayLaw", name := "smoothedSpeedAt", desc := "(LKalmanQuay;II[J)I" } : Jvm.MethodName)) ∈ lw_all := lw_g (lw_at lw_m5 198 rfl) rfl
theorem q1196 : (Jvm.Cond.static ({ cls := "KalmanQuayLaw", name := "smoothedSpeedAt", desc := "(LKalmanQuay;II[J)I" } : Jvm.MethodName)) ∈ lw_all := lw_g (lw_at lw_m5 199 rfl) rfl
theorem q1197 : (Jvm.Cond.codeWith ({ cls := "KalmanQuayLaw", name := "smoothedSpeedAt", desc := "(LKalmanQuay;II[J)I" } : Jvm.MethodName) method_23_code (5 : Nat) (Option.some Jvm.ClassFile.FieldType.int) [((0 : Nat), (9 : Nat), (12 : Nat), (28 : Nat))]) ∈ lw_all := lw_g (lw_at lw_m5 200 rfl) rfl
theorem q1198 : (Jvm.Cond.methodLink "KalmanQuayLaw" (81 : Nat) ({ cls := "KalmanQuay", name := "smoothedSpeedAt", desc := "(II)J" } : Jvm.MethodName)) ∈ lw_all := lw_g (lw_at lw_m5 201 rfl) rfl
theorem q1202 : (Jvm.Cond.methodLink "KalmanQuayLaw" (202 : Nat) ({ cls := "KalmanQuayLaw", name := "bend", desc := "(LKalmanQuay;I[J)I" } : Jvm.MethodName)) ∈ lw_all := lw_g (lw_at lw_m5 205 rfl) rfl
theorem q1203 : (Jvm.Cond.static ({ cls := "KalmanQuayLaw", name := "bend", desc := "(LKalmanQuay;I[J)I" } : Jvm.MethodName)) ∈ lw_all := lw_g (lw_at lw_m5 206 rfl) rfl
theorem q1204 : (Jvm.Cond.codeWith ({ cls := "KalmanQuayLaw", name := "bend", desc := "(LKalmanQuay;I[J)I" } : Jvm.MethodName) method_24_code (4 : Nat) (Option.some Jvm.ClassFile.FieldType.int) [((0 : Nat), (8 : Nat), (11 : Nat), (28 : Nat))]) ∈ lw_all := lw_g (lw_at lw_m5 207 rfl) rfl
theorem q1205 : (Jvm.Cond.methodLink "KalmanQuayLaw" (84 : Nat) ({ cls := "KalmanQuay", name := "bend", desc := "(I)J" } : Jvm.MethodName)) ∈ lw_all := lw_g (lw_at lw_m5 208 rfl) rfl
theorem q1212 : (Jvm.Cond.methodLink "KalmanQuayLaw" (205 : Nat) ({ cls := "KalmanQuayLaw", name := "fittedPlace", desc := "(LKalmanQuay;I[J)I" } : Jvm.MethodName)) ∈ lw_all := lw_g (lw_at lw_m5 215 rfl) rfl
theorem q1213 : (Jvm.Cond.static ({ cls := "KalmanQuayLaw", name := "fittedPlace", desc := "(LKalmanQuay;I[J)I" } : Jvm.MethodName)) ∈ lw_all := lw_g (lw_at lw_m5 216 rfl) rfl
theorem q1214 : (Jvm.Cond.codeWith ({ cls := "KalmanQuayLaw", name := "fittedPlace", desc := "(LKalmanQuay;I[J)I" } : Jvm.MethodName) method_25_code (4 : Nat) (Option.some Jvm.ClassFile.FieldType.int) [((0 : Nat), (8 : Nat), (11 : Nat), (28 : Nat))]) ∈ lw_all := lw_g (lw_at lw_m5 217 rfl) rfl
theorem q1215 : (Jvm.Cond.methodLink "KalmanQuayLaw" (88 : Nat) ({ cls := "KalmanQuay", name := "fittedPlace", desc := "(I)J" } : Jvm.MethodName)) ∈ lw_all := lw_g (lw_at lw_m5 218 rfl) rfl
theorem q1234 : (Jvm.Cond.methodLink "KalmanQuayLaw" (208 : Nat) ({ cls := "KalmanQuayLaw", name := "fittedSpeed", desc := "(LKalmanQuay;I[J)I" } : Jvm.MethodName)) ∈ lw_all := lw_g (lw_at lw_m5 237 rfl) rfl
theorem q1235 : (Jvm.Cond.static ({ cls := "KalmanQuayLaw", name := "fittedSpeed", desc := "(LKalmanQuay;I[J)I" } : Jvm.MethodName)) ∈ lw_all := lw_g (lw_at lw_m5 238 rfl) rfl
theorem q1236 : (Jvm.Cond.codeWith ({ cls := "KalmanQuayLaw", name := "fittedSpeed", desc := "(LKalmanQuay;I[J)I" } : Jvm.MethodName) method_26_code (4 : Nat) (Option.some Jvm.ClassFile.FieldType.int) [((0 : Nat), (8 : Nat), (11 : Nat), (28 : Nat))]) ∈ lw_all := lw_g (lw_at lw_m5 239 rfl) rfl
theorem q1237 : (Jvm.Cond.methodLink "KalmanQuayLaw" (91 : Nat) ({ cls := "KalmanQuay", name := "fittedSpeed", desc := "(I)J" } : Jvm.MethodName)) ∈ lw_all := lw_g (lw_at lw_m6 0 rfl) rfl
theorem q1241 : (Jvm.Cond.methodLink "KalmanQuayLaw" (211 : Nat) ({ cls := "KalmanQuayLaw", name := "apart", desc := "(LKalmanQuay;I[J)I" } : Jvm.MethodName)) ∈ lw_all := lw_g (lw_at lw_m6 4 rfl) rfl
theorem q1242 : (Jvm.Cond.static ({ cls := "KalmanQuayLaw", name := "apart", desc := "(LKalmanQuay;I[J)I" } : Jvm.MethodName)) ∈ lw_all := lw_g (lw_at lw_m6 5 rfl) rfl
theorem q1243 : (Jvm.Cond.codeWith ({ cls := "KalmanQuayLaw", name := "apart", desc := "(LKalmanQuay;I[J)I" } : Jvm.MethodName) method_27_code (4 : Nat) (Option.some Jvm.ClassFile.FieldType.int) [((0 : Nat), (8 : Nat), (11 : Nat), (28 : Nat))]) ∈ lw_all := lw_g (lw_at lw_m6 6 rfl) rfl
theorem q1244 : (Jvm.Cond.methodLink "KalmanQuayLaw" (94 : Nat) ({ cls := "KalmanQuay", name := "apart", desc := "(I)J" } : Jvm.MethodName)) ∈ lw_all := lw_g (lw_at lw_m6 7 rfl) rfl
theorem q1248 : (Jvm.Cond.methodLink "KalmanQuayLaw" (214 : Nat) ({ cls := "KalmanQuayLaw", name := "nearest", desc := "(LKalmanQuay;I[J)I" } : Jvm.MethodName)) ∈ lw_all := lw_g (lw_at lw_m6 11 rfl) rfl
theorem q1249 : (Jvm.Cond.static ({ cls := "KalmanQuayLaw", name := "nearest", desc := "(LKalmanQuay;I[J)I" } : Jvm.MethodName)) ∈ lw_all := lw_g (lw_at lw_m6 12 rfl) rfl
theorem q1250 : (Jvm.Cond.codeWith ({ cls := "KalmanQuayLaw", name := "nearest", desc := "(LKalmanQuay;I[J)I" } : Jvm.MethodName) method_28_code (4 : Nat) (Option.some Jvm.ClassFile.FieldType.int) [((0 : Nat), (9 : Nat), (12 : Nat), (13 : Nat)), ((0 : Nat), (9 : Nat), (15 : Nat), (100 : Nat))]) ∈ lw_all := lw_g (lw_at lw_m6 13 rfl) rfl
theorem q1251 : (Jvm.Cond.classLink "KalmanQuayLaw" (100 : Nat) "java/util/NoSuchElementException") ∈ lw_all := lw_g (lw_at lw_m6 14 rfl) rfl
theorem q1252 : (Jvm.Cond.methodLink "KalmanQuayLaw" (97 : Nat) ({ cls := "KalmanQuay", name := "nearest", desc := "(I)I" } : Jvm.MethodName)) ∈ lw_all := lw_g (lw_at lw_m6 15 rfl) rfl
theorem q1272 : (Jvm.Cond.classLink "KalmanQuayLaw" (103 : Nat) "KalmanQuayModel") ∈ lw_all := lw_g (lw_at lw_m6 35 rfl) rfl
theorem q1274 : (Jvm.Cond.methodLink "KalmanQuayLaw" (105 : Nat) ({ cls := "KalmanQuayModel", name := "<init>", desc := "()V" } : Jvm.MethodName)) ∈ lw_all := lw_g (lw_at lw_m6 37 rfl) rfl
theorem q1416 : (Jvm.Cond.methodLink "KalmanQuayLaw" (116 : Nat) ({ cls := "KalmanQuayModel", name := "thrown", desc := "()I" } : Jvm.MethodName)) ∈ lw_all := lw_g (lw_at lw_m6 179 rfl) rfl
theorem q1420 : (Jvm.Cond.methodLink "KalmanQuayLaw" (109 : Nat) ({ cls := "KalmanQuayModel", name := "begin", desc := "()I" } : Jvm.MethodName)) ∈ lw_all := lw_g (lw_at lw_m6 183 rfl) rfl
theorem q1428 : (Jvm.Cond.methodLink "KalmanQuayLaw" (115 : Nat) ({ cls := "KalmanQuayModel", name := "setFilter", desc := "(II)I" } : Jvm.MethodName)) ∈ lw_all := lw_g (lw_at lw_m6 191 rfl) rfl
theorem q1443 : (Jvm.Cond.methodLink "KalmanQuayLaw" (122 : Nat) ({ cls := "KalmanQuayModel", name := "setTracks", desc := "(III)I" } : Jvm.MethodName)) ∈ lw_all := lw_g (lw_at lw_m6 206 rfl) rfl
theorem q1448 : (Jvm.Cond.methodLink "KalmanQuayLaw" (126 : Nat) ({ cls := "KalmanQuayModel", name := "addSensor", desc := "(I)I" } : Jvm.MethodName)) ∈ lw_all := lw_g (lw_at lw_m6 211 rfl) rfl
theorem q1452 : (Jvm.Cond.methodLink "KalmanQuayLaw" (130 : Nat) ({ cls := "KalmanQuayModel", name := "sensorCount", desc := "()I" } : Jvm.MethodName)) ∈ lw_all := lw_g (lw_at lw_m6 215 rfl) rfl
theorem q1456 : (Jvm.Cond.methodLink "KalmanQuayLaw" (133 : Nat) ({ cls := "KalmanQuayModel", name := "hit", desc := "(II)I" } : Jvm.MethodName)) ∈ lw_all := lw_g (lw_at lw_m6 219 rfl) rfl
theorem q1462 : (Jvm.Cond.methodLink "KalmanQuayLaw" (137 : Nat) ({ cls := "KalmanQuayModel", name := "hits", desc := "()I" } : Jvm.MethodName)) ∈ lw_all := lw_g (lw_at lw_m6 225 rfl) rfl
theorem q1466 : (Jvm.Cond.methodLink "KalmanQuayLaw" (141 : Nat) ({ cls := "KalmanQuayModel", name := "beat", desc := "()I" } : Jvm.MethodName)) ∈ lw_all := lw_g (lw_at lw_m6 229 rfl) rfl
theorem q1543 : (Jvm.Cond.methodLink "KalmanQuayLaw" (144 : Nat) ({ cls := "KalmanQuayModel", name := "beats", desc := "(I)I" } : Jvm.MethodName)) ∈ lw_all := lw_g (lw_at lw_m7 66 rfl) rfl
theorem q1547 : (Jvm.Cond.methodLink "KalmanQuayLaw" (148 : Nat) ({ cls := "KalmanQuayModel", name := "beatCount", desc := "()I" } : Jvm.MethodName)) ∈ lw_all := lw_g (lw_at lw_m7 70 rfl) rfl
theorem q1551 : (Jvm.Cond.methodLink "KalmanQuayLaw" (151 : Nat) ({ cls := "KalmanQuayModel", name := "trackOf", desc := "(I)I" } : Jvm.MethodName)) ∈ lw_all := lw_g (lw_at lw_m7 74 rfl) rfl
theorem q1555 : (Jvm.Cond.methodLink "KalmanQuayLaw" (155 : Nat) ({ cls := "KalmanQuayModel", name := "trackCount", desc := "()I" } : Jvm.MethodName)) ∈ lw_all := lw_g (lw_at lw_m7 78 rfl) rfl
theorem q1559 : (Jvm.Cond.methodLink "KalmanQuayLaw" (159 : Nat) ({ cls := "KalmanQuayModel", name := "alive", desc := "()I" } : Jvm.MethodName)) ∈ lw_all := lw_g (lw_at lw_m7 82 rfl) rfl
theorem q1563 : (Jvm.Cond.methodLink "KalmanQuayLaw" (162 : Nat) ({ cls := "KalmanQuayModel", name := "isAlive", desc := "(I)Z" } : Jvm.MethodName)) ∈ lw_all := lw_g (lw_at lw_m7 86 rfl) rfl
theorem q1571 : (Jvm.Cond.methodLink "KalmanQuayLaw" (165 : Nat) ({ cls := "KalmanQuayModel", name := "isProven", desc := "(I)Z" } : Jvm.MethodName)) ∈ lw_all := lw_g (lw_at lw_m7 94 rfl) rfl
theorem q1575 : (Jvm.Cond.methodLink "KalmanQuayLaw" (168 : Nat) ({ cls := "KalmanQuayModel", name := "placeOf", desc := "(I)I" } : Jvm.MethodName)) ∈ lw_all := lw_g (lw_at lw_m7 98 rfl) rfl
theorem q1579 : (Jvm.Cond.methodLink "KalmanQuayLaw" (171 : Nat) ({ cls := "KalmanQuayModel", name := "speedOf", desc := "(I)I" } : Jvm.MethodName)) ∈ lw_all := lw_g (lw_at lw_m7 102 rfl) rfl
theorem q1583 : (Jvm.Cond.methodLink "KalmanQuayLaw" (174 : Nat) ({ cls := "KalmanQuayModel", name := "varianceOf", desc := "(II)I" } : Jvm.MethodName)) ∈ lw_all := lw_g (lw_at lw_m7 106 rfl) rfl
theorem q1587 : (Jvm.Cond.methodLink "KalmanQuayLaw" (177 : Nat) ({ cls := "KalmanQuayModel", name := "hitBeats", desc := "(I)I" } : Jvm.MethodName)) ∈ lw_all := lw_g (lw_at lw_m7 110 rfl) rfl
theorem q1591 : (Jvm.Cond.methodLink "KalmanQuayLaw" (180 : Nat) ({ cls := "KalmanQuayModel", name := "misses", desc := "(I)I" } : Jvm.MethodName)) ∈ lw_all := lw_g (lw_at lw_m7 114 rfl) rfl
theorem q1595 : (Jvm.Cond.methodLink "KalmanQuayLaw" (183 : Nat) ({ cls := "KalmanQuayModel", name := "hitsOf", desc := "(I)I" } : Jvm.MethodName)) ∈ lw_all := lw_g (lw_at lw_m7 118 rfl) rfl
theorem q1599 : (Jvm.Cond.methodLink "KalmanQuayLaw" (186 : Nat) ({ cls := "KalmanQuayModel", name := "beginOf", desc := "(I)I" } : Jvm.MethodName)) ∈ lw_all := lw_g (lw_at lw_m7 122 rfl) rfl
theorem q1603 : (Jvm.Cond.methodLink "KalmanQuayLaw" (189 : Nat) ({ cls := "KalmanQuayModel", name := "endOf", desc := "(I)I" } : Jvm.MethodName)) ∈ lw_all := lw_g (lw_at lw_m7 126 rfl) rfl
theorem q1607 : (Jvm.Cond.methodLink "KalmanQuayLaw" (192 : Nat) ({ cls := "KalmanQuayModel", name := "placeAt", desc := "(II)I" } : Jvm.MethodName)) ∈ lw_all := lw_g (lw_at lw_m7 130 rfl) rfl
theorem q1615 : (Jvm.Cond.methodLink "KalmanQuayLaw" (195 : Nat) ({ cls := "KalmanQuayModel", name := "foretoldAt", desc := "(II)I" } : Jvm.MethodName)) ∈ lw_all := lw_g (lw_at lw_m7 138 rfl) rfl
theorem q1619 : (Jvm.Cond.methodLink "KalmanQuayLaw" (198 : Nat) ({ cls := "KalmanQuayModel", name := "smoothedAt", desc := "(II)J" } : Jvm.MethodName)) ∈ lw_all := lw_g (lw_at lw_m7 142 rfl) rfl
theorem q1632 : (Jvm.Cond.methodLink "KalmanQuayLaw" (201 : Nat) ({ cls := "KalmanQuayModel", name := "smoothedSpeedAt", desc := "(II)J" } : Jvm.MethodName)) ∈ lw_all := lw_g (lw_at lw_m7 155 rfl) rfl
theorem q1636 : (Jvm.Cond.methodLink "KalmanQuayLaw" (204 : Nat) ({ cls := "KalmanQuayModel", name := "bend", desc := "(I)J" } : Jvm.MethodName)) ∈ lw_all := lw_g (lw_at lw_m7 159 rfl) rfl
theorem q1641 : (Jvm.Cond.methodLink "KalmanQuayLaw" (207 : Nat) ({ cls := "KalmanQuayModel", name := "fittedPlace", desc := "(I)J" } : Jvm.MethodName)) ∈ lw_all := lw_g (lw_at lw_m7 164 rfl) rfl
theorem q1657 : (Jvm.Cond.methodLink "KalmanQuayLaw" (210 : Nat) ({ cls := "KalmanQuayModel", name := "fittedSpeed", desc := "(I)J" } : Jvm.MethodName)) ∈ lw_all := lw_g (lw_at lw_m7 180 rfl) rfl
theorem q1661 : (Jvm.Cond.methodLink "KalmanQuayLaw" (213 : Nat) ({ cls := "KalmanQuayModel", name := "apart", desc := "(I)J" } : Jvm.MethodName)) ∈ lw_all := lw_g (lw_at lw_m7 184 rfl) rfl
theorem q1665 : (Jvm.Cond.methodLink "KalmanQuayLaw" (216 : Nat) ({ cls := "KalmanQuayModel", name := "nearest", desc := "(I)I" } : Jvm.MethodName)) ∈ lw_all := lw_g (lw_at lw_m7 188 rfl) rfl
theorem q1669 : (Jvm.Cond.methodLink "KalmanQuayLaw" (221 : Nat) ({ cls := "KalmanQuayModel", name := "assignedShare", desc := "()F" } : Jvm.MethodName)) ∈ lw_all := lw_g (lw_at lw_m7 192 rfl) rfl
theorem q1673 : (Jvm.Cond.methodLink "KalmanQuayLaw" (226 : Nat) ({ cls := "KalmanQuayModel", name := "meanLength", desc := "()D" } : Jvm.MethodName)) ∈ lw_all := lw_g (lw_at lw_m7 196 rfl) rfl

/-! the law's own entry -/
set_option maxRecDepth 100000
abbrev cL_law : ByteArray := code
def dkwL_law_76 : List UInt8 := [24, 7, 151, 154, 0, 5, 3, 172, 167, 0, 3, 132, 4, 4, 167, 248, 158, 4, 172]
abbrev dktL_law_76 : List UInt8 := dkwL_law_76 ++ []
def dkwL_law_75 : List UInt8 := [182, 0, 226, 57, 7, 24, 5, 24, 7, 151, 153, 0, 21, 24, 5, 24, 5, 151, 153, 0, 11, 24, 7]
abbrev dktL_law_75 : List UInt8 := dkwL_law_75 ++ dktL_law_76
def dkwL_law_74 : List UInt8 := [153, 0, 11, 24, 7, 24, 7, 151, 154, 0, 5, 3, 172, 167, 0, 44, 43, 182, 0, 222, 57, 5, 44]
abbrev dktL_law_74 : List UInt8 := dkwL_law_74 ++ dktL_law_75
def dkwL_law_73 : List UInt8 := [57, 5, 44, 182, 0, 221, 141, 57, 7, 24, 5, 24, 7, 151, 153, 0, 21, 24, 5, 24, 5, 151]
abbrev dktL_law_73 : List UInt8 := dkwL_law_73 ++ dktL_law_74
def dkwL_law_72 : List UInt8 := [154, 0, 15, 45, 3, 47, 21, 6, 133, 148, 153, 0, 5, 3, 172, 167, 0, 87, 43, 182, 0, 217, 141]
abbrev dktL_law_72 : List UInt8 := dkwL_law_72 ++ dktL_law_73
def dkwL_law_71 : List UInt8 := [21, 4, 4, 96, 46, 182, 0, 216, 54, 6, 44, 182, 0, 116, 21, 5, 159, 0, 5, 3, 172, 21, 5]
abbrev dktL_law_71 : List UInt8 := dkwL_law_71 ++ dktL_law_72
def dkwL_law_70 : List UInt8 := [153, 0, 5, 3, 172, 167, 0, 143, 43, 42, 21, 4, 4, 96, 46, 45, 184, 0, 214, 54, 5, 44, 42]
abbrev dktL_law_70 : List UInt8 := dkwL_law_70 ++ dktL_law_71
def dkwL_law_69 : List UInt8 := [55, 6, 44, 182, 0, 116, 21, 5, 159, 0, 5, 3, 172, 21, 5, 154, 0, 14, 45, 3, 47, 22, 6, 148]
abbrev dktL_law_69 : List UInt8 := dkwL_law_69 ++ dktL_law_70
def dkwL_law_68 : List UInt8 := [43, 42, 21, 4, 4, 96, 46, 45, 184, 0, 211, 54, 5, 44, 42, 21, 4, 4, 96, 46, 182, 0, 213]
abbrev dktL_law_68 : List UInt8 := dkwL_law_68 ++ dktL_law_69
def dkwL_law_67 : List UInt8 := [159, 0, 5, 3, 172, 21, 5, 154, 0, 14, 45, 3, 47, 22, 6, 148, 153, 0, 5, 3, 172, 167, 0, 198]
abbrev dktL_law_67 : List UInt8 := dkwL_law_67 ++ dktL_law_68
def dkwL_law_66 : List UInt8 := [45, 184, 0, 208, 54, 5, 44, 42, 21, 4, 4, 96, 46, 182, 0, 210, 55, 6, 44, 182, 0, 116, 21, 5]
abbrev dktL_law_66 : List UInt8 := dkwL_law_66 ++ dktL_law_67
def dkwL_law_65 : List UInt8 := [154, 0, 14, 45, 3, 47, 22, 6, 148, 153, 0, 5, 3, 172, 167, 0, 253, 43, 42, 21, 4, 4, 96, 46]
abbrev dktL_law_65 : List UInt8 := dkwL_law_65 ++ dktL_law_66
def dkwL_law_64 : List UInt8 := [21, 4, 4, 96, 46, 182, 0, 207, 55, 6, 44, 182, 0, 116, 21, 5, 159, 0, 5, 3, 172, 21, 5]
abbrev dktL_law_64 : List UInt8 := dkwL_law_64 ++ dktL_law_65
def dkwL_law_63 : List UInt8 := [153, 0, 5, 3, 172, 167, 1, 52, 43, 42, 21, 4, 4, 96, 46, 45, 184, 0, 205, 54, 5, 44, 42]
abbrev dktL_law_63 : List UInt8 := dkwL_law_63 ++ dktL_law_64
def dkwL_law_62 : List UInt8 := [55, 6, 44, 182, 0, 116, 21, 5, 159, 0, 5, 3, 172, 21, 5, 154, 0, 14, 45, 3, 47, 22, 6, 148]
abbrev dktL_law_62 : List UInt8 := dkwL_law_62 ++ dktL_law_63
def dkwL_law_61 : List UInt8 := [43, 42, 21, 4, 4, 96, 46, 45, 184, 0, 202, 54, 5, 44, 42, 21, 4, 4, 96, 46, 182, 0, 204]
abbrev dktL_law_61 : List UInt8 := dkwL_law_61 ++ dktL_law_62
def dkwL_law_60 : List UInt8 := [159, 0, 5, 3, 172, 21, 5, 154, 0, 14, 45, 3, 47, 22, 6, 148, 153, 0, 5, 3, 172, 167, 1, 107]
abbrev dktL_law_60 : List UInt8 := dkwL_law_60 ++ dktL_law_61
def dkwL_law_59 : List UInt8 := [44, 42, 21, 4, 4, 96, 46, 42, 21, 4, 5, 96, 46, 182, 0, 201, 55, 6, 44, 182, 0, 116, 21, 5]
abbrev dktL_law_59 : List UInt8 := dkwL_law_59 ++ dktL_law_60
def dkwL_law_58 : List UInt8 := [3, 172, 167, 1, 174, 43, 42, 21, 4, 4, 96, 46, 42, 21, 4, 5, 96, 46, 45, 184, 0, 199, 54, 5]
abbrev dktL_law_58 : List UInt8 := dkwL_law_58 ++ dktL_law_59
def dkwL_law_57 : List UInt8 := [182, 0, 116, 21, 5, 159, 0, 5, 3, 172, 21, 5, 154, 0, 14, 45, 3, 47, 22, 6, 148, 153, 0, 5]
abbrev dktL_law_57 : List UInt8 := dkwL_law_57 ++ dktL_law_58
def dkwL_law_56 : List UInt8 := [184, 0, 196, 54, 5, 44, 42, 21, 4, 4, 96, 46, 42, 21, 4, 5, 96, 46, 182, 0, 198, 55, 6, 44]
abbrev dktL_law_56 : List UInt8 := dkwL_law_56 ++ dktL_law_57
def dkwL_law_55 : List UInt8 := [153, 0, 5, 3, 172, 167, 1, 241, 43, 42, 21, 4, 4, 96, 46, 42, 21, 4, 5, 96, 46, 45]
abbrev dktL_law_55 : List UInt8 := dkwL_law_55 ++ dktL_law_56
def dkwL_law_54 : List UInt8 := [182, 0, 116, 21, 5, 159, 0, 5, 3, 172, 21, 5, 154, 0, 15, 45, 3, 47, 21, 6, 133, 148]
abbrev dktL_law_54 : List UInt8 := dkwL_law_54 ++ dktL_law_55
def dkwL_law_53 : List UInt8 := [184, 0, 193, 54, 5, 44, 42, 21, 4, 4, 96, 46, 42, 21, 4, 5, 96, 46, 182, 0, 195, 54, 6, 44]
abbrev dktL_law_53 : List UInt8 := dkwL_law_53 ++ dktL_law_54
def dkwL_law_52 : List UInt8 := [153, 0, 5, 3, 172, 167, 2, 53, 43, 42, 21, 4, 4, 96, 46, 42, 21, 4, 5, 96, 46, 45]
abbrev dktL_law_52 : List UInt8 := dkwL_law_52 ++ dktL_law_53
def dkwL_law_51 : List UInt8 := [182, 0, 116, 21, 5, 159, 0, 5, 3, 172, 21, 5, 154, 0, 15, 45, 3, 47, 21, 6, 133, 148]
abbrev dktL_law_51 : List UInt8 := dkwL_law_51 ++ dktL_law_52
def dkwL_law_50 : List UInt8 := [184, 0, 190, 54, 5, 44, 42, 21, 4, 4, 96, 46, 42, 21, 4, 5, 96, 46, 182, 0, 192, 54, 6, 44]
abbrev dktL_law_50 : List UInt8 := dkwL_law_50 ++ dktL_law_51
def dkwL_law_49 : List UInt8 := [153, 0, 5, 3, 172, 167, 2, 121, 43, 42, 21, 4, 4, 96, 46, 42, 21, 4, 5, 96, 46, 45]
abbrev dktL_law_49 : List UInt8 := dkwL_law_49 ++ dktL_law_50
def dkwL_law_48 : List UInt8 := [182, 0, 116, 21, 5, 159, 0, 5, 3, 172, 21, 5, 154, 0, 15, 45, 3, 47, 21, 6, 133, 148]
abbrev dktL_law_48 : List UInt8 := dkwL_law_48 ++ dktL_law_49
def dkwL_law_47 : List UInt8 := [21, 4, 4, 96, 46, 45, 184, 0, 187, 54, 5, 44, 42, 21, 4, 4, 96, 46, 182, 0, 189, 54, 6, 44]
abbrev dktL_law_47 : List UInt8 := dkwL_law_47 ++ dktL_law_48
def dkwL_law_46 : List UInt8 := [172, 21, 5, 154, 0, 15, 45, 3, 47, 21, 6, 133, 148, 153, 0, 5, 3, 172, 167, 2, 177, 43, 42]
abbrev dktL_law_46 : List UInt8 := dkwL_law_46 ++ dktL_law_47
def dkwL_law_45 : List UInt8 := [54, 5, 44, 42, 21, 4, 4, 96, 46, 182, 0, 186, 54, 6, 44, 182, 0, 116, 21, 5, 159, 0, 5, 3]
abbrev dktL_law_45 : List UInt8 := dkwL_law_45 ++ dktL_law_46
def dkwL_law_44 : List UInt8 := [21, 6, 133, 148, 153, 0, 5, 3, 172, 167, 2, 233, 43, 42, 21, 4, 4, 96, 46, 45, 184, 0, 184]
abbrev dktL_law_44 : List UInt8 := dkwL_law_44 ++ dktL_law_45
def dkwL_law_43 : List UInt8 := [182, 0, 183, 54, 6, 44, 182, 0, 116, 21, 5, 159, 0, 5, 3, 172, 21, 5, 154, 0, 15, 45, 3, 47]
abbrev dktL_law_43 : List UInt8 := dkwL_law_43 ++ dktL_law_44
def dkwL_law_42 : List UInt8 := [167, 3, 33, 43, 42, 21, 4, 4, 96, 46, 45, 184, 0, 181, 54, 5, 44, 42, 21, 4, 4, 96, 46]
abbrev dktL_law_42 : List UInt8 := dkwL_law_42 ++ dktL_law_43
def dkwL_law_41 : List UInt8 := [21, 5, 159, 0, 5, 3, 172, 21, 5, 154, 0, 15, 45, 3, 47, 21, 6, 133, 148, 153, 0, 5, 3, 172]
abbrev dktL_law_41 : List UInt8 := dkwL_law_41 ++ dktL_law_42
def dkwL_law_40 : List UInt8 := [46, 45, 184, 0, 178, 54, 5, 44, 42, 21, 4, 4, 96, 46, 182, 0, 180, 54, 6, 44, 182, 0, 116]
abbrev dktL_law_40 : List UInt8 := dkwL_law_40 ++ dktL_law_41
def dkwL_law_39 : List UInt8 := [154, 0, 15, 45, 3, 47, 21, 6, 133, 148, 153, 0, 5, 3, 172, 167, 3, 89, 43, 42, 21, 4, 4, 96]
abbrev dktL_law_39 : List UInt8 := dkwL_law_39 ++ dktL_law_40
def dkwL_law_38 : List UInt8 := [21, 4, 4, 96, 46, 182, 0, 177, 54, 6, 44, 182, 0, 116, 21, 5, 159, 0, 5, 3, 172, 21, 5]
abbrev dktL_law_38 : List UInt8 := dkwL_law_38 ++ dktL_law_39
def dkwL_law_37 : List UInt8 := [148, 153, 0, 5, 3, 172, 167, 3, 145, 43, 42, 21, 4, 4, 96, 46, 45, 184, 0, 175, 54, 5, 44, 42]
abbrev dktL_law_37 : List UInt8 := dkwL_law_37 ++ dktL_law_38
def dkwL_law_36 : List UInt8 := [54, 6, 44, 182, 0, 116, 21, 5, 159, 0, 5, 3, 172, 21, 5, 154, 0, 15, 45, 3, 47, 21, 6, 133]
abbrev dktL_law_36 : List UInt8 := dkwL_law_36 ++ dktL_law_37
def dkwL_law_35 : List UInt8 := [46, 45, 184, 0, 172, 54, 5, 44, 42, 21, 4, 4, 96, 46, 42, 21, 4, 5, 96, 46, 182, 0, 174]
abbrev dktL_law_35 : List UInt8 := dkwL_law_35 ++ dktL_law_36
def dkwL_law_34 : List UInt8 := [21, 6, 133, 148, 153, 0, 5, 3, 172, 167, 3, 213, 43, 42, 21, 4, 4, 96, 46, 42, 21, 4, 5, 96]
abbrev dktL_law_34 : List UInt8 := dkwL_law_34 ++ dktL_law_35
def dkwL_law_33 : List UInt8 := [182, 0, 171, 54, 6, 44, 182, 0, 116, 21, 5, 159, 0, 5, 3, 172, 21, 5, 154, 0, 15, 45, 3, 47]
abbrev dktL_law_33 : List UInt8 := dkwL_law_33 ++ dktL_law_34
def dkwL_law_32 : List UInt8 := [167, 4, 13, 43, 42, 21, 4, 4, 96, 46, 45, 184, 0, 169, 54, 5, 44, 42, 21, 4, 4, 96, 46]
abbrev dktL_law_32 : List UInt8 := dkwL_law_32 ++ dktL_law_33
def dkwL_law_31 : List UInt8 := [21, 5, 159, 0, 5, 3, 172, 21, 5, 154, 0, 15, 45, 3, 47, 21, 6, 133, 148, 153, 0, 5, 3, 172]
abbrev dktL_law_31 : List UInt8 := dkwL_law_31 ++ dktL_law_32
def dkwL_law_30 : List UInt8 := [96, 46, 45, 184, 0, 166, 54, 5, 44, 42, 21, 4, 4, 96, 46, 182, 0, 168, 54, 6, 44, 182, 0, 116]
abbrev dktL_law_30 : List UInt8 := dkwL_law_30 ++ dktL_law_31
def dkwL_law_29 : List UInt8 := [21, 6, 153, 0, 7, 10, 167, 0, 4, 9, 148, 153, 0, 5, 3, 172, 167, 4, 69, 43, 42, 21, 4, 4]
abbrev dktL_law_29 : List UInt8 := dkwL_law_29 ++ dktL_law_30
def dkwL_law_28 : List UInt8 := [182, 0, 165, 54, 6, 44, 182, 0, 116, 21, 5, 159, 0, 5, 3, 172, 21, 5, 154, 0, 22, 45, 3, 47]
abbrev dktL_law_28 : List UInt8 := dkwL_law_28 ++ dktL_law_29
def dkwL_law_27 : List UInt8 := [172, 167, 4, 132, 43, 42, 21, 4, 4, 96, 46, 45, 184, 0, 163, 54, 5, 44, 42, 21, 4, 4, 96, 46]
abbrev dktL_law_27 : List UInt8 := dkwL_law_27 ++ dktL_law_28
def dkwL_law_26 : List UInt8 := [172, 21, 5, 154, 0, 22, 45, 3, 47, 21, 6, 153, 0, 7, 10, 167, 0, 4, 9, 148, 153, 0, 5, 3]
abbrev dktL_law_26 : List UInt8 := dkwL_law_26 ++ dktL_law_27
def dkwL_law_25 : List UInt8 := [54, 5, 44, 42, 21, 4, 4, 96, 46, 182, 0, 162, 54, 6, 44, 182, 0, 116, 21, 5, 159, 0, 5, 3]
abbrev dktL_law_25 : List UInt8 := dkwL_law_25 ++ dktL_law_26
def dkwL_law_24 : List UInt8 := [182, 0, 156, 44, 182, 0, 159, 159, 4, 197, 3, 172, 43, 42, 21, 4, 4, 96, 46, 45, 184, 0, 160]
abbrev dktL_law_24 : List UInt8 := dkwL_law_24 ++ dktL_law_25
def dkwL_law_23 : List UInt8 := [153, 0, 5, 3, 172, 167, 4, 221, 43, 182, 0, 152, 44, 182, 0, 155, 159, 4, 210, 3, 172, 43]
abbrev dktL_law_23 : List UInt8 := dkwL_law_23 ++ dktL_law_24
def dkwL_law_22 : List UInt8 := [182, 0, 116, 21, 5, 159, 0, 5, 3, 172, 21, 5, 154, 0, 15, 45, 3, 47, 21, 6, 133, 148]
abbrev dktL_law_22 : List UInt8 := dkwL_law_22 ++ dktL_law_23
def dkwL_law_21 : List UInt8 := [21, 4, 4, 96, 46, 45, 184, 0, 149, 54, 5, 44, 42, 21, 4, 4, 96, 46, 182, 0, 151, 54, 6, 44]
abbrev dktL_law_21 : List UInt8 := dkwL_law_21 ++ dktL_law_22
def dkwL_law_20 : List UInt8 := [153, 0, 5, 3, 172, 167, 5, 34, 43, 182, 0, 145, 44, 182, 0, 148, 159, 5, 23, 3, 172, 43, 42]
abbrev dktL_law_20 : List UInt8 := dkwL_law_20 ++ dktL_law_21
def dkwL_law_19 : List UInt8 := [182, 0, 116, 21, 5, 159, 0, 5, 3, 172, 21, 5, 154, 0, 15, 45, 3, 47, 21, 6, 133, 148]
abbrev dktL_law_19 : List UInt8 := dkwL_law_19 ++ dktL_law_20
def dkwL_law_18 : List UInt8 := [21, 4, 4, 96, 46, 45, 184, 0, 142, 54, 5, 44, 42, 21, 4, 4, 96, 46, 182, 0, 144, 54, 6, 44]
abbrev dktL_law_18 : List UInt8 := dkwL_law_18 ++ dktL_law_19
def dkwL_law_17 : List UInt8 := [172, 21, 5, 154, 0, 15, 45, 3, 47, 21, 6, 133, 148, 153, 0, 5, 3, 172, 167, 5, 90, 43, 42]
abbrev dktL_law_17 : List UInt8 := dkwL_law_17 ++ dktL_law_18
def dkwL_law_16 : List UInt8 := [172, 43, 45, 184, 0, 138, 54, 5, 44, 182, 0, 141, 54, 6, 44, 182, 0, 116, 21, 5, 159, 0, 5, 3]
abbrev dktL_law_16 : List UInt8 := dkwL_law_16 ++ dktL_law_17
def dkwL_law_15 : List UInt8 := [21, 6, 133, 148, 153, 0, 5, 3, 172, 167, 5, 147, 43, 182, 0, 134, 44, 182, 0, 137, 159, 5, 136, 3]
abbrev dktL_law_15 : List UInt8 := dkwL_law_15 ++ dktL_law_16
def dkwL_law_14 : List UInt8 := [182, 0, 133, 54, 6, 44, 182, 0, 116, 21, 5, 159, 0, 5, 3, 172, 21, 5, 154, 0, 15, 45, 3, 47]
abbrev dktL_law_14 : List UInt8 := dkwL_law_14 ++ dktL_law_15
def dkwL_law_13 : List UInt8 := [21, 4, 5, 96, 46, 45, 184, 0, 131, 54, 5, 44, 42, 21, 4, 4, 96, 46, 42, 21, 4, 5, 96, 46]
abbrev dktL_law_13 : List UInt8 := dkwL_law_13 ++ dktL_law_14
def dkwL_law_12 : List UInt8 := [167, 5, 228, 43, 182, 0, 127, 44, 182, 0, 130, 159, 5, 217, 3, 172, 43, 42, 21, 4, 4, 96, 46, 42]
abbrev dktL_law_12 : List UInt8 := dkwL_law_12 ++ dktL_law_13
def dkwL_law_11 : List UInt8 := [21, 5, 159, 0, 5, 3, 172, 21, 5, 154, 0, 15, 45, 3, 47, 21, 6, 133, 148, 153, 0, 5, 3, 172]
abbrev dktL_law_11 : List UInt8 := dkwL_law_11 ++ dktL_law_12
def dkwL_law_10 : List UInt8 := [46, 45, 184, 0, 123, 54, 5, 44, 42, 21, 4, 4, 96, 46, 182, 0, 126, 54, 6, 44, 182, 0, 116]
abbrev dktL_law_10 : List UInt8 := dkwL_law_10 ++ dktL_law_11
def dkwL_law_9 : List UInt8 := [154, 0, 15, 45, 3, 47, 21, 6, 133, 148, 153, 0, 5, 3, 172, 167, 6, 28, 43, 42, 21, 4, 4, 96]
abbrev dktL_law_9 : List UInt8 := dkwL_law_9 ++ dktL_law_10
def dkwL_law_8 : List UInt8 := [42, 21, 4, 6, 96, 46, 182, 0, 122, 54, 6, 44, 182, 0, 116, 21, 5, 159, 0, 5, 3, 172, 21, 5]
abbrev dktL_law_8 : List UInt8 := dkwL_law_8 ++ dktL_law_9
def dkwL_law_7 : List UInt8 := [21, 4, 6, 96, 46, 45, 184, 0, 119, 54, 5, 44, 42, 21, 4, 4, 96, 46, 42, 21, 4, 5, 96, 46]
abbrev dktL_law_7 : List UInt8 := dkwL_law_7 ++ dktL_law_8
def dkwL_law_6 : List UInt8 := [148, 153, 0, 5, 3, 172, 167, 6, 108, 43, 42, 21, 4, 4, 96, 46, 42, 21, 4, 5, 96, 46, 42]
abbrev dktL_law_6 : List UInt8 := dkwL_law_6 ++ dktL_law_7
def dkwL_law_5 : List UInt8 := [54, 6, 44, 182, 0, 116, 21, 5, 159, 0, 5, 3, 172, 21, 5, 154, 0, 15, 45, 3, 47, 21, 6, 133]
abbrev dktL_law_5 : List UInt8 := dkwL_law_5 ++ dktL_law_6
def dkwL_law_4 : List UInt8 := [96, 46, 45, 184, 0, 110, 54, 5, 44, 42, 21, 4, 4, 96, 46, 42, 21, 4, 5, 96, 46, 182, 0, 115]
abbrev dktL_law_4 : List UInt8 := dkwL_law_4 ++ dktL_law_5
def dkwL_law_3 : List UInt8 := [43, 182, 0, 106, 44, 182, 0, 109, 159, 6, 178, 3, 172, 43, 42, 21, 4, 4, 96, 46, 42, 21, 4, 5]
abbrev dktL_law_3 : List UInt8 := dkwL_law_3 ++ dktL_law_4
def dkwL_law_2 : List UInt8 := [170, 0, 0, 7, 79, 0, 0, 0, 0, 0, 0, 0, 33, 0, 0, 0, 149, 0, 0, 0, 162, 0, 0, 0, 230, 0, 0, 1, 54, 0, 0, 1, 110, 0, 0, 1, 123, 0, 0, 1, 191, 0, 0, 1, 204, 0, 0, 1, 248, 0, 0, 2, 48, 0, 0, 2, 61, 0, 0, 2, 117, 0, 0, 2, 130, 0, 0, 2, 143, 0, 0, 2, 206, 0, 0, 3, 13, 0, 0, 3, 69, 0, 0, 3, 125, 0, 0, 3, 193, 0, 0, 3, 249, 0, 0, 4, 49, 0, 0, 4, 105, 0, 0, 4, 161, 0, 0, 4, 217, 0, 0, 5, 29, 0, 0, 5, 97, 0, 0, 5, 164, 0, 0, 5, 231, 0, 0, 6, 30, 0, 0, 6, 85, 0, 0, 6, 140, 0, 0, 6, 195, 0, 0, 6, 251, 0, 0, 7, 38]
abbrev dktL_law_2 : List UInt8 := dkwL_law_2 ++ dktL_law_3
def dkwL_law_1 : List UInt8 := [21, 4, 42, 190, 7, 100, 163, 7, 95, 42, 21, 4, 46, 16, 63, 126]
abbrev dktL_law_1 : List UInt8 := dkwL_law_1 ++ dktL_law_2
def dkwL_law_0 : List UInt8 := [187, 0, 8, 89, 183, 0, 102, 76, 187, 0, 103, 89, 183, 0, 105, 77, 4, 188, 11, 78, 3, 54, 4]
abbrev dktL_law_0 : List UInt8 := dkwL_law_0 ++ dktL_law_1
theorem dksL_law_0 : cL_law.data.toList.drop 0 = dktL_law_0 := by decide +kernel
theorem dksL_law_1 : cL_law.data.toList.drop 23 = dktL_law_1 := dk_seg dksL_law_0 23 rfl rfl
theorem dksL_law_2 : cL_law.data.toList.drop 39 = dktL_law_2 := dk_seg dksL_law_1 16 rfl rfl
theorem dksL_law_3 : cL_law.data.toList.drop 188 = dktL_law_3 := dk_seg dksL_law_2 149 rfl rfl
theorem dksL_law_4 : cL_law.data.toList.drop 212 = dktL_law_4 := dk_seg dksL_law_3 24 rfl rfl
theorem dksL_law_5 : cL_law.data.toList.drop 236 = dktL_law_5 := dk_seg dksL_law_4 24 rfl rfl
theorem dksL_law_6 : cL_law.data.toList.drop 260 = dktL_law_6 := dk_seg dksL_law_5 24 rfl rfl
theorem dksL_law_7 : cL_law.data.toList.drop 283 = dktL_law_7 := dk_seg dksL_law_6 23 rfl rfl
theorem dksL_law_8 : cL_law.data.toList.drop 307 = dktL_law_8 := dk_seg dksL_law_7 24 rfl rfl
theorem dksL_law_9 : cL_law.data.toList.drop 331 = dktL_law_9 := dk_seg dksL_law_8 24 rfl rfl
theorem dksL_law_10 : cL_law.data.toList.drop 355 = dktL_law_10 := dk_seg dksL_law_9 24 rfl rfl
theorem dksL_law_11 : cL_law.data.toList.drop 378 = dktL_law_11 := dk_seg dksL_law_10 23 rfl rfl
theorem dksL_law_12 : cL_law.data.toList.drop 402 = dktL_law_12 := dk_seg dksL_law_11 24 rfl rfl
theorem dksL_law_13 : cL_law.data.toList.drop 426 = dktL_law_13 := dk_seg dksL_law_12 24 rfl rfl
theorem dksL_law_14 : cL_law.data.toList.drop 450 = dktL_law_14 := dk_seg dksL_law_13 24 rfl rfl
theorem dksL_law_15 : cL_law.data.toList.drop 474 = dktL_law_15 := dk_seg dksL_law_14 24 rfl rfl
theorem dksL_law_16 : cL_law.data.toList.drop 498 = dktL_law_16 := dk_seg dksL_law_15 24 rfl rfl
theorem dksL_law_17 : cL_law.data.toList.drop 522 = dktL_law_17 := dk_seg dksL_law_16 24 rfl rfl
theorem dksL_law_18 : cL_law.data.toList.drop 545 = dktL_law_18 := dk_seg dksL_law_17 23 rfl rfl
theorem dksL_law_19 : cL_law.data.toList.drop 569 = dktL_law_19 := dk_seg dksL_law_18 24 rfl rfl
theorem dksL_law_20 : cL_law.data.toList.drop 591 = dktL_law_20 := dk_seg dksL_law_19 22 rfl rfl
theorem dksL_law_21 : cL_law.data.toList.drop 614 = dktL_law_21 := dk_seg dksL_law_20 23 rfl rfl
theorem dksL_law_22 : cL_law.data.toList.drop 638 = dktL_law_22 := dk_seg dksL_law_21 24 rfl rfl
theorem dksL_law_23 : cL_law.data.toList.drop 660 = dktL_law_23 := dk_seg dksL_law_22 22 rfl rfl
theorem dksL_law_24 : cL_law.data.toList.drop 682 = dktL_law_24 := dk_seg dksL_law_23 22 rfl rfl
theorem dksL_law_25 : cL_law.data.toList.drop 705 = dktL_law_25 := dk_seg dksL_law_24 23 rfl rfl
theorem dksL_law_26 : cL_law.data.toList.drop 729 = dktL_law_26 := dk_seg dksL_law_25 24 rfl rfl
theorem dksL_law_27 : cL_law.data.toList.drop 753 = dktL_law_27 := dk_seg dksL_law_26 24 rfl rfl
theorem dksL_law_28 : cL_law.data.toList.drop 777 = dktL_law_28 := dk_seg dksL_law_27 24 rfl rfl
theorem dksL_law_29 : cL_law.data.toList.drop 801 = dktL_law_29 := dk_seg dksL_law_28 24 rfl rfl
theorem dksL_law_30 : cL_law.data.toList.drop 825 = dktL_law_30 := dk_seg dksL_law_29 24 rfl rfl
theorem dksL_law_31 : cL_law.data.toList.drop 849 = dktL_law_31 := dk_seg dksL_law_30 24 rfl rfl
theorem dksL_law_32 : cL_law.data.toList.drop 873 = dktL_law_32 := dk_seg dksL_law_31 24 rfl rfl
theorem dksL_law_33 : cL_law.data.toList.drop 896 = dktL_law_33 := dk_seg dksL_law_32 23 rfl rfl
theorem dksL_law_34 : cL_law.data.toList.drop 920 = dktL_law_34 := dk_seg dksL_law_33 24 rfl rfl
theorem dksL_law_35 : cL_law.data.toList.drop 944 = dktL_law_35 := dk_seg dksL_law_34 24 rfl rfl
theorem dksL_law_36 : cL_law.data.toList.drop 967 = dktL_law_36 := dk_seg dksL_law_35 23 rfl rfl
theorem dksL_law_37 : cL_law.data.toList.drop 991 = dktL_law_37 := dk_seg dksL_law_36 24 rfl rfl
theorem dksL_law_38 : cL_law.data.toList.drop 1015 = dktL_law_38 := dk_seg dksL_law_37 24 rfl rfl
theorem dksL_law_39 : cL_law.data.toList.drop 1038 = dktL_law_39 := dk_seg dksL_law_38 23 rfl rfl
theorem dksL_law_40 : cL_law.data.toList.drop 1062 = dktL_law_40 := dk_seg dksL_law_39 24 rfl rfl
theorem dksL_law_41 : cL_law.data.toList.drop 1085 = dktL_law_41 := dk_seg dksL_law_40 23 rfl rfl
theorem dksL_law_42 : cL_law.data.toList.drop 1109 = dktL_law_42 := dk_seg dksL_law_41 24 rfl rfl
theorem dksL_law_43 : cL_law.data.toList.drop 1132 = dktL_law_43 := dk_seg dksL_law_42 23 rfl rfl
theorem dksL_law_44 : cL_law.data.toList.drop 1156 = dktL_law_44 := dk_seg dksL_law_43 24 rfl rfl
theorem dksL_law_45 : cL_law.data.toList.drop 1179 = dktL_law_45 := dk_seg dksL_law_44 23 rfl rfl
theorem dksL_law_46 : cL_law.data.toList.drop 1203 = dktL_law_46 := dk_seg dksL_law_45 24 rfl rfl
theorem dksL_law_47 : cL_law.data.toList.drop 1226 = dktL_law_47 := dk_seg dksL_law_46 23 rfl rfl
theorem dksL_law_48 : cL_law.data.toList.drop 1250 = dktL_law_48 := dk_seg dksL_law_47 24 rfl rfl
theorem dksL_law_49 : cL_law.data.toList.drop 1272 = dktL_law_49 := dk_seg dksL_law_48 22 rfl rfl
theorem dksL_law_50 : cL_law.data.toList.drop 1294 = dktL_law_50 := dk_seg dksL_law_49 22 rfl rfl
theorem dksL_law_51 : cL_law.data.toList.drop 1318 = dktL_law_51 := dk_seg dksL_law_50 24 rfl rfl
theorem dksL_law_52 : cL_law.data.toList.drop 1340 = dktL_law_52 := dk_seg dksL_law_51 22 rfl rfl
theorem dksL_law_53 : cL_law.data.toList.drop 1362 = dktL_law_53 := dk_seg dksL_law_52 22 rfl rfl
theorem dksL_law_54 : cL_law.data.toList.drop 1386 = dktL_law_54 := dk_seg dksL_law_53 24 rfl rfl
theorem dksL_law_55 : cL_law.data.toList.drop 1408 = dktL_law_55 := dk_seg dksL_law_54 22 rfl rfl
theorem dksL_law_56 : cL_law.data.toList.drop 1430 = dktL_law_56 := dk_seg dksL_law_55 22 rfl rfl
theorem dksL_law_57 : cL_law.data.toList.drop 1454 = dktL_law_57 := dk_seg dksL_law_56 24 rfl rfl
theorem dksL_law_58 : cL_law.data.toList.drop 1478 = dktL_law_58 := dk_seg dksL_law_57 24 rfl rfl
theorem dksL_law_59 : cL_law.data.toList.drop 1502 = dktL_law_59 := dk_seg dksL_law_58 24 rfl rfl
theorem dksL_law_60 : cL_law.data.toList.drop 1526 = dktL_law_60 := dk_seg dksL_law_59 24 rfl rfl
theorem dksL_law_61 : cL_law.data.toList.drop 1550 = dktL_law_61 := dk_seg dksL_law_60 24 rfl rfl
theorem dksL_law_62 : cL_law.data.toList.drop 1573 = dktL_law_62 := dk_seg dksL_law_61 23 rfl rfl
theorem dksL_law_63 : cL_law.data.toList.drop 1597 = dktL_law_63 := dk_seg dksL_law_62 24 rfl rfl
theorem dksL_law_64 : cL_law.data.toList.drop 1620 = dktL_law_64 := dk_seg dksL_law_63 23 rfl rfl
theorem dksL_law_65 : cL_law.data.toList.drop 1643 = dktL_law_65 := dk_seg dksL_law_64 23 rfl rfl
theorem dksL_law_66 : cL_law.data.toList.drop 1667 = dktL_law_66 := dk_seg dksL_law_65 24 rfl rfl
theorem dksL_law_67 : cL_law.data.toList.drop 1691 = dktL_law_67 := dk_seg dksL_law_66 24 rfl rfl
theorem dksL_law_68 : cL_law.data.toList.drop 1715 = dktL_law_68 := dk_seg dksL_law_67 24 rfl rfl
theorem dksL_law_69 : cL_law.data.toList.drop 1738 = dktL_law_69 := dk_seg dksL_law_68 23 rfl rfl
theorem dksL_law_70 : cL_law.data.toList.drop 1762 = dktL_law_70 := dk_seg dksL_law_69 24 rfl rfl
theorem dksL_law_71 : cL_law.data.toList.drop 1785 = dktL_law_71 := dk_seg dksL_law_70 23 rfl rfl
theorem dksL_law_72 : cL_law.data.toList.drop 1808 = dktL_law_72 := dk_seg dksL_law_71 23 rfl rfl
theorem dksL_law_73 : cL_law.data.toList.drop 1831 = dktL_law_73 := dk_seg dksL_law_72 23 rfl rfl
theorem dksL_law_74 : cL_law.data.toList.drop 1853 = dktL_law_74 := dk_seg dksL_law_73 22 rfl rfl
theorem dksL_law_75 : cL_law.data.toList.drop 1876 = dktL_law_75 := dk_seg dksL_law_74 23 rfl rfl
theorem dksL_law_76 : cL_law.data.toList.drop 1899 = dktL_law_76 := dk_seg dksL_law_75 23 rfl rfl
theorem dL_law_0 : decode cL_law 0 = .ok (.new 8, 3) := dk_187 0 8 (dk_at dksL_law_0 0 rfl rfl)
theorem dL_law_3 : decode cL_law 3 = .ok (.dup, 1) := dk_89 (dk_at dksL_law_0 3 rfl rfl)
theorem dL_law_4 : decode cL_law 4 = .ok (.invokespecial 102, 3) := dk_183 0 102 (dk_at dksL_law_0 4 rfl rfl)
theorem dL_law_7 : decode cL_law 7 = .ok (.astore_n 1, 1) := dk_76 (dk_at dksL_law_0 7 rfl rfl)
theorem dL_law_8 : decode cL_law 8 = .ok (.new 103, 3) := dk_187 0 103 (dk_at dksL_law_0 8 rfl rfl)
theorem dL_law_11 : decode cL_law 11 = .ok (.dup, 1) := dk_89 (dk_at dksL_law_0 11 rfl rfl)
theorem dL_law_12 : decode cL_law 12 = .ok (.invokespecial 105, 3) := dk_183 0 105 (dk_at dksL_law_0 12 rfl rfl)
theorem dL_law_15 : decode cL_law 15 = .ok (.astore_n 2, 1) := dk_77 (dk_at dksL_law_0 15 rfl rfl)
theorem dL_law_16 : decode cL_law 16 = .ok (.iconst 1, 1) := dk_4 (dk_at dksL_law_0 16 rfl rfl)
theorem dL_law_17 : decode cL_law 17 = .ok (.newarray .long, 2) := dk_188_11 (dk_at dksL_law_0 17 rfl rfl)
theorem dL_law_19 : decode cL_law 19 = .ok (.astore_n 3, 1) := dk_78 (dk_at dksL_law_0 19 rfl rfl)
theorem dL_law_20 : decode cL_law 20 = .ok (.iconst 0, 1) := dk_3 (dk_at dksL_law_0 20 rfl rfl)
theorem dL_law_21 : decode cL_law 21 = .ok (.istore 4, 2) := dk_54 4 (dk_at dksL_law_0 21 rfl rfl)
theorem dL_law_23 : decode cL_law 23 = .ok (.iload 4, 2) := dk_21 4 (dk_at dksL_law_1 0 rfl rfl)
theorem dL_law_25 : decode cL_law 25 = .ok (.aload_n 0, 1) := dk_42 (dk_at dksL_law_1 2 rfl rfl)
theorem dL_law_26 : decode cL_law 26 = .ok (.arraylength, 1) := dk_190 (dk_at dksL_law_1 3 rfl rfl)
theorem dL_law_27 : decode cL_law 27 = .ok (.iconst 4, 1) := dk_7 (dk_at dksL_law_1 4 rfl rfl)
theorem dL_law_28 : decode cL_law 28 = .ok (.isub, 1) := dk_100 (dk_at dksL_law_1 5 rfl rfl)
theorem dL_law_29 : decode cL_law 29 = .ok (.if_icmp .gt 1887, 3) := dk_163 7 95 (dk_at dksL_law_1 6 rfl rfl)
theorem dL_law_32 : decode cL_law 32 = .ok (.aload_n 0, 1) := dk_42 (dk_at dksL_law_1 9 rfl rfl)
theorem dL_law_33 : decode cL_law 33 = .ok (.iload 4, 2) := dk_21 4 (dk_at dksL_law_1 10 rfl rfl)
theorem dL_law_35 : decode cL_law 35 = .ok (.iaload, 1) := dk_46 (dk_at dksL_law_1 12 rfl rfl)
theorem dL_law_36 : decode cL_law 36 = .ok (.bipush 63, 2) := dk_16 63 (dk_at dksL_law_1 13 rfl rfl)
theorem dL_law_38 : decode cL_law 38 = .ok (.iand, 1) := dk_126 (dk_at dksL_law_1 15 rfl rfl)
theorem dL_law_39 : decode cL_law 39 = .ok (.tableswitch 1871 0 33 #[149, 162, 230, 310, 366, 379, 447, 460, 504, 560, 573, 629, 642, 655, 718, 781, 837, 893, 961, 1017, 1073, 1129, 1185, 1241, 1309, 1377, 1444, 1511, 1566, 1621, 1676, 1731, 1787, 1830], 149) := by decide +kernel
theorem dL_law_188 : decode cL_law 188 = .ok (.aload_n 1, 1) := dk_43 (dk_at dksL_law_3 0 rfl rfl)
theorem dL_law_189 : decode cL_law 189 = .ok (.invokevirtual 106, 3) := dk_182 0 106 (dk_at dksL_law_3 1 rfl rfl)
theorem dL_law_192 : decode cL_law 192 = .ok (.aload_n 2, 1) := dk_44 (dk_at dksL_law_3 4 rfl rfl)
theorem dL_law_193 : decode cL_law 193 = .ok (.invokevirtual 109, 3) := dk_182 0 109 (dk_at dksL_law_3 5 rfl rfl)
theorem dL_law_196 : decode cL_law 196 = .ok (.if_icmp .eq 1714, 3) := dk_159 6 178 (dk_at dksL_law_3 8 rfl rfl)
theorem dL_law_199 : decode cL_law 199 = .ok (.iconst 0, 1) := dk_3 (dk_at dksL_law_3 11 rfl rfl)
theorem dL_law_200 : decode cL_law 200 = .ok (.ireturn, 1) := dk_172 (dk_at dksL_law_3 12 rfl rfl)
theorem dL_law_201 : decode cL_law 201 = .ok (.aload_n 1, 1) := dk_43 (dk_at dksL_law_3 13 rfl rfl)
theorem dL_law_202 : decode cL_law 202 = .ok (.aload_n 0, 1) := dk_42 (dk_at dksL_law_3 14 rfl rfl)
theorem dL_law_203 : decode cL_law 203 = .ok (.iload 4, 2) := dk_21 4 (dk_at dksL_law_3 15 rfl rfl)
theorem dL_law_205 : decode cL_law 205 = .ok (.iconst 1, 1) := dk_4 (dk_at dksL_law_3 17 rfl rfl)
theorem dL_law_206 : decode cL_law 206 = .ok (.iadd, 1) := dk_96 (dk_at dksL_law_3 18 rfl rfl)
theorem dL_law_207 : decode cL_law 207 = .ok (.iaload, 1) := dk_46 (dk_at dksL_law_3 19 rfl rfl)
theorem dL_law_208 : decode cL_law 208 = .ok (.aload_n 0, 1) := dk_42 (dk_at dksL_law_3 20 rfl rfl)
theorem dL_law_209 : decode cL_law 209 = .ok (.iload 4, 2) := dk_21 4 (dk_at dksL_law_3 21 rfl rfl)
theorem dL_law_211 : decode cL_law 211 = .ok (.iconst 2, 1) := dk_5 (dk_at dksL_law_3 23 rfl rfl)
theorem dL_law_212 : decode cL_law 212 = .ok (.iadd, 1) := dk_96 (dk_at dksL_law_4 0 rfl rfl)
theorem dL_law_213 : decode cL_law 213 = .ok (.iaload, 1) := dk_46 (dk_at dksL_law_4 1 rfl rfl)
theorem dL_law_214 : decode cL_law 214 = .ok (.aload_n 3, 1) := dk_45 (dk_at dksL_law_4 2 rfl rfl)
theorem dL_law_215 : decode cL_law 215 = .ok (.invokestatic 110, 3) := dk_184 0 110 (dk_at dksL_law_4 3 rfl rfl)
theorem dL_law_218 : decode cL_law 218 = .ok (.istore 5, 2) := dk_54 5 (dk_at dksL_law_4 6 rfl rfl)
theorem dL_law_220 : decode cL_law 220 = .ok (.aload_n 2, 1) := dk_44 (dk_at dksL_law_4 8 rfl rfl)
theorem dL_law_221 : decode cL_law 221 = .ok (.aload_n 0, 1) := dk_42 (dk_at dksL_law_4 9 rfl rfl)
theorem dL_law_222 : decode cL_law 222 = .ok (.iload 4, 2) := dk_21 4 (dk_at dksL_law_4 10 rfl rfl)
theorem dL_law_224 : decode cL_law 224 = .ok (.iconst 1, 1) := dk_4 (dk_at dksL_law_4 12 rfl rfl)
theorem dL_law_225 : decode cL_law 225 = .ok (.iadd, 1) := dk_96 (dk_at dksL_law_4 13 rfl rfl)
theorem dL_law_226 : decode cL_law 226 = .ok (.iaload, 1) := dk_46 (dk_at dksL_law_4 14 rfl rfl)
theorem dL_law_227 : decode cL_law 227 = .ok (.aload_n 0, 1) := dk_42 (dk_at dksL_law_4 15 rfl rfl)
theorem dL_law_228 : decode cL_law 228 = .ok (.iload 4, 2) := dk_21 4 (dk_at dksL_law_4 16 rfl rfl)
theorem dL_law_230 : decode cL_law 230 = .ok (.iconst 2, 1) := dk_5 (dk_at dksL_law_4 18 rfl rfl)
theorem dL_law_231 : decode cL_law 231 = .ok (.iadd, 1) := dk_96 (dk_at dksL_law_4 19 rfl rfl)
theorem dL_law_232 : decode cL_law 232 = .ok (.iaload, 1) := dk_46 (dk_at dksL_law_4 20 rfl rfl)
theorem dL_law_233 : decode cL_law 233 = .ok (.invokevirtual 115, 3) := dk_182 0 115 (dk_at dksL_law_4 21 rfl rfl)
theorem dL_law_236 : decode cL_law 236 = .ok (.istore 6, 2) := dk_54 6 (dk_at dksL_law_5 0 rfl rfl)
theorem dL_law_238 : decode cL_law 238 = .ok (.aload_n 2, 1) := dk_44 (dk_at dksL_law_5 2 rfl rfl)
theorem dL_law_239 : decode cL_law 239 = .ok (.invokevirtual 116, 3) := dk_182 0 116 (dk_at dksL_law_5 3 rfl rfl)
theorem dL_law_242 : decode cL_law 242 = .ok (.iload 5, 2) := dk_21 5 (dk_at dksL_law_5 6 rfl rfl)
theorem dL_law_244 : decode cL_law 244 = .ok (.if_icmp .eq 5, 3) := dk_159 0 5 (dk_at dksL_law_5 8 rfl rfl)
theorem dL_law_247 : decode cL_law 247 = .ok (.iconst 0, 1) := dk_3 (dk_at dksL_law_5 11 rfl rfl)
theorem dL_law_248 : decode cL_law 248 = .ok (.ireturn, 1) := dk_172 (dk_at dksL_law_5 12 rfl rfl)
theorem dL_law_249 : decode cL_law 249 = .ok (.iload 5, 2) := dk_21 5 (dk_at dksL_law_5 13 rfl rfl)
theorem dL_law_251 : decode cL_law 251 = .ok (.ifCond .ne 15, 3) := dk_154 0 15 (dk_at dksL_law_5 15 rfl rfl)
theorem dL_law_254 : decode cL_law 254 = .ok (.aload_n 3, 1) := dk_45 (dk_at dksL_law_5 18 rfl rfl)
theorem dL_law_255 : decode cL_law 255 = .ok (.iconst 0, 1) := dk_3 (dk_at dksL_law_5 19 rfl rfl)
theorem dL_law_256 : decode cL_law 256 = .ok (.laload, 1) := dk_47 (dk_at dksL_law_5 20 rfl rfl)
theorem dL_law_257 : decode cL_law 257 = .ok (.iload 6, 2) := dk_21 6 (dk_at dksL_law_5 21 rfl rfl)
theorem dL_law_259 : decode cL_law 259 = .ok (.i2l, 1) := dk_133 (dk_at dksL_law_5 23 rfl rfl)
theorem dL_law_260 : decode cL_law 260 = .ok (.lcmp, 1) := dk_148 (dk_at dksL_law_6 0 rfl rfl)
theorem dL_law_261 : decode cL_law 261 = .ok (.ifCond .eq 5, 3) := dk_153 0 5 (dk_at dksL_law_6 1 rfl rfl)
theorem dL_law_264 : decode cL_law 264 = .ok (.iconst 0, 1) := dk_3 (dk_at dksL_law_6 4 rfl rfl)
theorem dL_law_265 : decode cL_law 265 = .ok (.ireturn, 1) := dk_172 (dk_at dksL_law_6 5 rfl rfl)
theorem dL_law_266 : decode cL_law 266 = .ok (.goto 1644, 3) := dk_167 6 108 (dk_at dksL_law_6 6 rfl rfl)
theorem dL_law_269 : decode cL_law 269 = .ok (.aload_n 1, 1) := dk_43 (dk_at dksL_law_6 9 rfl rfl)
theorem dL_law_270 : decode cL_law 270 = .ok (.aload_n 0, 1) := dk_42 (dk_at dksL_law_6 10 rfl rfl)
theorem dL_law_271 : decode cL_law 271 = .ok (.iload 4, 2) := dk_21 4 (dk_at dksL_law_6 11 rfl rfl)
theorem dL_law_273 : decode cL_law 273 = .ok (.iconst 1, 1) := dk_4 (dk_at dksL_law_6 13 rfl rfl)
theorem dL_law_274 : decode cL_law 274 = .ok (.iadd, 1) := dk_96 (dk_at dksL_law_6 14 rfl rfl)
theorem dL_law_275 : decode cL_law 275 = .ok (.iaload, 1) := dk_46 (dk_at dksL_law_6 15 rfl rfl)
theorem dL_law_276 : decode cL_law 276 = .ok (.aload_n 0, 1) := dk_42 (dk_at dksL_law_6 16 rfl rfl)
theorem dL_law_277 : decode cL_law 277 = .ok (.iload 4, 2) := dk_21 4 (dk_at dksL_law_6 17 rfl rfl)
theorem dL_law_279 : decode cL_law 279 = .ok (.iconst 2, 1) := dk_5 (dk_at dksL_law_6 19 rfl rfl)
theorem dL_law_280 : decode cL_law 280 = .ok (.iadd, 1) := dk_96 (dk_at dksL_law_6 20 rfl rfl)
theorem dL_law_281 : decode cL_law 281 = .ok (.iaload, 1) := dk_46 (dk_at dksL_law_6 21 rfl rfl)
theorem dL_law_282 : decode cL_law 282 = .ok (.aload_n 0, 1) := dk_42 (dk_at dksL_law_6 22 rfl rfl)
theorem dL_law_283 : decode cL_law 283 = .ok (.iload 4, 2) := dk_21 4 (dk_at dksL_law_7 0 rfl rfl)
theorem dL_law_285 : decode cL_law 285 = .ok (.iconst 3, 1) := dk_6 (dk_at dksL_law_7 2 rfl rfl)
theorem dL_law_286 : decode cL_law 286 = .ok (.iadd, 1) := dk_96 (dk_at dksL_law_7 3 rfl rfl)
theorem dL_law_287 : decode cL_law 287 = .ok (.iaload, 1) := dk_46 (dk_at dksL_law_7 4 rfl rfl)
theorem dL_law_288 : decode cL_law 288 = .ok (.aload_n 3, 1) := dk_45 (dk_at dksL_law_7 5 rfl rfl)
theorem dL_law_289 : decode cL_law 289 = .ok (.invokestatic 119, 3) := dk_184 0 119 (dk_at dksL_law_7 6 rfl rfl)
theorem dL_law_292 : decode cL_law 292 = .ok (.istore 5, 2) := dk_54 5 (dk_at dksL_law_7 9 rfl rfl)
theorem dL_law_294 : decode cL_law 294 = .ok (.aload_n 2, 1) := dk_44 (dk_at dksL_law_7 11 rfl rfl)
theorem dL_law_295 : decode cL_law 295 = .ok (.aload_n 0, 1) := dk_42 (dk_at dksL_law_7 12 rfl rfl)
theorem dL_law_296 : decode cL_law 296 = .ok (.iload 4, 2) := dk_21 4 (dk_at dksL_law_7 13 rfl rfl)
theorem dL_law_298 : decode cL_law 298 = .ok (.iconst 1, 1) := dk_4 (dk_at dksL_law_7 15 rfl rfl)
theorem dL_law_299 : decode cL_law 299 = .ok (.iadd, 1) := dk_96 (dk_at dksL_law_7 16 rfl rfl)
theorem dL_law_300 : decode cL_law 300 = .ok (.iaload, 1) := dk_46 (dk_at dksL_law_7 17 rfl rfl)
theorem dL_law_301 : decode cL_law 301 = .ok (.aload_n 0, 1) := dk_42 (dk_at dksL_law_7 18 rfl rfl)
theorem dL_law_302 : decode cL_law 302 = .ok (.iload 4, 2) := dk_21 4 (dk_at dksL_law_7 19 rfl rfl)
theorem dL_law_304 : decode cL_law 304 = .ok (.iconst 2, 1) := dk_5 (dk_at dksL_law_7 21 rfl rfl)
theorem dL_law_305 : decode cL_law 305 = .ok (.iadd, 1) := dk_96 (dk_at dksL_law_7 22 rfl rfl)
theorem dL_law_306 : decode cL_law 306 = .ok (.iaload, 1) := dk_46 (dk_at dksL_law_7 23 rfl rfl)
theorem dL_law_307 : decode cL_law 307 = .ok (.aload_n 0, 1) := dk_42 (dk_at dksL_law_8 0 rfl rfl)
theorem dL_law_308 : decode cL_law 308 = .ok (.iload 4, 2) := dk_21 4 (dk_at dksL_law_8 1 rfl rfl)
theorem dL_law_310 : decode cL_law 310 = .ok (.iconst 3, 1) := dk_6 (dk_at dksL_law_8 3 rfl rfl)
theorem dL_law_311 : decode cL_law 311 = .ok (.iadd, 1) := dk_96 (dk_at dksL_law_8 4 rfl rfl)
theorem dL_law_312 : decode cL_law 312 = .ok (.iaload, 1) := dk_46 (dk_at dksL_law_8 5 rfl rfl)
theorem dL_law_313 : decode cL_law 313 = .ok (.invokevirtual 122, 3) := dk_182 0 122 (dk_at dksL_law_8 6 rfl rfl)
theorem dL_law_316 : decode cL_law 316 = .ok (.istore 6, 2) := dk_54 6 (dk_at dksL_law_8 9 rfl rfl)
theorem dL_law_318 : decode cL_law 318 = .ok (.aload_n 2, 1) := dk_44 (dk_at dksL_law_8 11 rfl rfl)
theorem dL_law_319 : decode cL_law 319 = .ok (.invokevirtual 116, 3) := dk_182 0 116 (dk_at dksL_law_8 12 rfl rfl)
theorem dL_law_322 : decode cL_law 322 = .ok (.iload 5, 2) := dk_21 5 (dk_at dksL_law_8 15 rfl rfl)
theorem dL_law_324 : decode cL_law 324 = .ok (.if_icmp .eq 5, 3) := dk_159 0 5 (dk_at dksL_law_8 17 rfl rfl)
theorem dL_law_327 : decode cL_law 327 = .ok (.iconst 0, 1) := dk_3 (dk_at dksL_law_8 20 rfl rfl)
theorem dL_law_328 : decode cL_law 328 = .ok (.ireturn, 1) := dk_172 (dk_at dksL_law_8 21 rfl rfl)
theorem dL_law_329 : decode cL_law 329 = .ok (.iload 5, 2) := dk_21 5 (dk_at dksL_law_8 22 rfl rfl)
theorem dL_law_331 : decode cL_law 331 = .ok (.ifCond .ne 15, 3) := dk_154 0 15 (dk_at dksL_law_9 0 rfl rfl)
theorem dL_law_334 : decode cL_law 334 = .ok (.aload_n 3, 1) := dk_45 (dk_at dksL_law_9 3 rfl rfl)
theorem dL_law_335 : decode cL_law 335 = .ok (.iconst 0, 1) := dk_3 (dk_at dksL_law_9 4 rfl rfl)
theorem dL_law_336 : decode cL_law 336 = .ok (.laload, 1) := dk_47 (dk_at dksL_law_9 5 rfl rfl)
theorem dL_law_337 : decode cL_law 337 = .ok (.iload 6, 2) := dk_21 6 (dk_at dksL_law_9 6 rfl rfl)
theorem dL_law_339 : decode cL_law 339 = .ok (.i2l, 1) := dk_133 (dk_at dksL_law_9 8 rfl rfl)
theorem dL_law_340 : decode cL_law 340 = .ok (.lcmp, 1) := dk_148 (dk_at dksL_law_9 9 rfl rfl)
theorem dL_law_341 : decode cL_law 341 = .ok (.ifCond .eq 5, 3) := dk_153 0 5 (dk_at dksL_law_9 10 rfl rfl)
theorem dL_law_344 : decode cL_law 344 = .ok (.iconst 0, 1) := dk_3 (dk_at dksL_law_9 13 rfl rfl)
theorem dL_law_345 : decode cL_law 345 = .ok (.ireturn, 1) := dk_172 (dk_at dksL_law_9 14 rfl rfl)
theorem dL_law_346 : decode cL_law 346 = .ok (.goto 1564, 3) := dk_167 6 28 (dk_at dksL_law_9 15 rfl rfl)
theorem dL_law_349 : decode cL_law 349 = .ok (.aload_n 1, 1) := dk_43 (dk_at dksL_law_9 18 rfl rfl)
theorem dL_law_350 : decode cL_law 350 = .ok (.aload_n 0, 1) := dk_42 (dk_at dksL_law_9 19 rfl rfl)
theorem dL_law_351 : decode cL_law 351 = .ok (.iload 4, 2) := dk_21 4 (dk_at dksL_law_9 20 rfl rfl)
theorem dL_law_353 : decode cL_law 353 = .ok (.iconst 1, 1) := dk_4 (dk_at dksL_law_9 22 rfl rfl)
theorem dL_law_354 : decode cL_law 354 = .ok (.iadd, 1) := dk_96 (dk_at dksL_law_9 23 rfl rfl)
theorem dL_law_355 : decode cL_law 355 = .ok (.iaload, 1) := dk_46 (dk_at dksL_law_10 0 rfl rfl)
theorem dL_law_356 : decode cL_law 356 = .ok (.aload_n 3, 1) := dk_45 (dk_at dksL_law_10 1 rfl rfl)
theorem dL_law_357 : decode cL_law 357 = .ok (.invokestatic 123, 3) := dk_184 0 123 (dk_at dksL_law_10 2 rfl rfl)
theorem dL_law_360 : decode cL_law 360 = .ok (.istore 5, 2) := dk_54 5 (dk_at dksL_law_10 5 rfl rfl)
theorem dL_law_362 : decode cL_law 362 = .ok (.aload_n 2, 1) := dk_44 (dk_at dksL_law_10 7 rfl rfl)
theorem dL_law_363 : decode cL_law 363 = .ok (.aload_n 0, 1) := dk_42 (dk_at dksL_law_10 8 rfl rfl)
theorem dL_law_364 : decode cL_law 364 = .ok (.iload 4, 2) := dk_21 4 (dk_at dksL_law_10 9 rfl rfl)
theorem dL_law_366 : decode cL_law 366 = .ok (.iconst 1, 1) := dk_4 (dk_at dksL_law_10 11 rfl rfl)
theorem dL_law_367 : decode cL_law 367 = .ok (.iadd, 1) := dk_96 (dk_at dksL_law_10 12 rfl rfl)
theorem dL_law_368 : decode cL_law 368 = .ok (.iaload, 1) := dk_46 (dk_at dksL_law_10 13 rfl rfl)
theorem dL_law_369 : decode cL_law 369 = .ok (.invokevirtual 126, 3) := dk_182 0 126 (dk_at dksL_law_10 14 rfl rfl)
theorem dL_law_372 : decode cL_law 372 = .ok (.istore 6, 2) := dk_54 6 (dk_at dksL_law_10 17 rfl rfl)
theorem dL_law_374 : decode cL_law 374 = .ok (.aload_n 2, 1) := dk_44 (dk_at dksL_law_10 19 rfl rfl)
theorem dL_law_375 : decode cL_law 375 = .ok (.invokevirtual 116, 3) := dk_182 0 116 (dk_at dksL_law_10 20 rfl rfl)
theorem dL_law_378 : decode cL_law 378 = .ok (.iload 5, 2) := dk_21 5 (dk_at dksL_law_11 0 rfl rfl)
theorem dL_law_380 : decode cL_law 380 = .ok (.if_icmp .eq 5, 3) := dk_159 0 5 (dk_at dksL_law_11 2 rfl rfl)
theorem dL_law_383 : decode cL_law 383 = .ok (.iconst 0, 1) := dk_3 (dk_at dksL_law_11 5 rfl rfl)
theorem dL_law_384 : decode cL_law 384 = .ok (.ireturn, 1) := dk_172 (dk_at dksL_law_11 6 rfl rfl)
theorem dL_law_385 : decode cL_law 385 = .ok (.iload 5, 2) := dk_21 5 (dk_at dksL_law_11 7 rfl rfl)
theorem dL_law_387 : decode cL_law 387 = .ok (.ifCond .ne 15, 3) := dk_154 0 15 (dk_at dksL_law_11 9 rfl rfl)
theorem dL_law_390 : decode cL_law 390 = .ok (.aload_n 3, 1) := dk_45 (dk_at dksL_law_11 12 rfl rfl)
theorem dL_law_391 : decode cL_law 391 = .ok (.iconst 0, 1) := dk_3 (dk_at dksL_law_11 13 rfl rfl)
theorem dL_law_392 : decode cL_law 392 = .ok (.laload, 1) := dk_47 (dk_at dksL_law_11 14 rfl rfl)
theorem dL_law_393 : decode cL_law 393 = .ok (.iload 6, 2) := dk_21 6 (dk_at dksL_law_11 15 rfl rfl)
theorem dL_law_395 : decode cL_law 395 = .ok (.i2l, 1) := dk_133 (dk_at dksL_law_11 17 rfl rfl)
theorem dL_law_396 : decode cL_law 396 = .ok (.lcmp, 1) := dk_148 (dk_at dksL_law_11 18 rfl rfl)
theorem dL_law_397 : decode cL_law 397 = .ok (.ifCond .eq 5, 3) := dk_153 0 5 (dk_at dksL_law_11 19 rfl rfl)
theorem dL_law_400 : decode cL_law 400 = .ok (.iconst 0, 1) := dk_3 (dk_at dksL_law_11 22 rfl rfl)
theorem dL_law_401 : decode cL_law 401 = .ok (.ireturn, 1) := dk_172 (dk_at dksL_law_11 23 rfl rfl)
theorem dL_law_402 : decode cL_law 402 = .ok (.goto 1508, 3) := dk_167 5 228 (dk_at dksL_law_12 0 rfl rfl)
theorem dL_law_405 : decode cL_law 405 = .ok (.aload_n 1, 1) := dk_43 (dk_at dksL_law_12 3 rfl rfl)
theorem dL_law_406 : decode cL_law 406 = .ok (.invokevirtual 127, 3) := dk_182 0 127 (dk_at dksL_law_12 4 rfl rfl)
theorem dL_law_409 : decode cL_law 409 = .ok (.aload_n 2, 1) := dk_44 (dk_at dksL_law_12 7 rfl rfl)
theorem dL_law_410 : decode cL_law 410 = .ok (.invokevirtual 130, 3) := dk_182 0 130 (dk_at dksL_law_12 8 rfl rfl)
theorem dL_law_413 : decode cL_law 413 = .ok (.if_icmp .eq 1497, 3) := dk_159 5 217 (dk_at dksL_law_12 11 rfl rfl)
theorem dL_law_416 : decode cL_law 416 = .ok (.iconst 0, 1) := dk_3 (dk_at dksL_law_12 14 rfl rfl)
theorem dL_law_417 : decode cL_law 417 = .ok (.ireturn, 1) := dk_172 (dk_at dksL_law_12 15 rfl rfl)
theorem dL_law_418 : decode cL_law 418 = .ok (.aload_n 1, 1) := dk_43 (dk_at dksL_law_12 16 rfl rfl)
theorem dL_law_419 : decode cL_law 419 = .ok (.aload_n 0, 1) := dk_42 (dk_at dksL_law_12 17 rfl rfl)
theorem dL_law_420 : decode cL_law 420 = .ok (.iload 4, 2) := dk_21 4 (dk_at dksL_law_12 18 rfl rfl)
theorem dL_law_422 : decode cL_law 422 = .ok (.iconst 1, 1) := dk_4 (dk_at dksL_law_12 20 rfl rfl)
theorem dL_law_423 : decode cL_law 423 = .ok (.iadd, 1) := dk_96 (dk_at dksL_law_12 21 rfl rfl)
theorem dL_law_424 : decode cL_law 424 = .ok (.iaload, 1) := dk_46 (dk_at dksL_law_12 22 rfl rfl)
theorem dL_law_425 : decode cL_law 425 = .ok (.aload_n 0, 1) := dk_42 (dk_at dksL_law_12 23 rfl rfl)
theorem dL_law_426 : decode cL_law 426 = .ok (.iload 4, 2) := dk_21 4 (dk_at dksL_law_13 0 rfl rfl)
theorem dL_law_428 : decode cL_law 428 = .ok (.iconst 2, 1) := dk_5 (dk_at dksL_law_13 2 rfl rfl)
theorem dL_law_429 : decode cL_law 429 = .ok (.iadd, 1) := dk_96 (dk_at dksL_law_13 3 rfl rfl)
theorem dL_law_430 : decode cL_law 430 = .ok (.iaload, 1) := dk_46 (dk_at dksL_law_13 4 rfl rfl)
theorem dL_law_431 : decode cL_law 431 = .ok (.aload_n 3, 1) := dk_45 (dk_at dksL_law_13 5 rfl rfl)
theorem dL_law_432 : decode cL_law 432 = .ok (.invokestatic 131, 3) := dk_184 0 131 (dk_at dksL_law_13 6 rfl rfl)
theorem dL_law_435 : decode cL_law 435 = .ok (.istore 5, 2) := dk_54 5 (dk_at dksL_law_13 9 rfl rfl)
theorem dL_law_437 : decode cL_law 437 = .ok (.aload_n 2, 1) := dk_44 (dk_at dksL_law_13 11 rfl rfl)
theorem dL_law_438 : decode cL_law 438 = .ok (.aload_n 0, 1) := dk_42 (dk_at dksL_law_13 12 rfl rfl)
theorem dL_law_439 : decode cL_law 439 = .ok (.iload 4, 2) := dk_21 4 (dk_at dksL_law_13 13 rfl rfl)
theorem dL_law_441 : decode cL_law 441 = .ok (.iconst 1, 1) := dk_4 (dk_at dksL_law_13 15 rfl rfl)
theorem dL_law_442 : decode cL_law 442 = .ok (.iadd, 1) := dk_96 (dk_at dksL_law_13 16 rfl rfl)
theorem dL_law_443 : decode cL_law 443 = .ok (.iaload, 1) := dk_46 (dk_at dksL_law_13 17 rfl rfl)
theorem dL_law_444 : decode cL_law 444 = .ok (.aload_n 0, 1) := dk_42 (dk_at dksL_law_13 18 rfl rfl)
theorem dL_law_445 : decode cL_law 445 = .ok (.iload 4, 2) := dk_21 4 (dk_at dksL_law_13 19 rfl rfl)
theorem dL_law_447 : decode cL_law 447 = .ok (.iconst 2, 1) := dk_5 (dk_at dksL_law_13 21 rfl rfl)
theorem dL_law_448 : decode cL_law 448 = .ok (.iadd, 1) := dk_96 (dk_at dksL_law_13 22 rfl rfl)
theorem dL_law_449 : decode cL_law 449 = .ok (.iaload, 1) := dk_46 (dk_at dksL_law_13 23 rfl rfl)
theorem dL_law_450 : decode cL_law 450 = .ok (.invokevirtual 133, 3) := dk_182 0 133 (dk_at dksL_law_14 0 rfl rfl)
theorem dL_law_453 : decode cL_law 453 = .ok (.istore 6, 2) := dk_54 6 (dk_at dksL_law_14 3 rfl rfl)
theorem dL_law_455 : decode cL_law 455 = .ok (.aload_n 2, 1) := dk_44 (dk_at dksL_law_14 5 rfl rfl)
theorem dL_law_456 : decode cL_law 456 = .ok (.invokevirtual 116, 3) := dk_182 0 116 (dk_at dksL_law_14 6 rfl rfl)
theorem dL_law_459 : decode cL_law 459 = .ok (.iload 5, 2) := dk_21 5 (dk_at dksL_law_14 9 rfl rfl)
theorem dL_law_461 : decode cL_law 461 = .ok (.if_icmp .eq 5, 3) := dk_159 0 5 (dk_at dksL_law_14 11 rfl rfl)
theorem dL_law_464 : decode cL_law 464 = .ok (.iconst 0, 1) := dk_3 (dk_at dksL_law_14 14 rfl rfl)
theorem dL_law_465 : decode cL_law 465 = .ok (.ireturn, 1) := dk_172 (dk_at dksL_law_14 15 rfl rfl)
theorem dL_law_466 : decode cL_law 466 = .ok (.iload 5, 2) := dk_21 5 (dk_at dksL_law_14 16 rfl rfl)
theorem dL_law_468 : decode cL_law 468 = .ok (.ifCond .ne 15, 3) := dk_154 0 15 (dk_at dksL_law_14 18 rfl rfl)
theorem dL_law_471 : decode cL_law 471 = .ok (.aload_n 3, 1) := dk_45 (dk_at dksL_law_14 21 rfl rfl)
theorem dL_law_472 : decode cL_law 472 = .ok (.iconst 0, 1) := dk_3 (dk_at dksL_law_14 22 rfl rfl)
theorem dL_law_473 : decode cL_law 473 = .ok (.laload, 1) := dk_47 (dk_at dksL_law_14 23 rfl rfl)
theorem dL_law_474 : decode cL_law 474 = .ok (.iload 6, 2) := dk_21 6 (dk_at dksL_law_15 0 rfl rfl)
theorem dL_law_476 : decode cL_law 476 = .ok (.i2l, 1) := dk_133 (dk_at dksL_law_15 2 rfl rfl)
theorem dL_law_477 : decode cL_law 477 = .ok (.lcmp, 1) := dk_148 (dk_at dksL_law_15 3 rfl rfl)
theorem dL_law_478 : decode cL_law 478 = .ok (.ifCond .eq 5, 3) := dk_153 0 5 (dk_at dksL_law_15 4 rfl rfl)
theorem dL_law_481 : decode cL_law 481 = .ok (.iconst 0, 1) := dk_3 (dk_at dksL_law_15 7 rfl rfl)
theorem dL_law_482 : decode cL_law 482 = .ok (.ireturn, 1) := dk_172 (dk_at dksL_law_15 8 rfl rfl)
theorem dL_law_483 : decode cL_law 483 = .ok (.goto 1427, 3) := dk_167 5 147 (dk_at dksL_law_15 9 rfl rfl)
theorem dL_law_486 : decode cL_law 486 = .ok (.aload_n 1, 1) := dk_43 (dk_at dksL_law_15 12 rfl rfl)
theorem dL_law_487 : decode cL_law 487 = .ok (.invokevirtual 134, 3) := dk_182 0 134 (dk_at dksL_law_15 13 rfl rfl)
theorem dL_law_490 : decode cL_law 490 = .ok (.aload_n 2, 1) := dk_44 (dk_at dksL_law_15 16 rfl rfl)
theorem dL_law_491 : decode cL_law 491 = .ok (.invokevirtual 137, 3) := dk_182 0 137 (dk_at dksL_law_15 17 rfl rfl)
theorem dL_law_494 : decode cL_law 494 = .ok (.if_icmp .eq 1416, 3) := dk_159 5 136 (dk_at dksL_law_15 20 rfl rfl)
theorem dL_law_497 : decode cL_law 497 = .ok (.iconst 0, 1) := dk_3 (dk_at dksL_law_15 23 rfl rfl)
theorem dL_law_498 : decode cL_law 498 = .ok (.ireturn, 1) := dk_172 (dk_at dksL_law_16 0 rfl rfl)
theorem dL_law_499 : decode cL_law 499 = .ok (.aload_n 1, 1) := dk_43 (dk_at dksL_law_16 1 rfl rfl)
theorem dL_law_500 : decode cL_law 500 = .ok (.aload_n 3, 1) := dk_45 (dk_at dksL_law_16 2 rfl rfl)
theorem dL_law_501 : decode cL_law 501 = .ok (.invokestatic 138, 3) := dk_184 0 138 (dk_at dksL_law_16 3 rfl rfl)
theorem dL_law_504 : decode cL_law 504 = .ok (.istore 5, 2) := dk_54 5 (dk_at dksL_law_16 6 rfl rfl)
theorem dL_law_506 : decode cL_law 506 = .ok (.aload_n 2, 1) := dk_44 (dk_at dksL_law_16 8 rfl rfl)
theorem dL_law_507 : decode cL_law 507 = .ok (.invokevirtual 141, 3) := dk_182 0 141 (dk_at dksL_law_16 9 rfl rfl)
theorem dL_law_510 : decode cL_law 510 = .ok (.istore 6, 2) := dk_54 6 (dk_at dksL_law_16 12 rfl rfl)
theorem dL_law_512 : decode cL_law 512 = .ok (.aload_n 2, 1) := dk_44 (dk_at dksL_law_16 14 rfl rfl)
theorem dL_law_513 : decode cL_law 513 = .ok (.invokevirtual 116, 3) := dk_182 0 116 (dk_at dksL_law_16 15 rfl rfl)
theorem dL_law_516 : decode cL_law 516 = .ok (.iload 5, 2) := dk_21 5 (dk_at dksL_law_16 18 rfl rfl)
theorem dL_law_518 : decode cL_law 518 = .ok (.if_icmp .eq 5, 3) := dk_159 0 5 (dk_at dksL_law_16 20 rfl rfl)
theorem dL_law_521 : decode cL_law 521 = .ok (.iconst 0, 1) := dk_3 (dk_at dksL_law_16 23 rfl rfl)
theorem dL_law_522 : decode cL_law 522 = .ok (.ireturn, 1) := dk_172 (dk_at dksL_law_17 0 rfl rfl)
theorem dL_law_523 : decode cL_law 523 = .ok (.iload 5, 2) := dk_21 5 (dk_at dksL_law_17 1 rfl rfl)
theorem dL_law_525 : decode cL_law 525 = .ok (.ifCond .ne 15, 3) := dk_154 0 15 (dk_at dksL_law_17 3 rfl rfl)
theorem dL_law_528 : decode cL_law 528 = .ok (.aload_n 3, 1) := dk_45 (dk_at dksL_law_17 6 rfl rfl)
theorem dL_law_529 : decode cL_law 529 = .ok (.iconst 0, 1) := dk_3 (dk_at dksL_law_17 7 rfl rfl)
theorem dL_law_530 : decode cL_law 530 = .ok (.laload, 1) := dk_47 (dk_at dksL_law_17 8 rfl rfl)
theorem dL_law_531 : decode cL_law 531 = .ok (.iload 6, 2) := dk_21 6 (dk_at dksL_law_17 9 rfl rfl)
theorem dL_law_533 : decode cL_law 533 = .ok (.i2l, 1) := dk_133 (dk_at dksL_law_17 11 rfl rfl)
theorem dL_law_534 : decode cL_law 534 = .ok (.lcmp, 1) := dk_148 (dk_at dksL_law_17 12 rfl rfl)
theorem dL_law_535 : decode cL_law 535 = .ok (.ifCond .eq 5, 3) := dk_153 0 5 (dk_at dksL_law_17 13 rfl rfl)
theorem dL_law_538 : decode cL_law 538 = .ok (.iconst 0, 1) := dk_3 (dk_at dksL_law_17 16 rfl rfl)
theorem dL_law_539 : decode cL_law 539 = .ok (.ireturn, 1) := dk_172 (dk_at dksL_law_17 17 rfl rfl)
theorem dL_law_540 : decode cL_law 540 = .ok (.goto 1370, 3) := dk_167 5 90 (dk_at dksL_law_17 18 rfl rfl)
theorem dL_law_543 : decode cL_law 543 = .ok (.aload_n 1, 1) := dk_43 (dk_at dksL_law_17 21 rfl rfl)
theorem dL_law_544 : decode cL_law 544 = .ok (.aload_n 0, 1) := dk_42 (dk_at dksL_law_17 22 rfl rfl)
theorem dL_law_545 : decode cL_law 545 = .ok (.iload 4, 2) := dk_21 4 (dk_at dksL_law_18 0 rfl rfl)
theorem dL_law_547 : decode cL_law 547 = .ok (.iconst 1, 1) := dk_4 (dk_at dksL_law_18 2 rfl rfl)
theorem dL_law_548 : decode cL_law 548 = .ok (.iadd, 1) := dk_96 (dk_at dksL_law_18 3 rfl rfl)
theorem dL_law_549 : decode cL_law 549 = .ok (.iaload, 1) := dk_46 (dk_at dksL_law_18 4 rfl rfl)
theorem dL_law_550 : decode cL_law 550 = .ok (.aload_n 3, 1) := dk_45 (dk_at dksL_law_18 5 rfl rfl)
theorem dL_law_551 : decode cL_law 551 = .ok (.invokestatic 142, 3) := dk_184 0 142 (dk_at dksL_law_18 6 rfl rfl)
theorem dL_law_554 : decode cL_law 554 = .ok (.istore 5, 2) := dk_54 5 (dk_at dksL_law_18 9 rfl rfl)
theorem dL_law_556 : decode cL_law 556 = .ok (.aload_n 2, 1) := dk_44 (dk_at dksL_law_18 11 rfl rfl)
theorem dL_law_557 : decode cL_law 557 = .ok (.aload_n 0, 1) := dk_42 (dk_at dksL_law_18 12 rfl rfl)
theorem dL_law_558 : decode cL_law 558 = .ok (.iload 4, 2) := dk_21 4 (dk_at dksL_law_18 13 rfl rfl)
theorem dL_law_560 : decode cL_law 560 = .ok (.iconst 1, 1) := dk_4 (dk_at dksL_law_18 15 rfl rfl)
theorem dL_law_561 : decode cL_law 561 = .ok (.iadd, 1) := dk_96 (dk_at dksL_law_18 16 rfl rfl)
theorem dL_law_562 : decode cL_law 562 = .ok (.iaload, 1) := dk_46 (dk_at dksL_law_18 17 rfl rfl)
theorem dL_law_563 : decode cL_law 563 = .ok (.invokevirtual 144, 3) := dk_182 0 144 (dk_at dksL_law_18 18 rfl rfl)
theorem dL_law_566 : decode cL_law 566 = .ok (.istore 6, 2) := dk_54 6 (dk_at dksL_law_18 21 rfl rfl)
theorem dL_law_568 : decode cL_law 568 = .ok (.aload_n 2, 1) := dk_44 (dk_at dksL_law_18 23 rfl rfl)
theorem dL_law_569 : decode cL_law 569 = .ok (.invokevirtual 116, 3) := dk_182 0 116 (dk_at dksL_law_19 0 rfl rfl)
theorem dL_law_572 : decode cL_law 572 = .ok (.iload 5, 2) := dk_21 5 (dk_at dksL_law_19 3 rfl rfl)
theorem dL_law_574 : decode cL_law 574 = .ok (.if_icmp .eq 5, 3) := dk_159 0 5 (dk_at dksL_law_19 5 rfl rfl)
theorem dL_law_577 : decode cL_law 577 = .ok (.iconst 0, 1) := dk_3 (dk_at dksL_law_19 8 rfl rfl)
theorem dL_law_578 : decode cL_law 578 = .ok (.ireturn, 1) := dk_172 (dk_at dksL_law_19 9 rfl rfl)
theorem dL_law_579 : decode cL_law 579 = .ok (.iload 5, 2) := dk_21 5 (dk_at dksL_law_19 10 rfl rfl)
theorem dL_law_581 : decode cL_law 581 = .ok (.ifCond .ne 15, 3) := dk_154 0 15 (dk_at dksL_law_19 12 rfl rfl)
theorem dL_law_584 : decode cL_law 584 = .ok (.aload_n 3, 1) := dk_45 (dk_at dksL_law_19 15 rfl rfl)
theorem dL_law_585 : decode cL_law 585 = .ok (.iconst 0, 1) := dk_3 (dk_at dksL_law_19 16 rfl rfl)
theorem dL_law_586 : decode cL_law 586 = .ok (.laload, 1) := dk_47 (dk_at dksL_law_19 17 rfl rfl)
theorem dL_law_587 : decode cL_law 587 = .ok (.iload 6, 2) := dk_21 6 (dk_at dksL_law_19 18 rfl rfl)
theorem dL_law_589 : decode cL_law 589 = .ok (.i2l, 1) := dk_133 (dk_at dksL_law_19 20 rfl rfl)
theorem dL_law_590 : decode cL_law 590 = .ok (.lcmp, 1) := dk_148 (dk_at dksL_law_19 21 rfl rfl)
theorem dL_law_591 : decode cL_law 591 = .ok (.ifCond .eq 5, 3) := dk_153 0 5 (dk_at dksL_law_20 0 rfl rfl)
theorem dL_law_594 : decode cL_law 594 = .ok (.iconst 0, 1) := dk_3 (dk_at dksL_law_20 3 rfl rfl)
theorem dL_law_595 : decode cL_law 595 = .ok (.ireturn, 1) := dk_172 (dk_at dksL_law_20 4 rfl rfl)
theorem dL_law_596 : decode cL_law 596 = .ok (.goto 1314, 3) := dk_167 5 34 (dk_at dksL_law_20 5 rfl rfl)
theorem dL_law_599 : decode cL_law 599 = .ok (.aload_n 1, 1) := dk_43 (dk_at dksL_law_20 8 rfl rfl)
theorem dL_law_600 : decode cL_law 600 = .ok (.invokevirtual 145, 3) := dk_182 0 145 (dk_at dksL_law_20 9 rfl rfl)
theorem dL_law_603 : decode cL_law 603 = .ok (.aload_n 2, 1) := dk_44 (dk_at dksL_law_20 12 rfl rfl)
theorem dL_law_604 : decode cL_law 604 = .ok (.invokevirtual 148, 3) := dk_182 0 148 (dk_at dksL_law_20 13 rfl rfl)
theorem dL_law_607 : decode cL_law 607 = .ok (.if_icmp .eq 1303, 3) := dk_159 5 23 (dk_at dksL_law_20 16 rfl rfl)
theorem dL_law_610 : decode cL_law 610 = .ok (.iconst 0, 1) := dk_3 (dk_at dksL_law_20 19 rfl rfl)
theorem dL_law_611 : decode cL_law 611 = .ok (.ireturn, 1) := dk_172 (dk_at dksL_law_20 20 rfl rfl)
theorem dL_law_612 : decode cL_law 612 = .ok (.aload_n 1, 1) := dk_43 (dk_at dksL_law_20 21 rfl rfl)
theorem dL_law_613 : decode cL_law 613 = .ok (.aload_n 0, 1) := dk_42 (dk_at dksL_law_20 22 rfl rfl)
theorem dL_law_614 : decode cL_law 614 = .ok (.iload 4, 2) := dk_21 4 (dk_at dksL_law_21 0 rfl rfl)
theorem dL_law_616 : decode cL_law 616 = .ok (.iconst 1, 1) := dk_4 (dk_at dksL_law_21 2 rfl rfl)
theorem dL_law_617 : decode cL_law 617 = .ok (.iadd, 1) := dk_96 (dk_at dksL_law_21 3 rfl rfl)
theorem dL_law_618 : decode cL_law 618 = .ok (.iaload, 1) := dk_46 (dk_at dksL_law_21 4 rfl rfl)
theorem dL_law_619 : decode cL_law 619 = .ok (.aload_n 3, 1) := dk_45 (dk_at dksL_law_21 5 rfl rfl)
theorem dL_law_620 : decode cL_law 620 = .ok (.invokestatic 149, 3) := dk_184 0 149 (dk_at dksL_law_21 6 rfl rfl)
theorem dL_law_623 : decode cL_law 623 = .ok (.istore 5, 2) := dk_54 5 (dk_at dksL_law_21 9 rfl rfl)
theorem dL_law_625 : decode cL_law 625 = .ok (.aload_n 2, 1) := dk_44 (dk_at dksL_law_21 11 rfl rfl)
theorem dL_law_626 : decode cL_law 626 = .ok (.aload_n 0, 1) := dk_42 (dk_at dksL_law_21 12 rfl rfl)
theorem dL_law_627 : decode cL_law 627 = .ok (.iload 4, 2) := dk_21 4 (dk_at dksL_law_21 13 rfl rfl)
theorem dL_law_629 : decode cL_law 629 = .ok (.iconst 1, 1) := dk_4 (dk_at dksL_law_21 15 rfl rfl)
theorem dL_law_630 : decode cL_law 630 = .ok (.iadd, 1) := dk_96 (dk_at dksL_law_21 16 rfl rfl)
theorem dL_law_631 : decode cL_law 631 = .ok (.iaload, 1) := dk_46 (dk_at dksL_law_21 17 rfl rfl)
theorem dL_law_632 : decode cL_law 632 = .ok (.invokevirtual 151, 3) := dk_182 0 151 (dk_at dksL_law_21 18 rfl rfl)
theorem dL_law_635 : decode cL_law 635 = .ok (.istore 6, 2) := dk_54 6 (dk_at dksL_law_21 21 rfl rfl)
theorem dL_law_637 : decode cL_law 637 = .ok (.aload_n 2, 1) := dk_44 (dk_at dksL_law_21 23 rfl rfl)
theorem dL_law_638 : decode cL_law 638 = .ok (.invokevirtual 116, 3) := dk_182 0 116 (dk_at dksL_law_22 0 rfl rfl)
theorem dL_law_641 : decode cL_law 641 = .ok (.iload 5, 2) := dk_21 5 (dk_at dksL_law_22 3 rfl rfl)
theorem dL_law_643 : decode cL_law 643 = .ok (.if_icmp .eq 5, 3) := dk_159 0 5 (dk_at dksL_law_22 5 rfl rfl)
theorem dL_law_646 : decode cL_law 646 = .ok (.iconst 0, 1) := dk_3 (dk_at dksL_law_22 8 rfl rfl)
theorem dL_law_647 : decode cL_law 647 = .ok (.ireturn, 1) := dk_172 (dk_at dksL_law_22 9 rfl rfl)
theorem dL_law_648 : decode cL_law 648 = .ok (.iload 5, 2) := dk_21 5 (dk_at dksL_law_22 10 rfl rfl)
theorem dL_law_650 : decode cL_law 650 = .ok (.ifCond .ne 15, 3) := dk_154 0 15 (dk_at dksL_law_22 12 rfl rfl)
theorem dL_law_653 : decode cL_law 653 = .ok (.aload_n 3, 1) := dk_45 (dk_at dksL_law_22 15 rfl rfl)
theorem dL_law_654 : decode cL_law 654 = .ok (.iconst 0, 1) := dk_3 (dk_at dksL_law_22 16 rfl rfl)
theorem dL_law_655 : decode cL_law 655 = .ok (.laload, 1) := dk_47 (dk_at dksL_law_22 17 rfl rfl)
theorem dL_law_656 : decode cL_law 656 = .ok (.iload 6, 2) := dk_21 6 (dk_at dksL_law_22 18 rfl rfl)
theorem dL_law_658 : decode cL_law 658 = .ok (.i2l, 1) := dk_133 (dk_at dksL_law_22 20 rfl rfl)
theorem dL_law_659 : decode cL_law 659 = .ok (.lcmp, 1) := dk_148 (dk_at dksL_law_22 21 rfl rfl)
theorem dL_law_660 : decode cL_law 660 = .ok (.ifCond .eq 5, 3) := dk_153 0 5 (dk_at dksL_law_23 0 rfl rfl)
theorem dL_law_663 : decode cL_law 663 = .ok (.iconst 0, 1) := dk_3 (dk_at dksL_law_23 3 rfl rfl)
theorem dL_law_664 : decode cL_law 664 = .ok (.ireturn, 1) := dk_172 (dk_at dksL_law_23 4 rfl rfl)
theorem dL_law_665 : decode cL_law 665 = .ok (.goto 1245, 3) := dk_167 4 221 (dk_at dksL_law_23 5 rfl rfl)
theorem dL_law_668 : decode cL_law 668 = .ok (.aload_n 1, 1) := dk_43 (dk_at dksL_law_23 8 rfl rfl)
theorem dL_law_669 : decode cL_law 669 = .ok (.invokevirtual 152, 3) := dk_182 0 152 (dk_at dksL_law_23 9 rfl rfl)
theorem dL_law_672 : decode cL_law 672 = .ok (.aload_n 2, 1) := dk_44 (dk_at dksL_law_23 12 rfl rfl)
theorem dL_law_673 : decode cL_law 673 = .ok (.invokevirtual 155, 3) := dk_182 0 155 (dk_at dksL_law_23 13 rfl rfl)
theorem dL_law_676 : decode cL_law 676 = .ok (.if_icmp .eq 1234, 3) := dk_159 4 210 (dk_at dksL_law_23 16 rfl rfl)
theorem dL_law_679 : decode cL_law 679 = .ok (.iconst 0, 1) := dk_3 (dk_at dksL_law_23 19 rfl rfl)
theorem dL_law_680 : decode cL_law 680 = .ok (.ireturn, 1) := dk_172 (dk_at dksL_law_23 20 rfl rfl)
theorem dL_law_681 : decode cL_law 681 = .ok (.aload_n 1, 1) := dk_43 (dk_at dksL_law_23 21 rfl rfl)
theorem dL_law_682 : decode cL_law 682 = .ok (.invokevirtual 156, 3) := dk_182 0 156 (dk_at dksL_law_24 0 rfl rfl)
theorem dL_law_685 : decode cL_law 685 = .ok (.aload_n 2, 1) := dk_44 (dk_at dksL_law_24 3 rfl rfl)
theorem dL_law_686 : decode cL_law 686 = .ok (.invokevirtual 159, 3) := dk_182 0 159 (dk_at dksL_law_24 4 rfl rfl)
theorem dL_law_689 : decode cL_law 689 = .ok (.if_icmp .eq 1221, 3) := dk_159 4 197 (dk_at dksL_law_24 7 rfl rfl)
theorem dL_law_692 : decode cL_law 692 = .ok (.iconst 0, 1) := dk_3 (dk_at dksL_law_24 10 rfl rfl)
theorem dL_law_693 : decode cL_law 693 = .ok (.ireturn, 1) := dk_172 (dk_at dksL_law_24 11 rfl rfl)
theorem dL_law_694 : decode cL_law 694 = .ok (.aload_n 1, 1) := dk_43 (dk_at dksL_law_24 12 rfl rfl)
theorem dL_law_695 : decode cL_law 695 = .ok (.aload_n 0, 1) := dk_42 (dk_at dksL_law_24 13 rfl rfl)
theorem dL_law_696 : decode cL_law 696 = .ok (.iload 4, 2) := dk_21 4 (dk_at dksL_law_24 14 rfl rfl)
theorem dL_law_698 : decode cL_law 698 = .ok (.iconst 1, 1) := dk_4 (dk_at dksL_law_24 16 rfl rfl)
theorem dL_law_699 : decode cL_law 699 = .ok (.iadd, 1) := dk_96 (dk_at dksL_law_24 17 rfl rfl)
theorem dL_law_700 : decode cL_law 700 = .ok (.iaload, 1) := dk_46 (dk_at dksL_law_24 18 rfl rfl)
theorem dL_law_701 : decode cL_law 701 = .ok (.aload_n 3, 1) := dk_45 (dk_at dksL_law_24 19 rfl rfl)
theorem dL_law_702 : decode cL_law 702 = .ok (.invokestatic 160, 3) := dk_184 0 160 (dk_at dksL_law_24 20 rfl rfl)
theorem dL_law_705 : decode cL_law 705 = .ok (.istore 5, 2) := dk_54 5 (dk_at dksL_law_25 0 rfl rfl)
theorem dL_law_707 : decode cL_law 707 = .ok (.aload_n 2, 1) := dk_44 (dk_at dksL_law_25 2 rfl rfl)
theorem dL_law_708 : decode cL_law 708 = .ok (.aload_n 0, 1) := dk_42 (dk_at dksL_law_25 3 rfl rfl)
theorem dL_law_709 : decode cL_law 709 = .ok (.iload 4, 2) := dk_21 4 (dk_at dksL_law_25 4 rfl rfl)
theorem dL_law_711 : decode cL_law 711 = .ok (.iconst 1, 1) := dk_4 (dk_at dksL_law_25 6 rfl rfl)
theorem dL_law_712 : decode cL_law 712 = .ok (.iadd, 1) := dk_96 (dk_at dksL_law_25 7 rfl rfl)
theorem dL_law_713 : decode cL_law 713 = .ok (.iaload, 1) := dk_46 (dk_at dksL_law_25 8 rfl rfl)
theorem dL_law_714 : decode cL_law 714 = .ok (.invokevirtual 162, 3) := dk_182 0 162 (dk_at dksL_law_25 9 rfl rfl)
theorem dL_law_717 : decode cL_law 717 = .ok (.istore 6, 2) := dk_54 6 (dk_at dksL_law_25 12 rfl rfl)
theorem dL_law_719 : decode cL_law 719 = .ok (.aload_n 2, 1) := dk_44 (dk_at dksL_law_25 14 rfl rfl)
theorem dL_law_720 : decode cL_law 720 = .ok (.invokevirtual 116, 3) := dk_182 0 116 (dk_at dksL_law_25 15 rfl rfl)
theorem dL_law_723 : decode cL_law 723 = .ok (.iload 5, 2) := dk_21 5 (dk_at dksL_law_25 18 rfl rfl)
theorem dL_law_725 : decode cL_law 725 = .ok (.if_icmp .eq 5, 3) := dk_159 0 5 (dk_at dksL_law_25 20 rfl rfl)
theorem dL_law_728 : decode cL_law 728 = .ok (.iconst 0, 1) := dk_3 (dk_at dksL_law_25 23 rfl rfl)
theorem dL_law_729 : decode cL_law 729 = .ok (.ireturn, 1) := dk_172 (dk_at dksL_law_26 0 rfl rfl)
theorem dL_law_730 : decode cL_law 730 = .ok (.iload 5, 2) := dk_21 5 (dk_at dksL_law_26 1 rfl rfl)
theorem dL_law_732 : decode cL_law 732 = .ok (.ifCond .ne 22, 3) := dk_154 0 22 (dk_at dksL_law_26 3 rfl rfl)
theorem dL_law_735 : decode cL_law 735 = .ok (.aload_n 3, 1) := dk_45 (dk_at dksL_law_26 6 rfl rfl)
theorem dL_law_736 : decode cL_law 736 = .ok (.iconst 0, 1) := dk_3 (dk_at dksL_law_26 7 rfl rfl)
theorem dL_law_737 : decode cL_law 737 = .ok (.laload, 1) := dk_47 (dk_at dksL_law_26 8 rfl rfl)
theorem dL_law_738 : decode cL_law 738 = .ok (.iload 6, 2) := dk_21 6 (dk_at dksL_law_26 9 rfl rfl)
theorem dL_law_740 : decode cL_law 740 = .ok (.ifCond .eq 7, 3) := dk_153 0 7 (dk_at dksL_law_26 11 rfl rfl)
theorem dL_law_743 : decode cL_law 743 = .ok (.lconst 1, 1) := dk_10 (dk_at dksL_law_26 14 rfl rfl)
theorem dL_law_744 : decode cL_law 744 = .ok (.goto 4, 3) := dk_167 0 4 (dk_at dksL_law_26 15 rfl rfl)
theorem dL_law_747 : decode cL_law 747 = .ok (.lconst 0, 1) := dk_9 (dk_at dksL_law_26 18 rfl rfl)
theorem dL_law_748 : decode cL_law 748 = .ok (.lcmp, 1) := dk_148 (dk_at dksL_law_26 19 rfl rfl)
theorem dL_law_749 : decode cL_law 749 = .ok (.ifCond .eq 5, 3) := dk_153 0 5 (dk_at dksL_law_26 20 rfl rfl)
theorem dL_law_752 : decode cL_law 752 = .ok (.iconst 0, 1) := dk_3 (dk_at dksL_law_26 23 rfl rfl)
theorem dL_law_753 : decode cL_law 753 = .ok (.ireturn, 1) := dk_172 (dk_at dksL_law_27 0 rfl rfl)
theorem dL_law_754 : decode cL_law 754 = .ok (.goto 1156, 3) := dk_167 4 132 (dk_at dksL_law_27 1 rfl rfl)
theorem dL_law_757 : decode cL_law 757 = .ok (.aload_n 1, 1) := dk_43 (dk_at dksL_law_27 4 rfl rfl)
theorem dL_law_758 : decode cL_law 758 = .ok (.aload_n 0, 1) := dk_42 (dk_at dksL_law_27 5 rfl rfl)
theorem dL_law_759 : decode cL_law 759 = .ok (.iload 4, 2) := dk_21 4 (dk_at dksL_law_27 6 rfl rfl)
theorem dL_law_761 : decode cL_law 761 = .ok (.iconst 1, 1) := dk_4 (dk_at dksL_law_27 8 rfl rfl)
theorem dL_law_762 : decode cL_law 762 = .ok (.iadd, 1) := dk_96 (dk_at dksL_law_27 9 rfl rfl)
theorem dL_law_763 : decode cL_law 763 = .ok (.iaload, 1) := dk_46 (dk_at dksL_law_27 10 rfl rfl)
theorem dL_law_764 : decode cL_law 764 = .ok (.aload_n 3, 1) := dk_45 (dk_at dksL_law_27 11 rfl rfl)
theorem dL_law_765 : decode cL_law 765 = .ok (.invokestatic 163, 3) := dk_184 0 163 (dk_at dksL_law_27 12 rfl rfl)
theorem dL_law_768 : decode cL_law 768 = .ok (.istore 5, 2) := dk_54 5 (dk_at dksL_law_27 15 rfl rfl)
theorem dL_law_770 : decode cL_law 770 = .ok (.aload_n 2, 1) := dk_44 (dk_at dksL_law_27 17 rfl rfl)
theorem dL_law_771 : decode cL_law 771 = .ok (.aload_n 0, 1) := dk_42 (dk_at dksL_law_27 18 rfl rfl)
theorem dL_law_772 : decode cL_law 772 = .ok (.iload 4, 2) := dk_21 4 (dk_at dksL_law_27 19 rfl rfl)
theorem dL_law_774 : decode cL_law 774 = .ok (.iconst 1, 1) := dk_4 (dk_at dksL_law_27 21 rfl rfl)
theorem dL_law_775 : decode cL_law 775 = .ok (.iadd, 1) := dk_96 (dk_at dksL_law_27 22 rfl rfl)
theorem dL_law_776 : decode cL_law 776 = .ok (.iaload, 1) := dk_46 (dk_at dksL_law_27 23 rfl rfl)
theorem dL_law_777 : decode cL_law 777 = .ok (.invokevirtual 165, 3) := dk_182 0 165 (dk_at dksL_law_28 0 rfl rfl)
theorem dL_law_780 : decode cL_law 780 = .ok (.istore 6, 2) := dk_54 6 (dk_at dksL_law_28 3 rfl rfl)
theorem dL_law_782 : decode cL_law 782 = .ok (.aload_n 2, 1) := dk_44 (dk_at dksL_law_28 5 rfl rfl)
theorem dL_law_783 : decode cL_law 783 = .ok (.invokevirtual 116, 3) := dk_182 0 116 (dk_at dksL_law_28 6 rfl rfl)
theorem dL_law_786 : decode cL_law 786 = .ok (.iload 5, 2) := dk_21 5 (dk_at dksL_law_28 9 rfl rfl)
theorem dL_law_788 : decode cL_law 788 = .ok (.if_icmp .eq 5, 3) := dk_159 0 5 (dk_at dksL_law_28 11 rfl rfl)
theorem dL_law_791 : decode cL_law 791 = .ok (.iconst 0, 1) := dk_3 (dk_at dksL_law_28 14 rfl rfl)
theorem dL_law_792 : decode cL_law 792 = .ok (.ireturn, 1) := dk_172 (dk_at dksL_law_28 15 rfl rfl)
theorem dL_law_793 : decode cL_law 793 = .ok (.iload 5, 2) := dk_21 5 (dk_at dksL_law_28 16 rfl rfl)
theorem dL_law_795 : decode cL_law 795 = .ok (.ifCond .ne 22, 3) := dk_154 0 22 (dk_at dksL_law_28 18 rfl rfl)
theorem dL_law_798 : decode cL_law 798 = .ok (.aload_n 3, 1) := dk_45 (dk_at dksL_law_28 21 rfl rfl)
theorem dL_law_799 : decode cL_law 799 = .ok (.iconst 0, 1) := dk_3 (dk_at dksL_law_28 22 rfl rfl)
theorem dL_law_800 : decode cL_law 800 = .ok (.laload, 1) := dk_47 (dk_at dksL_law_28 23 rfl rfl)
theorem dL_law_801 : decode cL_law 801 = .ok (.iload 6, 2) := dk_21 6 (dk_at dksL_law_29 0 rfl rfl)
theorem dL_law_803 : decode cL_law 803 = .ok (.ifCond .eq 7, 3) := dk_153 0 7 (dk_at dksL_law_29 2 rfl rfl)
theorem dL_law_806 : decode cL_law 806 = .ok (.lconst 1, 1) := dk_10 (dk_at dksL_law_29 5 rfl rfl)
theorem dL_law_807 : decode cL_law 807 = .ok (.goto 4, 3) := dk_167 0 4 (dk_at dksL_law_29 6 rfl rfl)
theorem dL_law_810 : decode cL_law 810 = .ok (.lconst 0, 1) := dk_9 (dk_at dksL_law_29 9 rfl rfl)
theorem dL_law_811 : decode cL_law 811 = .ok (.lcmp, 1) := dk_148 (dk_at dksL_law_29 10 rfl rfl)
theorem dL_law_812 : decode cL_law 812 = .ok (.ifCond .eq 5, 3) := dk_153 0 5 (dk_at dksL_law_29 11 rfl rfl)
theorem dL_law_815 : decode cL_law 815 = .ok (.iconst 0, 1) := dk_3 (dk_at dksL_law_29 14 rfl rfl)
theorem dL_law_816 : decode cL_law 816 = .ok (.ireturn, 1) := dk_172 (dk_at dksL_law_29 15 rfl rfl)
theorem dL_law_817 : decode cL_law 817 = .ok (.goto 1093, 3) := dk_167 4 69 (dk_at dksL_law_29 16 rfl rfl)
theorem dL_law_820 : decode cL_law 820 = .ok (.aload_n 1, 1) := dk_43 (dk_at dksL_law_29 19 rfl rfl)
theorem dL_law_821 : decode cL_law 821 = .ok (.aload_n 0, 1) := dk_42 (dk_at dksL_law_29 20 rfl rfl)
theorem dL_law_822 : decode cL_law 822 = .ok (.iload 4, 2) := dk_21 4 (dk_at dksL_law_29 21 rfl rfl)
theorem dL_law_824 : decode cL_law 824 = .ok (.iconst 1, 1) := dk_4 (dk_at dksL_law_29 23 rfl rfl)
theorem dL_law_825 : decode cL_law 825 = .ok (.iadd, 1) := dk_96 (dk_at dksL_law_30 0 rfl rfl)
theorem dL_law_826 : decode cL_law 826 = .ok (.iaload, 1) := dk_46 (dk_at dksL_law_30 1 rfl rfl)
theorem dL_law_827 : decode cL_law 827 = .ok (.aload_n 3, 1) := dk_45 (dk_at dksL_law_30 2 rfl rfl)
theorem dL_law_828 : decode cL_law 828 = .ok (.invokestatic 166, 3) := dk_184 0 166 (dk_at dksL_law_30 3 rfl rfl)
theorem dL_law_831 : decode cL_law 831 = .ok (.istore 5, 2) := dk_54 5 (dk_at dksL_law_30 6 rfl rfl)
theorem dL_law_833 : decode cL_law 833 = .ok (.aload_n 2, 1) := dk_44 (dk_at dksL_law_30 8 rfl rfl)
theorem dL_law_834 : decode cL_law 834 = .ok (.aload_n 0, 1) := dk_42 (dk_at dksL_law_30 9 rfl rfl)
theorem dL_law_835 : decode cL_law 835 = .ok (.iload 4, 2) := dk_21 4 (dk_at dksL_law_30 10 rfl rfl)
theorem dL_law_837 : decode cL_law 837 = .ok (.iconst 1, 1) := dk_4 (dk_at dksL_law_30 12 rfl rfl)
theorem dL_law_838 : decode cL_law 838 = .ok (.iadd, 1) := dk_96 (dk_at dksL_law_30 13 rfl rfl)
theorem dL_law_839 : decode cL_law 839 = .ok (.iaload, 1) := dk_46 (dk_at dksL_law_30 14 rfl rfl)
theorem dL_law_840 : decode cL_law 840 = .ok (.invokevirtual 168, 3) := dk_182 0 168 (dk_at dksL_law_30 15 rfl rfl)
theorem dL_law_843 : decode cL_law 843 = .ok (.istore 6, 2) := dk_54 6 (dk_at dksL_law_30 18 rfl rfl)
theorem dL_law_845 : decode cL_law 845 = .ok (.aload_n 2, 1) := dk_44 (dk_at dksL_law_30 20 rfl rfl)
theorem dL_law_846 : decode cL_law 846 = .ok (.invokevirtual 116, 3) := dk_182 0 116 (dk_at dksL_law_30 21 rfl rfl)
theorem dL_law_849 : decode cL_law 849 = .ok (.iload 5, 2) := dk_21 5 (dk_at dksL_law_31 0 rfl rfl)
theorem dL_law_851 : decode cL_law 851 = .ok (.if_icmp .eq 5, 3) := dk_159 0 5 (dk_at dksL_law_31 2 rfl rfl)
theorem dL_law_854 : decode cL_law 854 = .ok (.iconst 0, 1) := dk_3 (dk_at dksL_law_31 5 rfl rfl)
theorem dL_law_855 : decode cL_law 855 = .ok (.ireturn, 1) := dk_172 (dk_at dksL_law_31 6 rfl rfl)
theorem dL_law_856 : decode cL_law 856 = .ok (.iload 5, 2) := dk_21 5 (dk_at dksL_law_31 7 rfl rfl)
theorem dL_law_858 : decode cL_law 858 = .ok (.ifCond .ne 15, 3) := dk_154 0 15 (dk_at dksL_law_31 9 rfl rfl)
theorem dL_law_861 : decode cL_law 861 = .ok (.aload_n 3, 1) := dk_45 (dk_at dksL_law_31 12 rfl rfl)
theorem dL_law_862 : decode cL_law 862 = .ok (.iconst 0, 1) := dk_3 (dk_at dksL_law_31 13 rfl rfl)
theorem dL_law_863 : decode cL_law 863 = .ok (.laload, 1) := dk_47 (dk_at dksL_law_31 14 rfl rfl)
theorem dL_law_864 : decode cL_law 864 = .ok (.iload 6, 2) := dk_21 6 (dk_at dksL_law_31 15 rfl rfl)
theorem dL_law_866 : decode cL_law 866 = .ok (.i2l, 1) := dk_133 (dk_at dksL_law_31 17 rfl rfl)
theorem dL_law_867 : decode cL_law 867 = .ok (.lcmp, 1) := dk_148 (dk_at dksL_law_31 18 rfl rfl)
theorem dL_law_868 : decode cL_law 868 = .ok (.ifCond .eq 5, 3) := dk_153 0 5 (dk_at dksL_law_31 19 rfl rfl)
theorem dL_law_871 : decode cL_law 871 = .ok (.iconst 0, 1) := dk_3 (dk_at dksL_law_31 22 rfl rfl)
theorem dL_law_872 : decode cL_law 872 = .ok (.ireturn, 1) := dk_172 (dk_at dksL_law_31 23 rfl rfl)
theorem dL_law_873 : decode cL_law 873 = .ok (.goto 1037, 3) := dk_167 4 13 (dk_at dksL_law_32 0 rfl rfl)
theorem dL_law_876 : decode cL_law 876 = .ok (.aload_n 1, 1) := dk_43 (dk_at dksL_law_32 3 rfl rfl)
theorem dL_law_877 : decode cL_law 877 = .ok (.aload_n 0, 1) := dk_42 (dk_at dksL_law_32 4 rfl rfl)
theorem dL_law_878 : decode cL_law 878 = .ok (.iload 4, 2) := dk_21 4 (dk_at dksL_law_32 5 rfl rfl)
theorem dL_law_880 : decode cL_law 880 = .ok (.iconst 1, 1) := dk_4 (dk_at dksL_law_32 7 rfl rfl)
theorem dL_law_881 : decode cL_law 881 = .ok (.iadd, 1) := dk_96 (dk_at dksL_law_32 8 rfl rfl)
theorem dL_law_882 : decode cL_law 882 = .ok (.iaload, 1) := dk_46 (dk_at dksL_law_32 9 rfl rfl)
theorem dL_law_883 : decode cL_law 883 = .ok (.aload_n 3, 1) := dk_45 (dk_at dksL_law_32 10 rfl rfl)
theorem dL_law_884 : decode cL_law 884 = .ok (.invokestatic 169, 3) := dk_184 0 169 (dk_at dksL_law_32 11 rfl rfl)
theorem dL_law_887 : decode cL_law 887 = .ok (.istore 5, 2) := dk_54 5 (dk_at dksL_law_32 14 rfl rfl)
theorem dL_law_889 : decode cL_law 889 = .ok (.aload_n 2, 1) := dk_44 (dk_at dksL_law_32 16 rfl rfl)
theorem dL_law_890 : decode cL_law 890 = .ok (.aload_n 0, 1) := dk_42 (dk_at dksL_law_32 17 rfl rfl)
theorem dL_law_891 : decode cL_law 891 = .ok (.iload 4, 2) := dk_21 4 (dk_at dksL_law_32 18 rfl rfl)
theorem dL_law_893 : decode cL_law 893 = .ok (.iconst 1, 1) := dk_4 (dk_at dksL_law_32 20 rfl rfl)
theorem dL_law_894 : decode cL_law 894 = .ok (.iadd, 1) := dk_96 (dk_at dksL_law_32 21 rfl rfl)
theorem dL_law_895 : decode cL_law 895 = .ok (.iaload, 1) := dk_46 (dk_at dksL_law_32 22 rfl rfl)
theorem dL_law_896 : decode cL_law 896 = .ok (.invokevirtual 171, 3) := dk_182 0 171 (dk_at dksL_law_33 0 rfl rfl)
theorem dL_law_899 : decode cL_law 899 = .ok (.istore 6, 2) := dk_54 6 (dk_at dksL_law_33 3 rfl rfl)
theorem dL_law_901 : decode cL_law 901 = .ok (.aload_n 2, 1) := dk_44 (dk_at dksL_law_33 5 rfl rfl)
theorem dL_law_902 : decode cL_law 902 = .ok (.invokevirtual 116, 3) := dk_182 0 116 (dk_at dksL_law_33 6 rfl rfl)
theorem dL_law_905 : decode cL_law 905 = .ok (.iload 5, 2) := dk_21 5 (dk_at dksL_law_33 9 rfl rfl)
theorem dL_law_907 : decode cL_law 907 = .ok (.if_icmp .eq 5, 3) := dk_159 0 5 (dk_at dksL_law_33 11 rfl rfl)
theorem dL_law_910 : decode cL_law 910 = .ok (.iconst 0, 1) := dk_3 (dk_at dksL_law_33 14 rfl rfl)
theorem dL_law_911 : decode cL_law 911 = .ok (.ireturn, 1) := dk_172 (dk_at dksL_law_33 15 rfl rfl)
theorem dL_law_912 : decode cL_law 912 = .ok (.iload 5, 2) := dk_21 5 (dk_at dksL_law_33 16 rfl rfl)
theorem dL_law_914 : decode cL_law 914 = .ok (.ifCond .ne 15, 3) := dk_154 0 15 (dk_at dksL_law_33 18 rfl rfl)
theorem dL_law_917 : decode cL_law 917 = .ok (.aload_n 3, 1) := dk_45 (dk_at dksL_law_33 21 rfl rfl)
theorem dL_law_918 : decode cL_law 918 = .ok (.iconst 0, 1) := dk_3 (dk_at dksL_law_33 22 rfl rfl)
theorem dL_law_919 : decode cL_law 919 = .ok (.laload, 1) := dk_47 (dk_at dksL_law_33 23 rfl rfl)
theorem dL_law_920 : decode cL_law 920 = .ok (.iload 6, 2) := dk_21 6 (dk_at dksL_law_34 0 rfl rfl)
theorem dL_law_922 : decode cL_law 922 = .ok (.i2l, 1) := dk_133 (dk_at dksL_law_34 2 rfl rfl)
theorem dL_law_923 : decode cL_law 923 = .ok (.lcmp, 1) := dk_148 (dk_at dksL_law_34 3 rfl rfl)
theorem dL_law_924 : decode cL_law 924 = .ok (.ifCond .eq 5, 3) := dk_153 0 5 (dk_at dksL_law_34 4 rfl rfl)
theorem dL_law_927 : decode cL_law 927 = .ok (.iconst 0, 1) := dk_3 (dk_at dksL_law_34 7 rfl rfl)
theorem dL_law_928 : decode cL_law 928 = .ok (.ireturn, 1) := dk_172 (dk_at dksL_law_34 8 rfl rfl)
theorem dL_law_929 : decode cL_law 929 = .ok (.goto 981, 3) := dk_167 3 213 (dk_at dksL_law_34 9 rfl rfl)
theorem dL_law_932 : decode cL_law 932 = .ok (.aload_n 1, 1) := dk_43 (dk_at dksL_law_34 12 rfl rfl)
theorem dL_law_933 : decode cL_law 933 = .ok (.aload_n 0, 1) := dk_42 (dk_at dksL_law_34 13 rfl rfl)
theorem dL_law_934 : decode cL_law 934 = .ok (.iload 4, 2) := dk_21 4 (dk_at dksL_law_34 14 rfl rfl)
theorem dL_law_936 : decode cL_law 936 = .ok (.iconst 1, 1) := dk_4 (dk_at dksL_law_34 16 rfl rfl)
theorem dL_law_937 : decode cL_law 937 = .ok (.iadd, 1) := dk_96 (dk_at dksL_law_34 17 rfl rfl)
theorem dL_law_938 : decode cL_law 938 = .ok (.iaload, 1) := dk_46 (dk_at dksL_law_34 18 rfl rfl)
theorem dL_law_939 : decode cL_law 939 = .ok (.aload_n 0, 1) := dk_42 (dk_at dksL_law_34 19 rfl rfl)
theorem dL_law_940 : decode cL_law 940 = .ok (.iload 4, 2) := dk_21 4 (dk_at dksL_law_34 20 rfl rfl)
theorem dL_law_942 : decode cL_law 942 = .ok (.iconst 2, 1) := dk_5 (dk_at dksL_law_34 22 rfl rfl)
theorem dL_law_943 : decode cL_law 943 = .ok (.iadd, 1) := dk_96 (dk_at dksL_law_34 23 rfl rfl)
theorem dL_law_944 : decode cL_law 944 = .ok (.iaload, 1) := dk_46 (dk_at dksL_law_35 0 rfl rfl)
theorem dL_law_945 : decode cL_law 945 = .ok (.aload_n 3, 1) := dk_45 (dk_at dksL_law_35 1 rfl rfl)
theorem dL_law_946 : decode cL_law 946 = .ok (.invokestatic 172, 3) := dk_184 0 172 (dk_at dksL_law_35 2 rfl rfl)
theorem dL_law_949 : decode cL_law 949 = .ok (.istore 5, 2) := dk_54 5 (dk_at dksL_law_35 5 rfl rfl)
theorem dL_law_951 : decode cL_law 951 = .ok (.aload_n 2, 1) := dk_44 (dk_at dksL_law_35 7 rfl rfl)
theorem dL_law_952 : decode cL_law 952 = .ok (.aload_n 0, 1) := dk_42 (dk_at dksL_law_35 8 rfl rfl)
theorem dL_law_953 : decode cL_law 953 = .ok (.iload 4, 2) := dk_21 4 (dk_at dksL_law_35 9 rfl rfl)
theorem dL_law_955 : decode cL_law 955 = .ok (.iconst 1, 1) := dk_4 (dk_at dksL_law_35 11 rfl rfl)
theorem dL_law_956 : decode cL_law 956 = .ok (.iadd, 1) := dk_96 (dk_at dksL_law_35 12 rfl rfl)
theorem dL_law_957 : decode cL_law 957 = .ok (.iaload, 1) := dk_46 (dk_at dksL_law_35 13 rfl rfl)
theorem dL_law_958 : decode cL_law 958 = .ok (.aload_n 0, 1) := dk_42 (dk_at dksL_law_35 14 rfl rfl)
theorem dL_law_959 : decode cL_law 959 = .ok (.iload 4, 2) := dk_21 4 (dk_at dksL_law_35 15 rfl rfl)
theorem dL_law_961 : decode cL_law 961 = .ok (.iconst 2, 1) := dk_5 (dk_at dksL_law_35 17 rfl rfl)
theorem dL_law_962 : decode cL_law 962 = .ok (.iadd, 1) := dk_96 (dk_at dksL_law_35 18 rfl rfl)
theorem dL_law_963 : decode cL_law 963 = .ok (.iaload, 1) := dk_46 (dk_at dksL_law_35 19 rfl rfl)
theorem dL_law_964 : decode cL_law 964 = .ok (.invokevirtual 174, 3) := dk_182 0 174 (dk_at dksL_law_35 20 rfl rfl)
theorem dL_law_967 : decode cL_law 967 = .ok (.istore 6, 2) := dk_54 6 (dk_at dksL_law_36 0 rfl rfl)
theorem dL_law_969 : decode cL_law 969 = .ok (.aload_n 2, 1) := dk_44 (dk_at dksL_law_36 2 rfl rfl)
theorem dL_law_970 : decode cL_law 970 = .ok (.invokevirtual 116, 3) := dk_182 0 116 (dk_at dksL_law_36 3 rfl rfl)
theorem dL_law_973 : decode cL_law 973 = .ok (.iload 5, 2) := dk_21 5 (dk_at dksL_law_36 6 rfl rfl)
theorem dL_law_975 : decode cL_law 975 = .ok (.if_icmp .eq 5, 3) := dk_159 0 5 (dk_at dksL_law_36 8 rfl rfl)
theorem dL_law_978 : decode cL_law 978 = .ok (.iconst 0, 1) := dk_3 (dk_at dksL_law_36 11 rfl rfl)
theorem dL_law_979 : decode cL_law 979 = .ok (.ireturn, 1) := dk_172 (dk_at dksL_law_36 12 rfl rfl)
theorem dL_law_980 : decode cL_law 980 = .ok (.iload 5, 2) := dk_21 5 (dk_at dksL_law_36 13 rfl rfl)
theorem dL_law_982 : decode cL_law 982 = .ok (.ifCond .ne 15, 3) := dk_154 0 15 (dk_at dksL_law_36 15 rfl rfl)
theorem dL_law_985 : decode cL_law 985 = .ok (.aload_n 3, 1) := dk_45 (dk_at dksL_law_36 18 rfl rfl)
theorem dL_law_986 : decode cL_law 986 = .ok (.iconst 0, 1) := dk_3 (dk_at dksL_law_36 19 rfl rfl)
theorem dL_law_987 : decode cL_law 987 = .ok (.laload, 1) := dk_47 (dk_at dksL_law_36 20 rfl rfl)
theorem dL_law_988 : decode cL_law 988 = .ok (.iload 6, 2) := dk_21 6 (dk_at dksL_law_36 21 rfl rfl)
theorem dL_law_990 : decode cL_law 990 = .ok (.i2l, 1) := dk_133 (dk_at dksL_law_36 23 rfl rfl)
theorem dL_law_991 : decode cL_law 991 = .ok (.lcmp, 1) := dk_148 (dk_at dksL_law_37 0 rfl rfl)
theorem dL_law_992 : decode cL_law 992 = .ok (.ifCond .eq 5, 3) := dk_153 0 5 (dk_at dksL_law_37 1 rfl rfl)
theorem dL_law_995 : decode cL_law 995 = .ok (.iconst 0, 1) := dk_3 (dk_at dksL_law_37 4 rfl rfl)
theorem dL_law_996 : decode cL_law 996 = .ok (.ireturn, 1) := dk_172 (dk_at dksL_law_37 5 rfl rfl)
theorem dL_law_997 : decode cL_law 997 = .ok (.goto 913, 3) := dk_167 3 145 (dk_at dksL_law_37 6 rfl rfl)
theorem dL_law_1000 : decode cL_law 1000 = .ok (.aload_n 1, 1) := dk_43 (dk_at dksL_law_37 9 rfl rfl)
theorem dL_law_1001 : decode cL_law 1001 = .ok (.aload_n 0, 1) := dk_42 (dk_at dksL_law_37 10 rfl rfl)
theorem dL_law_1002 : decode cL_law 1002 = .ok (.iload 4, 2) := dk_21 4 (dk_at dksL_law_37 11 rfl rfl)
theorem dL_law_1004 : decode cL_law 1004 = .ok (.iconst 1, 1) := dk_4 (dk_at dksL_law_37 13 rfl rfl)
theorem dL_law_1005 : decode cL_law 1005 = .ok (.iadd, 1) := dk_96 (dk_at dksL_law_37 14 rfl rfl)
theorem dL_law_1006 : decode cL_law 1006 = .ok (.iaload, 1) := dk_46 (dk_at dksL_law_37 15 rfl rfl)
theorem dL_law_1007 : decode cL_law 1007 = .ok (.aload_n 3, 1) := dk_45 (dk_at dksL_law_37 16 rfl rfl)
theorem dL_law_1008 : decode cL_law 1008 = .ok (.invokestatic 175, 3) := dk_184 0 175 (dk_at dksL_law_37 17 rfl rfl)
theorem dL_law_1011 : decode cL_law 1011 = .ok (.istore 5, 2) := dk_54 5 (dk_at dksL_law_37 20 rfl rfl)
theorem dL_law_1013 : decode cL_law 1013 = .ok (.aload_n 2, 1) := dk_44 (dk_at dksL_law_37 22 rfl rfl)
theorem dL_law_1014 : decode cL_law 1014 = .ok (.aload_n 0, 1) := dk_42 (dk_at dksL_law_37 23 rfl rfl)
theorem dL_law_1015 : decode cL_law 1015 = .ok (.iload 4, 2) := dk_21 4 (dk_at dksL_law_38 0 rfl rfl)
theorem dL_law_1017 : decode cL_law 1017 = .ok (.iconst 1, 1) := dk_4 (dk_at dksL_law_38 2 rfl rfl)
theorem dL_law_1018 : decode cL_law 1018 = .ok (.iadd, 1) := dk_96 (dk_at dksL_law_38 3 rfl rfl)
theorem dL_law_1019 : decode cL_law 1019 = .ok (.iaload, 1) := dk_46 (dk_at dksL_law_38 4 rfl rfl)
theorem dL_law_1020 : decode cL_law 1020 = .ok (.invokevirtual 177, 3) := dk_182 0 177 (dk_at dksL_law_38 5 rfl rfl)
theorem dL_law_1023 : decode cL_law 1023 = .ok (.istore 6, 2) := dk_54 6 (dk_at dksL_law_38 8 rfl rfl)
theorem dL_law_1025 : decode cL_law 1025 = .ok (.aload_n 2, 1) := dk_44 (dk_at dksL_law_38 10 rfl rfl)
theorem dL_law_1026 : decode cL_law 1026 = .ok (.invokevirtual 116, 3) := dk_182 0 116 (dk_at dksL_law_38 11 rfl rfl)
theorem dL_law_1029 : decode cL_law 1029 = .ok (.iload 5, 2) := dk_21 5 (dk_at dksL_law_38 14 rfl rfl)
theorem dL_law_1031 : decode cL_law 1031 = .ok (.if_icmp .eq 5, 3) := dk_159 0 5 (dk_at dksL_law_38 16 rfl rfl)
theorem dL_law_1034 : decode cL_law 1034 = .ok (.iconst 0, 1) := dk_3 (dk_at dksL_law_38 19 rfl rfl)
theorem dL_law_1035 : decode cL_law 1035 = .ok (.ireturn, 1) := dk_172 (dk_at dksL_law_38 20 rfl rfl)
theorem dL_law_1036 : decode cL_law 1036 = .ok (.iload 5, 2) := dk_21 5 (dk_at dksL_law_38 21 rfl rfl)
theorem dL_law_1038 : decode cL_law 1038 = .ok (.ifCond .ne 15, 3) := dk_154 0 15 (dk_at dksL_law_39 0 rfl rfl)
theorem dL_law_1041 : decode cL_law 1041 = .ok (.aload_n 3, 1) := dk_45 (dk_at dksL_law_39 3 rfl rfl)
theorem dL_law_1042 : decode cL_law 1042 = .ok (.iconst 0, 1) := dk_3 (dk_at dksL_law_39 4 rfl rfl)
theorem dL_law_1043 : decode cL_law 1043 = .ok (.laload, 1) := dk_47 (dk_at dksL_law_39 5 rfl rfl)
theorem dL_law_1044 : decode cL_law 1044 = .ok (.iload 6, 2) := dk_21 6 (dk_at dksL_law_39 6 rfl rfl)
theorem dL_law_1046 : decode cL_law 1046 = .ok (.i2l, 1) := dk_133 (dk_at dksL_law_39 8 rfl rfl)
theorem dL_law_1047 : decode cL_law 1047 = .ok (.lcmp, 1) := dk_148 (dk_at dksL_law_39 9 rfl rfl)
theorem dL_law_1048 : decode cL_law 1048 = .ok (.ifCond .eq 5, 3) := dk_153 0 5 (dk_at dksL_law_39 10 rfl rfl)
theorem dL_law_1051 : decode cL_law 1051 = .ok (.iconst 0, 1) := dk_3 (dk_at dksL_law_39 13 rfl rfl)
theorem dL_law_1052 : decode cL_law 1052 = .ok (.ireturn, 1) := dk_172 (dk_at dksL_law_39 14 rfl rfl)
theorem dL_law_1053 : decode cL_law 1053 = .ok (.goto 857, 3) := dk_167 3 89 (dk_at dksL_law_39 15 rfl rfl)
theorem dL_law_1056 : decode cL_law 1056 = .ok (.aload_n 1, 1) := dk_43 (dk_at dksL_law_39 18 rfl rfl)
theorem dL_law_1057 : decode cL_law 1057 = .ok (.aload_n 0, 1) := dk_42 (dk_at dksL_law_39 19 rfl rfl)
theorem dL_law_1058 : decode cL_law 1058 = .ok (.iload 4, 2) := dk_21 4 (dk_at dksL_law_39 20 rfl rfl)
theorem dL_law_1060 : decode cL_law 1060 = .ok (.iconst 1, 1) := dk_4 (dk_at dksL_law_39 22 rfl rfl)
theorem dL_law_1061 : decode cL_law 1061 = .ok (.iadd, 1) := dk_96 (dk_at dksL_law_39 23 rfl rfl)
theorem dL_law_1062 : decode cL_law 1062 = .ok (.iaload, 1) := dk_46 (dk_at dksL_law_40 0 rfl rfl)
theorem dL_law_1063 : decode cL_law 1063 = .ok (.aload_n 3, 1) := dk_45 (dk_at dksL_law_40 1 rfl rfl)
theorem dL_law_1064 : decode cL_law 1064 = .ok (.invokestatic 178, 3) := dk_184 0 178 (dk_at dksL_law_40 2 rfl rfl)
theorem dL_law_1067 : decode cL_law 1067 = .ok (.istore 5, 2) := dk_54 5 (dk_at dksL_law_40 5 rfl rfl)
theorem dL_law_1069 : decode cL_law 1069 = .ok (.aload_n 2, 1) := dk_44 (dk_at dksL_law_40 7 rfl rfl)
theorem dL_law_1070 : decode cL_law 1070 = .ok (.aload_n 0, 1) := dk_42 (dk_at dksL_law_40 8 rfl rfl)
theorem dL_law_1071 : decode cL_law 1071 = .ok (.iload 4, 2) := dk_21 4 (dk_at dksL_law_40 9 rfl rfl)
theorem dL_law_1073 : decode cL_law 1073 = .ok (.iconst 1, 1) := dk_4 (dk_at dksL_law_40 11 rfl rfl)
theorem dL_law_1074 : decode cL_law 1074 = .ok (.iadd, 1) := dk_96 (dk_at dksL_law_40 12 rfl rfl)
theorem dL_law_1075 : decode cL_law 1075 = .ok (.iaload, 1) := dk_46 (dk_at dksL_law_40 13 rfl rfl)
theorem dL_law_1076 : decode cL_law 1076 = .ok (.invokevirtual 180, 3) := dk_182 0 180 (dk_at dksL_law_40 14 rfl rfl)
theorem dL_law_1079 : decode cL_law 1079 = .ok (.istore 6, 2) := dk_54 6 (dk_at dksL_law_40 17 rfl rfl)
theorem dL_law_1081 : decode cL_law 1081 = .ok (.aload_n 2, 1) := dk_44 (dk_at dksL_law_40 19 rfl rfl)
theorem dL_law_1082 : decode cL_law 1082 = .ok (.invokevirtual 116, 3) := dk_182 0 116 (dk_at dksL_law_40 20 rfl rfl)
theorem dL_law_1085 : decode cL_law 1085 = .ok (.iload 5, 2) := dk_21 5 (dk_at dksL_law_41 0 rfl rfl)
theorem dL_law_1087 : decode cL_law 1087 = .ok (.if_icmp .eq 5, 3) := dk_159 0 5 (dk_at dksL_law_41 2 rfl rfl)
theorem dL_law_1090 : decode cL_law 1090 = .ok (.iconst 0, 1) := dk_3 (dk_at dksL_law_41 5 rfl rfl)
theorem dL_law_1091 : decode cL_law 1091 = .ok (.ireturn, 1) := dk_172 (dk_at dksL_law_41 6 rfl rfl)
theorem dL_law_1092 : decode cL_law 1092 = .ok (.iload 5, 2) := dk_21 5 (dk_at dksL_law_41 7 rfl rfl)
theorem dL_law_1094 : decode cL_law 1094 = .ok (.ifCond .ne 15, 3) := dk_154 0 15 (dk_at dksL_law_41 9 rfl rfl)
theorem dL_law_1097 : decode cL_law 1097 = .ok (.aload_n 3, 1) := dk_45 (dk_at dksL_law_41 12 rfl rfl)
theorem dL_law_1098 : decode cL_law 1098 = .ok (.iconst 0, 1) := dk_3 (dk_at dksL_law_41 13 rfl rfl)
theorem dL_law_1099 : decode cL_law 1099 = .ok (.laload, 1) := dk_47 (dk_at dksL_law_41 14 rfl rfl)
theorem dL_law_1100 : decode cL_law 1100 = .ok (.iload 6, 2) := dk_21 6 (dk_at dksL_law_41 15 rfl rfl)
theorem dL_law_1102 : decode cL_law 1102 = .ok (.i2l, 1) := dk_133 (dk_at dksL_law_41 17 rfl rfl)
theorem dL_law_1103 : decode cL_law 1103 = .ok (.lcmp, 1) := dk_148 (dk_at dksL_law_41 18 rfl rfl)
theorem dL_law_1104 : decode cL_law 1104 = .ok (.ifCond .eq 5, 3) := dk_153 0 5 (dk_at dksL_law_41 19 rfl rfl)
theorem dL_law_1107 : decode cL_law 1107 = .ok (.iconst 0, 1) := dk_3 (dk_at dksL_law_41 22 rfl rfl)
theorem dL_law_1108 : decode cL_law 1108 = .ok (.ireturn, 1) := dk_172 (dk_at dksL_law_41 23 rfl rfl)
theorem dL_law_1109 : decode cL_law 1109 = .ok (.goto 801, 3) := dk_167 3 33 (dk_at dksL_law_42 0 rfl rfl)
theorem dL_law_1112 : decode cL_law 1112 = .ok (.aload_n 1, 1) := dk_43 (dk_at dksL_law_42 3 rfl rfl)
theorem dL_law_1113 : decode cL_law 1113 = .ok (.aload_n 0, 1) := dk_42 (dk_at dksL_law_42 4 rfl rfl)
theorem dL_law_1114 : decode cL_law 1114 = .ok (.iload 4, 2) := dk_21 4 (dk_at dksL_law_42 5 rfl rfl)
theorem dL_law_1116 : decode cL_law 1116 = .ok (.iconst 1, 1) := dk_4 (dk_at dksL_law_42 7 rfl rfl)
theorem dL_law_1117 : decode cL_law 1117 = .ok (.iadd, 1) := dk_96 (dk_at dksL_law_42 8 rfl rfl)
theorem dL_law_1118 : decode cL_law 1118 = .ok (.iaload, 1) := dk_46 (dk_at dksL_law_42 9 rfl rfl)
theorem dL_law_1119 : decode cL_law 1119 = .ok (.aload_n 3, 1) := dk_45 (dk_at dksL_law_42 10 rfl rfl)
theorem dL_law_1120 : decode cL_law 1120 = .ok (.invokestatic 181, 3) := dk_184 0 181 (dk_at dksL_law_42 11 rfl rfl)
theorem dL_law_1123 : decode cL_law 1123 = .ok (.istore 5, 2) := dk_54 5 (dk_at dksL_law_42 14 rfl rfl)
theorem dL_law_1125 : decode cL_law 1125 = .ok (.aload_n 2, 1) := dk_44 (dk_at dksL_law_42 16 rfl rfl)
theorem dL_law_1126 : decode cL_law 1126 = .ok (.aload_n 0, 1) := dk_42 (dk_at dksL_law_42 17 rfl rfl)
theorem dL_law_1127 : decode cL_law 1127 = .ok (.iload 4, 2) := dk_21 4 (dk_at dksL_law_42 18 rfl rfl)
theorem dL_law_1129 : decode cL_law 1129 = .ok (.iconst 1, 1) := dk_4 (dk_at dksL_law_42 20 rfl rfl)
theorem dL_law_1130 : decode cL_law 1130 = .ok (.iadd, 1) := dk_96 (dk_at dksL_law_42 21 rfl rfl)
theorem dL_law_1131 : decode cL_law 1131 = .ok (.iaload, 1) := dk_46 (dk_at dksL_law_42 22 rfl rfl)
theorem dL_law_1132 : decode cL_law 1132 = .ok (.invokevirtual 183, 3) := dk_182 0 183 (dk_at dksL_law_43 0 rfl rfl)
theorem dL_law_1135 : decode cL_law 1135 = .ok (.istore 6, 2) := dk_54 6 (dk_at dksL_law_43 3 rfl rfl)
theorem dL_law_1137 : decode cL_law 1137 = .ok (.aload_n 2, 1) := dk_44 (dk_at dksL_law_43 5 rfl rfl)
theorem dL_law_1138 : decode cL_law 1138 = .ok (.invokevirtual 116, 3) := dk_182 0 116 (dk_at dksL_law_43 6 rfl rfl)
theorem dL_law_1141 : decode cL_law 1141 = .ok (.iload 5, 2) := dk_21 5 (dk_at dksL_law_43 9 rfl rfl)
theorem dL_law_1143 : decode cL_law 1143 = .ok (.if_icmp .eq 5, 3) := dk_159 0 5 (dk_at dksL_law_43 11 rfl rfl)
theorem dL_law_1146 : decode cL_law 1146 = .ok (.iconst 0, 1) := dk_3 (dk_at dksL_law_43 14 rfl rfl)
theorem dL_law_1147 : decode cL_law 1147 = .ok (.ireturn, 1) := dk_172 (dk_at dksL_law_43 15 rfl rfl)
theorem dL_law_1148 : decode cL_law 1148 = .ok (.iload 5, 2) := dk_21 5 (dk_at dksL_law_43 16 rfl rfl)
theorem dL_law_1150 : decode cL_law 1150 = .ok (.ifCond .ne 15, 3) := dk_154 0 15 (dk_at dksL_law_43 18 rfl rfl)
theorem dL_law_1153 : decode cL_law 1153 = .ok (.aload_n 3, 1) := dk_45 (dk_at dksL_law_43 21 rfl rfl)
theorem dL_law_1154 : decode cL_law 1154 = .ok (.iconst 0, 1) := dk_3 (dk_at dksL_law_43 22 rfl rfl)
theorem dL_law_1155 : decode cL_law 1155 = .ok (.laload, 1) := dk_47 (dk_at dksL_law_43 23 rfl rfl)
theorem dL_law_1156 : decode cL_law 1156 = .ok (.iload 6, 2) := dk_21 6 (dk_at dksL_law_44 0 rfl rfl)
theorem dL_law_1158 : decode cL_law 1158 = .ok (.i2l, 1) := dk_133 (dk_at dksL_law_44 2 rfl rfl)
theorem dL_law_1159 : decode cL_law 1159 = .ok (.lcmp, 1) := dk_148 (dk_at dksL_law_44 3 rfl rfl)
theorem dL_law_1160 : decode cL_law 1160 = .ok (.ifCond .eq 5, 3) := dk_153 0 5 (dk_at dksL_law_44 4 rfl rfl)
theorem dL_law_1163 : decode cL_law 1163 = .ok (.iconst 0, 1) := dk_3 (dk_at dksL_law_44 7 rfl rfl)
theorem dL_law_1164 : decode cL_law 1164 = .ok (.ireturn, 1) := dk_172 (dk_at dksL_law_44 8 rfl rfl)
theorem dL_law_1165 : decode cL_law 1165 = .ok (.goto 745, 3) := dk_167 2 233 (dk_at dksL_law_44 9 rfl rfl)
theorem dL_law_1168 : decode cL_law 1168 = .ok (.aload_n 1, 1) := dk_43 (dk_at dksL_law_44 12 rfl rfl)
theorem dL_law_1169 : decode cL_law 1169 = .ok (.aload_n 0, 1) := dk_42 (dk_at dksL_law_44 13 rfl rfl)
theorem dL_law_1170 : decode cL_law 1170 = .ok (.iload 4, 2) := dk_21 4 (dk_at dksL_law_44 14 rfl rfl)
theorem dL_law_1172 : decode cL_law 1172 = .ok (.iconst 1, 1) := dk_4 (dk_at dksL_law_44 16 rfl rfl)
theorem dL_law_1173 : decode cL_law 1173 = .ok (.iadd, 1) := dk_96 (dk_at dksL_law_44 17 rfl rfl)
theorem dL_law_1174 : decode cL_law 1174 = .ok (.iaload, 1) := dk_46 (dk_at dksL_law_44 18 rfl rfl)
theorem dL_law_1175 : decode cL_law 1175 = .ok (.aload_n 3, 1) := dk_45 (dk_at dksL_law_44 19 rfl rfl)
theorem dL_law_1176 : decode cL_law 1176 = .ok (.invokestatic 184, 3) := dk_184 0 184 (dk_at dksL_law_44 20 rfl rfl)
theorem dL_law_1179 : decode cL_law 1179 = .ok (.istore 5, 2) := dk_54 5 (dk_at dksL_law_45 0 rfl rfl)
theorem dL_law_1181 : decode cL_law 1181 = .ok (.aload_n 2, 1) := dk_44 (dk_at dksL_law_45 2 rfl rfl)
theorem dL_law_1182 : decode cL_law 1182 = .ok (.aload_n 0, 1) := dk_42 (dk_at dksL_law_45 3 rfl rfl)
theorem dL_law_1183 : decode cL_law 1183 = .ok (.iload 4, 2) := dk_21 4 (dk_at dksL_law_45 4 rfl rfl)
theorem dL_law_1185 : decode cL_law 1185 = .ok (.iconst 1, 1) := dk_4 (dk_at dksL_law_45 6 rfl rfl)
theorem dL_law_1186 : decode cL_law 1186 = .ok (.iadd, 1) := dk_96 (dk_at dksL_law_45 7 rfl rfl)
theorem dL_law_1187 : decode cL_law 1187 = .ok (.iaload, 1) := dk_46 (dk_at dksL_law_45 8 rfl rfl)
theorem dL_law_1188 : decode cL_law 1188 = .ok (.invokevirtual 186, 3) := dk_182 0 186 (dk_at dksL_law_45 9 rfl rfl)
theorem dL_law_1191 : decode cL_law 1191 = .ok (.istore 6, 2) := dk_54 6 (dk_at dksL_law_45 12 rfl rfl)
theorem dL_law_1193 : decode cL_law 1193 = .ok (.aload_n 2, 1) := dk_44 (dk_at dksL_law_45 14 rfl rfl)
theorem dL_law_1194 : decode cL_law 1194 = .ok (.invokevirtual 116, 3) := dk_182 0 116 (dk_at dksL_law_45 15 rfl rfl)
theorem dL_law_1197 : decode cL_law 1197 = .ok (.iload 5, 2) := dk_21 5 (dk_at dksL_law_45 18 rfl rfl)
theorem dL_law_1199 : decode cL_law 1199 = .ok (.if_icmp .eq 5, 3) := dk_159 0 5 (dk_at dksL_law_45 20 rfl rfl)
theorem dL_law_1202 : decode cL_law 1202 = .ok (.iconst 0, 1) := dk_3 (dk_at dksL_law_45 23 rfl rfl)
theorem dL_law_1203 : decode cL_law 1203 = .ok (.ireturn, 1) := dk_172 (dk_at dksL_law_46 0 rfl rfl)
theorem dL_law_1204 : decode cL_law 1204 = .ok (.iload 5, 2) := dk_21 5 (dk_at dksL_law_46 1 rfl rfl)
theorem dL_law_1206 : decode cL_law 1206 = .ok (.ifCond .ne 15, 3) := dk_154 0 15 (dk_at dksL_law_46 3 rfl rfl)
theorem dL_law_1209 : decode cL_law 1209 = .ok (.aload_n 3, 1) := dk_45 (dk_at dksL_law_46 6 rfl rfl)
theorem dL_law_1210 : decode cL_law 1210 = .ok (.iconst 0, 1) := dk_3 (dk_at dksL_law_46 7 rfl rfl)
theorem dL_law_1211 : decode cL_law 1211 = .ok (.laload, 1) := dk_47 (dk_at dksL_law_46 8 rfl rfl)
theorem dL_law_1212 : decode cL_law 1212 = .ok (.iload 6, 2) := dk_21 6 (dk_at dksL_law_46 9 rfl rfl)
theorem dL_law_1214 : decode cL_law 1214 = .ok (.i2l, 1) := dk_133 (dk_at dksL_law_46 11 rfl rfl)
theorem dL_law_1215 : decode cL_law 1215 = .ok (.lcmp, 1) := dk_148 (dk_at dksL_law_46 12 rfl rfl)
theorem dL_law_1216 : decode cL_law 1216 = .ok (.ifCond .eq 5, 3) := dk_153 0 5 (dk_at dksL_law_46 13 rfl rfl)
theorem dL_law_1219 : decode cL_law 1219 = .ok (.iconst 0, 1) := dk_3 (dk_at dksL_law_46 16 rfl rfl)
theorem dL_law_1220 : decode cL_law 1220 = .ok (.ireturn, 1) := dk_172 (dk_at dksL_law_46 17 rfl rfl)
theorem dL_law_1221 : decode cL_law 1221 = .ok (.goto 689, 3) := dk_167 2 177 (dk_at dksL_law_46 18 rfl rfl)
theorem dL_law_1224 : decode cL_law 1224 = .ok (.aload_n 1, 1) := dk_43 (dk_at dksL_law_46 21 rfl rfl)
theorem dL_law_1225 : decode cL_law 1225 = .ok (.aload_n 0, 1) := dk_42 (dk_at dksL_law_46 22 rfl rfl)
theorem dL_law_1226 : decode cL_law 1226 = .ok (.iload 4, 2) := dk_21 4 (dk_at dksL_law_47 0 rfl rfl)
theorem dL_law_1228 : decode cL_law 1228 = .ok (.iconst 1, 1) := dk_4 (dk_at dksL_law_47 2 rfl rfl)
theorem dL_law_1229 : decode cL_law 1229 = .ok (.iadd, 1) := dk_96 (dk_at dksL_law_47 3 rfl rfl)
theorem dL_law_1230 : decode cL_law 1230 = .ok (.iaload, 1) := dk_46 (dk_at dksL_law_47 4 rfl rfl)
theorem dL_law_1231 : decode cL_law 1231 = .ok (.aload_n 3, 1) := dk_45 (dk_at dksL_law_47 5 rfl rfl)
theorem dL_law_1232 : decode cL_law 1232 = .ok (.invokestatic 187, 3) := dk_184 0 187 (dk_at dksL_law_47 6 rfl rfl)
theorem dL_law_1235 : decode cL_law 1235 = .ok (.istore 5, 2) := dk_54 5 (dk_at dksL_law_47 9 rfl rfl)
theorem dL_law_1237 : decode cL_law 1237 = .ok (.aload_n 2, 1) := dk_44 (dk_at dksL_law_47 11 rfl rfl)
theorem dL_law_1238 : decode cL_law 1238 = .ok (.aload_n 0, 1) := dk_42 (dk_at dksL_law_47 12 rfl rfl)
theorem dL_law_1239 : decode cL_law 1239 = .ok (.iload 4, 2) := dk_21 4 (dk_at dksL_law_47 13 rfl rfl)
theorem dL_law_1241 : decode cL_law 1241 = .ok (.iconst 1, 1) := dk_4 (dk_at dksL_law_47 15 rfl rfl)
theorem dL_law_1242 : decode cL_law 1242 = .ok (.iadd, 1) := dk_96 (dk_at dksL_law_47 16 rfl rfl)
theorem dL_law_1243 : decode cL_law 1243 = .ok (.iaload, 1) := dk_46 (dk_at dksL_law_47 17 rfl rfl)
theorem dL_law_1244 : decode cL_law 1244 = .ok (.invokevirtual 189, 3) := dk_182 0 189 (dk_at dksL_law_47 18 rfl rfl)
theorem dL_law_1247 : decode cL_law 1247 = .ok (.istore 6, 2) := dk_54 6 (dk_at dksL_law_47 21 rfl rfl)
theorem dL_law_1249 : decode cL_law 1249 = .ok (.aload_n 2, 1) := dk_44 (dk_at dksL_law_47 23 rfl rfl)
theorem dL_law_1250 : decode cL_law 1250 = .ok (.invokevirtual 116, 3) := dk_182 0 116 (dk_at dksL_law_48 0 rfl rfl)
theorem dL_law_1253 : decode cL_law 1253 = .ok (.iload 5, 2) := dk_21 5 (dk_at dksL_law_48 3 rfl rfl)
theorem dL_law_1255 : decode cL_law 1255 = .ok (.if_icmp .eq 5, 3) := dk_159 0 5 (dk_at dksL_law_48 5 rfl rfl)
theorem dL_law_1258 : decode cL_law 1258 = .ok (.iconst 0, 1) := dk_3 (dk_at dksL_law_48 8 rfl rfl)
theorem dL_law_1259 : decode cL_law 1259 = .ok (.ireturn, 1) := dk_172 (dk_at dksL_law_48 9 rfl rfl)
theorem dL_law_1260 : decode cL_law 1260 = .ok (.iload 5, 2) := dk_21 5 (dk_at dksL_law_48 10 rfl rfl)
theorem dL_law_1262 : decode cL_law 1262 = .ok (.ifCond .ne 15, 3) := dk_154 0 15 (dk_at dksL_law_48 12 rfl rfl)
theorem dL_law_1265 : decode cL_law 1265 = .ok (.aload_n 3, 1) := dk_45 (dk_at dksL_law_48 15 rfl rfl)
theorem dL_law_1266 : decode cL_law 1266 = .ok (.iconst 0, 1) := dk_3 (dk_at dksL_law_48 16 rfl rfl)
theorem dL_law_1267 : decode cL_law 1267 = .ok (.laload, 1) := dk_47 (dk_at dksL_law_48 17 rfl rfl)
theorem dL_law_1268 : decode cL_law 1268 = .ok (.iload 6, 2) := dk_21 6 (dk_at dksL_law_48 18 rfl rfl)
theorem dL_law_1270 : decode cL_law 1270 = .ok (.i2l, 1) := dk_133 (dk_at dksL_law_48 20 rfl rfl)
theorem dL_law_1271 : decode cL_law 1271 = .ok (.lcmp, 1) := dk_148 (dk_at dksL_law_48 21 rfl rfl)
theorem dL_law_1272 : decode cL_law 1272 = .ok (.ifCond .eq 5, 3) := dk_153 0 5 (dk_at dksL_law_49 0 rfl rfl)
theorem dL_law_1275 : decode cL_law 1275 = .ok (.iconst 0, 1) := dk_3 (dk_at dksL_law_49 3 rfl rfl)
theorem dL_law_1276 : decode cL_law 1276 = .ok (.ireturn, 1) := dk_172 (dk_at dksL_law_49 4 rfl rfl)
theorem dL_law_1277 : decode cL_law 1277 = .ok (.goto 633, 3) := dk_167 2 121 (dk_at dksL_law_49 5 rfl rfl)
theorem dL_law_1280 : decode cL_law 1280 = .ok (.aload_n 1, 1) := dk_43 (dk_at dksL_law_49 8 rfl rfl)
theorem dL_law_1281 : decode cL_law 1281 = .ok (.aload_n 0, 1) := dk_42 (dk_at dksL_law_49 9 rfl rfl)
theorem dL_law_1282 : decode cL_law 1282 = .ok (.iload 4, 2) := dk_21 4 (dk_at dksL_law_49 10 rfl rfl)
theorem dL_law_1284 : decode cL_law 1284 = .ok (.iconst 1, 1) := dk_4 (dk_at dksL_law_49 12 rfl rfl)
theorem dL_law_1285 : decode cL_law 1285 = .ok (.iadd, 1) := dk_96 (dk_at dksL_law_49 13 rfl rfl)
theorem dL_law_1286 : decode cL_law 1286 = .ok (.iaload, 1) := dk_46 (dk_at dksL_law_49 14 rfl rfl)
theorem dL_law_1287 : decode cL_law 1287 = .ok (.aload_n 0, 1) := dk_42 (dk_at dksL_law_49 15 rfl rfl)
theorem dL_law_1288 : decode cL_law 1288 = .ok (.iload 4, 2) := dk_21 4 (dk_at dksL_law_49 16 rfl rfl)
theorem dL_law_1290 : decode cL_law 1290 = .ok (.iconst 2, 1) := dk_5 (dk_at dksL_law_49 18 rfl rfl)
theorem dL_law_1291 : decode cL_law 1291 = .ok (.iadd, 1) := dk_96 (dk_at dksL_law_49 19 rfl rfl)
theorem dL_law_1292 : decode cL_law 1292 = .ok (.iaload, 1) := dk_46 (dk_at dksL_law_49 20 rfl rfl)
theorem dL_law_1293 : decode cL_law 1293 = .ok (.aload_n 3, 1) := dk_45 (dk_at dksL_law_49 21 rfl rfl)
theorem dL_law_1294 : decode cL_law 1294 = .ok (.invokestatic 190, 3) := dk_184 0 190 (dk_at dksL_law_50 0 rfl rfl)
theorem dL_law_1297 : decode cL_law 1297 = .ok (.istore 5, 2) := dk_54 5 (dk_at dksL_law_50 3 rfl rfl)
theorem dL_law_1299 : decode cL_law 1299 = .ok (.aload_n 2, 1) := dk_44 (dk_at dksL_law_50 5 rfl rfl)
theorem dL_law_1300 : decode cL_law 1300 = .ok (.aload_n 0, 1) := dk_42 (dk_at dksL_law_50 6 rfl rfl)
theorem dL_law_1301 : decode cL_law 1301 = .ok (.iload 4, 2) := dk_21 4 (dk_at dksL_law_50 7 rfl rfl)
theorem dL_law_1303 : decode cL_law 1303 = .ok (.iconst 1, 1) := dk_4 (dk_at dksL_law_50 9 rfl rfl)
theorem dL_law_1304 : decode cL_law 1304 = .ok (.iadd, 1) := dk_96 (dk_at dksL_law_50 10 rfl rfl)
theorem dL_law_1305 : decode cL_law 1305 = .ok (.iaload, 1) := dk_46 (dk_at dksL_law_50 11 rfl rfl)
theorem dL_law_1306 : decode cL_law 1306 = .ok (.aload_n 0, 1) := dk_42 (dk_at dksL_law_50 12 rfl rfl)
theorem dL_law_1307 : decode cL_law 1307 = .ok (.iload 4, 2) := dk_21 4 (dk_at dksL_law_50 13 rfl rfl)
theorem dL_law_1309 : decode cL_law 1309 = .ok (.iconst 2, 1) := dk_5 (dk_at dksL_law_50 15 rfl rfl)
theorem dL_law_1310 : decode cL_law 1310 = .ok (.iadd, 1) := dk_96 (dk_at dksL_law_50 16 rfl rfl)
theorem dL_law_1311 : decode cL_law 1311 = .ok (.iaload, 1) := dk_46 (dk_at dksL_law_50 17 rfl rfl)
theorem dL_law_1312 : decode cL_law 1312 = .ok (.invokevirtual 192, 3) := dk_182 0 192 (dk_at dksL_law_50 18 rfl rfl)
theorem dL_law_1315 : decode cL_law 1315 = .ok (.istore 6, 2) := dk_54 6 (dk_at dksL_law_50 21 rfl rfl)
theorem dL_law_1317 : decode cL_law 1317 = .ok (.aload_n 2, 1) := dk_44 (dk_at dksL_law_50 23 rfl rfl)
theorem dL_law_1318 : decode cL_law 1318 = .ok (.invokevirtual 116, 3) := dk_182 0 116 (dk_at dksL_law_51 0 rfl rfl)
theorem dL_law_1321 : decode cL_law 1321 = .ok (.iload 5, 2) := dk_21 5 (dk_at dksL_law_51 3 rfl rfl)
theorem dL_law_1323 : decode cL_law 1323 = .ok (.if_icmp .eq 5, 3) := dk_159 0 5 (dk_at dksL_law_51 5 rfl rfl)
theorem dL_law_1326 : decode cL_law 1326 = .ok (.iconst 0, 1) := dk_3 (dk_at dksL_law_51 8 rfl rfl)
theorem dL_law_1327 : decode cL_law 1327 = .ok (.ireturn, 1) := dk_172 (dk_at dksL_law_51 9 rfl rfl)
theorem dL_law_1328 : decode cL_law 1328 = .ok (.iload 5, 2) := dk_21 5 (dk_at dksL_law_51 10 rfl rfl)
theorem dL_law_1330 : decode cL_law 1330 = .ok (.ifCond .ne 15, 3) := dk_154 0 15 (dk_at dksL_law_51 12 rfl rfl)
theorem dL_law_1333 : decode cL_law 1333 = .ok (.aload_n 3, 1) := dk_45 (dk_at dksL_law_51 15 rfl rfl)
theorem dL_law_1334 : decode cL_law 1334 = .ok (.iconst 0, 1) := dk_3 (dk_at dksL_law_51 16 rfl rfl)
theorem dL_law_1335 : decode cL_law 1335 = .ok (.laload, 1) := dk_47 (dk_at dksL_law_51 17 rfl rfl)
theorem dL_law_1336 : decode cL_law 1336 = .ok (.iload 6, 2) := dk_21 6 (dk_at dksL_law_51 18 rfl rfl)
theorem dL_law_1338 : decode cL_law 1338 = .ok (.i2l, 1) := dk_133 (dk_at dksL_law_51 20 rfl rfl)
theorem dL_law_1339 : decode cL_law 1339 = .ok (.lcmp, 1) := dk_148 (dk_at dksL_law_51 21 rfl rfl)
theorem dL_law_1340 : decode cL_law 1340 = .ok (.ifCond .eq 5, 3) := dk_153 0 5 (dk_at dksL_law_52 0 rfl rfl)
theorem dL_law_1343 : decode cL_law 1343 = .ok (.iconst 0, 1) := dk_3 (dk_at dksL_law_52 3 rfl rfl)
theorem dL_law_1344 : decode cL_law 1344 = .ok (.ireturn, 1) := dk_172 (dk_at dksL_law_52 4 rfl rfl)
theorem dL_law_1345 : decode cL_law 1345 = .ok (.goto 565, 3) := dk_167 2 53 (dk_at dksL_law_52 5 rfl rfl)
theorem dL_law_1348 : decode cL_law 1348 = .ok (.aload_n 1, 1) := dk_43 (dk_at dksL_law_52 8 rfl rfl)
theorem dL_law_1349 : decode cL_law 1349 = .ok (.aload_n 0, 1) := dk_42 (dk_at dksL_law_52 9 rfl rfl)
theorem dL_law_1350 : decode cL_law 1350 = .ok (.iload 4, 2) := dk_21 4 (dk_at dksL_law_52 10 rfl rfl)
theorem dL_law_1352 : decode cL_law 1352 = .ok (.iconst 1, 1) := dk_4 (dk_at dksL_law_52 12 rfl rfl)
theorem dL_law_1353 : decode cL_law 1353 = .ok (.iadd, 1) := dk_96 (dk_at dksL_law_52 13 rfl rfl)
theorem dL_law_1354 : decode cL_law 1354 = .ok (.iaload, 1) := dk_46 (dk_at dksL_law_52 14 rfl rfl)
theorem dL_law_1355 : decode cL_law 1355 = .ok (.aload_n 0, 1) := dk_42 (dk_at dksL_law_52 15 rfl rfl)
theorem dL_law_1356 : decode cL_law 1356 = .ok (.iload 4, 2) := dk_21 4 (dk_at dksL_law_52 16 rfl rfl)
theorem dL_law_1358 : decode cL_law 1358 = .ok (.iconst 2, 1) := dk_5 (dk_at dksL_law_52 18 rfl rfl)
theorem dL_law_1359 : decode cL_law 1359 = .ok (.iadd, 1) := dk_96 (dk_at dksL_law_52 19 rfl rfl)
theorem dL_law_1360 : decode cL_law 1360 = .ok (.iaload, 1) := dk_46 (dk_at dksL_law_52 20 rfl rfl)
theorem dL_law_1361 : decode cL_law 1361 = .ok (.aload_n 3, 1) := dk_45 (dk_at dksL_law_52 21 rfl rfl)
theorem dL_law_1362 : decode cL_law 1362 = .ok (.invokestatic 193, 3) := dk_184 0 193 (dk_at dksL_law_53 0 rfl rfl)
theorem dL_law_1365 : decode cL_law 1365 = .ok (.istore 5, 2) := dk_54 5 (dk_at dksL_law_53 3 rfl rfl)
theorem dL_law_1367 : decode cL_law 1367 = .ok (.aload_n 2, 1) := dk_44 (dk_at dksL_law_53 5 rfl rfl)
theorem dL_law_1368 : decode cL_law 1368 = .ok (.aload_n 0, 1) := dk_42 (dk_at dksL_law_53 6 rfl rfl)
theorem dL_law_1369 : decode cL_law 1369 = .ok (.iload 4, 2) := dk_21 4 (dk_at dksL_law_53 7 rfl rfl)
theorem dL_law_1371 : decode cL_law 1371 = .ok (.iconst 1, 1) := dk_4 (dk_at dksL_law_53 9 rfl rfl)
theorem dL_law_1372 : decode cL_law 1372 = .ok (.iadd, 1) := dk_96 (dk_at dksL_law_53 10 rfl rfl)
theorem dL_law_1373 : decode cL_law 1373 = .ok (.iaload, 1) := dk_46 (dk_at dksL_law_53 11 rfl rfl)
theorem dL_law_1374 : decode cL_law 1374 = .ok (.aload_n 0, 1) := dk_42 (dk_at dksL_law_53 12 rfl rfl)
theorem dL_law_1375 : decode cL_law 1375 = .ok (.iload 4, 2) := dk_21 4 (dk_at dksL_law_53 13 rfl rfl)
theorem dL_law_1377 : decode cL_law 1377 = .ok (.iconst 2, 1) := dk_5 (dk_at dksL_law_53 15 rfl rfl)
theorem dL_law_1378 : decode cL_law 1378 = .ok (.iadd, 1) := dk_96 (dk_at dksL_law_53 16 rfl rfl)
theorem dL_law_1379 : decode cL_law 1379 = .ok (.iaload, 1) := dk_46 (dk_at dksL_law_53 17 rfl rfl)
theorem dL_law_1380 : decode cL_law 1380 = .ok (.invokevirtual 195, 3) := dk_182 0 195 (dk_at dksL_law_53 18 rfl rfl)
theorem dL_law_1383 : decode cL_law 1383 = .ok (.istore 6, 2) := dk_54 6 (dk_at dksL_law_53 21 rfl rfl)
theorem dL_law_1385 : decode cL_law 1385 = .ok (.aload_n 2, 1) := dk_44 (dk_at dksL_law_53 23 rfl rfl)
theorem dL_law_1386 : decode cL_law 1386 = .ok (.invokevirtual 116, 3) := dk_182 0 116 (dk_at dksL_law_54 0 rfl rfl)
theorem dL_law_1389 : decode cL_law 1389 = .ok (.iload 5, 2) := dk_21 5 (dk_at dksL_law_54 3 rfl rfl)
theorem dL_law_1391 : decode cL_law 1391 = .ok (.if_icmp .eq 5, 3) := dk_159 0 5 (dk_at dksL_law_54 5 rfl rfl)
theorem dL_law_1394 : decode cL_law 1394 = .ok (.iconst 0, 1) := dk_3 (dk_at dksL_law_54 8 rfl rfl)
theorem dL_law_1395 : decode cL_law 1395 = .ok (.ireturn, 1) := dk_172 (dk_at dksL_law_54 9 rfl rfl)
theorem dL_law_1396 : decode cL_law 1396 = .ok (.iload 5, 2) := dk_21 5 (dk_at dksL_law_54 10 rfl rfl)
theorem dL_law_1398 : decode cL_law 1398 = .ok (.ifCond .ne 15, 3) := dk_154 0 15 (dk_at dksL_law_54 12 rfl rfl)
theorem dL_law_1401 : decode cL_law 1401 = .ok (.aload_n 3, 1) := dk_45 (dk_at dksL_law_54 15 rfl rfl)
theorem dL_law_1402 : decode cL_law 1402 = .ok (.iconst 0, 1) := dk_3 (dk_at dksL_law_54 16 rfl rfl)
theorem dL_law_1403 : decode cL_law 1403 = .ok (.laload, 1) := dk_47 (dk_at dksL_law_54 17 rfl rfl)
theorem dL_law_1404 : decode cL_law 1404 = .ok (.iload 6, 2) := dk_21 6 (dk_at dksL_law_54 18 rfl rfl)
theorem dL_law_1406 : decode cL_law 1406 = .ok (.i2l, 1) := dk_133 (dk_at dksL_law_54 20 rfl rfl)
theorem dL_law_1407 : decode cL_law 1407 = .ok (.lcmp, 1) := dk_148 (dk_at dksL_law_54 21 rfl rfl)
theorem dL_law_1408 : decode cL_law 1408 = .ok (.ifCond .eq 5, 3) := dk_153 0 5 (dk_at dksL_law_55 0 rfl rfl)
theorem dL_law_1411 : decode cL_law 1411 = .ok (.iconst 0, 1) := dk_3 (dk_at dksL_law_55 3 rfl rfl)
theorem dL_law_1412 : decode cL_law 1412 = .ok (.ireturn, 1) := dk_172 (dk_at dksL_law_55 4 rfl rfl)
theorem dL_law_1413 : decode cL_law 1413 = .ok (.goto 497, 3) := dk_167 1 241 (dk_at dksL_law_55 5 rfl rfl)
theorem dL_law_1416 : decode cL_law 1416 = .ok (.aload_n 1, 1) := dk_43 (dk_at dksL_law_55 8 rfl rfl)
theorem dL_law_1417 : decode cL_law 1417 = .ok (.aload_n 0, 1) := dk_42 (dk_at dksL_law_55 9 rfl rfl)
theorem dL_law_1418 : decode cL_law 1418 = .ok (.iload 4, 2) := dk_21 4 (dk_at dksL_law_55 10 rfl rfl)
theorem dL_law_1420 : decode cL_law 1420 = .ok (.iconst 1, 1) := dk_4 (dk_at dksL_law_55 12 rfl rfl)
theorem dL_law_1421 : decode cL_law 1421 = .ok (.iadd, 1) := dk_96 (dk_at dksL_law_55 13 rfl rfl)
theorem dL_law_1422 : decode cL_law 1422 = .ok (.iaload, 1) := dk_46 (dk_at dksL_law_55 14 rfl rfl)
theorem dL_law_1423 : decode cL_law 1423 = .ok (.aload_n 0, 1) := dk_42 (dk_at dksL_law_55 15 rfl rfl)
theorem dL_law_1424 : decode cL_law 1424 = .ok (.iload 4, 2) := dk_21 4 (dk_at dksL_law_55 16 rfl rfl)
theorem dL_law_1426 : decode cL_law 1426 = .ok (.iconst 2, 1) := dk_5 (dk_at dksL_law_55 18 rfl rfl)
theorem dL_law_1427 : decode cL_law 1427 = .ok (.iadd, 1) := dk_96 (dk_at dksL_law_55 19 rfl rfl)
theorem dL_law_1428 : decode cL_law 1428 = .ok (.iaload, 1) := dk_46 (dk_at dksL_law_55 20 rfl rfl)
theorem dL_law_1429 : decode cL_law 1429 = .ok (.aload_n 3, 1) := dk_45 (dk_at dksL_law_55 21 rfl rfl)
theorem dL_law_1430 : decode cL_law 1430 = .ok (.invokestatic 196, 3) := dk_184 0 196 (dk_at dksL_law_56 0 rfl rfl)
theorem dL_law_1433 : decode cL_law 1433 = .ok (.istore 5, 2) := dk_54 5 (dk_at dksL_law_56 3 rfl rfl)
theorem dL_law_1435 : decode cL_law 1435 = .ok (.aload_n 2, 1) := dk_44 (dk_at dksL_law_56 5 rfl rfl)
theorem dL_law_1436 : decode cL_law 1436 = .ok (.aload_n 0, 1) := dk_42 (dk_at dksL_law_56 6 rfl rfl)
theorem dL_law_1437 : decode cL_law 1437 = .ok (.iload 4, 2) := dk_21 4 (dk_at dksL_law_56 7 rfl rfl)
theorem dL_law_1439 : decode cL_law 1439 = .ok (.iconst 1, 1) := dk_4 (dk_at dksL_law_56 9 rfl rfl)
theorem dL_law_1440 : decode cL_law 1440 = .ok (.iadd, 1) := dk_96 (dk_at dksL_law_56 10 rfl rfl)
theorem dL_law_1441 : decode cL_law 1441 = .ok (.iaload, 1) := dk_46 (dk_at dksL_law_56 11 rfl rfl)
theorem dL_law_1442 : decode cL_law 1442 = .ok (.aload_n 0, 1) := dk_42 (dk_at dksL_law_56 12 rfl rfl)
theorem dL_law_1443 : decode cL_law 1443 = .ok (.iload 4, 2) := dk_21 4 (dk_at dksL_law_56 13 rfl rfl)
theorem dL_law_1445 : decode cL_law 1445 = .ok (.iconst 2, 1) := dk_5 (dk_at dksL_law_56 15 rfl rfl)
theorem dL_law_1446 : decode cL_law 1446 = .ok (.iadd, 1) := dk_96 (dk_at dksL_law_56 16 rfl rfl)
theorem dL_law_1447 : decode cL_law 1447 = .ok (.iaload, 1) := dk_46 (dk_at dksL_law_56 17 rfl rfl)
theorem dL_law_1448 : decode cL_law 1448 = .ok (.invokevirtual 198, 3) := dk_182 0 198 (dk_at dksL_law_56 18 rfl rfl)
theorem dL_law_1451 : decode cL_law 1451 = .ok (.lstore 6, 2) := dk_55 6 (dk_at dksL_law_56 21 rfl rfl)
theorem dL_law_1453 : decode cL_law 1453 = .ok (.aload_n 2, 1) := dk_44 (dk_at dksL_law_56 23 rfl rfl)
theorem dL_law_1454 : decode cL_law 1454 = .ok (.invokevirtual 116, 3) := dk_182 0 116 (dk_at dksL_law_57 0 rfl rfl)
theorem dL_law_1457 : decode cL_law 1457 = .ok (.iload 5, 2) := dk_21 5 (dk_at dksL_law_57 3 rfl rfl)
theorem dL_law_1459 : decode cL_law 1459 = .ok (.if_icmp .eq 5, 3) := dk_159 0 5 (dk_at dksL_law_57 5 rfl rfl)
theorem dL_law_1462 : decode cL_law 1462 = .ok (.iconst 0, 1) := dk_3 (dk_at dksL_law_57 8 rfl rfl)
theorem dL_law_1463 : decode cL_law 1463 = .ok (.ireturn, 1) := dk_172 (dk_at dksL_law_57 9 rfl rfl)
theorem dL_law_1464 : decode cL_law 1464 = .ok (.iload 5, 2) := dk_21 5 (dk_at dksL_law_57 10 rfl rfl)
theorem dL_law_1466 : decode cL_law 1466 = .ok (.ifCond .ne 14, 3) := dk_154 0 14 (dk_at dksL_law_57 12 rfl rfl)
theorem dL_law_1469 : decode cL_law 1469 = .ok (.aload_n 3, 1) := dk_45 (dk_at dksL_law_57 15 rfl rfl)
theorem dL_law_1470 : decode cL_law 1470 = .ok (.iconst 0, 1) := dk_3 (dk_at dksL_law_57 16 rfl rfl)
theorem dL_law_1471 : decode cL_law 1471 = .ok (.laload, 1) := dk_47 (dk_at dksL_law_57 17 rfl rfl)
theorem dL_law_1472 : decode cL_law 1472 = .ok (.lload 6, 2) := dk_22 6 (dk_at dksL_law_57 18 rfl rfl)
theorem dL_law_1474 : decode cL_law 1474 = .ok (.lcmp, 1) := dk_148 (dk_at dksL_law_57 20 rfl rfl)
theorem dL_law_1475 : decode cL_law 1475 = .ok (.ifCond .eq 5, 3) := dk_153 0 5 (dk_at dksL_law_57 21 rfl rfl)
theorem dL_law_1478 : decode cL_law 1478 = .ok (.iconst 0, 1) := dk_3 (dk_at dksL_law_58 0 rfl rfl)
theorem dL_law_1479 : decode cL_law 1479 = .ok (.ireturn, 1) := dk_172 (dk_at dksL_law_58 1 rfl rfl)
theorem dL_law_1480 : decode cL_law 1480 = .ok (.goto 430, 3) := dk_167 1 174 (dk_at dksL_law_58 2 rfl rfl)
theorem dL_law_1483 : decode cL_law 1483 = .ok (.aload_n 1, 1) := dk_43 (dk_at dksL_law_58 5 rfl rfl)
theorem dL_law_1484 : decode cL_law 1484 = .ok (.aload_n 0, 1) := dk_42 (dk_at dksL_law_58 6 rfl rfl)
theorem dL_law_1485 : decode cL_law 1485 = .ok (.iload 4, 2) := dk_21 4 (dk_at dksL_law_58 7 rfl rfl)
theorem dL_law_1487 : decode cL_law 1487 = .ok (.iconst 1, 1) := dk_4 (dk_at dksL_law_58 9 rfl rfl)
theorem dL_law_1488 : decode cL_law 1488 = .ok (.iadd, 1) := dk_96 (dk_at dksL_law_58 10 rfl rfl)
theorem dL_law_1489 : decode cL_law 1489 = .ok (.iaload, 1) := dk_46 (dk_at dksL_law_58 11 rfl rfl)
theorem dL_law_1490 : decode cL_law 1490 = .ok (.aload_n 0, 1) := dk_42 (dk_at dksL_law_58 12 rfl rfl)
theorem dL_law_1491 : decode cL_law 1491 = .ok (.iload 4, 2) := dk_21 4 (dk_at dksL_law_58 13 rfl rfl)
theorem dL_law_1493 : decode cL_law 1493 = .ok (.iconst 2, 1) := dk_5 (dk_at dksL_law_58 15 rfl rfl)
theorem dL_law_1494 : decode cL_law 1494 = .ok (.iadd, 1) := dk_96 (dk_at dksL_law_58 16 rfl rfl)
theorem dL_law_1495 : decode cL_law 1495 = .ok (.iaload, 1) := dk_46 (dk_at dksL_law_58 17 rfl rfl)
theorem dL_law_1496 : decode cL_law 1496 = .ok (.aload_n 3, 1) := dk_45 (dk_at dksL_law_58 18 rfl rfl)
theorem dL_law_1497 : decode cL_law 1497 = .ok (.invokestatic 199, 3) := dk_184 0 199 (dk_at dksL_law_58 19 rfl rfl)
theorem dL_law_1500 : decode cL_law 1500 = .ok (.istore 5, 2) := dk_54 5 (dk_at dksL_law_58 22 rfl rfl)
theorem dL_law_1502 : decode cL_law 1502 = .ok (.aload_n 2, 1) := dk_44 (dk_at dksL_law_59 0 rfl rfl)
theorem dL_law_1503 : decode cL_law 1503 = .ok (.aload_n 0, 1) := dk_42 (dk_at dksL_law_59 1 rfl rfl)
theorem dL_law_1504 : decode cL_law 1504 = .ok (.iload 4, 2) := dk_21 4 (dk_at dksL_law_59 2 rfl rfl)
theorem dL_law_1506 : decode cL_law 1506 = .ok (.iconst 1, 1) := dk_4 (dk_at dksL_law_59 4 rfl rfl)
theorem dL_law_1507 : decode cL_law 1507 = .ok (.iadd, 1) := dk_96 (dk_at dksL_law_59 5 rfl rfl)
theorem dL_law_1508 : decode cL_law 1508 = .ok (.iaload, 1) := dk_46 (dk_at dksL_law_59 6 rfl rfl)
theorem dL_law_1509 : decode cL_law 1509 = .ok (.aload_n 0, 1) := dk_42 (dk_at dksL_law_59 7 rfl rfl)
theorem dL_law_1510 : decode cL_law 1510 = .ok (.iload 4, 2) := dk_21 4 (dk_at dksL_law_59 8 rfl rfl)
theorem dL_law_1512 : decode cL_law 1512 = .ok (.iconst 2, 1) := dk_5 (dk_at dksL_law_59 10 rfl rfl)
theorem dL_law_1513 : decode cL_law 1513 = .ok (.iadd, 1) := dk_96 (dk_at dksL_law_59 11 rfl rfl)
theorem dL_law_1514 : decode cL_law 1514 = .ok (.iaload, 1) := dk_46 (dk_at dksL_law_59 12 rfl rfl)
theorem dL_law_1515 : decode cL_law 1515 = .ok (.invokevirtual 201, 3) := dk_182 0 201 (dk_at dksL_law_59 13 rfl rfl)
theorem dL_law_1518 : decode cL_law 1518 = .ok (.lstore 6, 2) := dk_55 6 (dk_at dksL_law_59 16 rfl rfl)
theorem dL_law_1520 : decode cL_law 1520 = .ok (.aload_n 2, 1) := dk_44 (dk_at dksL_law_59 18 rfl rfl)
theorem dL_law_1521 : decode cL_law 1521 = .ok (.invokevirtual 116, 3) := dk_182 0 116 (dk_at dksL_law_59 19 rfl rfl)
theorem dL_law_1524 : decode cL_law 1524 = .ok (.iload 5, 2) := dk_21 5 (dk_at dksL_law_59 22 rfl rfl)
theorem dL_law_1526 : decode cL_law 1526 = .ok (.if_icmp .eq 5, 3) := dk_159 0 5 (dk_at dksL_law_60 0 rfl rfl)
theorem dL_law_1529 : decode cL_law 1529 = .ok (.iconst 0, 1) := dk_3 (dk_at dksL_law_60 3 rfl rfl)
theorem dL_law_1530 : decode cL_law 1530 = .ok (.ireturn, 1) := dk_172 (dk_at dksL_law_60 4 rfl rfl)
theorem dL_law_1531 : decode cL_law 1531 = .ok (.iload 5, 2) := dk_21 5 (dk_at dksL_law_60 5 rfl rfl)
theorem dL_law_1533 : decode cL_law 1533 = .ok (.ifCond .ne 14, 3) := dk_154 0 14 (dk_at dksL_law_60 7 rfl rfl)
theorem dL_law_1536 : decode cL_law 1536 = .ok (.aload_n 3, 1) := dk_45 (dk_at dksL_law_60 10 rfl rfl)
theorem dL_law_1537 : decode cL_law 1537 = .ok (.iconst 0, 1) := dk_3 (dk_at dksL_law_60 11 rfl rfl)
theorem dL_law_1538 : decode cL_law 1538 = .ok (.laload, 1) := dk_47 (dk_at dksL_law_60 12 rfl rfl)
theorem dL_law_1539 : decode cL_law 1539 = .ok (.lload 6, 2) := dk_22 6 (dk_at dksL_law_60 13 rfl rfl)
theorem dL_law_1541 : decode cL_law 1541 = .ok (.lcmp, 1) := dk_148 (dk_at dksL_law_60 15 rfl rfl)
theorem dL_law_1542 : decode cL_law 1542 = .ok (.ifCond .eq 5, 3) := dk_153 0 5 (dk_at dksL_law_60 16 rfl rfl)
theorem dL_law_1545 : decode cL_law 1545 = .ok (.iconst 0, 1) := dk_3 (dk_at dksL_law_60 19 rfl rfl)
theorem dL_law_1546 : decode cL_law 1546 = .ok (.ireturn, 1) := dk_172 (dk_at dksL_law_60 20 rfl rfl)
theorem dL_law_1547 : decode cL_law 1547 = .ok (.goto 363, 3) := dk_167 1 107 (dk_at dksL_law_60 21 rfl rfl)
theorem dL_law_1550 : decode cL_law 1550 = .ok (.aload_n 1, 1) := dk_43 (dk_at dksL_law_61 0 rfl rfl)
theorem dL_law_1551 : decode cL_law 1551 = .ok (.aload_n 0, 1) := dk_42 (dk_at dksL_law_61 1 rfl rfl)
theorem dL_law_1552 : decode cL_law 1552 = .ok (.iload 4, 2) := dk_21 4 (dk_at dksL_law_61 2 rfl rfl)
theorem dL_law_1554 : decode cL_law 1554 = .ok (.iconst 1, 1) := dk_4 (dk_at dksL_law_61 4 rfl rfl)
theorem dL_law_1555 : decode cL_law 1555 = .ok (.iadd, 1) := dk_96 (dk_at dksL_law_61 5 rfl rfl)
theorem dL_law_1556 : decode cL_law 1556 = .ok (.iaload, 1) := dk_46 (dk_at dksL_law_61 6 rfl rfl)
theorem dL_law_1557 : decode cL_law 1557 = .ok (.aload_n 3, 1) := dk_45 (dk_at dksL_law_61 7 rfl rfl)
theorem dL_law_1558 : decode cL_law 1558 = .ok (.invokestatic 202, 3) := dk_184 0 202 (dk_at dksL_law_61 8 rfl rfl)
theorem dL_law_1561 : decode cL_law 1561 = .ok (.istore 5, 2) := dk_54 5 (dk_at dksL_law_61 11 rfl rfl)
theorem dL_law_1563 : decode cL_law 1563 = .ok (.aload_n 2, 1) := dk_44 (dk_at dksL_law_61 13 rfl rfl)
theorem dL_law_1564 : decode cL_law 1564 = .ok (.aload_n 0, 1) := dk_42 (dk_at dksL_law_61 14 rfl rfl)
theorem dL_law_1565 : decode cL_law 1565 = .ok (.iload 4, 2) := dk_21 4 (dk_at dksL_law_61 15 rfl rfl)
theorem dL_law_1567 : decode cL_law 1567 = .ok (.iconst 1, 1) := dk_4 (dk_at dksL_law_61 17 rfl rfl)
theorem dL_law_1568 : decode cL_law 1568 = .ok (.iadd, 1) := dk_96 (dk_at dksL_law_61 18 rfl rfl)
theorem dL_law_1569 : decode cL_law 1569 = .ok (.iaload, 1) := dk_46 (dk_at dksL_law_61 19 rfl rfl)
theorem dL_law_1570 : decode cL_law 1570 = .ok (.invokevirtual 204, 3) := dk_182 0 204 (dk_at dksL_law_61 20 rfl rfl)
theorem dL_law_1573 : decode cL_law 1573 = .ok (.lstore 6, 2) := dk_55 6 (dk_at dksL_law_62 0 rfl rfl)
theorem dL_law_1575 : decode cL_law 1575 = .ok (.aload_n 2, 1) := dk_44 (dk_at dksL_law_62 2 rfl rfl)
theorem dL_law_1576 : decode cL_law 1576 = .ok (.invokevirtual 116, 3) := dk_182 0 116 (dk_at dksL_law_62 3 rfl rfl)
theorem dL_law_1579 : decode cL_law 1579 = .ok (.iload 5, 2) := dk_21 5 (dk_at dksL_law_62 6 rfl rfl)
theorem dL_law_1581 : decode cL_law 1581 = .ok (.if_icmp .eq 5, 3) := dk_159 0 5 (dk_at dksL_law_62 8 rfl rfl)
theorem dL_law_1584 : decode cL_law 1584 = .ok (.iconst 0, 1) := dk_3 (dk_at dksL_law_62 11 rfl rfl)
theorem dL_law_1585 : decode cL_law 1585 = .ok (.ireturn, 1) := dk_172 (dk_at dksL_law_62 12 rfl rfl)
theorem dL_law_1586 : decode cL_law 1586 = .ok (.iload 5, 2) := dk_21 5 (dk_at dksL_law_62 13 rfl rfl)
theorem dL_law_1588 : decode cL_law 1588 = .ok (.ifCond .ne 14, 3) := dk_154 0 14 (dk_at dksL_law_62 15 rfl rfl)
theorem dL_law_1591 : decode cL_law 1591 = .ok (.aload_n 3, 1) := dk_45 (dk_at dksL_law_62 18 rfl rfl)
theorem dL_law_1592 : decode cL_law 1592 = .ok (.iconst 0, 1) := dk_3 (dk_at dksL_law_62 19 rfl rfl)
theorem dL_law_1593 : decode cL_law 1593 = .ok (.laload, 1) := dk_47 (dk_at dksL_law_62 20 rfl rfl)
theorem dL_law_1594 : decode cL_law 1594 = .ok (.lload 6, 2) := dk_22 6 (dk_at dksL_law_62 21 rfl rfl)
theorem dL_law_1596 : decode cL_law 1596 = .ok (.lcmp, 1) := dk_148 (dk_at dksL_law_62 23 rfl rfl)
theorem dL_law_1597 : decode cL_law 1597 = .ok (.ifCond .eq 5, 3) := dk_153 0 5 (dk_at dksL_law_63 0 rfl rfl)
theorem dL_law_1600 : decode cL_law 1600 = .ok (.iconst 0, 1) := dk_3 (dk_at dksL_law_63 3 rfl rfl)
theorem dL_law_1601 : decode cL_law 1601 = .ok (.ireturn, 1) := dk_172 (dk_at dksL_law_63 4 rfl rfl)
theorem dL_law_1602 : decode cL_law 1602 = .ok (.goto 308, 3) := dk_167 1 52 (dk_at dksL_law_63 5 rfl rfl)
theorem dL_law_1605 : decode cL_law 1605 = .ok (.aload_n 1, 1) := dk_43 (dk_at dksL_law_63 8 rfl rfl)
theorem dL_law_1606 : decode cL_law 1606 = .ok (.aload_n 0, 1) := dk_42 (dk_at dksL_law_63 9 rfl rfl)
theorem dL_law_1607 : decode cL_law 1607 = .ok (.iload 4, 2) := dk_21 4 (dk_at dksL_law_63 10 rfl rfl)
theorem dL_law_1609 : decode cL_law 1609 = .ok (.iconst 1, 1) := dk_4 (dk_at dksL_law_63 12 rfl rfl)
theorem dL_law_1610 : decode cL_law 1610 = .ok (.iadd, 1) := dk_96 (dk_at dksL_law_63 13 rfl rfl)
theorem dL_law_1611 : decode cL_law 1611 = .ok (.iaload, 1) := dk_46 (dk_at dksL_law_63 14 rfl rfl)
theorem dL_law_1612 : decode cL_law 1612 = .ok (.aload_n 3, 1) := dk_45 (dk_at dksL_law_63 15 rfl rfl)
theorem dL_law_1613 : decode cL_law 1613 = .ok (.invokestatic 205, 3) := dk_184 0 205 (dk_at dksL_law_63 16 rfl rfl)
theorem dL_law_1616 : decode cL_law 1616 = .ok (.istore 5, 2) := dk_54 5 (dk_at dksL_law_63 19 rfl rfl)
theorem dL_law_1618 : decode cL_law 1618 = .ok (.aload_n 2, 1) := dk_44 (dk_at dksL_law_63 21 rfl rfl)
theorem dL_law_1619 : decode cL_law 1619 = .ok (.aload_n 0, 1) := dk_42 (dk_at dksL_law_63 22 rfl rfl)
theorem dL_law_1620 : decode cL_law 1620 = .ok (.iload 4, 2) := dk_21 4 (dk_at dksL_law_64 0 rfl rfl)
theorem dL_law_1622 : decode cL_law 1622 = .ok (.iconst 1, 1) := dk_4 (dk_at dksL_law_64 2 rfl rfl)
theorem dL_law_1623 : decode cL_law 1623 = .ok (.iadd, 1) := dk_96 (dk_at dksL_law_64 3 rfl rfl)
theorem dL_law_1624 : decode cL_law 1624 = .ok (.iaload, 1) := dk_46 (dk_at dksL_law_64 4 rfl rfl)
theorem dL_law_1625 : decode cL_law 1625 = .ok (.invokevirtual 207, 3) := dk_182 0 207 (dk_at dksL_law_64 5 rfl rfl)
theorem dL_law_1628 : decode cL_law 1628 = .ok (.lstore 6, 2) := dk_55 6 (dk_at dksL_law_64 8 rfl rfl)
theorem dL_law_1630 : decode cL_law 1630 = .ok (.aload_n 2, 1) := dk_44 (dk_at dksL_law_64 10 rfl rfl)
theorem dL_law_1631 : decode cL_law 1631 = .ok (.invokevirtual 116, 3) := dk_182 0 116 (dk_at dksL_law_64 11 rfl rfl)
theorem dL_law_1634 : decode cL_law 1634 = .ok (.iload 5, 2) := dk_21 5 (dk_at dksL_law_64 14 rfl rfl)
theorem dL_law_1636 : decode cL_law 1636 = .ok (.if_icmp .eq 5, 3) := dk_159 0 5 (dk_at dksL_law_64 16 rfl rfl)
theorem dL_law_1639 : decode cL_law 1639 = .ok (.iconst 0, 1) := dk_3 (dk_at dksL_law_64 19 rfl rfl)
theorem dL_law_1640 : decode cL_law 1640 = .ok (.ireturn, 1) := dk_172 (dk_at dksL_law_64 20 rfl rfl)
theorem dL_law_1641 : decode cL_law 1641 = .ok (.iload 5, 2) := dk_21 5 (dk_at dksL_law_64 21 rfl rfl)
theorem dL_law_1643 : decode cL_law 1643 = .ok (.ifCond .ne 14, 3) := dk_154 0 14 (dk_at dksL_law_65 0 rfl rfl)
theorem dL_law_1646 : decode cL_law 1646 = .ok (.aload_n 3, 1) := dk_45 (dk_at dksL_law_65 3 rfl rfl)
theorem dL_law_1647 : decode cL_law 1647 = .ok (.iconst 0, 1) := dk_3 (dk_at dksL_law_65 4 rfl rfl)
theorem dL_law_1648 : decode cL_law 1648 = .ok (.laload, 1) := dk_47 (dk_at dksL_law_65 5 rfl rfl)
theorem dL_law_1649 : decode cL_law 1649 = .ok (.lload 6, 2) := dk_22 6 (dk_at dksL_law_65 6 rfl rfl)
theorem dL_law_1651 : decode cL_law 1651 = .ok (.lcmp, 1) := dk_148 (dk_at dksL_law_65 8 rfl rfl)
theorem dL_law_1652 : decode cL_law 1652 = .ok (.ifCond .eq 5, 3) := dk_153 0 5 (dk_at dksL_law_65 9 rfl rfl)
theorem dL_law_1655 : decode cL_law 1655 = .ok (.iconst 0, 1) := dk_3 (dk_at dksL_law_65 12 rfl rfl)
theorem dL_law_1656 : decode cL_law 1656 = .ok (.ireturn, 1) := dk_172 (dk_at dksL_law_65 13 rfl rfl)
theorem dL_law_1657 : decode cL_law 1657 = .ok (.goto 253, 3) := dk_167 0 253 (dk_at dksL_law_65 14 rfl rfl)
theorem dL_law_1660 : decode cL_law 1660 = .ok (.aload_n 1, 1) := dk_43 (dk_at dksL_law_65 17 rfl rfl)
theorem dL_law_1661 : decode cL_law 1661 = .ok (.aload_n 0, 1) := dk_42 (dk_at dksL_law_65 18 rfl rfl)
theorem dL_law_1662 : decode cL_law 1662 = .ok (.iload 4, 2) := dk_21 4 (dk_at dksL_law_65 19 rfl rfl)
theorem dL_law_1664 : decode cL_law 1664 = .ok (.iconst 1, 1) := dk_4 (dk_at dksL_law_65 21 rfl rfl)
theorem dL_law_1665 : decode cL_law 1665 = .ok (.iadd, 1) := dk_96 (dk_at dksL_law_65 22 rfl rfl)
theorem dL_law_1666 : decode cL_law 1666 = .ok (.iaload, 1) := dk_46 (dk_at dksL_law_65 23 rfl rfl)
theorem dL_law_1667 : decode cL_law 1667 = .ok (.aload_n 3, 1) := dk_45 (dk_at dksL_law_66 0 rfl rfl)
theorem dL_law_1668 : decode cL_law 1668 = .ok (.invokestatic 208, 3) := dk_184 0 208 (dk_at dksL_law_66 1 rfl rfl)
theorem dL_law_1671 : decode cL_law 1671 = .ok (.istore 5, 2) := dk_54 5 (dk_at dksL_law_66 4 rfl rfl)
theorem dL_law_1673 : decode cL_law 1673 = .ok (.aload_n 2, 1) := dk_44 (dk_at dksL_law_66 6 rfl rfl)
theorem dL_law_1674 : decode cL_law 1674 = .ok (.aload_n 0, 1) := dk_42 (dk_at dksL_law_66 7 rfl rfl)
theorem dL_law_1675 : decode cL_law 1675 = .ok (.iload 4, 2) := dk_21 4 (dk_at dksL_law_66 8 rfl rfl)
theorem dL_law_1677 : decode cL_law 1677 = .ok (.iconst 1, 1) := dk_4 (dk_at dksL_law_66 10 rfl rfl)
theorem dL_law_1678 : decode cL_law 1678 = .ok (.iadd, 1) := dk_96 (dk_at dksL_law_66 11 rfl rfl)
theorem dL_law_1679 : decode cL_law 1679 = .ok (.iaload, 1) := dk_46 (dk_at dksL_law_66 12 rfl rfl)
theorem dL_law_1680 : decode cL_law 1680 = .ok (.invokevirtual 210, 3) := dk_182 0 210 (dk_at dksL_law_66 13 rfl rfl)
theorem dL_law_1683 : decode cL_law 1683 = .ok (.lstore 6, 2) := dk_55 6 (dk_at dksL_law_66 16 rfl rfl)
theorem dL_law_1685 : decode cL_law 1685 = .ok (.aload_n 2, 1) := dk_44 (dk_at dksL_law_66 18 rfl rfl)
theorem dL_law_1686 : decode cL_law 1686 = .ok (.invokevirtual 116, 3) := dk_182 0 116 (dk_at dksL_law_66 19 rfl rfl)
theorem dL_law_1689 : decode cL_law 1689 = .ok (.iload 5, 2) := dk_21 5 (dk_at dksL_law_66 22 rfl rfl)
theorem dL_law_1691 : decode cL_law 1691 = .ok (.if_icmp .eq 5, 3) := dk_159 0 5 (dk_at dksL_law_67 0 rfl rfl)
theorem dL_law_1694 : decode cL_law 1694 = .ok (.iconst 0, 1) := dk_3 (dk_at dksL_law_67 3 rfl rfl)
theorem dL_law_1695 : decode cL_law 1695 = .ok (.ireturn, 1) := dk_172 (dk_at dksL_law_67 4 rfl rfl)
theorem dL_law_1696 : decode cL_law 1696 = .ok (.iload 5, 2) := dk_21 5 (dk_at dksL_law_67 5 rfl rfl)
theorem dL_law_1698 : decode cL_law 1698 = .ok (.ifCond .ne 14, 3) := dk_154 0 14 (dk_at dksL_law_67 7 rfl rfl)
theorem dL_law_1701 : decode cL_law 1701 = .ok (.aload_n 3, 1) := dk_45 (dk_at dksL_law_67 10 rfl rfl)
theorem dL_law_1702 : decode cL_law 1702 = .ok (.iconst 0, 1) := dk_3 (dk_at dksL_law_67 11 rfl rfl)
theorem dL_law_1703 : decode cL_law 1703 = .ok (.laload, 1) := dk_47 (dk_at dksL_law_67 12 rfl rfl)
theorem dL_law_1704 : decode cL_law 1704 = .ok (.lload 6, 2) := dk_22 6 (dk_at dksL_law_67 13 rfl rfl)
theorem dL_law_1706 : decode cL_law 1706 = .ok (.lcmp, 1) := dk_148 (dk_at dksL_law_67 15 rfl rfl)
theorem dL_law_1707 : decode cL_law 1707 = .ok (.ifCond .eq 5, 3) := dk_153 0 5 (dk_at dksL_law_67 16 rfl rfl)
theorem dL_law_1710 : decode cL_law 1710 = .ok (.iconst 0, 1) := dk_3 (dk_at dksL_law_67 19 rfl rfl)
theorem dL_law_1711 : decode cL_law 1711 = .ok (.ireturn, 1) := dk_172 (dk_at dksL_law_67 20 rfl rfl)
theorem dL_law_1712 : decode cL_law 1712 = .ok (.goto 198, 3) := dk_167 0 198 (dk_at dksL_law_67 21 rfl rfl)
theorem dL_law_1715 : decode cL_law 1715 = .ok (.aload_n 1, 1) := dk_43 (dk_at dksL_law_68 0 rfl rfl)
theorem dL_law_1716 : decode cL_law 1716 = .ok (.aload_n 0, 1) := dk_42 (dk_at dksL_law_68 1 rfl rfl)
theorem dL_law_1717 : decode cL_law 1717 = .ok (.iload 4, 2) := dk_21 4 (dk_at dksL_law_68 2 rfl rfl)
theorem dL_law_1719 : decode cL_law 1719 = .ok (.iconst 1, 1) := dk_4 (dk_at dksL_law_68 4 rfl rfl)
theorem dL_law_1720 : decode cL_law 1720 = .ok (.iadd, 1) := dk_96 (dk_at dksL_law_68 5 rfl rfl)
theorem dL_law_1721 : decode cL_law 1721 = .ok (.iaload, 1) := dk_46 (dk_at dksL_law_68 6 rfl rfl)
theorem dL_law_1722 : decode cL_law 1722 = .ok (.aload_n 3, 1) := dk_45 (dk_at dksL_law_68 7 rfl rfl)
theorem dL_law_1723 : decode cL_law 1723 = .ok (.invokestatic 211, 3) := dk_184 0 211 (dk_at dksL_law_68 8 rfl rfl)
theorem dL_law_1726 : decode cL_law 1726 = .ok (.istore 5, 2) := dk_54 5 (dk_at dksL_law_68 11 rfl rfl)
theorem dL_law_1728 : decode cL_law 1728 = .ok (.aload_n 2, 1) := dk_44 (dk_at dksL_law_68 13 rfl rfl)
theorem dL_law_1729 : decode cL_law 1729 = .ok (.aload_n 0, 1) := dk_42 (dk_at dksL_law_68 14 rfl rfl)
theorem dL_law_1730 : decode cL_law 1730 = .ok (.iload 4, 2) := dk_21 4 (dk_at dksL_law_68 15 rfl rfl)
theorem dL_law_1732 : decode cL_law 1732 = .ok (.iconst 1, 1) := dk_4 (dk_at dksL_law_68 17 rfl rfl)
theorem dL_law_1733 : decode cL_law 1733 = .ok (.iadd, 1) := dk_96 (dk_at dksL_law_68 18 rfl rfl)
theorem dL_law_1734 : decode cL_law 1734 = .ok (.iaload, 1) := dk_46 (dk_at dksL_law_68 19 rfl rfl)
theorem dL_law_1735 : decode cL_law 1735 = .ok (.invokevirtual 213, 3) := dk_182 0 213 (dk_at dksL_law_68 20 rfl rfl)
theorem dL_law_1738 : decode cL_law 1738 = .ok (.lstore 6, 2) := dk_55 6 (dk_at dksL_law_69 0 rfl rfl)
theorem dL_law_1740 : decode cL_law 1740 = .ok (.aload_n 2, 1) := dk_44 (dk_at dksL_law_69 2 rfl rfl)
theorem dL_law_1741 : decode cL_law 1741 = .ok (.invokevirtual 116, 3) := dk_182 0 116 (dk_at dksL_law_69 3 rfl rfl)
theorem dL_law_1744 : decode cL_law 1744 = .ok (.iload 5, 2) := dk_21 5 (dk_at dksL_law_69 6 rfl rfl)
theorem dL_law_1746 : decode cL_law 1746 = .ok (.if_icmp .eq 5, 3) := dk_159 0 5 (dk_at dksL_law_69 8 rfl rfl)
theorem dL_law_1749 : decode cL_law 1749 = .ok (.iconst 0, 1) := dk_3 (dk_at dksL_law_69 11 rfl rfl)
theorem dL_law_1750 : decode cL_law 1750 = .ok (.ireturn, 1) := dk_172 (dk_at dksL_law_69 12 rfl rfl)
theorem dL_law_1751 : decode cL_law 1751 = .ok (.iload 5, 2) := dk_21 5 (dk_at dksL_law_69 13 rfl rfl)
theorem dL_law_1753 : decode cL_law 1753 = .ok (.ifCond .ne 14, 3) := dk_154 0 14 (dk_at dksL_law_69 15 rfl rfl)
theorem dL_law_1756 : decode cL_law 1756 = .ok (.aload_n 3, 1) := dk_45 (dk_at dksL_law_69 18 rfl rfl)
theorem dL_law_1757 : decode cL_law 1757 = .ok (.iconst 0, 1) := dk_3 (dk_at dksL_law_69 19 rfl rfl)
theorem dL_law_1758 : decode cL_law 1758 = .ok (.laload, 1) := dk_47 (dk_at dksL_law_69 20 rfl rfl)
theorem dL_law_1759 : decode cL_law 1759 = .ok (.lload 6, 2) := dk_22 6 (dk_at dksL_law_69 21 rfl rfl)
theorem dL_law_1761 : decode cL_law 1761 = .ok (.lcmp, 1) := dk_148 (dk_at dksL_law_69 23 rfl rfl)
theorem dL_law_1762 : decode cL_law 1762 = .ok (.ifCond .eq 5, 3) := dk_153 0 5 (dk_at dksL_law_70 0 rfl rfl)
theorem dL_law_1765 : decode cL_law 1765 = .ok (.iconst 0, 1) := dk_3 (dk_at dksL_law_70 3 rfl rfl)
theorem dL_law_1766 : decode cL_law 1766 = .ok (.ireturn, 1) := dk_172 (dk_at dksL_law_70 4 rfl rfl)
theorem dL_law_1767 : decode cL_law 1767 = .ok (.goto 143, 3) := dk_167 0 143 (dk_at dksL_law_70 5 rfl rfl)
theorem dL_law_1770 : decode cL_law 1770 = .ok (.aload_n 1, 1) := dk_43 (dk_at dksL_law_70 8 rfl rfl)
theorem dL_law_1771 : decode cL_law 1771 = .ok (.aload_n 0, 1) := dk_42 (dk_at dksL_law_70 9 rfl rfl)
theorem dL_law_1772 : decode cL_law 1772 = .ok (.iload 4, 2) := dk_21 4 (dk_at dksL_law_70 10 rfl rfl)
theorem dL_law_1774 : decode cL_law 1774 = .ok (.iconst 1, 1) := dk_4 (dk_at dksL_law_70 12 rfl rfl)
theorem dL_law_1775 : decode cL_law 1775 = .ok (.iadd, 1) := dk_96 (dk_at dksL_law_70 13 rfl rfl)
theorem dL_law_1776 : decode cL_law 1776 = .ok (.iaload, 1) := dk_46 (dk_at dksL_law_70 14 rfl rfl)
theorem dL_law_1777 : decode cL_law 1777 = .ok (.aload_n 3, 1) := dk_45 (dk_at dksL_law_70 15 rfl rfl)
theorem dL_law_1778 : decode cL_law 1778 = .ok (.invokestatic 214, 3) := dk_184 0 214 (dk_at dksL_law_70 16 rfl rfl)
theorem dL_law_1781 : decode cL_law 1781 = .ok (.istore 5, 2) := dk_54 5 (dk_at dksL_law_70 19 rfl rfl)
theorem dL_law_1783 : decode cL_law 1783 = .ok (.aload_n 2, 1) := dk_44 (dk_at dksL_law_70 21 rfl rfl)
theorem dL_law_1784 : decode cL_law 1784 = .ok (.aload_n 0, 1) := dk_42 (dk_at dksL_law_70 22 rfl rfl)
theorem dL_law_1785 : decode cL_law 1785 = .ok (.iload 4, 2) := dk_21 4 (dk_at dksL_law_71 0 rfl rfl)
theorem dL_law_1787 : decode cL_law 1787 = .ok (.iconst 1, 1) := dk_4 (dk_at dksL_law_71 2 rfl rfl)
theorem dL_law_1788 : decode cL_law 1788 = .ok (.iadd, 1) := dk_96 (dk_at dksL_law_71 3 rfl rfl)
theorem dL_law_1789 : decode cL_law 1789 = .ok (.iaload, 1) := dk_46 (dk_at dksL_law_71 4 rfl rfl)
theorem dL_law_1790 : decode cL_law 1790 = .ok (.invokevirtual 216, 3) := dk_182 0 216 (dk_at dksL_law_71 5 rfl rfl)
theorem dL_law_1793 : decode cL_law 1793 = .ok (.istore 6, 2) := dk_54 6 (dk_at dksL_law_71 8 rfl rfl)
theorem dL_law_1795 : decode cL_law 1795 = .ok (.aload_n 2, 1) := dk_44 (dk_at dksL_law_71 10 rfl rfl)
theorem dL_law_1796 : decode cL_law 1796 = .ok (.invokevirtual 116, 3) := dk_182 0 116 (dk_at dksL_law_71 11 rfl rfl)
theorem dL_law_1799 : decode cL_law 1799 = .ok (.iload 5, 2) := dk_21 5 (dk_at dksL_law_71 14 rfl rfl)
theorem dL_law_1801 : decode cL_law 1801 = .ok (.if_icmp .eq 5, 3) := dk_159 0 5 (dk_at dksL_law_71 16 rfl rfl)
theorem dL_law_1804 : decode cL_law 1804 = .ok (.iconst 0, 1) := dk_3 (dk_at dksL_law_71 19 rfl rfl)
theorem dL_law_1805 : decode cL_law 1805 = .ok (.ireturn, 1) := dk_172 (dk_at dksL_law_71 20 rfl rfl)
theorem dL_law_1806 : decode cL_law 1806 = .ok (.iload 5, 2) := dk_21 5 (dk_at dksL_law_71 21 rfl rfl)
theorem dL_law_1808 : decode cL_law 1808 = .ok (.ifCond .ne 15, 3) := dk_154 0 15 (dk_at dksL_law_72 0 rfl rfl)
theorem dL_law_1811 : decode cL_law 1811 = .ok (.aload_n 3, 1) := dk_45 (dk_at dksL_law_72 3 rfl rfl)
theorem dL_law_1812 : decode cL_law 1812 = .ok (.iconst 0, 1) := dk_3 (dk_at dksL_law_72 4 rfl rfl)
theorem dL_law_1813 : decode cL_law 1813 = .ok (.laload, 1) := dk_47 (dk_at dksL_law_72 5 rfl rfl)
theorem dL_law_1814 : decode cL_law 1814 = .ok (.iload 6, 2) := dk_21 6 (dk_at dksL_law_72 6 rfl rfl)
theorem dL_law_1816 : decode cL_law 1816 = .ok (.i2l, 1) := dk_133 (dk_at dksL_law_72 8 rfl rfl)
theorem dL_law_1817 : decode cL_law 1817 = .ok (.lcmp, 1) := dk_148 (dk_at dksL_law_72 9 rfl rfl)
theorem dL_law_1818 : decode cL_law 1818 = .ok (.ifCond .eq 5, 3) := dk_153 0 5 (dk_at dksL_law_72 10 rfl rfl)
theorem dL_law_1821 : decode cL_law 1821 = .ok (.iconst 0, 1) := dk_3 (dk_at dksL_law_72 13 rfl rfl)
theorem dL_law_1822 : decode cL_law 1822 = .ok (.ireturn, 1) := dk_172 (dk_at dksL_law_72 14 rfl rfl)
theorem dL_law_1823 : decode cL_law 1823 = .ok (.goto 87, 3) := dk_167 0 87 (dk_at dksL_law_72 15 rfl rfl)
theorem dL_law_1826 : decode cL_law 1826 = .ok (.aload_n 1, 1) := dk_43 (dk_at dksL_law_72 18 rfl rfl)
theorem dL_law_1827 : decode cL_law 1827 = .ok (.invokevirtual 217, 3) := dk_182 0 217 (dk_at dksL_law_72 19 rfl rfl)
theorem dL_law_1830 : decode cL_law 1830 = .ok (.f2d, 1) := dk_141 (dk_at dksL_law_72 22 rfl rfl)
theorem dL_law_1831 : decode cL_law 1831 = .ok (.dstore 5, 2) := dk_57 5 (dk_at dksL_law_73 0 rfl rfl)
theorem dL_law_1833 : decode cL_law 1833 = .ok (.aload_n 2, 1) := dk_44 (dk_at dksL_law_73 2 rfl rfl)
theorem dL_law_1834 : decode cL_law 1834 = .ok (.invokevirtual 221, 3) := dk_182 0 221 (dk_at dksL_law_73 3 rfl rfl)
theorem dL_law_1837 : decode cL_law 1837 = .ok (.f2d, 1) := dk_141 (dk_at dksL_law_73 6 rfl rfl)
theorem dL_law_1838 : decode cL_law 1838 = .ok (.dstore 7, 2) := dk_57 7 (dk_at dksL_law_73 7 rfl rfl)
theorem dL_law_1840 : decode cL_law 1840 = .ok (.dload 5, 2) := dk_24 5 (dk_at dksL_law_73 9 rfl rfl)
theorem dL_law_1842 : decode cL_law 1842 = .ok (.dload 7, 2) := dk_24 7 (dk_at dksL_law_73 11 rfl rfl)
theorem dL_law_1844 : decode cL_law 1844 = .ok (.dcmp .l, 1) := dk_151 (dk_at dksL_law_73 13 rfl rfl)
theorem dL_law_1845 : decode cL_law 1845 = .ok (.ifCond .eq 21, 3) := dk_153 0 21 (dk_at dksL_law_73 14 rfl rfl)
theorem dL_law_1848 : decode cL_law 1848 = .ok (.dload 5, 2) := dk_24 5 (dk_at dksL_law_73 17 rfl rfl)
theorem dL_law_1850 : decode cL_law 1850 = .ok (.dload 5, 2) := dk_24 5 (dk_at dksL_law_73 19 rfl rfl)
theorem dL_law_1852 : decode cL_law 1852 = .ok (.dcmp .l, 1) := dk_151 (dk_at dksL_law_73 21 rfl rfl)
theorem dL_law_1853 : decode cL_law 1853 = .ok (.ifCond .eq 11, 3) := dk_153 0 11 (dk_at dksL_law_74 0 rfl rfl)
theorem dL_law_1856 : decode cL_law 1856 = .ok (.dload 7, 2) := dk_24 7 (dk_at dksL_law_74 3 rfl rfl)
theorem dL_law_1858 : decode cL_law 1858 = .ok (.dload 7, 2) := dk_24 7 (dk_at dksL_law_74 5 rfl rfl)
theorem dL_law_1860 : decode cL_law 1860 = .ok (.dcmp .l, 1) := dk_151 (dk_at dksL_law_74 7 rfl rfl)
theorem dL_law_1861 : decode cL_law 1861 = .ok (.ifCond .ne 5, 3) := dk_154 0 5 (dk_at dksL_law_74 8 rfl rfl)
theorem dL_law_1864 : decode cL_law 1864 = .ok (.iconst 0, 1) := dk_3 (dk_at dksL_law_74 11 rfl rfl)
theorem dL_law_1865 : decode cL_law 1865 = .ok (.ireturn, 1) := dk_172 (dk_at dksL_law_74 12 rfl rfl)
theorem dL_law_1866 : decode cL_law 1866 = .ok (.goto 44, 3) := dk_167 0 44 (dk_at dksL_law_74 13 rfl rfl)
theorem dL_law_1869 : decode cL_law 1869 = .ok (.aload_n 1, 1) := dk_43 (dk_at dksL_law_74 16 rfl rfl)
theorem dL_law_1870 : decode cL_law 1870 = .ok (.invokevirtual 222, 3) := dk_182 0 222 (dk_at dksL_law_74 17 rfl rfl)
theorem dL_law_1873 : decode cL_law 1873 = .ok (.dstore 5, 2) := dk_57 5 (dk_at dksL_law_74 20 rfl rfl)
theorem dL_law_1875 : decode cL_law 1875 = .ok (.aload_n 2, 1) := dk_44 (dk_at dksL_law_74 22 rfl rfl)
theorem dL_law_1876 : decode cL_law 1876 = .ok (.invokevirtual 226, 3) := dk_182 0 226 (dk_at dksL_law_75 0 rfl rfl)
theorem dL_law_1879 : decode cL_law 1879 = .ok (.dstore 7, 2) := dk_57 7 (dk_at dksL_law_75 3 rfl rfl)
theorem dL_law_1881 : decode cL_law 1881 = .ok (.dload 5, 2) := dk_24 5 (dk_at dksL_law_75 5 rfl rfl)
theorem dL_law_1883 : decode cL_law 1883 = .ok (.dload 7, 2) := dk_24 7 (dk_at dksL_law_75 7 rfl rfl)
theorem dL_law_1885 : decode cL_law 1885 = .ok (.dcmp .l, 1) := dk_151 (dk_at dksL_law_75 9 rfl rfl)
theorem dL_law_1886 : decode cL_law 1886 = .ok (.ifCond .eq 21, 3) := dk_153 0 21 (dk_at dksL_law_75 10 rfl rfl)
theorem dL_law_1889 : decode cL_law 1889 = .ok (.dload 5, 2) := dk_24 5 (dk_at dksL_law_75 13 rfl rfl)
theorem dL_law_1891 : decode cL_law 1891 = .ok (.dload 5, 2) := dk_24 5 (dk_at dksL_law_75 15 rfl rfl)
theorem dL_law_1893 : decode cL_law 1893 = .ok (.dcmp .l, 1) := dk_151 (dk_at dksL_law_75 17 rfl rfl)
theorem dL_law_1894 : decode cL_law 1894 = .ok (.ifCond .eq 11, 3) := dk_153 0 11 (dk_at dksL_law_75 18 rfl rfl)
theorem dL_law_1897 : decode cL_law 1897 = .ok (.dload 7, 2) := dk_24 7 (dk_at dksL_law_75 21 rfl rfl)
theorem dL_law_1899 : decode cL_law 1899 = .ok (.dload 7, 2) := dk_24 7 (dk_at dksL_law_76 0 rfl rfl)
theorem dL_law_1901 : decode cL_law 1901 = .ok (.dcmp .l, 1) := dk_151 (dk_at dksL_law_76 2 rfl rfl)
theorem dL_law_1902 : decode cL_law 1902 = .ok (.ifCond .ne 5, 3) := dk_154 0 5 (dk_at dksL_law_76 3 rfl rfl)
theorem dL_law_1905 : decode cL_law 1905 = .ok (.iconst 0, 1) := dk_3 (dk_at dksL_law_76 6 rfl rfl)
theorem dL_law_1906 : decode cL_law 1906 = .ok (.ireturn, 1) := dk_172 (dk_at dksL_law_76 7 rfl rfl)
theorem dL_law_1907 : decode cL_law 1907 = .ok (.goto 3, 3) := dk_167 0 3 (dk_at dksL_law_76 8 rfl rfl)
theorem dL_law_1910 : decode cL_law 1910 = .ok (.iinc 4 4, 3) := dk_132 4 4 (dk_at dksL_law_76 11 rfl rfl)
theorem dL_law_1913 : decode cL_law 1913 = .ok (.goto (-1890), 3) := dk_167 248 158 (dk_at dksL_law_76 14 rfl rfl)
theorem dL_law_1916 : decode cL_law 1916 = .ok (.iconst 1, 1) := dk_4 (dk_at dksL_law_76 17 rfl rfl)
theorem dL_law_1917 : decode cL_law 1917 = .ok (.ireturn, 1) := dk_172 (dk_at dksL_law_76 18 rfl rfl)

