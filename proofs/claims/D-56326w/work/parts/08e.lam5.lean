/-! ===== lambdas, 5: the sites of this program ===== -/
def wsh : Cond → Lambda.Shape
  | .lambdaSite _ _ _ σ => σ
  | _ => default
def fb0 : List UInt8 := [42, 180, 0, 15, 27, 28, 182, 0, 22, 172]
theorem fd0_0 : decode ⟨fb0.toArray⟩ 0 = .ok (.aload_n 0, 1) := by decide +kernel
theorem fd0_1 : decode ⟨fb0.toArray⟩ 1 = .ok (.getfield 15, 3) := by decide +kernel
theorem fd0_4 : decode ⟨fb0.toArray⟩ 4 = .ok (.iload_n 1, 1) := by decide +kernel
theorem fd0_5 : decode ⟨fb0.toArray⟩ 5 = .ok (.iload_n 2, 1) := by decide +kernel
theorem fd0_6 : decode ⟨fb0.toArray⟩ 6 = .ok (.invokevirtual 22, 3) := by decide +kernel
theorem fd0_9 : decode ⟨fb0.toArray⟩ 9 = .ok (.ireturn, 1) := by decide +kernel
def fb1 : List UInt8 := [42, 180, 0, 18, 42, 180, 0, 20, 42, 180, 0, 22, 43, 184, 0, 30, 172]
theorem fd1_0 : decode ⟨fb1.toArray⟩ 0 = .ok (.aload_n 0, 1) := by decide +kernel
theorem fd1_1 : decode ⟨fb1.toArray⟩ 1 = .ok (.getfield 18, 3) := by decide +kernel
theorem fd1_4 : decode ⟨fb1.toArray⟩ 4 = .ok (.aload_n 0, 1) := by decide +kernel
theorem fd1_5 : decode ⟨fb1.toArray⟩ 5 = .ok (.getfield 20, 3) := by decide +kernel
theorem fd1_8 : decode ⟨fb1.toArray⟩ 8 = .ok (.aload_n 0, 1) := by decide +kernel
theorem fd1_9 : decode ⟨fb1.toArray⟩ 9 = .ok (.getfield 22, 3) := by decide +kernel
theorem fd1_12 : decode ⟨fb1.toArray⟩ 12 = .ok (.aload_n 1, 1) := by decide +kernel
theorem fd1_13 : decode ⟨fb1.toArray⟩ 13 = .ok (.invokestatic 30, 3) := by decide +kernel
theorem fd1_16 : decode ⟨fb1.toArray⟩ 16 = .ok (.ireturn, 1) := by decide +kernel
def fb2 : List UInt8 := [42, 180, 0, 15, 43, 184, 0, 23, 172]
theorem fd2_0 : decode ⟨fb2.toArray⟩ 0 = .ok (.aload_n 0, 1) := by decide +kernel
theorem fd2_1 : decode ⟨fb2.toArray⟩ 1 = .ok (.getfield 15, 3) := by decide +kernel
theorem fd2_4 : decode ⟨fb2.toArray⟩ 4 = .ok (.aload_n 1, 1) := by decide +kernel
theorem fd2_5 : decode ⟨fb2.toArray⟩ 5 = .ok (.invokestatic 23, 3) := by decide +kernel
theorem fd2_8 : decode ⟨fb2.toArray⟩ 8 = .ok (.ireturn, 1) := by decide +kernel
def fb3 : List UInt8 := [42, 180, 0, 16, 42, 180, 0, 18, 43, 184, 0, 26, 172]
theorem fd3_0 : decode ⟨fb3.toArray⟩ 0 = .ok (.aload_n 0, 1) := by decide +kernel
theorem fd3_1 : decode ⟨fb3.toArray⟩ 1 = .ok (.getfield 16, 3) := by decide +kernel
theorem fd3_4 : decode ⟨fb3.toArray⟩ 4 = .ok (.aload_n 0, 1) := by decide +kernel
theorem fd3_5 : decode ⟨fb3.toArray⟩ 5 = .ok (.getfield 18, 3) := by decide +kernel
theorem fd3_8 : decode ⟨fb3.toArray⟩ 8 = .ok (.aload_n 1, 1) := by decide +kernel
theorem fd3_9 : decode ⟨fb3.toArray⟩ 9 = .ok (.invokestatic 26, 3) := by decide +kernel
theorem fd3_12 : decode ⟨fb3.toArray⟩ 12 = .ok (.ireturn, 1) := by decide +kernel
def fb4 : List UInt8 := [43, 184, 0, 17, 172]
theorem fd4_0 : decode ⟨fb4.toArray⟩ 0 = .ok (.aload_n 1, 1) := by decide +kernel
theorem fd4_1 : decode ⟨fb4.toArray⟩ 1 = .ok (.invokestatic 17, 3) := by decide +kernel
theorem fd4_4 : decode ⟨fb4.toArray⟩ 4 = .ok (.ireturn, 1) := by decide +kernel
def fb5 : List UInt8 := [42, 180, 0, 17, 42, 180, 0, 19, 43, 184, 0, 27, 172]
theorem fd5_0 : decode ⟨fb5.toArray⟩ 0 = .ok (.aload_n 0, 1) := by decide +kernel
theorem fd5_1 : decode ⟨fb5.toArray⟩ 1 = .ok (.getfield 17, 3) := by decide +kernel
theorem fd5_4 : decode ⟨fb5.toArray⟩ 4 = .ok (.aload_n 0, 1) := by decide +kernel
theorem fd5_5 : decode ⟨fb5.toArray⟩ 5 = .ok (.getfield 19, 3) := by decide +kernel
theorem fd5_8 : decode ⟨fb5.toArray⟩ 8 = .ok (.aload_n 1, 1) := by decide +kernel
theorem fd5_9 : decode ⟨fb5.toArray⟩ 9 = .ok (.invokestatic 27, 3) := by decide +kernel
theorem fd5_12 : decode ⟨fb5.toArray⟩ 12 = .ok (.ireturn, 1) := by decide +kernel
def fb6 : List UInt8 := [42, 180, 0, 17, 42, 180, 0, 19, 42, 180, 0, 21, 43, 184, 0, 29, 172]
theorem fd6_0 : decode ⟨fb6.toArray⟩ 0 = .ok (.aload_n 0, 1) := by decide +kernel
theorem fd6_1 : decode ⟨fb6.toArray⟩ 1 = .ok (.getfield 17, 3) := by decide +kernel
theorem fd6_4 : decode ⟨fb6.toArray⟩ 4 = .ok (.aload_n 0, 1) := by decide +kernel
theorem fd6_5 : decode ⟨fb6.toArray⟩ 5 = .ok (.getfield 19, 3) := by decide +kernel
theorem fd6_8 : decode ⟨fb6.toArray⟩ 8 = .ok (.aload_n 0, 1) := by decide +kernel
theorem fd6_9 : decode ⟨fb6.toArray⟩ 9 = .ok (.getfield 21, 3) := by decide +kernel
theorem fd6_12 : decode ⟨fb6.toArray⟩ 12 = .ok (.aload_n 1, 1) := by decide +kernel
theorem fd6_13 : decode ⟨fb6.toArray⟩ 13 = .ok (.invokestatic 29, 3) := by decide +kernel
theorem fd6_16 : decode ⟨fb6.toArray⟩ 16 = .ok (.ireturn, 1) := by decide +kernel
def fb7 : List UInt8 := [42, 180, 0, 15, 43, 182, 0, 22, 172]
theorem fd7_0 : decode ⟨fb7.toArray⟩ 0 = .ok (.aload_n 0, 1) := by decide +kernel
theorem fd7_1 : decode ⟨fb7.toArray⟩ 1 = .ok (.getfield 15, 3) := by decide +kernel
theorem fd7_4 : decode ⟨fb7.toArray⟩ 4 = .ok (.aload_n 1, 1) := by decide +kernel
theorem fd7_5 : decode ⟨fb7.toArray⟩ 5 = .ok (.invokevirtual 22, 3) := by decide +kernel
theorem fd7_8 : decode ⟨fb7.toArray⟩ 8 = .ok (.ireturn, 1) := by decide +kernel
theorem lk_1 : LKok (wsh siteWord_1_1) "ClockworkTailor$Book" fb0 3 .boolean [(.object "ClockworkTailor$Book")] [(15, 2, 14, "arg$1", "LClockworkTailor$Book;")] 22 19 18 21 = true := by decide +kernel
theorem lk_2 : LKok (wsh siteWord_1_2) "ClockworkTailor$Book" fb0 3 .boolean [(.object "ClockworkTailor$Book")] [(15, 2, 14, "arg$1", "LClockworkTailor$Book;")] 22 19 18 21 = true := by decide +kernel
theorem lk_3 : LKok (wsh siteWord_1_3) "ClockworkTailor" fb1 2 .int [.char, .char, .int] [(18, 2, 17, "arg$1", "C"), (20, 2, 19, "arg$2", "C"), (22, 2, 21, "arg$3", "I")] 30 26 25 29 = true := by decide +kernel
theorem lk_4 : LKok (wsh siteWord_1_4) "ClockworkTailor" fb2 2 .int [.char] [(15, 2, 14, "arg$1", "C")] 23 19 18 22 = true := by decide +kernel
theorem lk_5 : LKok (wsh siteWord_1_5) "ClockworkTailor" fb1 2 .int [.char, .char, .boolean] [(18, 2, 17, "arg$1", "C"), (20, 2, 19, "arg$2", "C"), (22, 2, 21, "arg$3", "Z")] 30 26 25 29 = true := by decide +kernel
theorem lk_6 : LKok (wsh siteWord_1_6) "ClockworkTailor" fb3 2 .int [.char, .char] [(16, 2, 15, "arg$1", "C"), (18, 2, 17, "arg$2", "C")] 26 22 21 25 = true := by decide +kernel
theorem lk_7 : LKok (wsh siteWord_1_7) "ClockworkTailor" fb3 2 .int [.char, .char] [(16, 2, 15, "arg$1", "C"), (18, 2, 17, "arg$2", "C")] 26 22 21 25 = true := by decide +kernel
theorem lk_8 : LKok (wsh siteWord_1_8) "ClockworkTailor" fb2 2 .int [.char] [(15, 2, 14, "arg$1", "C")] 23 19 18 22 = true := by decide +kernel
theorem lk_9 : LKok (wsh siteWord_1_9) "ClockworkTailor" fb4 2 .int [] [] 17 14 13 16 = true := by decide +kernel
theorem lk_10 : LKok (wsh siteWord_1_10) "ClockworkTailor" fb2 2 .int [.int] [(15, 2, 14, "arg$1", "I")] 23 19 18 22 = true := by decide +kernel
theorem lk_11 : LKok (wsh siteWord_1_11) "ClockworkTailor" fb5 2 .int [.char, .int] [(17, 2, 16, "arg$1", "C"), (19, 2, 18, "arg$2", "I")] 27 23 22 26 = true := by decide +kernel
theorem lk_12 : LKok (wsh siteWord_1_12) "ClockworkTailor" fb6 2 .int [.int, .int, .int] [(17, 2, 16, "arg$1", "I"), (19, 2, 18, "arg$2", "I"), (21, 2, 20, "arg$3", "I")] 29 25 24 28 = true := by decide +kernel
theorem lk_13 : LKok (wsh siteWord_1_13) "ClockworkTailor$Parser" fb1 2 .int [.char, .char, .int] [(18, 2, 17, "arg$1", "C"), (20, 2, 19, "arg$2", "C"), (22, 2, 21, "arg$3", "I")] 30 26 25 29 = true := by decide +kernel
theorem lk_14 : LKok (wsh siteWord_1_14) "ClockworkTailor$Parser" fb2 2 .int [.char] [(15, 2, 14, "arg$1", "C")] 23 19 18 22 = true := by decide +kernel
theorem lk_15 : LKok (wsh siteWord_1_15) "ClockworkTailor$Parser" fb1 2 .int [.char, .char, .boolean] [(18, 2, 17, "arg$1", "C"), (20, 2, 19, "arg$2", "C"), (22, 2, 21, "arg$3", "Z")] 30 26 25 29 = true := by decide +kernel
theorem lk_16 : LKok (wsh siteWord_1_16) "ClockworkTailor$Parser" fb2 2 .int [.int] [(15, 2, 14, "arg$1", "I")] 23 19 18 22 = true := by decide +kernel
theorem lk_17 : LKok (wsh siteWord_1_17) "ClockworkTailor$Parser" fb3 2 .int [.char, .char] [(16, 2, 15, "arg$1", "C"), (18, 2, 17, "arg$2", "C")] 26 22 21 25 = true := by decide +kernel
theorem lk_18 : LKok (wsh siteWord_1_18) "ClockworkTailor$Parser" fb3 2 .int [.char, .char] [(16, 2, 15, "arg$1", "C"), (18, 2, 17, "arg$2", "C")] 26 22 21 25 = true := by decide +kernel
theorem lk_19 : LKok (wsh siteWord_1_19) "ClockworkTailor$Parser" fb2 2 .int [.char] [(15, 2, 14, "arg$1", "C")] 23 19 18 22 = true := by decide +kernel
theorem lk_20 : LKok (wsh siteWord_1_20) "ClockworkTailor$Parser" fb4 2 .int [] [] 17 14 13 16 = true := by decide +kernel
theorem lk_21 : LKok (wsh siteWord_1_21) "ClockworkTailor$Parser" fb5 2 .int [.char, .int] [(17, 2, 16, "arg$1", "C"), (19, 2, 18, "arg$2", "I")] 27 23 22 26 = true := by decide +kernel
theorem lk_22 : LKok (wsh siteWord_1_22) "ClockworkTailor$Parser" fb6 2 .int [.int, .int, .int] [(17, 2, 16, "arg$1", "I"), (19, 2, 18, "arg$2", "I"), (21, 2, 20, "arg$3", "I")] 29 25 24 28 = true := by decide +kernel
theorem lk_23 : LKok (wsh siteWord_1_23) "ClockworkTailor" fb7 2 .int [(.object "ClockworkTailor")] [(15, 2, 14, "arg$1", "LClockworkTailor;")] 22 19 18 21 = true := by decide +kernel
