/-! FewerManModel -/
set_option maxRecDepth 100000
def RX4 : String := "FewerManModel"
def TX4 : u_T := fun k => match k with
  | 0 => ("FewerManModel", "thrown", "I", false)
  | 1 => ("FewerManModel", "s", "[I", true)
  | 2 => ("FewerManModel", "image", "[I", true)
  | 3 => ("FewerManModel", "frame", "[I", true)
  | 4 => ("FewerManModel", "hasImage", "Z", false)
  | 5 => ("FewerManModel", "act", "I", false)
  | 6 => ("FewerManModel", "spot", "I", false)
  | 7 => ("FewerManModel", "end", "I", false)
  | 8 => ("FewerManModel", "isWrong", "Z", false)
  | 9 => ("FewerManModel", "open", "I", false)
  | 10 => ("FewerManModel", "by", "[I", true)
  | 11 => ("FewerManModel", "truths", "[Z", true)
  | 12 => ("FewerManModel", "often", "[J", false)
  | 13 => ("FewerManModel", "then", "[J", false)
  | 14 => ("FewerManModel", "paid", "J", false)
  | 15 => ("FewerManModel", "isLost", "Z", false)
  | 16 => ("FewerManModel", "order", "[I", true)
  | 17 => ("FewerManModel", "bestOrder", "[I", true)
  | 18 => ("FewerManModel", "bestWon", "J", false)
  | 19 => ("FewerManModel", "bodies", "[I", true)
  | 20 => ("FewerManModel", "ran", "I", false)
  | 21 => ("FewerManModel", "kind", "I", false)
  | 22 => ("FewerManModel", "number", "I", false)
  | _ => ("FewerManModel", "tellsV", "I", false)
def tyX4 : Nat → FieldType := fun k => match k with
  | 0 => .int
  | 1 => .array .int
  | 2 => .array .int
  | 3 => .array .int
  | 4 => .boolean
  | 5 => .int
  | 6 => .int
  | 7 => .int
  | 8 => .boolean
  | 9 => .int
  | 10 => .array .int
  | 11 => .array .boolean
  | 12 => .array .long
  | 13 => .array .long
  | 14 => .long
  | 15 => .boolean
  | 16 => .array .int
  | 17 => .array .int
  | 18 => .long
  | 19 => .array .int
  | 20 => .int
  | 21 => .int
  | 22 => .int
  | _ => .int
abbrev wsX40 : List Cond := u_ws RX4 TX4 24
set_option maxRecDepth 100000 in
theorem nmX4 : ∀ a, a < 24 → ∀ b, b < 24 → a ≠ b → (TX4 a).2.1 ≠ (TX4 b).2.1 := by decide +kernel
set_option maxRecDepth 100000 in
theorem tyX4_ok : ∀ k, k < 24 → parseFieldDescriptor (TX4 k).2.2.1 = some (tyX4 k) := by decide +kernel
abbrev cX4_init : ByteArray := prog_19_method_1_code
def yX4_init : MethodName := ⟨RX4, "<init>", "()V"⟩
def dkwX4_init_3 : List UInt8 := [42, 7, 188, 10, 181, 0, 38, 42, 16, 20, 188, 10, 181, 0, 41, 42, 180, 0, 9, 16, 11, 2, 79, 177]
abbrev dktX4_init_3 : List UInt8 := dkwX4_init_3 ++ []
def dkwX4_init_2 : List UInt8 := [17, 22, 101, 188, 11, 181, 0, 28, 42, 17, 22, 101, 188, 11, 181, 0, 32, 42, 7, 188, 10, 181, 0, 35]
abbrev dktX4_init_2 : List UInt8 := dkwX4_init_2 ++ dktX4_init_3
def dkwX4_init_1 : List UInt8 := [16, 6, 188, 10, 181, 0, 18, 42, 8, 188, 10, 181, 0, 21, 42, 16, 64, 188, 4, 181, 0, 24, 42]
abbrev dktX4_init_1 : List UInt8 := dkwX4_init_1 ++ dktX4_init_2
def dkwX4_init_0 : List UInt8 := [42, 183, 0, 3, 42, 17, 3, 121, 188, 10, 181, 0, 9, 42, 17, 3, 121, 188, 10, 181, 0, 15, 42]
abbrev dktX4_init_0 : List UInt8 := dkwX4_init_0 ++ dktX4_init_1
theorem dksX4_init_0 : cX4_init.data.toList.drop 0 = dktX4_init_0 := by decide +kernel
theorem dksX4_init_1 : cX4_init.data.toList.drop 23 = dktX4_init_1 := dk_seg dksX4_init_0 23 rfl rfl
theorem dksX4_init_2 : cX4_init.data.toList.drop 46 = dktX4_init_2 := dk_seg dksX4_init_1 23 rfl rfl
theorem dksX4_init_3 : cX4_init.data.toList.drop 70 = dktX4_init_3 := dk_seg dksX4_init_2 24 rfl rfl
theorem dX4_init_0 : decode cX4_init 0 = .ok (.aload_n 0, 1) := dk_42 (dk_at dksX4_init_0 0 rfl rfl)
theorem dX4_init_1 : decode cX4_init 1 = .ok (.invokespecial 3, 3) := dk_183 0 3 (dk_at dksX4_init_0 1 rfl rfl)
theorem dX4_init_4 : decode cX4_init 4 = .ok (.aload_n 0, 1) := dk_42 (dk_at dksX4_init_0 4 rfl rfl)
theorem dX4_init_5 : decode cX4_init 5 = .ok (.sipush 889, 3) := dk_17 3 121 (dk_at dksX4_init_0 5 rfl rfl)
theorem dX4_init_8 : decode cX4_init 8 = .ok (.newarray .int, 2) := dk_188_10 (dk_at dksX4_init_0 8 rfl rfl)
theorem dX4_init_10 : decode cX4_init 10 = .ok (.putfield 9, 3) := dk_181 0 9 (dk_at dksX4_init_0 10 rfl rfl)
theorem dX4_init_13 : decode cX4_init 13 = .ok (.aload_n 0, 1) := dk_42 (dk_at dksX4_init_0 13 rfl rfl)
theorem dX4_init_14 : decode cX4_init 14 = .ok (.sipush 889, 3) := dk_17 3 121 (dk_at dksX4_init_0 14 rfl rfl)
theorem dX4_init_17 : decode cX4_init 17 = .ok (.newarray .int, 2) := dk_188_10 (dk_at dksX4_init_0 17 rfl rfl)
theorem dX4_init_19 : decode cX4_init 19 = .ok (.putfield 15, 3) := dk_181 0 15 (dk_at dksX4_init_0 19 rfl rfl)
theorem dX4_init_22 : decode cX4_init 22 = .ok (.aload_n 0, 1) := dk_42 (dk_at dksX4_init_0 22 rfl rfl)
theorem dX4_init_23 : decode cX4_init 23 = .ok (.bipush 6, 2) := dk_16 6 (dk_at dksX4_init_1 0 rfl rfl)
theorem dX4_init_25 : decode cX4_init 25 = .ok (.newarray .int, 2) := dk_188_10 (dk_at dksX4_init_1 2 rfl rfl)
theorem dX4_init_27 : decode cX4_init 27 = .ok (.putfield 18, 3) := dk_181 0 18 (dk_at dksX4_init_1 4 rfl rfl)
theorem dX4_init_30 : decode cX4_init 30 = .ok (.aload_n 0, 1) := dk_42 (dk_at dksX4_init_1 7 rfl rfl)
theorem dX4_init_31 : decode cX4_init 31 = .ok (.iconst 5, 1) := dk_8 (dk_at dksX4_init_1 8 rfl rfl)
theorem dX4_init_32 : decode cX4_init 32 = .ok (.newarray .int, 2) := dk_188_10 (dk_at dksX4_init_1 9 rfl rfl)
theorem dX4_init_34 : decode cX4_init 34 = .ok (.putfield 21, 3) := dk_181 0 21 (dk_at dksX4_init_1 11 rfl rfl)
theorem dX4_init_37 : decode cX4_init 37 = .ok (.aload_n 0, 1) := dk_42 (dk_at dksX4_init_1 14 rfl rfl)
theorem dX4_init_38 : decode cX4_init 38 = .ok (.bipush 64, 2) := dk_16 64 (dk_at dksX4_init_1 15 rfl rfl)
theorem dX4_init_40 : decode cX4_init 40 = .ok (.newarray .boolean, 2) := dk_188_4 (dk_at dksX4_init_1 17 rfl rfl)
theorem dX4_init_42 : decode cX4_init 42 = .ok (.putfield 24, 3) := dk_181 0 24 (dk_at dksX4_init_1 19 rfl rfl)
theorem dX4_init_45 : decode cX4_init 45 = .ok (.aload_n 0, 1) := dk_42 (dk_at dksX4_init_1 22 rfl rfl)
theorem dX4_init_46 : decode cX4_init 46 = .ok (.sipush 5733, 3) := dk_17 22 101 (dk_at dksX4_init_2 0 rfl rfl)
theorem dX4_init_49 : decode cX4_init 49 = .ok (.newarray .long, 2) := dk_188_11 (dk_at dksX4_init_2 3 rfl rfl)
theorem dX4_init_51 : decode cX4_init 51 = .ok (.putfield 28, 3) := dk_181 0 28 (dk_at dksX4_init_2 5 rfl rfl)
theorem dX4_init_54 : decode cX4_init 54 = .ok (.aload_n 0, 1) := dk_42 (dk_at dksX4_init_2 8 rfl rfl)
theorem dX4_init_55 : decode cX4_init 55 = .ok (.sipush 5733, 3) := dk_17 22 101 (dk_at dksX4_init_2 9 rfl rfl)
theorem dX4_init_58 : decode cX4_init 58 = .ok (.newarray .long, 2) := dk_188_11 (dk_at dksX4_init_2 12 rfl rfl)
theorem dX4_init_60 : decode cX4_init 60 = .ok (.putfield 32, 3) := dk_181 0 32 (dk_at dksX4_init_2 14 rfl rfl)
theorem dX4_init_63 : decode cX4_init 63 = .ok (.aload_n 0, 1) := dk_42 (dk_at dksX4_init_2 17 rfl rfl)
theorem dX4_init_64 : decode cX4_init 64 = .ok (.iconst 4, 1) := dk_7 (dk_at dksX4_init_2 18 rfl rfl)
theorem dX4_init_65 : decode cX4_init 65 = .ok (.newarray .int, 2) := dk_188_10 (dk_at dksX4_init_2 19 rfl rfl)
theorem dX4_init_67 : decode cX4_init 67 = .ok (.putfield 35, 3) := dk_181 0 35 (dk_at dksX4_init_2 21 rfl rfl)
theorem dX4_init_70 : decode cX4_init 70 = .ok (.aload_n 0, 1) := dk_42 (dk_at dksX4_init_3 0 rfl rfl)
theorem dX4_init_71 : decode cX4_init 71 = .ok (.iconst 4, 1) := dk_7 (dk_at dksX4_init_3 1 rfl rfl)
theorem dX4_init_72 : decode cX4_init 72 = .ok (.newarray .int, 2) := dk_188_10 (dk_at dksX4_init_3 2 rfl rfl)
theorem dX4_init_74 : decode cX4_init 74 = .ok (.putfield 38, 3) := dk_181 0 38 (dk_at dksX4_init_3 4 rfl rfl)
theorem dX4_init_77 : decode cX4_init 77 = .ok (.aload_n 0, 1) := dk_42 (dk_at dksX4_init_3 7 rfl rfl)
theorem dX4_init_78 : decode cX4_init 78 = .ok (.bipush 20, 2) := dk_16 20 (dk_at dksX4_init_3 8 rfl rfl)
theorem dX4_init_80 : decode cX4_init 80 = .ok (.newarray .int, 2) := dk_188_10 (dk_at dksX4_init_3 10 rfl rfl)
theorem dX4_init_82 : decode cX4_init 82 = .ok (.putfield 41, 3) := dk_181 0 41 (dk_at dksX4_init_3 12 rfl rfl)
theorem dX4_init_85 : decode cX4_init 85 = .ok (.aload_n 0, 1) := dk_42 (dk_at dksX4_init_3 15 rfl rfl)
theorem dX4_init_86 : decode cX4_init 86 = .ok (.getfield 9, 3) := dk_180 0 9 (dk_at dksX4_init_3 16 rfl rfl)
theorem dX4_init_89 : decode cX4_init 89 = .ok (.bipush 11, 2) := dk_16 11 (dk_at dksX4_init_3 19 rfl rfl)
theorem dX4_init_91 : decode cX4_init 91 = .ok (.iconst (-1), 1) := dk_2 (dk_at dksX4_init_3 21 rfl rfl)
theorem dX4_init_92 : decode cX4_init 92 = .ok (.iastore, 1) := dk_79 (dk_at dksX4_init_3 22 rfl rfl)
theorem dX4_init_93 : decode cX4_init 93 = .ok (.return_, 1) := dk_177 (dk_at dksX4_init_3 23 rfl rfl)
abbrev cX4_feed : ByteArray := prog_19_method_8_code
def yX4_feed : MethodName := ⟨RX4, "feed", "(I)I"⟩
def dkwX4_feed_2 : List UInt8 := [180, 0, 9, 16, 10, 92, 46, 4, 96, 79, 42, 180, 0, 9, 16, 10, 46, 172]
abbrev dktX4_feed_2 : List UInt8 := dkwX4_feed_2 ++ []
def dkwX4_feed_1 : List UInt8 := [160, 0, 6, 16, 252, 172, 42, 180, 0, 9, 16, 74, 42, 180, 0, 9, 16, 10, 46, 96, 27, 79, 42]
abbrev dktX4_feed_1 : List UInt8 := dkwX4_feed_1 ++ dktX4_feed_2
def dkwX4_feed_0 : List UInt8 := [27, 3, 16, 127, 184, 0, 48, 154, 0, 6, 16, 254, 172, 42, 180, 0, 9, 16, 10, 46, 16, 100]
abbrev dktX4_feed_0 : List UInt8 := dkwX4_feed_0 ++ dktX4_feed_1
theorem dksX4_feed_0 : cX4_feed.data.toList.drop 0 = dktX4_feed_0 := by decide +kernel
theorem dksX4_feed_1 : cX4_feed.data.toList.drop 22 = dktX4_feed_1 := dk_seg dksX4_feed_0 22 rfl rfl
theorem dksX4_feed_2 : cX4_feed.data.toList.drop 45 = dktX4_feed_2 := dk_seg dksX4_feed_1 23 rfl rfl
theorem dX4_feed_0 : decode cX4_feed 0 = .ok (.iload_n 1, 1) := dk_27 (dk_at dksX4_feed_0 0 rfl rfl)
theorem dX4_feed_1 : decode cX4_feed 1 = .ok (.iconst 0, 1) := dk_3 (dk_at dksX4_feed_0 1 rfl rfl)
theorem dX4_feed_2 : decode cX4_feed 2 = .ok (.bipush 127, 2) := dk_16 127 (dk_at dksX4_feed_0 2 rfl rfl)
theorem dX4_feed_4 : decode cX4_feed 4 = .ok (.invokestatic 48, 3) := dk_184 0 48 (dk_at dksX4_feed_0 4 rfl rfl)
theorem dX4_feed_7 : decode cX4_feed 7 = .ok (.ifCond .ne 6, 3) := dk_154 0 6 (dk_at dksX4_feed_0 7 rfl rfl)
theorem dX4_feed_10 : decode cX4_feed 10 = .ok (.bipush (-2), 2) := dk_16 254 (dk_at dksX4_feed_0 10 rfl rfl)
theorem dX4_feed_12 : decode cX4_feed 12 = .ok (.ireturn, 1) := dk_172 (dk_at dksX4_feed_0 12 rfl rfl)
theorem dX4_feed_13 : decode cX4_feed 13 = .ok (.aload_n 0, 1) := dk_42 (dk_at dksX4_feed_0 13 rfl rfl)
theorem dX4_feed_14 : decode cX4_feed 14 = .ok (.getfield 9, 3) := dk_180 0 9 (dk_at dksX4_feed_0 14 rfl rfl)
theorem dX4_feed_17 : decode cX4_feed 17 = .ok (.bipush 10, 2) := dk_16 10 (dk_at dksX4_feed_0 17 rfl rfl)
theorem dX4_feed_19 : decode cX4_feed 19 = .ok (.iaload, 1) := dk_46 (dk_at dksX4_feed_0 19 rfl rfl)
theorem dX4_feed_20 : decode cX4_feed 20 = .ok (.bipush 100, 2) := dk_16 100 (dk_at dksX4_feed_0 20 rfl rfl)
theorem dX4_feed_22 : decode cX4_feed 22 = .ok (.if_icmp .ne 6, 3) := dk_160 0 6 (dk_at dksX4_feed_1 0 rfl rfl)
theorem dX4_feed_25 : decode cX4_feed 25 = .ok (.bipush (-4), 2) := dk_16 252 (dk_at dksX4_feed_1 3 rfl rfl)
theorem dX4_feed_27 : decode cX4_feed 27 = .ok (.ireturn, 1) := dk_172 (dk_at dksX4_feed_1 5 rfl rfl)
theorem dX4_feed_28 : decode cX4_feed 28 = .ok (.aload_n 0, 1) := dk_42 (dk_at dksX4_feed_1 6 rfl rfl)
theorem dX4_feed_29 : decode cX4_feed 29 = .ok (.getfield 9, 3) := dk_180 0 9 (dk_at dksX4_feed_1 7 rfl rfl)
theorem dX4_feed_32 : decode cX4_feed 32 = .ok (.bipush 74, 2) := dk_16 74 (dk_at dksX4_feed_1 10 rfl rfl)
theorem dX4_feed_34 : decode cX4_feed 34 = .ok (.aload_n 0, 1) := dk_42 (dk_at dksX4_feed_1 12 rfl rfl)
theorem dX4_feed_35 : decode cX4_feed 35 = .ok (.getfield 9, 3) := dk_180 0 9 (dk_at dksX4_feed_1 13 rfl rfl)
theorem dX4_feed_38 : decode cX4_feed 38 = .ok (.bipush 10, 2) := dk_16 10 (dk_at dksX4_feed_1 16 rfl rfl)
theorem dX4_feed_40 : decode cX4_feed 40 = .ok (.iaload, 1) := dk_46 (dk_at dksX4_feed_1 18 rfl rfl)
theorem dX4_feed_41 : decode cX4_feed 41 = .ok (.iadd, 1) := dk_96 (dk_at dksX4_feed_1 19 rfl rfl)
theorem dX4_feed_42 : decode cX4_feed 42 = .ok (.iload_n 1, 1) := dk_27 (dk_at dksX4_feed_1 20 rfl rfl)
theorem dX4_feed_43 : decode cX4_feed 43 = .ok (.iastore, 1) := dk_79 (dk_at dksX4_feed_1 21 rfl rfl)
theorem dX4_feed_44 : decode cX4_feed 44 = .ok (.aload_n 0, 1) := dk_42 (dk_at dksX4_feed_1 22 rfl rfl)
theorem dX4_feed_45 : decode cX4_feed 45 = .ok (.getfield 9, 3) := dk_180 0 9 (dk_at dksX4_feed_2 0 rfl rfl)
theorem dX4_feed_48 : decode cX4_feed 48 = .ok (.bipush 10, 2) := dk_16 10 (dk_at dksX4_feed_2 3 rfl rfl)
theorem dX4_feed_50 : decode cX4_feed 50 = .ok (.dup2, 1) := dk_92 (dk_at dksX4_feed_2 5 rfl rfl)
theorem dX4_feed_51 : decode cX4_feed 51 = .ok (.iaload, 1) := dk_46 (dk_at dksX4_feed_2 6 rfl rfl)
theorem dX4_feed_52 : decode cX4_feed 52 = .ok (.iconst 1, 1) := dk_4 (dk_at dksX4_feed_2 7 rfl rfl)
theorem dX4_feed_53 : decode cX4_feed 53 = .ok (.iadd, 1) := dk_96 (dk_at dksX4_feed_2 8 rfl rfl)
theorem dX4_feed_54 : decode cX4_feed 54 = .ok (.iastore, 1) := dk_79 (dk_at dksX4_feed_2 9 rfl rfl)
theorem dX4_feed_55 : decode cX4_feed 55 = .ok (.aload_n 0, 1) := dk_42 (dk_at dksX4_feed_2 10 rfl rfl)
theorem dX4_feed_56 : decode cX4_feed 56 = .ok (.getfield 9, 3) := dk_180 0 9 (dk_at dksX4_feed_2 11 rfl rfl)
theorem dX4_feed_59 : decode cX4_feed 59 = .ok (.bipush 10, 2) := dk_16 10 (dk_at dksX4_feed_2 14 rfl rfl)
theorem dX4_feed_61 : decode cX4_feed 61 = .ok (.iaload, 1) := dk_46 (dk_at dksX4_feed_2 16 rfl rfl)
theorem dX4_feed_62 : decode cX4_feed 62 = .ok (.ireturn, 1) := dk_172 (dk_at dksX4_feed_2 17 rfl rfl)
abbrev cX4_in : ByteArray := prog_19_method_3_code
def yX4_in : MethodName := ⟨RX4, "in", "(III)Z"⟩
def dkwX4_in_0 : List UInt8 := [26, 27, 161, 0, 12, 26, 28, 163, 0, 7, 4, 167, 0, 4, 3, 172]
abbrev dktX4_in_0 : List UInt8 := dkwX4_in_0 ++ []
theorem dksX4_in_0 : cX4_in.data.toList.drop 0 = dktX4_in_0 := by decide +kernel
theorem dX4_in_0 : decode cX4_in 0 = .ok (.iload_n 0, 1) := dk_26 (dk_at dksX4_in_0 0 rfl rfl)
theorem dX4_in_1 : decode cX4_in 1 = .ok (.iload_n 1, 1) := dk_27 (dk_at dksX4_in_0 1 rfl rfl)
theorem dX4_in_2 : decode cX4_in 2 = .ok (.if_icmp .lt 12, 3) := dk_161 0 12 (dk_at dksX4_in_0 2 rfl rfl)
theorem dX4_in_5 : decode cX4_in 5 = .ok (.iload_n 0, 1) := dk_26 (dk_at dksX4_in_0 5 rfl rfl)
theorem dX4_in_6 : decode cX4_in 6 = .ok (.iload_n 2, 1) := dk_28 (dk_at dksX4_in_0 6 rfl rfl)
theorem dX4_in_7 : decode cX4_in 7 = .ok (.if_icmp .gt 7, 3) := dk_163 0 7 (dk_at dksX4_in_0 7 rfl rfl)
theorem dX4_in_10 : decode cX4_in 10 = .ok (.iconst 1, 1) := dk_4 (dk_at dksX4_in_0 10 rfl rfl)
theorem dX4_in_11 : decode cX4_in 11 = .ok (.goto 4, 3) := dk_167 0 4 (dk_at dksX4_in_0 11 rfl rfl)
theorem dX4_in_14 : decode cX4_in 14 = .ok (.iconst 0, 1) := dk_3 (dk_at dksX4_in_0 14 rfl rfl)
theorem dX4_in_15 : decode cX4_in 15 = .ok (.ireturn, 1) := dk_172 (dk_at dksX4_in_0 15 rfl rfl)
abbrev cX4_inn : ByteArray := prog_19_method_22_code
def yX4_inn : MethodName := ⟨RX4, "inn", "()I"⟩
def dkwX4_inn_8 : List UInt8 := [180, 0, 9, 16, 11, 42, 180, 0, 83, 79, 42, 180, 0, 83, 172]
abbrev dktX4_inn_8 : List UInt8 := dkwX4_inn_8 ++ []
def dkwX4_inn_7 : List UInt8 := [159, 0, 11, 16, 246, 42, 180, 0, 56, 100, 172, 42, 180, 0, 9, 16, 7, 92, 46, 4, 96, 79, 42]
abbrev dktX4_inn_7 : List UInt8 := dkwX4_inn_7 ++ dktX4_inn_8
def dkwX4_inn_6 : List UInt8 := [182, 0, 134, 132, 1, 1, 167, 255, 217, 42, 180, 0, 62, 154, 0, 14, 42, 180, 0, 56, 42, 180, 0, 59]
abbrev dktX4_inn_6 : List UInt8 := dkwX4_inn_6 ++ dktX4_inn_7
def dkwX4_inn_5 : List UInt8 := [162, 0, 32, 42, 182, 0, 66, 16, 59, 160, 0, 23, 42, 89, 180, 0, 56, 4, 96, 181, 0, 56, 42]
abbrev dktX4_inn_5 : List UInt8 := dkwX4_inn_5 ++ dktX4_inn_6
def dkwX4_inn_4 : List UInt8 := [181, 0, 62, 42, 3, 181, 0, 86, 4, 60, 42, 182, 0, 134, 42, 180, 0, 62, 154, 0, 38, 27, 16, 10]
abbrev dktX4_inn_4 : List UInt8 := dkwX4_inn_4 ++ dktX4_inn_5
def dkwX4_inn_3 : List UInt8 := [96, 4, 79, 42, 180, 0, 9, 17, 0, 184, 42, 180, 0, 83, 96, 3, 79, 42, 3, 181, 0, 56, 42, 3]
abbrev dktX4_inn_3 : List UInt8 := dkwX4_inn_3 ++ dktX4_inn_4
def dkwX4_inn_2 : List UInt8 := [180, 0, 9, 17, 0, 174, 42, 180, 0, 83, 96, 4, 79, 42, 180, 0, 9, 17, 0, 179, 42, 180, 0, 83]
abbrev dktX4_inn_2 : List UInt8 := dkwX4_inn_2 ++ dktX4_inn_3
def dkwX4_inn_1 : List UInt8 := [181, 0, 83, 42, 42, 180, 0, 9, 16, 10, 46, 181, 0, 59, 42, 180, 0, 9, 16, 10, 3, 79, 42]
abbrev dktX4_inn_1 : List UInt8 := dkwX4_inn_1 ++ dktX4_inn_2
def dkwX4_inn_0 : List UInt8 := [42, 180, 0, 9, 16, 7, 46, 8, 160, 0, 6, 16, 252, 172, 42, 42, 180, 0, 9, 16, 7, 46]
abbrev dktX4_inn_0 : List UInt8 := dkwX4_inn_0 ++ dktX4_inn_1
theorem dksX4_inn_0 : cX4_inn.data.toList.drop 0 = dktX4_inn_0 := by decide +kernel
theorem dksX4_inn_1 : cX4_inn.data.toList.drop 22 = dktX4_inn_1 := dk_seg dksX4_inn_0 22 rfl rfl
theorem dksX4_inn_2 : cX4_inn.data.toList.drop 45 = dktX4_inn_2 := dk_seg dksX4_inn_1 23 rfl rfl
theorem dksX4_inn_3 : cX4_inn.data.toList.drop 69 = dktX4_inn_3 := dk_seg dksX4_inn_2 24 rfl rfl
theorem dksX4_inn_4 : cX4_inn.data.toList.drop 93 = dktX4_inn_4 := dk_seg dksX4_inn_3 24 rfl rfl
theorem dksX4_inn_5 : cX4_inn.data.toList.drop 117 = dktX4_inn_5 := dk_seg dksX4_inn_4 24 rfl rfl
theorem dksX4_inn_6 : cX4_inn.data.toList.drop 140 = dktX4_inn_6 := dk_seg dksX4_inn_5 23 rfl rfl
theorem dksX4_inn_7 : cX4_inn.data.toList.drop 164 = dktX4_inn_7 := dk_seg dksX4_inn_6 24 rfl rfl
theorem dksX4_inn_8 : cX4_inn.data.toList.drop 187 = dktX4_inn_8 := dk_seg dksX4_inn_7 23 rfl rfl
theorem dX4_inn_0 : decode cX4_inn 0 = .ok (.aload_n 0, 1) := dk_42 (dk_at dksX4_inn_0 0 rfl rfl)
theorem dX4_inn_1 : decode cX4_inn 1 = .ok (.getfield 9, 3) := dk_180 0 9 (dk_at dksX4_inn_0 1 rfl rfl)
theorem dX4_inn_4 : decode cX4_inn 4 = .ok (.bipush 7, 2) := dk_16 7 (dk_at dksX4_inn_0 4 rfl rfl)
theorem dX4_inn_6 : decode cX4_inn 6 = .ok (.iaload, 1) := dk_46 (dk_at dksX4_inn_0 6 rfl rfl)
theorem dX4_inn_7 : decode cX4_inn 7 = .ok (.iconst 5, 1) := dk_8 (dk_at dksX4_inn_0 7 rfl rfl)
theorem dX4_inn_8 : decode cX4_inn 8 = .ok (.if_icmp .ne 6, 3) := dk_160 0 6 (dk_at dksX4_inn_0 8 rfl rfl)
theorem dX4_inn_11 : decode cX4_inn 11 = .ok (.bipush (-4), 2) := dk_16 252 (dk_at dksX4_inn_0 11 rfl rfl)
theorem dX4_inn_13 : decode cX4_inn 13 = .ok (.ireturn, 1) := dk_172 (dk_at dksX4_inn_0 13 rfl rfl)
theorem dX4_inn_14 : decode cX4_inn 14 = .ok (.aload_n 0, 1) := dk_42 (dk_at dksX4_inn_0 14 rfl rfl)
theorem dX4_inn_15 : decode cX4_inn 15 = .ok (.aload_n 0, 1) := dk_42 (dk_at dksX4_inn_0 15 rfl rfl)
theorem dX4_inn_16 : decode cX4_inn 16 = .ok (.getfield 9, 3) := dk_180 0 9 (dk_at dksX4_inn_0 16 rfl rfl)
theorem dX4_inn_19 : decode cX4_inn 19 = .ok (.bipush 7, 2) := dk_16 7 (dk_at dksX4_inn_0 19 rfl rfl)
theorem dX4_inn_21 : decode cX4_inn 21 = .ok (.iaload, 1) := dk_46 (dk_at dksX4_inn_0 21 rfl rfl)
theorem dX4_inn_22 : decode cX4_inn 22 = .ok (.putfield 83, 3) := dk_181 0 83 (dk_at dksX4_inn_1 0 rfl rfl)
theorem dX4_inn_25 : decode cX4_inn 25 = .ok (.aload_n 0, 1) := dk_42 (dk_at dksX4_inn_1 3 rfl rfl)
theorem dX4_inn_26 : decode cX4_inn 26 = .ok (.aload_n 0, 1) := dk_42 (dk_at dksX4_inn_1 4 rfl rfl)
theorem dX4_inn_27 : decode cX4_inn 27 = .ok (.getfield 9, 3) := dk_180 0 9 (dk_at dksX4_inn_1 5 rfl rfl)
theorem dX4_inn_30 : decode cX4_inn 30 = .ok (.bipush 10, 2) := dk_16 10 (dk_at dksX4_inn_1 8 rfl rfl)
theorem dX4_inn_32 : decode cX4_inn 32 = .ok (.iaload, 1) := dk_46 (dk_at dksX4_inn_1 10 rfl rfl)
theorem dX4_inn_33 : decode cX4_inn 33 = .ok (.putfield 59, 3) := dk_181 0 59 (dk_at dksX4_inn_1 11 rfl rfl)
theorem dX4_inn_36 : decode cX4_inn 36 = .ok (.aload_n 0, 1) := dk_42 (dk_at dksX4_inn_1 14 rfl rfl)
theorem dX4_inn_37 : decode cX4_inn 37 = .ok (.getfield 9, 3) := dk_180 0 9 (dk_at dksX4_inn_1 15 rfl rfl)
theorem dX4_inn_40 : decode cX4_inn 40 = .ok (.bipush 10, 2) := dk_16 10 (dk_at dksX4_inn_1 18 rfl rfl)
theorem dX4_inn_42 : decode cX4_inn 42 = .ok (.iconst 0, 1) := dk_3 (dk_at dksX4_inn_1 20 rfl rfl)
theorem dX4_inn_43 : decode cX4_inn 43 = .ok (.iastore, 1) := dk_79 (dk_at dksX4_inn_1 21 rfl rfl)
theorem dX4_inn_44 : decode cX4_inn 44 = .ok (.aload_n 0, 1) := dk_42 (dk_at dksX4_inn_1 22 rfl rfl)
theorem dX4_inn_45 : decode cX4_inn 45 = .ok (.getfield 9, 3) := dk_180 0 9 (dk_at dksX4_inn_2 0 rfl rfl)
theorem dX4_inn_48 : decode cX4_inn 48 = .ok (.sipush 174, 3) := dk_17 0 174 (dk_at dksX4_inn_2 3 rfl rfl)
theorem dX4_inn_51 : decode cX4_inn 51 = .ok (.aload_n 0, 1) := dk_42 (dk_at dksX4_inn_2 6 rfl rfl)
theorem dX4_inn_52 : decode cX4_inn 52 = .ok (.getfield 83, 3) := dk_180 0 83 (dk_at dksX4_inn_2 7 rfl rfl)
theorem dX4_inn_55 : decode cX4_inn 55 = .ok (.iadd, 1) := dk_96 (dk_at dksX4_inn_2 10 rfl rfl)
theorem dX4_inn_56 : decode cX4_inn 56 = .ok (.iconst 1, 1) := dk_4 (dk_at dksX4_inn_2 11 rfl rfl)
theorem dX4_inn_57 : decode cX4_inn 57 = .ok (.iastore, 1) := dk_79 (dk_at dksX4_inn_2 12 rfl rfl)
theorem dX4_inn_58 : decode cX4_inn 58 = .ok (.aload_n 0, 1) := dk_42 (dk_at dksX4_inn_2 13 rfl rfl)
theorem dX4_inn_59 : decode cX4_inn 59 = .ok (.getfield 9, 3) := dk_180 0 9 (dk_at dksX4_inn_2 14 rfl rfl)
theorem dX4_inn_62 : decode cX4_inn 62 = .ok (.sipush 179, 3) := dk_17 0 179 (dk_at dksX4_inn_2 17 rfl rfl)
theorem dX4_inn_65 : decode cX4_inn 65 = .ok (.aload_n 0, 1) := dk_42 (dk_at dksX4_inn_2 20 rfl rfl)
theorem dX4_inn_66 : decode cX4_inn 66 = .ok (.getfield 83, 3) := dk_180 0 83 (dk_at dksX4_inn_2 21 rfl rfl)
theorem dX4_inn_69 : decode cX4_inn 69 = .ok (.iadd, 1) := dk_96 (dk_at dksX4_inn_3 0 rfl rfl)
theorem dX4_inn_70 : decode cX4_inn 70 = .ok (.iconst 1, 1) := dk_4 (dk_at dksX4_inn_3 1 rfl rfl)
theorem dX4_inn_71 : decode cX4_inn 71 = .ok (.iastore, 1) := dk_79 (dk_at dksX4_inn_3 2 rfl rfl)
theorem dX4_inn_72 : decode cX4_inn 72 = .ok (.aload_n 0, 1) := dk_42 (dk_at dksX4_inn_3 3 rfl rfl)
theorem dX4_inn_73 : decode cX4_inn 73 = .ok (.getfield 9, 3) := dk_180 0 9 (dk_at dksX4_inn_3 4 rfl rfl)
theorem dX4_inn_76 : decode cX4_inn 76 = .ok (.sipush 184, 3) := dk_17 0 184 (dk_at dksX4_inn_3 7 rfl rfl)
theorem dX4_inn_79 : decode cX4_inn 79 = .ok (.aload_n 0, 1) := dk_42 (dk_at dksX4_inn_3 10 rfl rfl)
theorem dX4_inn_80 : decode cX4_inn 80 = .ok (.getfield 83, 3) := dk_180 0 83 (dk_at dksX4_inn_3 11 rfl rfl)
theorem dX4_inn_83 : decode cX4_inn 83 = .ok (.iadd, 1) := dk_96 (dk_at dksX4_inn_3 14 rfl rfl)
theorem dX4_inn_84 : decode cX4_inn 84 = .ok (.iconst 0, 1) := dk_3 (dk_at dksX4_inn_3 15 rfl rfl)
theorem dX4_inn_85 : decode cX4_inn 85 = .ok (.iastore, 1) := dk_79 (dk_at dksX4_inn_3 16 rfl rfl)
theorem dX4_inn_86 : decode cX4_inn 86 = .ok (.aload_n 0, 1) := dk_42 (dk_at dksX4_inn_3 17 rfl rfl)
theorem dX4_inn_87 : decode cX4_inn 87 = .ok (.iconst 0, 1) := dk_3 (dk_at dksX4_inn_3 18 rfl rfl)
theorem dX4_inn_88 : decode cX4_inn 88 = .ok (.putfield 56, 3) := dk_181 0 56 (dk_at dksX4_inn_3 19 rfl rfl)
theorem dX4_inn_91 : decode cX4_inn 91 = .ok (.aload_n 0, 1) := dk_42 (dk_at dksX4_inn_3 22 rfl rfl)
theorem dX4_inn_92 : decode cX4_inn 92 = .ok (.iconst 0, 1) := dk_3 (dk_at dksX4_inn_3 23 rfl rfl)
theorem dX4_inn_93 : decode cX4_inn 93 = .ok (.putfield 62, 3) := dk_181 0 62 (dk_at dksX4_inn_4 0 rfl rfl)
theorem dX4_inn_96 : decode cX4_inn 96 = .ok (.aload_n 0, 1) := dk_42 (dk_at dksX4_inn_4 3 rfl rfl)
theorem dX4_inn_97 : decode cX4_inn 97 = .ok (.iconst 0, 1) := dk_3 (dk_at dksX4_inn_4 4 rfl rfl)
theorem dX4_inn_98 : decode cX4_inn 98 = .ok (.putfield 86, 3) := dk_181 0 86 (dk_at dksX4_inn_4 5 rfl rfl)
theorem dX4_inn_101 : decode cX4_inn 101 = .ok (.iconst 1, 1) := dk_4 (dk_at dksX4_inn_4 8 rfl rfl)
theorem dX4_inn_102 : decode cX4_inn 102 = .ok (.istore_n 1, 1) := dk_60 (dk_at dksX4_inn_4 9 rfl rfl)
theorem dX4_inn_103 : decode cX4_inn 103 = .ok (.aload_n 0, 1) := dk_42 (dk_at dksX4_inn_4 10 rfl rfl)
theorem dX4_inn_104 : decode cX4_inn 104 = .ok (.invokevirtual 134, 3) := dk_182 0 134 (dk_at dksX4_inn_4 11 rfl rfl)
theorem dX4_inn_107 : decode cX4_inn 107 = .ok (.aload_n 0, 1) := dk_42 (dk_at dksX4_inn_4 14 rfl rfl)
theorem dX4_inn_108 : decode cX4_inn 108 = .ok (.getfield 62, 3) := dk_180 0 62 (dk_at dksX4_inn_4 15 rfl rfl)
theorem dX4_inn_111 : decode cX4_inn 111 = .ok (.ifCond .ne 38, 3) := dk_154 0 38 (dk_at dksX4_inn_4 18 rfl rfl)
theorem dX4_inn_114 : decode cX4_inn 114 = .ok (.iload_n 1, 1) := dk_27 (dk_at dksX4_inn_4 21 rfl rfl)
theorem dX4_inn_115 : decode cX4_inn 115 = .ok (.bipush 10, 2) := dk_16 10 (dk_at dksX4_inn_4 22 rfl rfl)
theorem dX4_inn_117 : decode cX4_inn 117 = .ok (.if_icmp .ge 32, 3) := dk_162 0 32 (dk_at dksX4_inn_5 0 rfl rfl)
theorem dX4_inn_120 : decode cX4_inn 120 = .ok (.aload_n 0, 1) := dk_42 (dk_at dksX4_inn_5 3 rfl rfl)
theorem dX4_inn_121 : decode cX4_inn 121 = .ok (.invokevirtual 66, 3) := dk_182 0 66 (dk_at dksX4_inn_5 4 rfl rfl)
theorem dX4_inn_124 : decode cX4_inn 124 = .ok (.bipush 59, 2) := dk_16 59 (dk_at dksX4_inn_5 7 rfl rfl)
theorem dX4_inn_126 : decode cX4_inn 126 = .ok (.if_icmp .ne 23, 3) := dk_160 0 23 (dk_at dksX4_inn_5 9 rfl rfl)
theorem dX4_inn_129 : decode cX4_inn 129 = .ok (.aload_n 0, 1) := dk_42 (dk_at dksX4_inn_5 12 rfl rfl)
theorem dX4_inn_130 : decode cX4_inn 130 = .ok (.dup, 1) := dk_89 (dk_at dksX4_inn_5 13 rfl rfl)
theorem dX4_inn_131 : decode cX4_inn 131 = .ok (.getfield 56, 3) := dk_180 0 56 (dk_at dksX4_inn_5 14 rfl rfl)
theorem dX4_inn_134 : decode cX4_inn 134 = .ok (.iconst 1, 1) := dk_4 (dk_at dksX4_inn_5 17 rfl rfl)
theorem dX4_inn_135 : decode cX4_inn 135 = .ok (.iadd, 1) := dk_96 (dk_at dksX4_inn_5 18 rfl rfl)
theorem dX4_inn_136 : decode cX4_inn 136 = .ok (.putfield 56, 3) := dk_181 0 56 (dk_at dksX4_inn_5 19 rfl rfl)
theorem dX4_inn_139 : decode cX4_inn 139 = .ok (.aload_n 0, 1) := dk_42 (dk_at dksX4_inn_5 22 rfl rfl)
theorem dX4_inn_140 : decode cX4_inn 140 = .ok (.invokevirtual 134, 3) := dk_182 0 134 (dk_at dksX4_inn_6 0 rfl rfl)
theorem dX4_inn_143 : decode cX4_inn 143 = .ok (.iinc 1 1, 3) := dk_132 1 1 (dk_at dksX4_inn_6 3 rfl rfl)
theorem dX4_inn_146 : decode cX4_inn 146 = .ok (.goto (-39), 3) := dk_167 255 217 (dk_at dksX4_inn_6 6 rfl rfl)
theorem dX4_inn_149 : decode cX4_inn 149 = .ok (.aload_n 0, 1) := dk_42 (dk_at dksX4_inn_6 9 rfl rfl)
theorem dX4_inn_150 : decode cX4_inn 150 = .ok (.getfield 62, 3) := dk_180 0 62 (dk_at dksX4_inn_6 10 rfl rfl)
theorem dX4_inn_153 : decode cX4_inn 153 = .ok (.ifCond .ne 14, 3) := dk_154 0 14 (dk_at dksX4_inn_6 13 rfl rfl)
theorem dX4_inn_156 : decode cX4_inn 156 = .ok (.aload_n 0, 1) := dk_42 (dk_at dksX4_inn_6 16 rfl rfl)
theorem dX4_inn_157 : decode cX4_inn 157 = .ok (.getfield 56, 3) := dk_180 0 56 (dk_at dksX4_inn_6 17 rfl rfl)
theorem dX4_inn_160 : decode cX4_inn 160 = .ok (.aload_n 0, 1) := dk_42 (dk_at dksX4_inn_6 20 rfl rfl)
theorem dX4_inn_161 : decode cX4_inn 161 = .ok (.getfield 59, 3) := dk_180 0 59 (dk_at dksX4_inn_6 21 rfl rfl)
theorem dX4_inn_164 : decode cX4_inn 164 = .ok (.if_icmp .eq 11, 3) := dk_159 0 11 (dk_at dksX4_inn_7 0 rfl rfl)
theorem dX4_inn_167 : decode cX4_inn 167 = .ok (.bipush (-10), 2) := dk_16 246 (dk_at dksX4_inn_7 3 rfl rfl)
theorem dX4_inn_169 : decode cX4_inn 169 = .ok (.aload_n 0, 1) := dk_42 (dk_at dksX4_inn_7 5 rfl rfl)
theorem dX4_inn_170 : decode cX4_inn 170 = .ok (.getfield 56, 3) := dk_180 0 56 (dk_at dksX4_inn_7 6 rfl rfl)
theorem dX4_inn_173 : decode cX4_inn 173 = .ok (.isub, 1) := dk_100 (dk_at dksX4_inn_7 9 rfl rfl)
theorem dX4_inn_174 : decode cX4_inn 174 = .ok (.ireturn, 1) := dk_172 (dk_at dksX4_inn_7 10 rfl rfl)
theorem dX4_inn_175 : decode cX4_inn 175 = .ok (.aload_n 0, 1) := dk_42 (dk_at dksX4_inn_7 11 rfl rfl)
theorem dX4_inn_176 : decode cX4_inn 176 = .ok (.getfield 9, 3) := dk_180 0 9 (dk_at dksX4_inn_7 12 rfl rfl)
theorem dX4_inn_179 : decode cX4_inn 179 = .ok (.bipush 7, 2) := dk_16 7 (dk_at dksX4_inn_7 15 rfl rfl)
theorem dX4_inn_181 : decode cX4_inn 181 = .ok (.dup2, 1) := dk_92 (dk_at dksX4_inn_7 17 rfl rfl)
theorem dX4_inn_182 : decode cX4_inn 182 = .ok (.iaload, 1) := dk_46 (dk_at dksX4_inn_7 18 rfl rfl)
theorem dX4_inn_183 : decode cX4_inn 183 = .ok (.iconst 1, 1) := dk_4 (dk_at dksX4_inn_7 19 rfl rfl)
theorem dX4_inn_184 : decode cX4_inn 184 = .ok (.iadd, 1) := dk_96 (dk_at dksX4_inn_7 20 rfl rfl)
theorem dX4_inn_185 : decode cX4_inn 185 = .ok (.iastore, 1) := dk_79 (dk_at dksX4_inn_7 21 rfl rfl)
theorem dX4_inn_186 : decode cX4_inn 186 = .ok (.aload_n 0, 1) := dk_42 (dk_at dksX4_inn_7 22 rfl rfl)
theorem dX4_inn_187 : decode cX4_inn 187 = .ok (.getfield 9, 3) := dk_180 0 9 (dk_at dksX4_inn_8 0 rfl rfl)
theorem dX4_inn_190 : decode cX4_inn 190 = .ok (.bipush 11, 2) := dk_16 11 (dk_at dksX4_inn_8 3 rfl rfl)
theorem dX4_inn_192 : decode cX4_inn 192 = .ok (.aload_n 0, 1) := dk_42 (dk_at dksX4_inn_8 5 rfl rfl)
theorem dX4_inn_193 : decode cX4_inn 193 = .ok (.getfield 83, 3) := dk_180 0 83 (dk_at dksX4_inn_8 6 rfl rfl)
theorem dX4_inn_196 : decode cX4_inn 196 = .ok (.iastore, 1) := dk_79 (dk_at dksX4_inn_8 9 rfl rfl)
theorem dX4_inn_197 : decode cX4_inn 197 = .ok (.aload_n 0, 1) := dk_42 (dk_at dksX4_inn_8 10 rfl rfl)
theorem dX4_inn_198 : decode cX4_inn 198 = .ok (.getfield 83, 3) := dk_180 0 83 (dk_at dksX4_inn_8 11 rfl rfl)
theorem dX4_inn_201 : decode cX4_inn 201 = .ok (.ireturn, 1) := dk_172 (dk_at dksX4_inn_8 14 rfl rfl)
abbrev cX4_clauseHere : ByteArray := prog_19_method_21_code
def yX4_clauseHere : MethodName := ⟨RX4, "clauseHere", "()V"⟩
def dkwX4_clauseHere_3 : List UInt8 := [18, 132, 182, 0, 124, 167, 0, 8, 42, 4, 181, 0, 62, 177]
abbrev dktX4_clauseHere_3 : List UInt8 := dkwX4_clauseHere_3 ++ []
def dkwX4_clauseHere_2 : List UInt8 := [42, 182, 0, 127, 167, 0, 32, 42, 17, 255, 56, 18, 130, 182, 0, 118, 167, 0, 20, 42, 17, 0, 179]
abbrev dktX4_clauseHere_2 : List UInt8 := dkwX4_clauseHere_2 ++ dktX4_clauseHere_3
def dkwX4_clauseHere_1 : List UInt8 := [171, 0, 0, 0, 0, 0, 0, 67, 0, 0, 0, 3, 0, 0, 0, 100, 0, 0, 0, 43, 0, 0, 0, 108, 0, 0, 0, 36, 0, 0, 0, 109, 0, 0, 0, 55]
abbrev dktX4_clauseHere_1 : List UInt8 := dkwX4_clauseHere_1 ++ dktX4_clauseHere_2
def dkwX4_clauseHere_0 : List UInt8 := [42, 182, 0, 66]
abbrev dktX4_clauseHere_0 : List UInt8 := dkwX4_clauseHere_0 ++ dktX4_clauseHere_1
theorem dksX4_clauseHere_0 : cX4_clauseHere.data.toList.drop 0 = dktX4_clauseHere_0 := by decide +kernel
theorem dksX4_clauseHere_1 : cX4_clauseHere.data.toList.drop 4 = dktX4_clauseHere_1 := dk_seg dksX4_clauseHere_0 4 rfl rfl
theorem dksX4_clauseHere_2 : cX4_clauseHere.data.toList.drop 40 = dktX4_clauseHere_2 := dk_seg dksX4_clauseHere_1 36 rfl rfl
theorem dksX4_clauseHere_3 : cX4_clauseHere.data.toList.drop 63 = dktX4_clauseHere_3 := dk_seg dksX4_clauseHere_2 23 rfl rfl
theorem dX4_clauseHere_0 : decode cX4_clauseHere 0 = .ok (.aload_n 0, 1) := dk_42 (dk_at dksX4_clauseHere_0 0 rfl rfl)
theorem dX4_clauseHere_1 : decode cX4_clauseHere 1 = .ok (.invokevirtual 66, 3) := dk_182 0 66 (dk_at dksX4_clauseHere_0 1 rfl rfl)
theorem dX4_clauseHere_4 : decode cX4_clauseHere 4 = .ok (.lookupswitch 67 #[(100, 43), (108, 36), (109, 55)], 36) := by decide +kernel
theorem dX4_clauseHere_40 : decode cX4_clauseHere 40 = .ok (.aload_n 0, 1) := dk_42 (dk_at dksX4_clauseHere_2 0 rfl rfl)
theorem dX4_clauseHere_41 : decode cX4_clauseHere 41 = .ok (.invokevirtual 127, 3) := dk_182 0 127 (dk_at dksX4_clauseHere_2 1 rfl rfl)
theorem dX4_clauseHere_44 : decode cX4_clauseHere 44 = .ok (.goto 32, 3) := dk_167 0 32 (dk_at dksX4_clauseHere_2 4 rfl rfl)
theorem dX4_clauseHere_47 : decode cX4_clauseHere 47 = .ok (.aload_n 0, 1) := dk_42 (dk_at dksX4_clauseHere_2 7 rfl rfl)
theorem dX4_clauseHere_48 : decode cX4_clauseHere 48 = .ok (.sipush (-200), 3) := dk_17 255 56 (dk_at dksX4_clauseHere_2 8 rfl rfl)
theorem dX4_clauseHere_51 : decode cX4_clauseHere 51 = .ok (.ldc 130, 2) := dk_18 130 (dk_at dksX4_clauseHere_2 11 rfl rfl)
theorem dX4_clauseHere_53 : decode cX4_clauseHere 53 = .ok (.invokevirtual 118, 3) := dk_182 0 118 (dk_at dksX4_clauseHere_2 13 rfl rfl)
theorem dX4_clauseHere_56 : decode cX4_clauseHere 56 = .ok (.goto 20, 3) := dk_167 0 20 (dk_at dksX4_clauseHere_2 16 rfl rfl)
theorem dX4_clauseHere_59 : decode cX4_clauseHere 59 = .ok (.aload_n 0, 1) := dk_42 (dk_at dksX4_clauseHere_2 19 rfl rfl)
theorem dX4_clauseHere_60 : decode cX4_clauseHere 60 = .ok (.sipush 179, 3) := dk_17 0 179 (dk_at dksX4_clauseHere_2 20 rfl rfl)
theorem dX4_clauseHere_63 : decode cX4_clauseHere 63 = .ok (.ldc 132, 2) := dk_18 132 (dk_at dksX4_clauseHere_3 0 rfl rfl)
theorem dX4_clauseHere_65 : decode cX4_clauseHere 65 = .ok (.invokevirtual 124, 3) := dk_182 0 124 (dk_at dksX4_clauseHere_3 2 rfl rfl)
theorem dX4_clauseHere_68 : decode cX4_clauseHere 68 = .ok (.goto 8, 3) := dk_167 0 8 (dk_at dksX4_clauseHere_3 5 rfl rfl)
theorem dX4_clauseHere_71 : decode cX4_clauseHere 71 = .ok (.aload_n 0, 1) := dk_42 (dk_at dksX4_clauseHere_3 8 rfl rfl)
theorem dX4_clauseHere_72 : decode cX4_clauseHere 72 = .ok (.iconst 1, 1) := dk_4 (dk_at dksX4_clauseHere_3 9 rfl rfl)
theorem dX4_clauseHere_73 : decode cX4_clauseHere 73 = .ok (.putfield 62, 3) := dk_181 0 62 (dk_at dksX4_clauseHere_3 10 rfl rfl)
theorem dX4_clauseHere_76 : decode cX4_clauseHere 76 = .ok (.return_, 1) := dk_177 (dk_at dksX4_clauseHere_3 13 rfl rfl)
abbrev cX4_here : ByteArray := prog_19_method_9_code
def yX4_here : MethodName := ⟨RX4, "here", "()I"⟩
def dkwX4_here_1 : List UInt8 := [167, 0, 4, 2, 172]
abbrev dktX4_here_1 : List UInt8 := dkwX4_here_1 ++ []
def dkwX4_here_0 : List UInt8 := [42, 180, 0, 56, 42, 180, 0, 59, 162, 0, 18, 42, 180, 0, 9, 16, 74, 42, 180, 0, 56, 96, 46]
abbrev dktX4_here_0 : List UInt8 := dkwX4_here_0 ++ dktX4_here_1
theorem dksX4_here_0 : cX4_here.data.toList.drop 0 = dktX4_here_0 := by decide +kernel
theorem dksX4_here_1 : cX4_here.data.toList.drop 23 = dktX4_here_1 := dk_seg dksX4_here_0 23 rfl rfl
theorem dX4_here_0 : decode cX4_here 0 = .ok (.aload_n 0, 1) := dk_42 (dk_at dksX4_here_0 0 rfl rfl)
theorem dX4_here_1 : decode cX4_here 1 = .ok (.getfield 56, 3) := dk_180 0 56 (dk_at dksX4_here_0 1 rfl rfl)
theorem dX4_here_4 : decode cX4_here 4 = .ok (.aload_n 0, 1) := dk_42 (dk_at dksX4_here_0 4 rfl rfl)
theorem dX4_here_5 : decode cX4_here 5 = .ok (.getfield 59, 3) := dk_180 0 59 (dk_at dksX4_here_0 5 rfl rfl)
theorem dX4_here_8 : decode cX4_here 8 = .ok (.if_icmp .ge 18, 3) := dk_162 0 18 (dk_at dksX4_here_0 8 rfl rfl)
theorem dX4_here_11 : decode cX4_here 11 = .ok (.aload_n 0, 1) := dk_42 (dk_at dksX4_here_0 11 rfl rfl)
theorem dX4_here_12 : decode cX4_here 12 = .ok (.getfield 9, 3) := dk_180 0 9 (dk_at dksX4_here_0 12 rfl rfl)
theorem dX4_here_15 : decode cX4_here 15 = .ok (.bipush 74, 2) := dk_16 74 (dk_at dksX4_here_0 15 rfl rfl)
theorem dX4_here_17 : decode cX4_here 17 = .ok (.aload_n 0, 1) := dk_42 (dk_at dksX4_here_0 17 rfl rfl)
theorem dX4_here_18 : decode cX4_here 18 = .ok (.getfield 56, 3) := dk_180 0 56 (dk_at dksX4_here_0 18 rfl rfl)
theorem dX4_here_21 : decode cX4_here 21 = .ok (.iadd, 1) := dk_96 (dk_at dksX4_here_0 21 rfl rfl)
theorem dX4_here_22 : decode cX4_here 22 = .ok (.iaload, 1) := dk_46 (dk_at dksX4_here_0 22 rfl rfl)
theorem dX4_here_23 : decode cX4_here 23 = .ok (.goto 4, 3) := dk_167 0 4 (dk_at dksX4_here_1 0 rfl rfl)
theorem dX4_here_26 : decode cX4_here 26 = .ok (.iconst (-1), 1) := dk_2 (dk_at dksX4_here_1 3 rfl rfl)
theorem dX4_here_27 : decode cX4_here 27 = .ok (.ireturn, 1) := dk_172 (dk_at dksX4_here_1 4 rfl rfl)
abbrev cX4_clauseOfL : ByteArray := prog_19_method_20_code
def yX4_clauseOfL : MethodName := ⟨RX4, "clauseOfL", "()V"⟩
def dkwX4_clauseOfL_1 : List UInt8 := [167, 0, 12, 42, 17, 0, 174, 18, 122, 182, 0, 124, 177]
abbrev dktX4_clauseOfL_1 : List UInt8 := dkwX4_clauseOfL_1 ++ []
def dkwX4_clauseOfL_0 : List UInt8 := [42, 16, 108, 182, 0, 79, 42, 182, 0, 66, 16, 105, 160, 0, 14, 42, 16, 246, 18, 116, 182, 0, 118]
abbrev dktX4_clauseOfL_0 : List UInt8 := dkwX4_clauseOfL_0 ++ dktX4_clauseOfL_1
theorem dksX4_clauseOfL_0 : cX4_clauseOfL.data.toList.drop 0 = dktX4_clauseOfL_0 := by decide +kernel
theorem dksX4_clauseOfL_1 : cX4_clauseOfL.data.toList.drop 23 = dktX4_clauseOfL_1 := dk_seg dksX4_clauseOfL_0 23 rfl rfl
theorem dX4_clauseOfL_0 : decode cX4_clauseOfL 0 = .ok (.aload_n 0, 1) := dk_42 (dk_at dksX4_clauseOfL_0 0 rfl rfl)
theorem dX4_clauseOfL_1 : decode cX4_clauseOfL 1 = .ok (.bipush 108, 2) := dk_16 108 (dk_at dksX4_clauseOfL_0 1 rfl rfl)
theorem dX4_clauseOfL_3 : decode cX4_clauseOfL 3 = .ok (.invokevirtual 79, 3) := dk_182 0 79 (dk_at dksX4_clauseOfL_0 3 rfl rfl)
theorem dX4_clauseOfL_6 : decode cX4_clauseOfL 6 = .ok (.aload_n 0, 1) := dk_42 (dk_at dksX4_clauseOfL_0 6 rfl rfl)
theorem dX4_clauseOfL_7 : decode cX4_clauseOfL 7 = .ok (.invokevirtual 66, 3) := dk_182 0 66 (dk_at dksX4_clauseOfL_0 7 rfl rfl)
theorem dX4_clauseOfL_10 : decode cX4_clauseOfL 10 = .ok (.bipush 105, 2) := dk_16 105 (dk_at dksX4_clauseOfL_0 10 rfl rfl)
theorem dX4_clauseOfL_12 : decode cX4_clauseOfL 12 = .ok (.if_icmp .ne 14, 3) := dk_160 0 14 (dk_at dksX4_clauseOfL_0 12 rfl rfl)
theorem dX4_clauseOfL_15 : decode cX4_clauseOfL 15 = .ok (.aload_n 0, 1) := dk_42 (dk_at dksX4_clauseOfL_0 15 rfl rfl)
theorem dX4_clauseOfL_16 : decode cX4_clauseOfL 16 = .ok (.bipush (-10), 2) := dk_16 246 (dk_at dksX4_clauseOfL_0 16 rfl rfl)
theorem dX4_clauseOfL_18 : decode cX4_clauseOfL 18 = .ok (.ldc 116, 2) := dk_18 116 (dk_at dksX4_clauseOfL_0 18 rfl rfl)
theorem dX4_clauseOfL_20 : decode cX4_clauseOfL 20 = .ok (.invokevirtual 118, 3) := dk_182 0 118 (dk_at dksX4_clauseOfL_0 20 rfl rfl)
theorem dX4_clauseOfL_23 : decode cX4_clauseOfL 23 = .ok (.goto 12, 3) := dk_167 0 12 (dk_at dksX4_clauseOfL_1 0 rfl rfl)
theorem dX4_clauseOfL_26 : decode cX4_clauseOfL 26 = .ok (.aload_n 0, 1) := dk_42 (dk_at dksX4_clauseOfL_1 3 rfl rfl)
theorem dX4_clauseOfL_27 : decode cX4_clauseOfL 27 = .ok (.sipush 174, 3) := dk_17 0 174 (dk_at dksX4_clauseOfL_1 4 rfl rfl)
theorem dX4_clauseOfL_30 : decode cX4_clauseOfL 30 = .ok (.ldc 122, 2) := dk_18 122 (dk_at dksX4_clauseOfL_1 7 rfl rfl)
theorem dX4_clauseOfL_32 : decode cX4_clauseOfL 32 = .ok (.invokevirtual 124, 3) := dk_182 0 124 (dk_at dksX4_clauseOfL_1 9 rfl rfl)
theorem dX4_clauseOfL_35 : decode cX4_clauseOfL 35 = .ok (.return_, 1) := dk_177 (dk_at dksX4_clauseOfL_1 12 rfl rfl)
abbrev cX4_must : ByteArray := prog_19_method_10_code
def yX4_must : MethodName := ⟨RX4, "must", "(I)V"⟩
def dkwX4_must_1 : List UInt8 := [42, 89, 180, 0, 56, 42, 180, 0, 62, 153, 0, 7, 3, 167, 0, 4, 4, 96, 181, 0, 56, 177]
abbrev dktX4_must_1 : List UInt8 := dkwX4_must_1 ++ []
def dkwX4_must_0 : List UInt8 := [42, 42, 180, 0, 62, 154, 0, 11, 42, 182, 0, 66, 27, 159, 0, 7, 4, 167, 0, 4, 3, 181, 0, 62]
abbrev dktX4_must_0 : List UInt8 := dkwX4_must_0 ++ dktX4_must_1
theorem dksX4_must_0 : cX4_must.data.toList.drop 0 = dktX4_must_0 := by decide +kernel
theorem dksX4_must_1 : cX4_must.data.toList.drop 24 = dktX4_must_1 := dk_seg dksX4_must_0 24 rfl rfl
theorem dX4_must_0 : decode cX4_must 0 = .ok (.aload_n 0, 1) := dk_42 (dk_at dksX4_must_0 0 rfl rfl)
theorem dX4_must_1 : decode cX4_must 1 = .ok (.aload_n 0, 1) := dk_42 (dk_at dksX4_must_0 1 rfl rfl)
theorem dX4_must_2 : decode cX4_must 2 = .ok (.getfield 62, 3) := dk_180 0 62 (dk_at dksX4_must_0 2 rfl rfl)
theorem dX4_must_5 : decode cX4_must 5 = .ok (.ifCond .ne 11, 3) := dk_154 0 11 (dk_at dksX4_must_0 5 rfl rfl)
theorem dX4_must_8 : decode cX4_must 8 = .ok (.aload_n 0, 1) := dk_42 (dk_at dksX4_must_0 8 rfl rfl)
theorem dX4_must_9 : decode cX4_must 9 = .ok (.invokevirtual 66, 3) := dk_182 0 66 (dk_at dksX4_must_0 9 rfl rfl)
theorem dX4_must_12 : decode cX4_must 12 = .ok (.iload_n 1, 1) := dk_27 (dk_at dksX4_must_0 12 rfl rfl)
theorem dX4_must_13 : decode cX4_must 13 = .ok (.if_icmp .eq 7, 3) := dk_159 0 7 (dk_at dksX4_must_0 13 rfl rfl)
theorem dX4_must_16 : decode cX4_must 16 = .ok (.iconst 1, 1) := dk_4 (dk_at dksX4_must_0 16 rfl rfl)
theorem dX4_must_17 : decode cX4_must 17 = .ok (.goto 4, 3) := dk_167 0 4 (dk_at dksX4_must_0 17 rfl rfl)
theorem dX4_must_20 : decode cX4_must 20 = .ok (.iconst 0, 1) := dk_3 (dk_at dksX4_must_0 20 rfl rfl)
theorem dX4_must_21 : decode cX4_must 21 = .ok (.putfield 62, 3) := dk_181 0 62 (dk_at dksX4_must_0 21 rfl rfl)
theorem dX4_must_24 : decode cX4_must 24 = .ok (.aload_n 0, 1) := dk_42 (dk_at dksX4_must_1 0 rfl rfl)
theorem dX4_must_25 : decode cX4_must 25 = .ok (.dup, 1) := dk_89 (dk_at dksX4_must_1 1 rfl rfl)
theorem dX4_must_26 : decode cX4_must 26 = .ok (.getfield 56, 3) := dk_180 0 56 (dk_at dksX4_must_1 2 rfl rfl)
theorem dX4_must_29 : decode cX4_must 29 = .ok (.aload_n 0, 1) := dk_42 (dk_at dksX4_must_1 5 rfl rfl)
theorem dX4_must_30 : decode cX4_must 30 = .ok (.getfield 62, 3) := dk_180 0 62 (dk_at dksX4_must_1 6 rfl rfl)
theorem dX4_must_33 : decode cX4_must 33 = .ok (.ifCond .eq 7, 3) := dk_153 0 7 (dk_at dksX4_must_1 9 rfl rfl)
theorem dX4_must_36 : decode cX4_must 36 = .ok (.iconst 0, 1) := dk_3 (dk_at dksX4_must_1 12 rfl rfl)
theorem dX4_must_37 : decode cX4_must 37 = .ok (.goto 4, 3) := dk_167 0 4 (dk_at dksX4_must_1 13 rfl rfl)
theorem dX4_must_40 : decode cX4_must 40 = .ok (.iconst 1, 1) := dk_4 (dk_at dksX4_must_1 16 rfl rfl)
theorem dX4_must_41 : decode cX4_must 41 = .ok (.iadd, 1) := dk_96 (dk_at dksX4_must_1 17 rfl rfl)
theorem dX4_must_42 : decode cX4_must 42 = .ok (.putfield 56, 3) := dk_181 0 56 (dk_at dksX4_must_1 18 rfl rfl)
theorem dX4_must_45 : decode cX4_must 45 = .ok (.return_, 1) := dk_177 (dk_at dksX4_must_1 21 rfl rfl)
abbrev cX4_much : ByteArray := prog_19_method_18_code
def yX4_much : MethodName := ⟨RX4, "much", "(ILjava/lang/String;)V"⟩
def dkwX4_much_1 : List UInt8 := [182, 0, 92, 177]
abbrev dktX4_much_1 : List UInt8 := dkwX4_much_1 ++ []
def dkwX4_much_0 : List UInt8 := [42, 44, 182, 0, 112, 42, 182, 0, 106, 62, 42, 16, 32, 182, 0, 79, 42, 182, 0, 95, 42, 27, 29, 100]
abbrev dktX4_much_0 : List UInt8 := dkwX4_much_0 ++ dktX4_much_1
theorem dksX4_much_0 : cX4_much.data.toList.drop 0 = dktX4_much_0 := by decide +kernel
theorem dksX4_much_1 : cX4_much.data.toList.drop 24 = dktX4_much_1 := dk_seg dksX4_much_0 24 rfl rfl
theorem dX4_much_0 : decode cX4_much 0 = .ok (.aload_n 0, 1) := dk_42 (dk_at dksX4_much_0 0 rfl rfl)
theorem dX4_much_1 : decode cX4_much 1 = .ok (.aload_n 2, 1) := dk_44 (dk_at dksX4_much_0 1 rfl rfl)
theorem dX4_much_2 : decode cX4_much 2 = .ok (.invokevirtual 112, 3) := dk_182 0 112 (dk_at dksX4_much_0 2 rfl rfl)
theorem dX4_much_5 : decode cX4_much 5 = .ok (.aload_n 0, 1) := dk_42 (dk_at dksX4_much_0 5 rfl rfl)
theorem dX4_much_6 : decode cX4_much 6 = .ok (.invokevirtual 106, 3) := dk_182 0 106 (dk_at dksX4_much_0 6 rfl rfl)
theorem dX4_much_9 : decode cX4_much 9 = .ok (.istore_n 3, 1) := dk_62 (dk_at dksX4_much_0 9 rfl rfl)
theorem dX4_much_10 : decode cX4_much 10 = .ok (.aload_n 0, 1) := dk_42 (dk_at dksX4_much_0 10 rfl rfl)
theorem dX4_much_11 : decode cX4_much 11 = .ok (.bipush 32, 2) := dk_16 32 (dk_at dksX4_much_0 11 rfl rfl)
theorem dX4_much_13 : decode cX4_much 13 = .ok (.invokevirtual 79, 3) := dk_182 0 79 (dk_at dksX4_much_0 13 rfl rfl)
theorem dX4_much_16 : decode cX4_much 16 = .ok (.aload_n 0, 1) := dk_42 (dk_at dksX4_much_0 16 rfl rfl)
theorem dX4_much_17 : decode cX4_much 17 = .ok (.invokevirtual 95, 3) := dk_182 0 95 (dk_at dksX4_much_0 17 rfl rfl)
theorem dX4_much_20 : decode cX4_much 20 = .ok (.aload_n 0, 1) := dk_42 (dk_at dksX4_much_0 20 rfl rfl)
theorem dX4_much_21 : decode cX4_much 21 = .ok (.iload_n 1, 1) := dk_27 (dk_at dksX4_much_0 21 rfl rfl)
theorem dX4_much_22 : decode cX4_much 22 = .ok (.iload_n 3, 1) := dk_29 (dk_at dksX4_much_0 22 rfl rfl)
theorem dX4_much_23 : decode cX4_much 23 = .ok (.isub, 1) := dk_100 (dk_at dksX4_much_0 23 rfl rfl)
theorem dX4_much_24 : decode cX4_much 24 = .ok (.invokevirtual 92, 3) := dk_182 0 92 (dk_at dksX4_much_1 0 rfl rfl)
theorem dX4_much_27 : decode cX4_much 27 = .ok (.return_, 1) := dk_177 (dk_at dksX4_much_1 3 rfl rfl)
abbrev cX4_spells : ByteArray := prog_19_method_11_code
def yX4_spells : MethodName := ⟨RX4, "spells", "(Ljava/lang/String;)V"⟩
def dkwX4_spells_1 : List UInt8 := [167, 255, 236, 177]
abbrev dktX4_spells_1 : List UInt8 := dkwX4_spells_1 ++ []
def dkwX4_spells_0 : List UInt8 := [3, 61, 28, 43, 182, 0, 70, 162, 0, 18, 42, 43, 28, 182, 0, 75, 182, 0, 79, 132, 2, 1]
abbrev dktX4_spells_0 : List UInt8 := dkwX4_spells_0 ++ dktX4_spells_1
theorem dksX4_spells_0 : cX4_spells.data.toList.drop 0 = dktX4_spells_0 := by decide +kernel
theorem dksX4_spells_1 : cX4_spells.data.toList.drop 22 = dktX4_spells_1 := dk_seg dksX4_spells_0 22 rfl rfl
theorem dX4_spells_0 : decode cX4_spells 0 = .ok (.iconst 0, 1) := dk_3 (dk_at dksX4_spells_0 0 rfl rfl)
theorem dX4_spells_1 : decode cX4_spells 1 = .ok (.istore_n 2, 1) := dk_61 (dk_at dksX4_spells_0 1 rfl rfl)
theorem dX4_spells_2 : decode cX4_spells 2 = .ok (.iload_n 2, 1) := dk_28 (dk_at dksX4_spells_0 2 rfl rfl)
theorem dX4_spells_3 : decode cX4_spells 3 = .ok (.aload_n 1, 1) := dk_43 (dk_at dksX4_spells_0 3 rfl rfl)
theorem dX4_spells_4 : decode cX4_spells 4 = .ok (.invokevirtual 70, 3) := dk_182 0 70 (dk_at dksX4_spells_0 4 rfl rfl)
theorem dX4_spells_7 : decode cX4_spells 7 = .ok (.if_icmp .ge 18, 3) := dk_162 0 18 (dk_at dksX4_spells_0 7 rfl rfl)
theorem dX4_spells_10 : decode cX4_spells 10 = .ok (.aload_n 0, 1) := dk_42 (dk_at dksX4_spells_0 10 rfl rfl)
theorem dX4_spells_11 : decode cX4_spells 11 = .ok (.aload_n 1, 1) := dk_43 (dk_at dksX4_spells_0 11 rfl rfl)
theorem dX4_spells_12 : decode cX4_spells 12 = .ok (.iload_n 2, 1) := dk_28 (dk_at dksX4_spells_0 12 rfl rfl)
theorem dX4_spells_13 : decode cX4_spells 13 = .ok (.invokevirtual 75, 3) := dk_182 0 75 (dk_at dksX4_spells_0 13 rfl rfl)
theorem dX4_spells_16 : decode cX4_spells 16 = .ok (.invokevirtual 79, 3) := dk_182 0 79 (dk_at dksX4_spells_0 16 rfl rfl)
theorem dX4_spells_19 : decode cX4_spells 19 = .ok (.iinc 2 1, 3) := dk_132 2 1 (dk_at dksX4_spells_0 19 rfl rfl)
theorem dX4_spells_22 : decode cX4_spells 22 = .ok (.goto (-20), 3) := dk_167 255 236 (dk_at dksX4_spells_1 0 rfl rfl)
theorem dX4_spells_25 : decode cX4_spells 25 = .ok (.return_, 1) := dk_177 (dk_at dksX4_spells_1 3 rfl rfl)
abbrev cX4_figures : ByteArray := prog_19_method_12_code
def yX4_figures : MethodName := ⟨RX4, "figures", "()I"⟩
def dkwX4_figures_4 : List UInt8 := [167, 255, 196, 27, 172]
abbrev dktX4_figures_4 : List UInt8 := dkwX4_figures_4 ++ []
def dkwX4_figures_3 : List UInt8 := [104, 42, 182, 0, 66, 96, 16, 48, 100, 60, 42, 89, 180, 0, 56, 4, 96, 181, 0, 56, 132, 2, 1]
abbrev dktX4_figures_3 : List UInt8 := dkwX4_figures_3 ++ dktX4_figures_4
def dkwX4_figures_2 : List UInt8 := [182, 0, 66, 16, 48, 16, 57, 184, 0, 48, 153, 0, 40, 28, 153, 0, 7, 27, 158, 0, 32, 16, 10, 27]
abbrev dktX4_figures_2 : List UInt8 := dkwX4_figures_2 ++ dktX4_figures_3
def dkwX4_figures_1 : List UInt8 := [167, 0, 4, 3, 181, 0, 62, 3, 60, 3, 61, 28, 5, 162, 0, 61, 42, 180, 0, 62, 154, 0, 54, 42]
abbrev dktX4_figures_1 : List UInt8 := dkwX4_figures_1 ++ dktX4_figures_2
def dkwX4_figures_0 : List UInt8 := [42, 42, 180, 0, 62, 154, 0, 17, 42, 182, 0, 66, 16, 48, 16, 57, 184, 0, 48, 154, 0, 7, 4]
abbrev dktX4_figures_0 : List UInt8 := dkwX4_figures_0 ++ dktX4_figures_1
theorem dksX4_figures_0 : cX4_figures.data.toList.drop 0 = dktX4_figures_0 := by decide +kernel
theorem dksX4_figures_1 : cX4_figures.data.toList.drop 23 = dktX4_figures_1 := dk_seg dksX4_figures_0 23 rfl rfl
theorem dksX4_figures_2 : cX4_figures.data.toList.drop 47 = dktX4_figures_2 := dk_seg dksX4_figures_1 24 rfl rfl
theorem dksX4_figures_3 : cX4_figures.data.toList.drop 71 = dktX4_figures_3 := dk_seg dksX4_figures_2 24 rfl rfl
theorem dksX4_figures_4 : cX4_figures.data.toList.drop 94 = dktX4_figures_4 := dk_seg dksX4_figures_3 23 rfl rfl
theorem dX4_figures_0 : decode cX4_figures 0 = .ok (.aload_n 0, 1) := dk_42 (dk_at dksX4_figures_0 0 rfl rfl)
theorem dX4_figures_1 : decode cX4_figures 1 = .ok (.aload_n 0, 1) := dk_42 (dk_at dksX4_figures_0 1 rfl rfl)
theorem dX4_figures_2 : decode cX4_figures 2 = .ok (.getfield 62, 3) := dk_180 0 62 (dk_at dksX4_figures_0 2 rfl rfl)
theorem dX4_figures_5 : decode cX4_figures 5 = .ok (.ifCond .ne 17, 3) := dk_154 0 17 (dk_at dksX4_figures_0 5 rfl rfl)
theorem dX4_figures_8 : decode cX4_figures 8 = .ok (.aload_n 0, 1) := dk_42 (dk_at dksX4_figures_0 8 rfl rfl)
theorem dX4_figures_9 : decode cX4_figures 9 = .ok (.invokevirtual 66, 3) := dk_182 0 66 (dk_at dksX4_figures_0 9 rfl rfl)
theorem dX4_figures_12 : decode cX4_figures 12 = .ok (.bipush 48, 2) := dk_16 48 (dk_at dksX4_figures_0 12 rfl rfl)
theorem dX4_figures_14 : decode cX4_figures 14 = .ok (.bipush 57, 2) := dk_16 57 (dk_at dksX4_figures_0 14 rfl rfl)
theorem dX4_figures_16 : decode cX4_figures 16 = .ok (.invokestatic 48, 3) := dk_184 0 48 (dk_at dksX4_figures_0 16 rfl rfl)
theorem dX4_figures_19 : decode cX4_figures 19 = .ok (.ifCond .ne 7, 3) := dk_154 0 7 (dk_at dksX4_figures_0 19 rfl rfl)
theorem dX4_figures_22 : decode cX4_figures 22 = .ok (.iconst 1, 1) := dk_4 (dk_at dksX4_figures_0 22 rfl rfl)
theorem dX4_figures_23 : decode cX4_figures 23 = .ok (.goto 4, 3) := dk_167 0 4 (dk_at dksX4_figures_1 0 rfl rfl)
theorem dX4_figures_26 : decode cX4_figures 26 = .ok (.iconst 0, 1) := dk_3 (dk_at dksX4_figures_1 3 rfl rfl)
theorem dX4_figures_27 : decode cX4_figures 27 = .ok (.putfield 62, 3) := dk_181 0 62 (dk_at dksX4_figures_1 4 rfl rfl)
theorem dX4_figures_30 : decode cX4_figures 30 = .ok (.iconst 0, 1) := dk_3 (dk_at dksX4_figures_1 7 rfl rfl)
theorem dX4_figures_31 : decode cX4_figures 31 = .ok (.istore_n 1, 1) := dk_60 (dk_at dksX4_figures_1 8 rfl rfl)
theorem dX4_figures_32 : decode cX4_figures 32 = .ok (.iconst 0, 1) := dk_3 (dk_at dksX4_figures_1 9 rfl rfl)
theorem dX4_figures_33 : decode cX4_figures 33 = .ok (.istore_n 2, 1) := dk_61 (dk_at dksX4_figures_1 10 rfl rfl)
theorem dX4_figures_34 : decode cX4_figures 34 = .ok (.iload_n 2, 1) := dk_28 (dk_at dksX4_figures_1 11 rfl rfl)
theorem dX4_figures_35 : decode cX4_figures 35 = .ok (.iconst 2, 1) := dk_5 (dk_at dksX4_figures_1 12 rfl rfl)
theorem dX4_figures_36 : decode cX4_figures 36 = .ok (.if_icmp .ge 61, 3) := dk_162 0 61 (dk_at dksX4_figures_1 13 rfl rfl)
theorem dX4_figures_39 : decode cX4_figures 39 = .ok (.aload_n 0, 1) := dk_42 (dk_at dksX4_figures_1 16 rfl rfl)
theorem dX4_figures_40 : decode cX4_figures 40 = .ok (.getfield 62, 3) := dk_180 0 62 (dk_at dksX4_figures_1 17 rfl rfl)
theorem dX4_figures_43 : decode cX4_figures 43 = .ok (.ifCond .ne 54, 3) := dk_154 0 54 (dk_at dksX4_figures_1 20 rfl rfl)
theorem dX4_figures_46 : decode cX4_figures 46 = .ok (.aload_n 0, 1) := dk_42 (dk_at dksX4_figures_1 23 rfl rfl)
theorem dX4_figures_47 : decode cX4_figures 47 = .ok (.invokevirtual 66, 3) := dk_182 0 66 (dk_at dksX4_figures_2 0 rfl rfl)
theorem dX4_figures_50 : decode cX4_figures 50 = .ok (.bipush 48, 2) := dk_16 48 (dk_at dksX4_figures_2 3 rfl rfl)
theorem dX4_figures_52 : decode cX4_figures 52 = .ok (.bipush 57, 2) := dk_16 57 (dk_at dksX4_figures_2 5 rfl rfl)
theorem dX4_figures_54 : decode cX4_figures 54 = .ok (.invokestatic 48, 3) := dk_184 0 48 (dk_at dksX4_figures_2 7 rfl rfl)
theorem dX4_figures_57 : decode cX4_figures 57 = .ok (.ifCond .eq 40, 3) := dk_153 0 40 (dk_at dksX4_figures_2 10 rfl rfl)
theorem dX4_figures_60 : decode cX4_figures 60 = .ok (.iload_n 2, 1) := dk_28 (dk_at dksX4_figures_2 13 rfl rfl)
theorem dX4_figures_61 : decode cX4_figures 61 = .ok (.ifCond .eq 7, 3) := dk_153 0 7 (dk_at dksX4_figures_2 14 rfl rfl)
theorem dX4_figures_64 : decode cX4_figures 64 = .ok (.iload_n 1, 1) := dk_27 (dk_at dksX4_figures_2 17 rfl rfl)
theorem dX4_figures_65 : decode cX4_figures 65 = .ok (.ifCond .le 32, 3) := dk_158 0 32 (dk_at dksX4_figures_2 18 rfl rfl)
theorem dX4_figures_68 : decode cX4_figures 68 = .ok (.bipush 10, 2) := dk_16 10 (dk_at dksX4_figures_2 21 rfl rfl)
theorem dX4_figures_70 : decode cX4_figures 70 = .ok (.iload_n 1, 1) := dk_27 (dk_at dksX4_figures_2 23 rfl rfl)
theorem dX4_figures_71 : decode cX4_figures 71 = .ok (.imul, 1) := dk_104 (dk_at dksX4_figures_3 0 rfl rfl)
theorem dX4_figures_72 : decode cX4_figures 72 = .ok (.aload_n 0, 1) := dk_42 (dk_at dksX4_figures_3 1 rfl rfl)
theorem dX4_figures_73 : decode cX4_figures 73 = .ok (.invokevirtual 66, 3) := dk_182 0 66 (dk_at dksX4_figures_3 2 rfl rfl)
theorem dX4_figures_76 : decode cX4_figures 76 = .ok (.iadd, 1) := dk_96 (dk_at dksX4_figures_3 5 rfl rfl)
theorem dX4_figures_77 : decode cX4_figures 77 = .ok (.bipush 48, 2) := dk_16 48 (dk_at dksX4_figures_3 6 rfl rfl)
theorem dX4_figures_79 : decode cX4_figures 79 = .ok (.isub, 1) := dk_100 (dk_at dksX4_figures_3 8 rfl rfl)
theorem dX4_figures_80 : decode cX4_figures 80 = .ok (.istore_n 1, 1) := dk_60 (dk_at dksX4_figures_3 9 rfl rfl)
theorem dX4_figures_81 : decode cX4_figures 81 = .ok (.aload_n 0, 1) := dk_42 (dk_at dksX4_figures_3 10 rfl rfl)
theorem dX4_figures_82 : decode cX4_figures 82 = .ok (.dup, 1) := dk_89 (dk_at dksX4_figures_3 11 rfl rfl)
theorem dX4_figures_83 : decode cX4_figures 83 = .ok (.getfield 56, 3) := dk_180 0 56 (dk_at dksX4_figures_3 12 rfl rfl)
theorem dX4_figures_86 : decode cX4_figures 86 = .ok (.iconst 1, 1) := dk_4 (dk_at dksX4_figures_3 15 rfl rfl)
theorem dX4_figures_87 : decode cX4_figures 87 = .ok (.iadd, 1) := dk_96 (dk_at dksX4_figures_3 16 rfl rfl)
theorem dX4_figures_88 : decode cX4_figures 88 = .ok (.putfield 56, 3) := dk_181 0 56 (dk_at dksX4_figures_3 17 rfl rfl)
theorem dX4_figures_91 : decode cX4_figures 91 = .ok (.iinc 2 1, 3) := dk_132 2 1 (dk_at dksX4_figures_3 20 rfl rfl)
theorem dX4_figures_94 : decode cX4_figures 94 = .ok (.goto (-60), 3) := dk_167 255 196 (dk_at dksX4_figures_4 0 rfl rfl)
theorem dX4_figures_97 : decode cX4_figures 97 = .ok (.iload_n 1, 1) := dk_27 (dk_at dksX4_figures_4 3 rfl rfl)
theorem dX4_figures_98 : decode cX4_figures 98 = .ok (.ireturn, 1) := dk_172 (dk_at dksX4_figures_4 4 rfl rfl)
abbrev cX4_some : ByteArray := prog_19_method_17_code
def yX4_some : MethodName := ⟨RX4, "some", "()V"⟩
def dkwX4_some_1 : List UInt8 := [180, 0, 56, 4, 96, 181, 0, 56, 42, 182, 0, 109, 42, 16, 253, 182, 0, 92, 167, 255, 220, 177]
abbrev dktX4_some_1 : List UInt8 := dkwX4_some_1 ++ []
def dkwX4_some_0 : List UInt8 := [42, 182, 0, 109, 42, 180, 0, 62, 154, 0, 35, 42, 182, 0, 66, 16, 124, 160, 0, 26, 42, 89]
abbrev dktX4_some_0 : List UInt8 := dkwX4_some_0 ++ dktX4_some_1
theorem dksX4_some_0 : cX4_some.data.toList.drop 0 = dktX4_some_0 := by decide +kernel
theorem dksX4_some_1 : cX4_some.data.toList.drop 22 = dktX4_some_1 := dk_seg dksX4_some_0 22 rfl rfl
theorem dX4_some_0 : decode cX4_some 0 = .ok (.aload_n 0, 1) := dk_42 (dk_at dksX4_some_0 0 rfl rfl)
theorem dX4_some_1 : decode cX4_some 1 = .ok (.invokevirtual 109, 3) := dk_182 0 109 (dk_at dksX4_some_0 1 rfl rfl)
theorem dX4_some_4 : decode cX4_some 4 = .ok (.aload_n 0, 1) := dk_42 (dk_at dksX4_some_0 4 rfl rfl)
theorem dX4_some_5 : decode cX4_some 5 = .ok (.getfield 62, 3) := dk_180 0 62 (dk_at dksX4_some_0 5 rfl rfl)
theorem dX4_some_8 : decode cX4_some 8 = .ok (.ifCond .ne 35, 3) := dk_154 0 35 (dk_at dksX4_some_0 8 rfl rfl)
theorem dX4_some_11 : decode cX4_some 11 = .ok (.aload_n 0, 1) := dk_42 (dk_at dksX4_some_0 11 rfl rfl)
theorem dX4_some_12 : decode cX4_some 12 = .ok (.invokevirtual 66, 3) := dk_182 0 66 (dk_at dksX4_some_0 12 rfl rfl)
theorem dX4_some_15 : decode cX4_some 15 = .ok (.bipush 124, 2) := dk_16 124 (dk_at dksX4_some_0 15 rfl rfl)
theorem dX4_some_17 : decode cX4_some 17 = .ok (.if_icmp .ne 26, 3) := dk_160 0 26 (dk_at dksX4_some_0 17 rfl rfl)
theorem dX4_some_20 : decode cX4_some 20 = .ok (.aload_n 0, 1) := dk_42 (dk_at dksX4_some_0 20 rfl rfl)
theorem dX4_some_21 : decode cX4_some 21 = .ok (.dup, 1) := dk_89 (dk_at dksX4_some_0 21 rfl rfl)
theorem dX4_some_22 : decode cX4_some 22 = .ok (.getfield 56, 3) := dk_180 0 56 (dk_at dksX4_some_1 0 rfl rfl)
theorem dX4_some_25 : decode cX4_some 25 = .ok (.iconst 1, 1) := dk_4 (dk_at dksX4_some_1 3 rfl rfl)
theorem dX4_some_26 : decode cX4_some 26 = .ok (.iadd, 1) := dk_96 (dk_at dksX4_some_1 4 rfl rfl)
theorem dX4_some_27 : decode cX4_some 27 = .ok (.putfield 56, 3) := dk_181 0 56 (dk_at dksX4_some_1 5 rfl rfl)
theorem dX4_some_30 : decode cX4_some 30 = .ok (.aload_n 0, 1) := dk_42 (dk_at dksX4_some_1 8 rfl rfl)
theorem dX4_some_31 : decode cX4_some 31 = .ok (.invokevirtual 109, 3) := dk_182 0 109 (dk_at dksX4_some_1 9 rfl rfl)
theorem dX4_some_34 : decode cX4_some 34 = .ok (.aload_n 0, 1) := dk_42 (dk_at dksX4_some_1 12 rfl rfl)
theorem dX4_some_35 : decode cX4_some 35 = .ok (.bipush (-3), 2) := dk_16 253 (dk_at dksX4_some_1 13 rfl rfl)
theorem dX4_some_37 : decode cX4_some 37 = .ok (.invokevirtual 92, 3) := dk_182 0 92 (dk_at dksX4_some_1 15 rfl rfl)
theorem dX4_some_40 : decode cX4_some 40 = .ok (.goto (-36), 3) := dk_167 255 220 (dk_at dksX4_some_1 18 rfl rfl)
theorem dX4_some_43 : decode cX4_some 43 = .ok (.return_, 1) := dk_177 (dk_at dksX4_some_1 21 rfl rfl)
abbrev cX4_every : ByteArray := prog_19_method_16_code
def yX4_every : MethodName := ⟨RX4, "every", "()V"⟩
def dkwX4_every_1 : List UInt8 := [180, 0, 56, 4, 96, 181, 0, 56, 42, 182, 0, 89, 42, 16, 254, 182, 0, 92, 167, 255, 220, 177]
abbrev dktX4_every_1 : List UInt8 := dkwX4_every_1 ++ []
def dkwX4_every_0 : List UInt8 := [42, 182, 0, 89, 42, 180, 0, 62, 154, 0, 35, 42, 182, 0, 66, 16, 38, 160, 0, 26, 42, 89]
abbrev dktX4_every_0 : List UInt8 := dkwX4_every_0 ++ dktX4_every_1
theorem dksX4_every_0 : cX4_every.data.toList.drop 0 = dktX4_every_0 := by decide +kernel
theorem dksX4_every_1 : cX4_every.data.toList.drop 22 = dktX4_every_1 := dk_seg dksX4_every_0 22 rfl rfl
theorem dX4_every_0 : decode cX4_every 0 = .ok (.aload_n 0, 1) := dk_42 (dk_at dksX4_every_0 0 rfl rfl)
theorem dX4_every_1 : decode cX4_every 1 = .ok (.invokevirtual 89, 3) := dk_182 0 89 (dk_at dksX4_every_0 1 rfl rfl)
theorem dX4_every_4 : decode cX4_every 4 = .ok (.aload_n 0, 1) := dk_42 (dk_at dksX4_every_0 4 rfl rfl)
theorem dX4_every_5 : decode cX4_every 5 = .ok (.getfield 62, 3) := dk_180 0 62 (dk_at dksX4_every_0 5 rfl rfl)
theorem dX4_every_8 : decode cX4_every 8 = .ok (.ifCond .ne 35, 3) := dk_154 0 35 (dk_at dksX4_every_0 8 rfl rfl)
theorem dX4_every_11 : decode cX4_every 11 = .ok (.aload_n 0, 1) := dk_42 (dk_at dksX4_every_0 11 rfl rfl)
theorem dX4_every_12 : decode cX4_every 12 = .ok (.invokevirtual 66, 3) := dk_182 0 66 (dk_at dksX4_every_0 12 rfl rfl)
theorem dX4_every_15 : decode cX4_every 15 = .ok (.bipush 38, 2) := dk_16 38 (dk_at dksX4_every_0 15 rfl rfl)
theorem dX4_every_17 : decode cX4_every 17 = .ok (.if_icmp .ne 26, 3) := dk_160 0 26 (dk_at dksX4_every_0 17 rfl rfl)
theorem dX4_every_20 : decode cX4_every 20 = .ok (.aload_n 0, 1) := dk_42 (dk_at dksX4_every_0 20 rfl rfl)
theorem dX4_every_21 : decode cX4_every 21 = .ok (.dup, 1) := dk_89 (dk_at dksX4_every_0 21 rfl rfl)
theorem dX4_every_22 : decode cX4_every 22 = .ok (.getfield 56, 3) := dk_180 0 56 (dk_at dksX4_every_1 0 rfl rfl)
theorem dX4_every_25 : decode cX4_every 25 = .ok (.iconst 1, 1) := dk_4 (dk_at dksX4_every_1 3 rfl rfl)
theorem dX4_every_26 : decode cX4_every 26 = .ok (.iadd, 1) := dk_96 (dk_at dksX4_every_1 4 rfl rfl)
theorem dX4_every_27 : decode cX4_every 27 = .ok (.putfield 56, 3) := dk_181 0 56 (dk_at dksX4_every_1 5 rfl rfl)
theorem dX4_every_30 : decode cX4_every 30 = .ok (.aload_n 0, 1) := dk_42 (dk_at dksX4_every_1 8 rfl rfl)
theorem dX4_every_31 : decode cX4_every 31 = .ok (.invokevirtual 89, 3) := dk_182 0 89 (dk_at dksX4_every_1 9 rfl rfl)
theorem dX4_every_34 : decode cX4_every 34 = .ok (.aload_n 0, 1) := dk_42 (dk_at dksX4_every_1 12 rfl rfl)
theorem dX4_every_35 : decode cX4_every 35 = .ok (.bipush (-2), 2) := dk_16 254 (dk_at dksX4_every_1 13 rfl rfl)
theorem dX4_every_37 : decode cX4_every 37 = .ok (.invokevirtual 92, 3) := dk_182 0 92 (dk_at dksX4_every_1 15 rfl rfl)
theorem dX4_every_40 : decode cX4_every 40 = .ok (.goto (-36), 3) := dk_167 255 220 (dk_at dksX4_every_1 18 rfl rfl)
theorem dX4_every_43 : decode cX4_every 43 = .ok (.return_, 1) := dk_177 (dk_at dksX4_every_1 21 rfl rfl)
abbrev cX4_factor : ByteArray := prog_19_method_15_code
def yX4_factor : MethodName := ⟨RX4, "factor", "()V"⟩
def dkwX4_factor_8 : List UInt8 := [16, 32, 21, 4, 104, 96, 182, 0, 92, 177]
abbrev dktX4_factor_8 : List UInt8 := dkwX4_factor_8 ++ []
def dkwX4_factor_7 : List UInt8 := [160, 0, 7, 4, 167, 0, 4, 3, 181, 0, 62, 42, 182, 0, 106, 54, 4, 42, 28, 16, 8, 29, 104, 96]
abbrev dktX4_factor_7 : List UInt8 := dkwX4_factor_7 ++ dktX4_factor_8
def dkwX4_factor_6 : List UInt8 := [153, 0, 7, 3, 167, 0, 9, 42, 18, 104, 182, 0, 100, 62, 42, 42, 180, 0, 62, 154, 0, 8, 29, 2]
abbrev dktX4_factor_6 : List UInt8 := dkwX4_factor_6 ++ dktX4_factor_7
def dkwX4_factor_5 : List UInt8 := [182, 0, 100, 61, 42, 28, 2, 160, 0, 7, 4, 167, 0, 4, 3, 181, 0, 62, 42, 180, 0, 62]
abbrev dktX4_factor_5 : List UInt8 := dkwX4_factor_5 ++ dktX4_factor_6
def dkwX4_factor_4 : List UInt8 := [182, 0, 95, 42, 16, 41, 182, 0, 79, 42, 89, 180, 0, 86, 4, 100, 181, 0, 86, 177, 42, 18, 98]
abbrev dktX4_factor_4 : List UInt8 := dkwX4_factor_4 ++ dktX4_factor_5
def dkwX4_factor_3 : List UInt8 := [4, 96, 181, 0, 56, 27, 16, 33, 160, 0, 15, 42, 182, 0, 89, 42, 2, 182, 0, 92, 167, 0, 13, 42]
abbrev dktX4_factor_3 : List UInt8 := dkwX4_factor_3 ++ dktX4_factor_4
def dkwX4_factor_2 : List UInt8 := [180, 0, 86, 4, 96, 181, 0, 86, 42, 89, 180, 0, 56, 42, 180, 0, 62, 153, 0, 7, 3, 167, 0, 4]
abbrev dktX4_factor_2 : List UInt8 := dkwX4_factor_2 ++ dktX4_factor_3
def dkwX4_factor_1 : List UInt8 := [160, 0, 90, 42, 42, 180, 0, 86, 8, 160, 0, 7, 4, 167, 0, 4, 3, 181, 0, 62, 42, 89]
abbrev dktX4_factor_1 : List UInt8 := dkwX4_factor_1 ++ dktX4_factor_2
def dkwX4_factor_0 : List UInt8 := [42, 180, 0, 62, 153, 0, 4, 177, 42, 182, 0, 66, 60, 27, 16, 33, 159, 0, 9, 27, 16, 40]
abbrev dktX4_factor_0 : List UInt8 := dkwX4_factor_0 ++ dktX4_factor_1
theorem dksX4_factor_0 : cX4_factor.data.toList.drop 0 = dktX4_factor_0 := by decide +kernel
theorem dksX4_factor_1 : cX4_factor.data.toList.drop 22 = dktX4_factor_1 := dk_seg dksX4_factor_0 22 rfl rfl
theorem dksX4_factor_2 : cX4_factor.data.toList.drop 44 = dktX4_factor_2 := dk_seg dksX4_factor_1 22 rfl rfl
theorem dksX4_factor_3 : cX4_factor.data.toList.drop 68 = dktX4_factor_3 := dk_seg dksX4_factor_2 24 rfl rfl
theorem dksX4_factor_4 : cX4_factor.data.toList.drop 92 = dktX4_factor_4 := dk_seg dksX4_factor_3 24 rfl rfl
theorem dksX4_factor_5 : cX4_factor.data.toList.drop 115 = dktX4_factor_5 := dk_seg dksX4_factor_4 23 rfl rfl
theorem dksX4_factor_6 : cX4_factor.data.toList.drop 137 = dktX4_factor_6 := dk_seg dksX4_factor_5 22 rfl rfl
theorem dksX4_factor_7 : cX4_factor.data.toList.drop 161 = dktX4_factor_7 := dk_seg dksX4_factor_6 24 rfl rfl
theorem dksX4_factor_8 : cX4_factor.data.toList.drop 185 = dktX4_factor_8 := dk_seg dksX4_factor_7 24 rfl rfl
theorem dX4_factor_0 : decode cX4_factor 0 = .ok (.aload_n 0, 1) := dk_42 (dk_at dksX4_factor_0 0 rfl rfl)
theorem dX4_factor_1 : decode cX4_factor 1 = .ok (.getfield 62, 3) := dk_180 0 62 (dk_at dksX4_factor_0 1 rfl rfl)
theorem dX4_factor_4 : decode cX4_factor 4 = .ok (.ifCond .eq 4, 3) := dk_153 0 4 (dk_at dksX4_factor_0 4 rfl rfl)
theorem dX4_factor_7 : decode cX4_factor 7 = .ok (.return_, 1) := dk_177 (dk_at dksX4_factor_0 7 rfl rfl)
theorem dX4_factor_8 : decode cX4_factor 8 = .ok (.aload_n 0, 1) := dk_42 (dk_at dksX4_factor_0 8 rfl rfl)
theorem dX4_factor_9 : decode cX4_factor 9 = .ok (.invokevirtual 66, 3) := dk_182 0 66 (dk_at dksX4_factor_0 9 rfl rfl)
theorem dX4_factor_12 : decode cX4_factor 12 = .ok (.istore_n 1, 1) := dk_60 (dk_at dksX4_factor_0 12 rfl rfl)
theorem dX4_factor_13 : decode cX4_factor 13 = .ok (.iload_n 1, 1) := dk_27 (dk_at dksX4_factor_0 13 rfl rfl)
theorem dX4_factor_14 : decode cX4_factor 14 = .ok (.bipush 33, 2) := dk_16 33 (dk_at dksX4_factor_0 14 rfl rfl)
theorem dX4_factor_16 : decode cX4_factor 16 = .ok (.if_icmp .eq 9, 3) := dk_159 0 9 (dk_at dksX4_factor_0 16 rfl rfl)
theorem dX4_factor_19 : decode cX4_factor 19 = .ok (.iload_n 1, 1) := dk_27 (dk_at dksX4_factor_0 19 rfl rfl)
theorem dX4_factor_20 : decode cX4_factor 20 = .ok (.bipush 40, 2) := dk_16 40 (dk_at dksX4_factor_0 20 rfl rfl)
theorem dX4_factor_22 : decode cX4_factor 22 = .ok (.if_icmp .ne 90, 3) := dk_160 0 90 (dk_at dksX4_factor_1 0 rfl rfl)
theorem dX4_factor_25 : decode cX4_factor 25 = .ok (.aload_n 0, 1) := dk_42 (dk_at dksX4_factor_1 3 rfl rfl)
theorem dX4_factor_26 : decode cX4_factor 26 = .ok (.aload_n 0, 1) := dk_42 (dk_at dksX4_factor_1 4 rfl rfl)
theorem dX4_factor_27 : decode cX4_factor 27 = .ok (.getfield 86, 3) := dk_180 0 86 (dk_at dksX4_factor_1 5 rfl rfl)
theorem dX4_factor_30 : decode cX4_factor 30 = .ok (.iconst 5, 1) := dk_8 (dk_at dksX4_factor_1 8 rfl rfl)
theorem dX4_factor_31 : decode cX4_factor 31 = .ok (.if_icmp .ne 7, 3) := dk_160 0 7 (dk_at dksX4_factor_1 9 rfl rfl)
theorem dX4_factor_34 : decode cX4_factor 34 = .ok (.iconst 1, 1) := dk_4 (dk_at dksX4_factor_1 12 rfl rfl)
theorem dX4_factor_35 : decode cX4_factor 35 = .ok (.goto 4, 3) := dk_167 0 4 (dk_at dksX4_factor_1 13 rfl rfl)
theorem dX4_factor_38 : decode cX4_factor 38 = .ok (.iconst 0, 1) := dk_3 (dk_at dksX4_factor_1 16 rfl rfl)
theorem dX4_factor_39 : decode cX4_factor 39 = .ok (.putfield 62, 3) := dk_181 0 62 (dk_at dksX4_factor_1 17 rfl rfl)
theorem dX4_factor_42 : decode cX4_factor 42 = .ok (.aload_n 0, 1) := dk_42 (dk_at dksX4_factor_1 20 rfl rfl)
theorem dX4_factor_43 : decode cX4_factor 43 = .ok (.dup, 1) := dk_89 (dk_at dksX4_factor_1 21 rfl rfl)
theorem dX4_factor_44 : decode cX4_factor 44 = .ok (.getfield 86, 3) := dk_180 0 86 (dk_at dksX4_factor_2 0 rfl rfl)
theorem dX4_factor_47 : decode cX4_factor 47 = .ok (.iconst 1, 1) := dk_4 (dk_at dksX4_factor_2 3 rfl rfl)
theorem dX4_factor_48 : decode cX4_factor 48 = .ok (.iadd, 1) := dk_96 (dk_at dksX4_factor_2 4 rfl rfl)
theorem dX4_factor_49 : decode cX4_factor 49 = .ok (.putfield 86, 3) := dk_181 0 86 (dk_at dksX4_factor_2 5 rfl rfl)
theorem dX4_factor_52 : decode cX4_factor 52 = .ok (.aload_n 0, 1) := dk_42 (dk_at dksX4_factor_2 8 rfl rfl)
theorem dX4_factor_53 : decode cX4_factor 53 = .ok (.dup, 1) := dk_89 (dk_at dksX4_factor_2 9 rfl rfl)
theorem dX4_factor_54 : decode cX4_factor 54 = .ok (.getfield 56, 3) := dk_180 0 56 (dk_at dksX4_factor_2 10 rfl rfl)
theorem dX4_factor_57 : decode cX4_factor 57 = .ok (.aload_n 0, 1) := dk_42 (dk_at dksX4_factor_2 13 rfl rfl)
theorem dX4_factor_58 : decode cX4_factor 58 = .ok (.getfield 62, 3) := dk_180 0 62 (dk_at dksX4_factor_2 14 rfl rfl)
theorem dX4_factor_61 : decode cX4_factor 61 = .ok (.ifCond .eq 7, 3) := dk_153 0 7 (dk_at dksX4_factor_2 17 rfl rfl)
theorem dX4_factor_64 : decode cX4_factor 64 = .ok (.iconst 0, 1) := dk_3 (dk_at dksX4_factor_2 20 rfl rfl)
theorem dX4_factor_65 : decode cX4_factor 65 = .ok (.goto 4, 3) := dk_167 0 4 (dk_at dksX4_factor_2 21 rfl rfl)
theorem dX4_factor_68 : decode cX4_factor 68 = .ok (.iconst 1, 1) := dk_4 (dk_at dksX4_factor_3 0 rfl rfl)
theorem dX4_factor_69 : decode cX4_factor 69 = .ok (.iadd, 1) := dk_96 (dk_at dksX4_factor_3 1 rfl rfl)
theorem dX4_factor_70 : decode cX4_factor 70 = .ok (.putfield 56, 3) := dk_181 0 56 (dk_at dksX4_factor_3 2 rfl rfl)
theorem dX4_factor_73 : decode cX4_factor 73 = .ok (.iload_n 1, 1) := dk_27 (dk_at dksX4_factor_3 5 rfl rfl)
theorem dX4_factor_74 : decode cX4_factor 74 = .ok (.bipush 33, 2) := dk_16 33 (dk_at dksX4_factor_3 6 rfl rfl)
theorem dX4_factor_76 : decode cX4_factor 76 = .ok (.if_icmp .ne 15, 3) := dk_160 0 15 (dk_at dksX4_factor_3 8 rfl rfl)
theorem dX4_factor_79 : decode cX4_factor 79 = .ok (.aload_n 0, 1) := dk_42 (dk_at dksX4_factor_3 11 rfl rfl)
theorem dX4_factor_80 : decode cX4_factor 80 = .ok (.invokevirtual 89, 3) := dk_182 0 89 (dk_at dksX4_factor_3 12 rfl rfl)
theorem dX4_factor_83 : decode cX4_factor 83 = .ok (.aload_n 0, 1) := dk_42 (dk_at dksX4_factor_3 15 rfl rfl)
theorem dX4_factor_84 : decode cX4_factor 84 = .ok (.iconst (-1), 1) := dk_2 (dk_at dksX4_factor_3 16 rfl rfl)
theorem dX4_factor_85 : decode cX4_factor 85 = .ok (.invokevirtual 92, 3) := dk_182 0 92 (dk_at dksX4_factor_3 17 rfl rfl)
theorem dX4_factor_88 : decode cX4_factor 88 = .ok (.goto 13, 3) := dk_167 0 13 (dk_at dksX4_factor_3 20 rfl rfl)
theorem dX4_factor_91 : decode cX4_factor 91 = .ok (.aload_n 0, 1) := dk_42 (dk_at dksX4_factor_3 23 rfl rfl)
theorem dX4_factor_92 : decode cX4_factor 92 = .ok (.invokevirtual 95, 3) := dk_182 0 95 (dk_at dksX4_factor_4 0 rfl rfl)
theorem dX4_factor_95 : decode cX4_factor 95 = .ok (.aload_n 0, 1) := dk_42 (dk_at dksX4_factor_4 3 rfl rfl)
theorem dX4_factor_96 : decode cX4_factor 96 = .ok (.bipush 41, 2) := dk_16 41 (dk_at dksX4_factor_4 4 rfl rfl)
theorem dX4_factor_98 : decode cX4_factor 98 = .ok (.invokevirtual 79, 3) := dk_182 0 79 (dk_at dksX4_factor_4 6 rfl rfl)
theorem dX4_factor_101 : decode cX4_factor 101 = .ok (.aload_n 0, 1) := dk_42 (dk_at dksX4_factor_4 9 rfl rfl)
theorem dX4_factor_102 : decode cX4_factor 102 = .ok (.dup, 1) := dk_89 (dk_at dksX4_factor_4 10 rfl rfl)
theorem dX4_factor_103 : decode cX4_factor 103 = .ok (.getfield 86, 3) := dk_180 0 86 (dk_at dksX4_factor_4 11 rfl rfl)
theorem dX4_factor_106 : decode cX4_factor 106 = .ok (.iconst 1, 1) := dk_4 (dk_at dksX4_factor_4 14 rfl rfl)
theorem dX4_factor_107 : decode cX4_factor 107 = .ok (.isub, 1) := dk_100 (dk_at dksX4_factor_4 15 rfl rfl)
theorem dX4_factor_108 : decode cX4_factor 108 = .ok (.putfield 86, 3) := dk_181 0 86 (dk_at dksX4_factor_4 16 rfl rfl)
theorem dX4_factor_111 : decode cX4_factor 111 = .ok (.return_, 1) := dk_177 (dk_at dksX4_factor_4 19 rfl rfl)
theorem dX4_factor_112 : decode cX4_factor 112 = .ok (.aload_n 0, 1) := dk_42 (dk_at dksX4_factor_4 20 rfl rfl)
theorem dX4_factor_113 : decode cX4_factor 113 = .ok (.ldc 98, 2) := dk_18 98 (dk_at dksX4_factor_4 21 rfl rfl)
theorem dX4_factor_115 : decode cX4_factor 115 = .ok (.invokevirtual 100, 3) := dk_182 0 100 (dk_at dksX4_factor_5 0 rfl rfl)
theorem dX4_factor_118 : decode cX4_factor 118 = .ok (.istore_n 2, 1) := dk_61 (dk_at dksX4_factor_5 3 rfl rfl)
theorem dX4_factor_119 : decode cX4_factor 119 = .ok (.aload_n 0, 1) := dk_42 (dk_at dksX4_factor_5 4 rfl rfl)
theorem dX4_factor_120 : decode cX4_factor 120 = .ok (.iload_n 2, 1) := dk_28 (dk_at dksX4_factor_5 5 rfl rfl)
theorem dX4_factor_121 : decode cX4_factor 121 = .ok (.iconst (-1), 1) := dk_2 (dk_at dksX4_factor_5 6 rfl rfl)
theorem dX4_factor_122 : decode cX4_factor 122 = .ok (.if_icmp .ne 7, 3) := dk_160 0 7 (dk_at dksX4_factor_5 7 rfl rfl)
theorem dX4_factor_125 : decode cX4_factor 125 = .ok (.iconst 1, 1) := dk_4 (dk_at dksX4_factor_5 10 rfl rfl)
theorem dX4_factor_126 : decode cX4_factor 126 = .ok (.goto 4, 3) := dk_167 0 4 (dk_at dksX4_factor_5 11 rfl rfl)
theorem dX4_factor_129 : decode cX4_factor 129 = .ok (.iconst 0, 1) := dk_3 (dk_at dksX4_factor_5 14 rfl rfl)
theorem dX4_factor_130 : decode cX4_factor 130 = .ok (.putfield 62, 3) := dk_181 0 62 (dk_at dksX4_factor_5 15 rfl rfl)
theorem dX4_factor_133 : decode cX4_factor 133 = .ok (.aload_n 0, 1) := dk_42 (dk_at dksX4_factor_5 18 rfl rfl)
theorem dX4_factor_134 : decode cX4_factor 134 = .ok (.getfield 62, 3) := dk_180 0 62 (dk_at dksX4_factor_5 19 rfl rfl)
theorem dX4_factor_137 : decode cX4_factor 137 = .ok (.ifCond .eq 7, 3) := dk_153 0 7 (dk_at dksX4_factor_6 0 rfl rfl)
theorem dX4_factor_140 : decode cX4_factor 140 = .ok (.iconst 0, 1) := dk_3 (dk_at dksX4_factor_6 3 rfl rfl)
theorem dX4_factor_141 : decode cX4_factor 141 = .ok (.goto 9, 3) := dk_167 0 9 (dk_at dksX4_factor_6 4 rfl rfl)
theorem dX4_factor_144 : decode cX4_factor 144 = .ok (.aload_n 0, 1) := dk_42 (dk_at dksX4_factor_6 7 rfl rfl)
theorem dX4_factor_145 : decode cX4_factor 145 = .ok (.ldc 104, 2) := dk_18 104 (dk_at dksX4_factor_6 8 rfl rfl)
theorem dX4_factor_147 : decode cX4_factor 147 = .ok (.invokevirtual 100, 3) := dk_182 0 100 (dk_at dksX4_factor_6 10 rfl rfl)
theorem dX4_factor_150 : decode cX4_factor 150 = .ok (.istore_n 3, 1) := dk_62 (dk_at dksX4_factor_6 13 rfl rfl)
theorem dX4_factor_151 : decode cX4_factor 151 = .ok (.aload_n 0, 1) := dk_42 (dk_at dksX4_factor_6 14 rfl rfl)
theorem dX4_factor_152 : decode cX4_factor 152 = .ok (.aload_n 0, 1) := dk_42 (dk_at dksX4_factor_6 15 rfl rfl)
theorem dX4_factor_153 : decode cX4_factor 153 = .ok (.getfield 62, 3) := dk_180 0 62 (dk_at dksX4_factor_6 16 rfl rfl)
theorem dX4_factor_156 : decode cX4_factor 156 = .ok (.ifCond .ne 8, 3) := dk_154 0 8 (dk_at dksX4_factor_6 19 rfl rfl)
theorem dX4_factor_159 : decode cX4_factor 159 = .ok (.iload_n 3, 1) := dk_29 (dk_at dksX4_factor_6 22 rfl rfl)
theorem dX4_factor_160 : decode cX4_factor 160 = .ok (.iconst (-1), 1) := dk_2 (dk_at dksX4_factor_6 23 rfl rfl)
theorem dX4_factor_161 : decode cX4_factor 161 = .ok (.if_icmp .ne 7, 3) := dk_160 0 7 (dk_at dksX4_factor_7 0 rfl rfl)
theorem dX4_factor_164 : decode cX4_factor 164 = .ok (.iconst 1, 1) := dk_4 (dk_at dksX4_factor_7 3 rfl rfl)
theorem dX4_factor_165 : decode cX4_factor 165 = .ok (.goto 4, 3) := dk_167 0 4 (dk_at dksX4_factor_7 4 rfl rfl)
theorem dX4_factor_168 : decode cX4_factor 168 = .ok (.iconst 0, 1) := dk_3 (dk_at dksX4_factor_7 7 rfl rfl)
theorem dX4_factor_169 : decode cX4_factor 169 = .ok (.putfield 62, 3) := dk_181 0 62 (dk_at dksX4_factor_7 8 rfl rfl)
theorem dX4_factor_172 : decode cX4_factor 172 = .ok (.aload_n 0, 1) := dk_42 (dk_at dksX4_factor_7 11 rfl rfl)
theorem dX4_factor_173 : decode cX4_factor 173 = .ok (.invokevirtual 106, 3) := dk_182 0 106 (dk_at dksX4_factor_7 12 rfl rfl)
theorem dX4_factor_176 : decode cX4_factor 176 = .ok (.istore 4, 2) := dk_54 4 (dk_at dksX4_factor_7 15 rfl rfl)
theorem dX4_factor_178 : decode cX4_factor 178 = .ok (.aload_n 0, 1) := dk_42 (dk_at dksX4_factor_7 17 rfl rfl)
theorem dX4_factor_179 : decode cX4_factor 179 = .ok (.iload_n 2, 1) := dk_28 (dk_at dksX4_factor_7 18 rfl rfl)
theorem dX4_factor_180 : decode cX4_factor 180 = .ok (.bipush 8, 2) := dk_16 8 (dk_at dksX4_factor_7 19 rfl rfl)
theorem dX4_factor_182 : decode cX4_factor 182 = .ok (.iload_n 3, 1) := dk_29 (dk_at dksX4_factor_7 21 rfl rfl)
theorem dX4_factor_183 : decode cX4_factor 183 = .ok (.imul, 1) := dk_104 (dk_at dksX4_factor_7 22 rfl rfl)
theorem dX4_factor_184 : decode cX4_factor 184 = .ok (.iadd, 1) := dk_96 (dk_at dksX4_factor_7 23 rfl rfl)
theorem dX4_factor_185 : decode cX4_factor 185 = .ok (.bipush 32, 2) := dk_16 32 (dk_at dksX4_factor_8 0 rfl rfl)
theorem dX4_factor_187 : decode cX4_factor 187 = .ok (.iload 4, 2) := dk_21 4 (dk_at dksX4_factor_8 2 rfl rfl)
theorem dX4_factor_189 : decode cX4_factor 189 = .ok (.imul, 1) := dk_104 (dk_at dksX4_factor_8 4 rfl rfl)
theorem dX4_factor_190 : decode cX4_factor 190 = .ok (.iadd, 1) := dk_96 (dk_at dksX4_factor_8 5 rfl rfl)
theorem dX4_factor_191 : decode cX4_factor 191 = .ok (.invokevirtual 92, 3) := dk_182 0 92 (dk_at dksX4_factor_8 6 rfl rfl)
theorem dX4_factor_194 : decode cX4_factor 194 = .ok (.return_, 1) := dk_177 (dk_at dksX4_factor_8 9 rfl rfl)
abbrev cX4_emits : ByteArray := prog_19_method_14_code
def yX4_emits : MethodName := ⟨RX4, "emits", "(I)V"⟩
def dkwX4_emits_2 : List UInt8 := [180, 0, 83, 96, 92, 46, 4, 96, 79, 177]
abbrev dktX4_emits_2 : List UInt8 := dkwX4_emits_2 ++ []
def dkwX4_emits_1 : List UInt8 := [180, 0, 9, 17, 0, 184, 42, 180, 0, 83, 96, 46, 96, 27, 79, 42, 180, 0, 9, 17, 0, 184, 42]
abbrev dktX4_emits_1 : List UInt8 := dkwX4_emits_1 ++ dktX4_emits_2
def dkwX4_emits_0 : List UInt8 := [42, 180, 0, 62, 154, 0, 52, 42, 180, 0, 9, 17, 0, 189, 17, 0, 140, 42, 180, 0, 83, 104, 96, 42]
abbrev dktX4_emits_0 : List UInt8 := dkwX4_emits_0 ++ dktX4_emits_1
theorem dksX4_emits_0 : cX4_emits.data.toList.drop 0 = dktX4_emits_0 := by decide +kernel
theorem dksX4_emits_1 : cX4_emits.data.toList.drop 24 = dktX4_emits_1 := dk_seg dksX4_emits_0 24 rfl rfl
theorem dksX4_emits_2 : cX4_emits.data.toList.drop 47 = dktX4_emits_2 := dk_seg dksX4_emits_1 23 rfl rfl
theorem dX4_emits_0 : decode cX4_emits 0 = .ok (.aload_n 0, 1) := dk_42 (dk_at dksX4_emits_0 0 rfl rfl)
theorem dX4_emits_1 : decode cX4_emits 1 = .ok (.getfield 62, 3) := dk_180 0 62 (dk_at dksX4_emits_0 1 rfl rfl)
theorem dX4_emits_4 : decode cX4_emits 4 = .ok (.ifCond .ne 52, 3) := dk_154 0 52 (dk_at dksX4_emits_0 4 rfl rfl)
theorem dX4_emits_7 : decode cX4_emits 7 = .ok (.aload_n 0, 1) := dk_42 (dk_at dksX4_emits_0 7 rfl rfl)
theorem dX4_emits_8 : decode cX4_emits 8 = .ok (.getfield 9, 3) := dk_180 0 9 (dk_at dksX4_emits_0 8 rfl rfl)
theorem dX4_emits_11 : decode cX4_emits 11 = .ok (.sipush 189, 3) := dk_17 0 189 (dk_at dksX4_emits_0 11 rfl rfl)
theorem dX4_emits_14 : decode cX4_emits 14 = .ok (.sipush 140, 3) := dk_17 0 140 (dk_at dksX4_emits_0 14 rfl rfl)
theorem dX4_emits_17 : decode cX4_emits 17 = .ok (.aload_n 0, 1) := dk_42 (dk_at dksX4_emits_0 17 rfl rfl)
theorem dX4_emits_18 : decode cX4_emits 18 = .ok (.getfield 83, 3) := dk_180 0 83 (dk_at dksX4_emits_0 18 rfl rfl)
theorem dX4_emits_21 : decode cX4_emits 21 = .ok (.imul, 1) := dk_104 (dk_at dksX4_emits_0 21 rfl rfl)
theorem dX4_emits_22 : decode cX4_emits 22 = .ok (.iadd, 1) := dk_96 (dk_at dksX4_emits_0 22 rfl rfl)
theorem dX4_emits_23 : decode cX4_emits 23 = .ok (.aload_n 0, 1) := dk_42 (dk_at dksX4_emits_0 23 rfl rfl)
theorem dX4_emits_24 : decode cX4_emits 24 = .ok (.getfield 9, 3) := dk_180 0 9 (dk_at dksX4_emits_1 0 rfl rfl)
theorem dX4_emits_27 : decode cX4_emits 27 = .ok (.sipush 184, 3) := dk_17 0 184 (dk_at dksX4_emits_1 3 rfl rfl)
theorem dX4_emits_30 : decode cX4_emits 30 = .ok (.aload_n 0, 1) := dk_42 (dk_at dksX4_emits_1 6 rfl rfl)
theorem dX4_emits_31 : decode cX4_emits 31 = .ok (.getfield 83, 3) := dk_180 0 83 (dk_at dksX4_emits_1 7 rfl rfl)
theorem dX4_emits_34 : decode cX4_emits 34 = .ok (.iadd, 1) := dk_96 (dk_at dksX4_emits_1 10 rfl rfl)
theorem dX4_emits_35 : decode cX4_emits 35 = .ok (.iaload, 1) := dk_46 (dk_at dksX4_emits_1 11 rfl rfl)
theorem dX4_emits_36 : decode cX4_emits 36 = .ok (.iadd, 1) := dk_96 (dk_at dksX4_emits_1 12 rfl rfl)
theorem dX4_emits_37 : decode cX4_emits 37 = .ok (.iload_n 1, 1) := dk_27 (dk_at dksX4_emits_1 13 rfl rfl)
theorem dX4_emits_38 : decode cX4_emits 38 = .ok (.iastore, 1) := dk_79 (dk_at dksX4_emits_1 14 rfl rfl)
theorem dX4_emits_39 : decode cX4_emits 39 = .ok (.aload_n 0, 1) := dk_42 (dk_at dksX4_emits_1 15 rfl rfl)
theorem dX4_emits_40 : decode cX4_emits 40 = .ok (.getfield 9, 3) := dk_180 0 9 (dk_at dksX4_emits_1 16 rfl rfl)
theorem dX4_emits_43 : decode cX4_emits 43 = .ok (.sipush 184, 3) := dk_17 0 184 (dk_at dksX4_emits_1 19 rfl rfl)
theorem dX4_emits_46 : decode cX4_emits 46 = .ok (.aload_n 0, 1) := dk_42 (dk_at dksX4_emits_1 22 rfl rfl)
theorem dX4_emits_47 : decode cX4_emits 47 = .ok (.getfield 83, 3) := dk_180 0 83 (dk_at dksX4_emits_2 0 rfl rfl)
theorem dX4_emits_50 : decode cX4_emits 50 = .ok (.iadd, 1) := dk_96 (dk_at dksX4_emits_2 3 rfl rfl)
theorem dX4_emits_51 : decode cX4_emits 51 = .ok (.dup2, 1) := dk_92 (dk_at dksX4_emits_2 4 rfl rfl)
theorem dX4_emits_52 : decode cX4_emits 52 = .ok (.iaload, 1) := dk_46 (dk_at dksX4_emits_2 5 rfl rfl)
theorem dX4_emits_53 : decode cX4_emits 53 = .ok (.iconst 1, 1) := dk_4 (dk_at dksX4_emits_2 6 rfl rfl)
theorem dX4_emits_54 : decode cX4_emits 54 = .ok (.iadd, 1) := dk_96 (dk_at dksX4_emits_2 7 rfl rfl)
theorem dX4_emits_55 : decode cX4_emits 55 = .ok (.iastore, 1) := dk_79 (dk_at dksX4_emits_2 8 rfl rfl)
theorem dX4_emits_56 : decode cX4_emits 56 = .ok (.return_, 1) := dk_177 (dk_at dksX4_emits_2 9 rfl rfl)
abbrev cX4_among : ByteArray := prog_19_method_13_code
def yX4_among : MethodName := ⟨RX4, "among", "(Ljava/lang/String;)I"⟩
def dkwX4_among_1 : List UInt8 := [180, 0, 56, 4, 96, 181, 0, 56, 28, 172, 132, 2, 1, 167, 255, 221, 2, 172]
abbrev dktX4_among_1 : List UInt8 := dkwX4_among_1 ++ []
def dkwX4_among_0 : List UInt8 := [3, 61, 28, 43, 182, 0, 70, 162, 0, 33, 42, 182, 0, 66, 43, 28, 182, 0, 75, 160, 0, 15, 42, 89]
abbrev dktX4_among_0 : List UInt8 := dkwX4_among_0 ++ dktX4_among_1
theorem dksX4_among_0 : cX4_among.data.toList.drop 0 = dktX4_among_0 := by decide +kernel
theorem dksX4_among_1 : cX4_among.data.toList.drop 24 = dktX4_among_1 := dk_seg dksX4_among_0 24 rfl rfl
theorem dX4_among_0 : decode cX4_among 0 = .ok (.iconst 0, 1) := dk_3 (dk_at dksX4_among_0 0 rfl rfl)
theorem dX4_among_1 : decode cX4_among 1 = .ok (.istore_n 2, 1) := dk_61 (dk_at dksX4_among_0 1 rfl rfl)
theorem dX4_among_2 : decode cX4_among 2 = .ok (.iload_n 2, 1) := dk_28 (dk_at dksX4_among_0 2 rfl rfl)
theorem dX4_among_3 : decode cX4_among 3 = .ok (.aload_n 1, 1) := dk_43 (dk_at dksX4_among_0 3 rfl rfl)
theorem dX4_among_4 : decode cX4_among 4 = .ok (.invokevirtual 70, 3) := dk_182 0 70 (dk_at dksX4_among_0 4 rfl rfl)
theorem dX4_among_7 : decode cX4_among 7 = .ok (.if_icmp .ge 33, 3) := dk_162 0 33 (dk_at dksX4_among_0 7 rfl rfl)
theorem dX4_among_10 : decode cX4_among 10 = .ok (.aload_n 0, 1) := dk_42 (dk_at dksX4_among_0 10 rfl rfl)
theorem dX4_among_11 : decode cX4_among 11 = .ok (.invokevirtual 66, 3) := dk_182 0 66 (dk_at dksX4_among_0 11 rfl rfl)
theorem dX4_among_14 : decode cX4_among 14 = .ok (.aload_n 1, 1) := dk_43 (dk_at dksX4_among_0 14 rfl rfl)
theorem dX4_among_15 : decode cX4_among 15 = .ok (.iload_n 2, 1) := dk_28 (dk_at dksX4_among_0 15 rfl rfl)
theorem dX4_among_16 : decode cX4_among 16 = .ok (.invokevirtual 75, 3) := dk_182 0 75 (dk_at dksX4_among_0 16 rfl rfl)
theorem dX4_among_19 : decode cX4_among 19 = .ok (.if_icmp .ne 15, 3) := dk_160 0 15 (dk_at dksX4_among_0 19 rfl rfl)
theorem dX4_among_22 : decode cX4_among 22 = .ok (.aload_n 0, 1) := dk_42 (dk_at dksX4_among_0 22 rfl rfl)
theorem dX4_among_23 : decode cX4_among 23 = .ok (.dup, 1) := dk_89 (dk_at dksX4_among_0 23 rfl rfl)
theorem dX4_among_24 : decode cX4_among 24 = .ok (.getfield 56, 3) := dk_180 0 56 (dk_at dksX4_among_1 0 rfl rfl)
theorem dX4_among_27 : decode cX4_among 27 = .ok (.iconst 1, 1) := dk_4 (dk_at dksX4_among_1 3 rfl rfl)
theorem dX4_among_28 : decode cX4_among 28 = .ok (.iadd, 1) := dk_96 (dk_at dksX4_among_1 4 rfl rfl)
theorem dX4_among_29 : decode cX4_among 29 = .ok (.putfield 56, 3) := dk_181 0 56 (dk_at dksX4_among_1 5 rfl rfl)
theorem dX4_among_32 : decode cX4_among 32 = .ok (.iload_n 2, 1) := dk_28 (dk_at dksX4_among_1 8 rfl rfl)
theorem dX4_among_33 : decode cX4_among 33 = .ok (.ireturn, 1) := dk_172 (dk_at dksX4_among_1 9 rfl rfl)
theorem dX4_among_34 : decode cX4_among 34 = .ok (.iinc 2 1, 3) := dk_132 2 1 (dk_at dksX4_among_1 10 rfl rfl)
theorem dX4_among_37 : decode cX4_among 37 = .ok (.goto (-35), 3) := dk_167 255 221 (dk_at dksX4_among_1 13 rfl rfl)
theorem dX4_among_40 : decode cX4_among 40 = .ok (.iconst (-1), 1) := dk_2 (dk_at dksX4_among_1 16 rfl rfl)
theorem dX4_among_41 : decode cX4_among 41 = .ok (.ireturn, 1) := dk_172 (dk_at dksX4_among_1 17 rfl rfl)
abbrev cX4_tellsHere : ByteArray := prog_19_method_19_code
def yX4_tellsHere : MethodName := ⟨RX4, "tellsHere", "(ILjava/lang/String;)V"⟩
def dkwX4_tellsHere_1 : List UInt8 := [180, 0, 83, 96, 29, 79, 177]
abbrev dktX4_tellsHere_1 : List UInt8 := dkwX4_tellsHere_1 ++ []
def dkwX4_tellsHere_0 : List UInt8 := [42, 44, 182, 0, 112, 42, 182, 0, 106, 62, 42, 180, 0, 62, 154, 0, 15, 42, 180, 0, 9, 27, 42]
abbrev dktX4_tellsHere_0 : List UInt8 := dkwX4_tellsHere_0 ++ dktX4_tellsHere_1
theorem dksX4_tellsHere_0 : cX4_tellsHere.data.toList.drop 0 = dktX4_tellsHere_0 := by decide +kernel
theorem dksX4_tellsHere_1 : cX4_tellsHere.data.toList.drop 23 = dktX4_tellsHere_1 := dk_seg dksX4_tellsHere_0 23 rfl rfl
theorem dX4_tellsHere_0 : decode cX4_tellsHere 0 = .ok (.aload_n 0, 1) := dk_42 (dk_at dksX4_tellsHere_0 0 rfl rfl)
theorem dX4_tellsHere_1 : decode cX4_tellsHere 1 = .ok (.aload_n 2, 1) := dk_44 (dk_at dksX4_tellsHere_0 1 rfl rfl)
theorem dX4_tellsHere_2 : decode cX4_tellsHere 2 = .ok (.invokevirtual 112, 3) := dk_182 0 112 (dk_at dksX4_tellsHere_0 2 rfl rfl)
theorem dX4_tellsHere_5 : decode cX4_tellsHere 5 = .ok (.aload_n 0, 1) := dk_42 (dk_at dksX4_tellsHere_0 5 rfl rfl)
theorem dX4_tellsHere_6 : decode cX4_tellsHere 6 = .ok (.invokevirtual 106, 3) := dk_182 0 106 (dk_at dksX4_tellsHere_0 6 rfl rfl)
theorem dX4_tellsHere_9 : decode cX4_tellsHere 9 = .ok (.istore_n 3, 1) := dk_62 (dk_at dksX4_tellsHere_0 9 rfl rfl)
theorem dX4_tellsHere_10 : decode cX4_tellsHere 10 = .ok (.aload_n 0, 1) := dk_42 (dk_at dksX4_tellsHere_0 10 rfl rfl)
theorem dX4_tellsHere_11 : decode cX4_tellsHere 11 = .ok (.getfield 62, 3) := dk_180 0 62 (dk_at dksX4_tellsHere_0 11 rfl rfl)
theorem dX4_tellsHere_14 : decode cX4_tellsHere 14 = .ok (.ifCond .ne 15, 3) := dk_154 0 15 (dk_at dksX4_tellsHere_0 14 rfl rfl)
theorem dX4_tellsHere_17 : decode cX4_tellsHere 17 = .ok (.aload_n 0, 1) := dk_42 (dk_at dksX4_tellsHere_0 17 rfl rfl)
theorem dX4_tellsHere_18 : decode cX4_tellsHere 18 = .ok (.getfield 9, 3) := dk_180 0 9 (dk_at dksX4_tellsHere_0 18 rfl rfl)
theorem dX4_tellsHere_21 : decode cX4_tellsHere 21 = .ok (.iload_n 1, 1) := dk_27 (dk_at dksX4_tellsHere_0 21 rfl rfl)
theorem dX4_tellsHere_22 : decode cX4_tellsHere 22 = .ok (.aload_n 0, 1) := dk_42 (dk_at dksX4_tellsHere_0 22 rfl rfl)
theorem dX4_tellsHere_23 : decode cX4_tellsHere 23 = .ok (.getfield 83, 3) := dk_180 0 83 (dk_at dksX4_tellsHere_1 0 rfl rfl)
theorem dX4_tellsHere_26 : decode cX4_tellsHere 26 = .ok (.iadd, 1) := dk_96 (dk_at dksX4_tellsHere_1 3 rfl rfl)
theorem dX4_tellsHere_27 : decode cX4_tellsHere 27 = .ok (.iload_n 3, 1) := dk_29 (dk_at dksX4_tellsHere_1 4 rfl rfl)
theorem dX4_tellsHere_28 : decode cX4_tellsHere 28 = .ok (.iastore, 1) := dk_79 (dk_at dksX4_tellsHere_1 5 rfl rfl)
theorem dX4_tellsHere_29 : decode cX4_tellsHere 29 = .ok (.return_, 1) := dk_177 (dk_at dksX4_tellsHere_1 6 rfl rfl)
abbrev cX4_player : ByteArray := prog_19_method_24_code
def yX4_player : MethodName := ⟨RX4, "player", "(II)I"⟩
def dkwX4_player_4 : List UInt8 := [21, 4, 96, 7, 79, 132, 4, 1, 167, 255, 232, 42, 180, 0, 9, 16, 6, 92, 46, 4, 96, 79, 29, 172]
abbrev dktX4_player_4 : List UInt8 := dkwX4_player_4 ++ []
def dkwX4_player_3 : List UInt8 := [29, 96, 16, 8, 79, 3, 54, 4, 21, 4, 7, 162, 0, 24, 42, 180, 0, 9, 16, 22, 7, 29, 104, 96]
abbrev dktX4_player_3 : List UInt8 := dkwX4_player_3 ++ dktX4_player_4
def dkwX4_player_2 : List UInt8 := [180, 0, 9, 16, 12, 29, 96, 27, 79, 42, 180, 0, 9, 16, 17, 29, 96, 28, 79, 42, 180, 0, 9, 4]
abbrev dktX4_player_2 : List UInt8 := dkwX4_player_2 ++ dktX4_player_3
def dkwX4_player_1 : List UInt8 := [172, 42, 180, 0, 9, 16, 6, 46, 8, 160, 0, 6, 16, 252, 172, 42, 180, 0, 9, 16, 6, 46, 62, 42]
abbrev dktX4_player_1 : List UInt8 := dkwX4_player_1 ++ dktX4_player_2
def dkwX4_player_0 : List UInt8 := [27, 3, 16, 6, 184, 0, 48, 154, 0, 5, 2, 172, 28, 3, 16, 9, 184, 0, 48, 154, 0, 6, 16, 254]
abbrev dktX4_player_0 : List UInt8 := dkwX4_player_0 ++ dktX4_player_1
theorem dksX4_player_0 : cX4_player.data.toList.drop 0 = dktX4_player_0 := by decide +kernel
theorem dksX4_player_1 : cX4_player.data.toList.drop 24 = dktX4_player_1 := dk_seg dksX4_player_0 24 rfl rfl
theorem dksX4_player_2 : cX4_player.data.toList.drop 48 = dktX4_player_2 := dk_seg dksX4_player_1 24 rfl rfl
theorem dksX4_player_3 : cX4_player.data.toList.drop 72 = dktX4_player_3 := dk_seg dksX4_player_2 24 rfl rfl
theorem dksX4_player_4 : cX4_player.data.toList.drop 96 = dktX4_player_4 := dk_seg dksX4_player_3 24 rfl rfl
theorem dX4_player_0 : decode cX4_player 0 = .ok (.iload_n 1, 1) := dk_27 (dk_at dksX4_player_0 0 rfl rfl)
theorem dX4_player_1 : decode cX4_player 1 = .ok (.iconst 0, 1) := dk_3 (dk_at dksX4_player_0 1 rfl rfl)
theorem dX4_player_2 : decode cX4_player 2 = .ok (.bipush 6, 2) := dk_16 6 (dk_at dksX4_player_0 2 rfl rfl)
theorem dX4_player_4 : decode cX4_player 4 = .ok (.invokestatic 48, 3) := dk_184 0 48 (dk_at dksX4_player_0 4 rfl rfl)
theorem dX4_player_7 : decode cX4_player 7 = .ok (.ifCond .ne 5, 3) := dk_154 0 5 (dk_at dksX4_player_0 7 rfl rfl)
theorem dX4_player_10 : decode cX4_player 10 = .ok (.iconst (-1), 1) := dk_2 (dk_at dksX4_player_0 10 rfl rfl)
theorem dX4_player_11 : decode cX4_player 11 = .ok (.ireturn, 1) := dk_172 (dk_at dksX4_player_0 11 rfl rfl)
theorem dX4_player_12 : decode cX4_player 12 = .ok (.iload_n 2, 1) := dk_28 (dk_at dksX4_player_0 12 rfl rfl)
theorem dX4_player_13 : decode cX4_player 13 = .ok (.iconst 0, 1) := dk_3 (dk_at dksX4_player_0 13 rfl rfl)
theorem dX4_player_14 : decode cX4_player 14 = .ok (.bipush 9, 2) := dk_16 9 (dk_at dksX4_player_0 14 rfl rfl)
theorem dX4_player_16 : decode cX4_player 16 = .ok (.invokestatic 48, 3) := dk_184 0 48 (dk_at dksX4_player_0 16 rfl rfl)
theorem dX4_player_19 : decode cX4_player 19 = .ok (.ifCond .ne 6, 3) := dk_154 0 6 (dk_at dksX4_player_0 19 rfl rfl)
theorem dX4_player_22 : decode cX4_player 22 = .ok (.bipush (-2), 2) := dk_16 254 (dk_at dksX4_player_0 22 rfl rfl)
theorem dX4_player_24 : decode cX4_player 24 = .ok (.ireturn, 1) := dk_172 (dk_at dksX4_player_1 0 rfl rfl)
theorem dX4_player_25 : decode cX4_player 25 = .ok (.aload_n 0, 1) := dk_42 (dk_at dksX4_player_1 1 rfl rfl)
theorem dX4_player_26 : decode cX4_player 26 = .ok (.getfield 9, 3) := dk_180 0 9 (dk_at dksX4_player_1 2 rfl rfl)
theorem dX4_player_29 : decode cX4_player 29 = .ok (.bipush 6, 2) := dk_16 6 (dk_at dksX4_player_1 5 rfl rfl)
theorem dX4_player_31 : decode cX4_player 31 = .ok (.iaload, 1) := dk_46 (dk_at dksX4_player_1 7 rfl rfl)
theorem dX4_player_32 : decode cX4_player 32 = .ok (.iconst 5, 1) := dk_8 (dk_at dksX4_player_1 8 rfl rfl)
theorem dX4_player_33 : decode cX4_player 33 = .ok (.if_icmp .ne 6, 3) := dk_160 0 6 (dk_at dksX4_player_1 9 rfl rfl)
theorem dX4_player_36 : decode cX4_player 36 = .ok (.bipush (-4), 2) := dk_16 252 (dk_at dksX4_player_1 12 rfl rfl)
theorem dX4_player_38 : decode cX4_player 38 = .ok (.ireturn, 1) := dk_172 (dk_at dksX4_player_1 14 rfl rfl)
theorem dX4_player_39 : decode cX4_player 39 = .ok (.aload_n 0, 1) := dk_42 (dk_at dksX4_player_1 15 rfl rfl)
theorem dX4_player_40 : decode cX4_player 40 = .ok (.getfield 9, 3) := dk_180 0 9 (dk_at dksX4_player_1 16 rfl rfl)
theorem dX4_player_43 : decode cX4_player 43 = .ok (.bipush 6, 2) := dk_16 6 (dk_at dksX4_player_1 19 rfl rfl)
theorem dX4_player_45 : decode cX4_player 45 = .ok (.iaload, 1) := dk_46 (dk_at dksX4_player_1 21 rfl rfl)
theorem dX4_player_46 : decode cX4_player 46 = .ok (.istore_n 3, 1) := dk_62 (dk_at dksX4_player_1 22 rfl rfl)
theorem dX4_player_47 : decode cX4_player 47 = .ok (.aload_n 0, 1) := dk_42 (dk_at dksX4_player_1 23 rfl rfl)
theorem dX4_player_48 : decode cX4_player 48 = .ok (.getfield 9, 3) := dk_180 0 9 (dk_at dksX4_player_2 0 rfl rfl)
theorem dX4_player_51 : decode cX4_player 51 = .ok (.bipush 12, 2) := dk_16 12 (dk_at dksX4_player_2 3 rfl rfl)
theorem dX4_player_53 : decode cX4_player 53 = .ok (.iload_n 3, 1) := dk_29 (dk_at dksX4_player_2 5 rfl rfl)
theorem dX4_player_54 : decode cX4_player 54 = .ok (.iadd, 1) := dk_96 (dk_at dksX4_player_2 6 rfl rfl)
theorem dX4_player_55 : decode cX4_player 55 = .ok (.iload_n 1, 1) := dk_27 (dk_at dksX4_player_2 7 rfl rfl)
theorem dX4_player_56 : decode cX4_player 56 = .ok (.iastore, 1) := dk_79 (dk_at dksX4_player_2 8 rfl rfl)
theorem dX4_player_57 : decode cX4_player 57 = .ok (.aload_n 0, 1) := dk_42 (dk_at dksX4_player_2 9 rfl rfl)
theorem dX4_player_58 : decode cX4_player 58 = .ok (.getfield 9, 3) := dk_180 0 9 (dk_at dksX4_player_2 10 rfl rfl)
theorem dX4_player_61 : decode cX4_player 61 = .ok (.bipush 17, 2) := dk_16 17 (dk_at dksX4_player_2 13 rfl rfl)
theorem dX4_player_63 : decode cX4_player 63 = .ok (.iload_n 3, 1) := dk_29 (dk_at dksX4_player_2 15 rfl rfl)
theorem dX4_player_64 : decode cX4_player 64 = .ok (.iadd, 1) := dk_96 (dk_at dksX4_player_2 16 rfl rfl)
theorem dX4_player_65 : decode cX4_player 65 = .ok (.iload_n 2, 1) := dk_28 (dk_at dksX4_player_2 17 rfl rfl)
theorem dX4_player_66 : decode cX4_player 66 = .ok (.iastore, 1) := dk_79 (dk_at dksX4_player_2 18 rfl rfl)
theorem dX4_player_67 : decode cX4_player 67 = .ok (.aload_n 0, 1) := dk_42 (dk_at dksX4_player_2 19 rfl rfl)
theorem dX4_player_68 : decode cX4_player 68 = .ok (.getfield 9, 3) := dk_180 0 9 (dk_at dksX4_player_2 20 rfl rfl)
theorem dX4_player_71 : decode cX4_player 71 = .ok (.iconst 1, 1) := dk_4 (dk_at dksX4_player_2 23 rfl rfl)
theorem dX4_player_72 : decode cX4_player 72 = .ok (.iload_n 3, 1) := dk_29 (dk_at dksX4_player_3 0 rfl rfl)
theorem dX4_player_73 : decode cX4_player 73 = .ok (.iadd, 1) := dk_96 (dk_at dksX4_player_3 1 rfl rfl)
theorem dX4_player_74 : decode cX4_player 74 = .ok (.bipush 8, 2) := dk_16 8 (dk_at dksX4_player_3 2 rfl rfl)
theorem dX4_player_76 : decode cX4_player 76 = .ok (.iastore, 1) := dk_79 (dk_at dksX4_player_3 4 rfl rfl)
theorem dX4_player_77 : decode cX4_player 77 = .ok (.iconst 0, 1) := dk_3 (dk_at dksX4_player_3 5 rfl rfl)
theorem dX4_player_78 : decode cX4_player 78 = .ok (.istore 4, 2) := dk_54 4 (dk_at dksX4_player_3 6 rfl rfl)
theorem dX4_player_80 : decode cX4_player 80 = .ok (.iload 4, 2) := dk_21 4 (dk_at dksX4_player_3 8 rfl rfl)
theorem dX4_player_82 : decode cX4_player 82 = .ok (.iconst 4, 1) := dk_7 (dk_at dksX4_player_3 10 rfl rfl)
theorem dX4_player_83 : decode cX4_player 83 = .ok (.if_icmp .ge 24, 3) := dk_162 0 24 (dk_at dksX4_player_3 11 rfl rfl)
theorem dX4_player_86 : decode cX4_player 86 = .ok (.aload_n 0, 1) := dk_42 (dk_at dksX4_player_3 14 rfl rfl)
theorem dX4_player_87 : decode cX4_player 87 = .ok (.getfield 9, 3) := dk_180 0 9 (dk_at dksX4_player_3 15 rfl rfl)
theorem dX4_player_90 : decode cX4_player 90 = .ok (.bipush 22, 2) := dk_16 22 (dk_at dksX4_player_3 18 rfl rfl)
theorem dX4_player_92 : decode cX4_player 92 = .ok (.iconst 4, 1) := dk_7 (dk_at dksX4_player_3 20 rfl rfl)
theorem dX4_player_93 : decode cX4_player 93 = .ok (.iload_n 3, 1) := dk_29 (dk_at dksX4_player_3 21 rfl rfl)
theorem dX4_player_94 : decode cX4_player 94 = .ok (.imul, 1) := dk_104 (dk_at dksX4_player_3 22 rfl rfl)
theorem dX4_player_95 : decode cX4_player 95 = .ok (.iadd, 1) := dk_96 (dk_at dksX4_player_3 23 rfl rfl)
theorem dX4_player_96 : decode cX4_player 96 = .ok (.iload 4, 2) := dk_21 4 (dk_at dksX4_player_4 0 rfl rfl)
theorem dX4_player_98 : decode cX4_player 98 = .ok (.iadd, 1) := dk_96 (dk_at dksX4_player_4 2 rfl rfl)
theorem dX4_player_99 : decode cX4_player 99 = .ok (.iconst 4, 1) := dk_7 (dk_at dksX4_player_4 3 rfl rfl)
theorem dX4_player_100 : decode cX4_player 100 = .ok (.iastore, 1) := dk_79 (dk_at dksX4_player_4 4 rfl rfl)
theorem dX4_player_101 : decode cX4_player 101 = .ok (.iinc 4 1, 3) := dk_132 4 1 (dk_at dksX4_player_4 5 rfl rfl)
theorem dX4_player_104 : decode cX4_player 104 = .ok (.goto (-24), 3) := dk_167 255 232 (dk_at dksX4_player_4 8 rfl rfl)
theorem dX4_player_107 : decode cX4_player 107 = .ok (.aload_n 0, 1) := dk_42 (dk_at dksX4_player_4 11 rfl rfl)
theorem dX4_player_108 : decode cX4_player 108 = .ok (.getfield 9, 3) := dk_180 0 9 (dk_at dksX4_player_4 12 rfl rfl)
theorem dX4_player_111 : decode cX4_player 111 = .ok (.bipush 6, 2) := dk_16 6 (dk_at dksX4_player_4 15 rfl rfl)
theorem dX4_player_113 : decode cX4_player 113 = .ok (.dup2, 1) := dk_92 (dk_at dksX4_player_4 17 rfl rfl)
theorem dX4_player_114 : decode cX4_player 114 = .ok (.iaload, 1) := dk_46 (dk_at dksX4_player_4 18 rfl rfl)
theorem dX4_player_115 : decode cX4_player 115 = .ok (.iconst 1, 1) := dk_4 (dk_at dksX4_player_4 19 rfl rfl)
theorem dX4_player_116 : decode cX4_player 116 = .ok (.iadd, 1) := dk_96 (dk_at dksX4_player_4 20 rfl rfl)
theorem dX4_player_117 : decode cX4_player 117 = .ok (.iastore, 1) := dk_79 (dk_at dksX4_player_4 21 rfl rfl)
theorem dX4_player_118 : decode cX4_player 118 = .ok (.iload_n 3, 1) := dk_29 (dk_at dksX4_player_4 22 rfl rfl)
theorem dX4_player_119 : decode cX4_player 119 = .ok (.ireturn, 1) := dk_172 (dk_at dksX4_player_4 23 rfl rfl)
abbrev cX4_of : ByteArray := prog_19_method_25_code
def yX4_of : MethodName := ⟨RX4, "of", "(II)I"⟩
def dkwX4_of_2 : List UInt8 := [172]
abbrev dktX4_of_2 : List UInt8 := dkwX4_of_2 ++ []
def dkwX4_of_1 : List UInt8 := [42, 180, 0, 9, 4, 27, 96, 46, 167, 0, 16, 42, 180, 0, 9, 16, 12, 8, 28, 104, 96, 27, 96, 46]
abbrev dktX4_of_1 : List UInt8 := dkwX4_of_1 ++ dktX4_of_2
def dkwX4_of_0 : List UInt8 := [42, 27, 182, 0, 52, 153, 0, 12, 28, 3, 5, 184, 0, 48, 154, 0, 5, 2, 172, 28, 5, 160, 0, 14]
abbrev dktX4_of_0 : List UInt8 := dkwX4_of_0 ++ dktX4_of_1
theorem dksX4_of_0 : cX4_of.data.toList.drop 0 = dktX4_of_0 := by decide +kernel
theorem dksX4_of_1 : cX4_of.data.toList.drop 24 = dktX4_of_1 := dk_seg dksX4_of_0 24 rfl rfl
theorem dksX4_of_2 : cX4_of.data.toList.drop 48 = dktX4_of_2 := dk_seg dksX4_of_1 24 rfl rfl
theorem dX4_of_0 : decode cX4_of 0 = .ok (.aload_n 0, 1) := dk_42 (dk_at dksX4_of_0 0 rfl rfl)
theorem dX4_of_1 : decode cX4_of 1 = .ok (.iload_n 1, 1) := dk_27 (dk_at dksX4_of_0 1 rfl rfl)
theorem dX4_of_2 : decode cX4_of 2 = .ok (.invokevirtual 52, 3) := dk_182 0 52 (dk_at dksX4_of_0 2 rfl rfl)
theorem dX4_of_5 : decode cX4_of 5 = .ok (.ifCond .eq 12, 3) := dk_153 0 12 (dk_at dksX4_of_0 5 rfl rfl)
theorem dX4_of_8 : decode cX4_of 8 = .ok (.iload_n 2, 1) := dk_28 (dk_at dksX4_of_0 8 rfl rfl)
theorem dX4_of_9 : decode cX4_of 9 = .ok (.iconst 0, 1) := dk_3 (dk_at dksX4_of_0 9 rfl rfl)
theorem dX4_of_10 : decode cX4_of 10 = .ok (.iconst 2, 1) := dk_5 (dk_at dksX4_of_0 10 rfl rfl)
theorem dX4_of_11 : decode cX4_of 11 = .ok (.invokestatic 48, 3) := dk_184 0 48 (dk_at dksX4_of_0 11 rfl rfl)
theorem dX4_of_14 : decode cX4_of 14 = .ok (.ifCond .ne 5, 3) := dk_154 0 5 (dk_at dksX4_of_0 14 rfl rfl)
theorem dX4_of_17 : decode cX4_of 17 = .ok (.iconst (-1), 1) := dk_2 (dk_at dksX4_of_0 17 rfl rfl)
theorem dX4_of_18 : decode cX4_of 18 = .ok (.ireturn, 1) := dk_172 (dk_at dksX4_of_0 18 rfl rfl)
theorem dX4_of_19 : decode cX4_of 19 = .ok (.iload_n 2, 1) := dk_28 (dk_at dksX4_of_0 19 rfl rfl)
theorem dX4_of_20 : decode cX4_of 20 = .ok (.iconst 2, 1) := dk_5 (dk_at dksX4_of_0 20 rfl rfl)
theorem dX4_of_21 : decode cX4_of 21 = .ok (.if_icmp .ne 14, 3) := dk_160 0 14 (dk_at dksX4_of_0 21 rfl rfl)
theorem dX4_of_24 : decode cX4_of 24 = .ok (.aload_n 0, 1) := dk_42 (dk_at dksX4_of_1 0 rfl rfl)
theorem dX4_of_25 : decode cX4_of 25 = .ok (.getfield 9, 3) := dk_180 0 9 (dk_at dksX4_of_1 1 rfl rfl)
theorem dX4_of_28 : decode cX4_of 28 = .ok (.iconst 1, 1) := dk_4 (dk_at dksX4_of_1 4 rfl rfl)
theorem dX4_of_29 : decode cX4_of 29 = .ok (.iload_n 1, 1) := dk_27 (dk_at dksX4_of_1 5 rfl rfl)
theorem dX4_of_30 : decode cX4_of 30 = .ok (.iadd, 1) := dk_96 (dk_at dksX4_of_1 6 rfl rfl)
theorem dX4_of_31 : decode cX4_of 31 = .ok (.iaload, 1) := dk_46 (dk_at dksX4_of_1 7 rfl rfl)
theorem dX4_of_32 : decode cX4_of 32 = .ok (.goto 16, 3) := dk_167 0 16 (dk_at dksX4_of_1 8 rfl rfl)
theorem dX4_of_35 : decode cX4_of 35 = .ok (.aload_n 0, 1) := dk_42 (dk_at dksX4_of_1 11 rfl rfl)
theorem dX4_of_36 : decode cX4_of 36 = .ok (.getfield 9, 3) := dk_180 0 9 (dk_at dksX4_of_1 12 rfl rfl)
theorem dX4_of_39 : decode cX4_of 39 = .ok (.bipush 12, 2) := dk_16 12 (dk_at dksX4_of_1 15 rfl rfl)
theorem dX4_of_41 : decode cX4_of 41 = .ok (.iconst 5, 1) := dk_8 (dk_at dksX4_of_1 17 rfl rfl)
theorem dX4_of_42 : decode cX4_of 42 = .ok (.iload_n 2, 1) := dk_28 (dk_at dksX4_of_1 18 rfl rfl)
theorem dX4_of_43 : decode cX4_of 43 = .ok (.imul, 1) := dk_104 (dk_at dksX4_of_1 19 rfl rfl)
theorem dX4_of_44 : decode cX4_of 44 = .ok (.iadd, 1) := dk_96 (dk_at dksX4_of_1 20 rfl rfl)
theorem dX4_of_45 : decode cX4_of 45 = .ok (.iload_n 1, 1) := dk_27 (dk_at dksX4_of_1 21 rfl rfl)
theorem dX4_of_46 : decode cX4_of 46 = .ok (.iadd, 1) := dk_96 (dk_at dksX4_of_1 22 rfl rfl)
theorem dX4_of_47 : decode cX4_of 47 = .ok (.iaload, 1) := dk_46 (dk_at dksX4_of_1 23 rfl rfl)
theorem dX4_of_48 : decode cX4_of 48 = .ok (.ireturn, 1) := dk_172 (dk_at dksX4_of_2 0 rfl rfl)
abbrev cX4_isPlayer : ByteArray := prog_19_method_4_code
def yX4_isPlayer : MethodName := ⟨RX4, "isPlayer", "(I)Z"⟩
def dkwX4_isPlayer_0 : List UInt8 := [27, 3, 42, 180, 0, 9, 16, 6, 46, 4, 100, 184, 0, 48, 172]
abbrev dktX4_isPlayer_0 : List UInt8 := dkwX4_isPlayer_0 ++ []
theorem dksX4_isPlayer_0 : cX4_isPlayer.data.toList.drop 0 = dktX4_isPlayer_0 := by decide +kernel
theorem dX4_isPlayer_0 : decode cX4_isPlayer 0 = .ok (.iload_n 1, 1) := dk_27 (dk_at dksX4_isPlayer_0 0 rfl rfl)
theorem dX4_isPlayer_1 : decode cX4_isPlayer 1 = .ok (.iconst 0, 1) := dk_3 (dk_at dksX4_isPlayer_0 1 rfl rfl)
theorem dX4_isPlayer_2 : decode cX4_isPlayer 2 = .ok (.aload_n 0, 1) := dk_42 (dk_at dksX4_isPlayer_0 2 rfl rfl)
theorem dX4_isPlayer_3 : decode cX4_isPlayer 3 = .ok (.getfield 9, 3) := dk_180 0 9 (dk_at dksX4_isPlayer_0 3 rfl rfl)
theorem dX4_isPlayer_6 : decode cX4_isPlayer 6 = .ok (.bipush 6, 2) := dk_16 6 (dk_at dksX4_isPlayer_0 6 rfl rfl)
theorem dX4_isPlayer_8 : decode cX4_isPlayer 8 = .ok (.iaload, 1) := dk_46 (dk_at dksX4_isPlayer_0 8 rfl rfl)
theorem dX4_isPlayer_9 : decode cX4_isPlayer 9 = .ok (.iconst 1, 1) := dk_4 (dk_at dksX4_isPlayer_0 9 rfl rfl)
theorem dX4_isPlayer_10 : decode cX4_isPlayer 10 = .ok (.isub, 1) := dk_100 (dk_at dksX4_isPlayer_0 10 rfl rfl)
theorem dX4_isPlayer_11 : decode cX4_isPlayer 11 = .ok (.invokestatic 48, 3) := dk_184 0 48 (dk_at dksX4_isPlayer_0 11 rfl rfl)
theorem dX4_isPlayer_14 : decode cX4_isPlayer 14 = .ok (.ireturn, 1) := dk_172 (dk_at dksX4_isPlayer_0 14 rfl rfl)
abbrev cX4_men : ByteArray := prog_19_method_26_code
def yX4_men : MethodName := ⟨RX4, "men", "(II)I"⟩
def dkwX4_men_1 : List UInt8 := [180, 0, 9, 4, 27, 96, 46, 62, 42, 180, 0, 9, 4, 27, 96, 28, 79, 29, 172]
abbrev dktX4_men_1 : List UInt8 := dkwX4_men_1 ++ []
def dkwX4_men_0 : List UInt8 := [42, 27, 182, 0, 52, 154, 0, 5, 2, 172, 28, 4, 16, 20, 184, 0, 48, 154, 0, 6, 16, 254, 172, 42]
abbrev dktX4_men_0 : List UInt8 := dkwX4_men_0 ++ dktX4_men_1
theorem dksX4_men_0 : cX4_men.data.toList.drop 0 = dktX4_men_0 := by decide +kernel
theorem dksX4_men_1 : cX4_men.data.toList.drop 24 = dktX4_men_1 := dk_seg dksX4_men_0 24 rfl rfl
theorem dX4_men_0 : decode cX4_men 0 = .ok (.aload_n 0, 1) := dk_42 (dk_at dksX4_men_0 0 rfl rfl)
theorem dX4_men_1 : decode cX4_men 1 = .ok (.iload_n 1, 1) := dk_27 (dk_at dksX4_men_0 1 rfl rfl)
theorem dX4_men_2 : decode cX4_men 2 = .ok (.invokevirtual 52, 3) := dk_182 0 52 (dk_at dksX4_men_0 2 rfl rfl)
theorem dX4_men_5 : decode cX4_men 5 = .ok (.ifCond .ne 5, 3) := dk_154 0 5 (dk_at dksX4_men_0 5 rfl rfl)
theorem dX4_men_8 : decode cX4_men 8 = .ok (.iconst (-1), 1) := dk_2 (dk_at dksX4_men_0 8 rfl rfl)
theorem dX4_men_9 : decode cX4_men 9 = .ok (.ireturn, 1) := dk_172 (dk_at dksX4_men_0 9 rfl rfl)
theorem dX4_men_10 : decode cX4_men 10 = .ok (.iload_n 2, 1) := dk_28 (dk_at dksX4_men_0 10 rfl rfl)
theorem dX4_men_11 : decode cX4_men 11 = .ok (.iconst 1, 1) := dk_4 (dk_at dksX4_men_0 11 rfl rfl)
theorem dX4_men_12 : decode cX4_men 12 = .ok (.bipush 20, 2) := dk_16 20 (dk_at dksX4_men_0 12 rfl rfl)
theorem dX4_men_14 : decode cX4_men 14 = .ok (.invokestatic 48, 3) := dk_184 0 48 (dk_at dksX4_men_0 14 rfl rfl)
theorem dX4_men_17 : decode cX4_men 17 = .ok (.ifCond .ne 6, 3) := dk_154 0 6 (dk_at dksX4_men_0 17 rfl rfl)
theorem dX4_men_20 : decode cX4_men 20 = .ok (.bipush (-2), 2) := dk_16 254 (dk_at dksX4_men_0 20 rfl rfl)
theorem dX4_men_22 : decode cX4_men 22 = .ok (.ireturn, 1) := dk_172 (dk_at dksX4_men_0 22 rfl rfl)
theorem dX4_men_23 : decode cX4_men 23 = .ok (.aload_n 0, 1) := dk_42 (dk_at dksX4_men_0 23 rfl rfl)
theorem dX4_men_24 : decode cX4_men 24 = .ok (.getfield 9, 3) := dk_180 0 9 (dk_at dksX4_men_1 0 rfl rfl)
theorem dX4_men_27 : decode cX4_men 27 = .ok (.iconst 1, 1) := dk_4 (dk_at dksX4_men_1 3 rfl rfl)
theorem dX4_men_28 : decode cX4_men 28 = .ok (.iload_n 1, 1) := dk_27 (dk_at dksX4_men_1 4 rfl rfl)
theorem dX4_men_29 : decode cX4_men 29 = .ok (.iadd, 1) := dk_96 (dk_at dksX4_men_1 5 rfl rfl)
theorem dX4_men_30 : decode cX4_men 30 = .ok (.iaload, 1) := dk_46 (dk_at dksX4_men_1 6 rfl rfl)
theorem dX4_men_31 : decode cX4_men 31 = .ok (.istore_n 3, 1) := dk_62 (dk_at dksX4_men_1 7 rfl rfl)
theorem dX4_men_32 : decode cX4_men 32 = .ok (.aload_n 0, 1) := dk_42 (dk_at dksX4_men_1 8 rfl rfl)
theorem dX4_men_33 : decode cX4_men 33 = .ok (.getfield 9, 3) := dk_180 0 9 (dk_at dksX4_men_1 9 rfl rfl)
theorem dX4_men_36 : decode cX4_men 36 = .ok (.iconst 1, 1) := dk_4 (dk_at dksX4_men_1 12 rfl rfl)
theorem dX4_men_37 : decode cX4_men 37 = .ok (.iload_n 1, 1) := dk_27 (dk_at dksX4_men_1 13 rfl rfl)
theorem dX4_men_38 : decode cX4_men 38 = .ok (.iadd, 1) := dk_96 (dk_at dksX4_men_1 14 rfl rfl)
theorem dX4_men_39 : decode cX4_men 39 = .ok (.iload_n 2, 1) := dk_28 (dk_at dksX4_men_1 15 rfl rfl)
theorem dX4_men_40 : decode cX4_men 40 = .ok (.iastore, 1) := dk_79 (dk_at dksX4_men_1 16 rfl rfl)
theorem dX4_men_41 : decode cX4_men 41 = .ok (.iload_n 3, 1) := dk_29 (dk_at dksX4_men_1 17 rfl rfl)
theorem dX4_men_42 : decode cX4_men 42 = .ok (.ireturn, 1) := dk_172 (dk_at dksX4_men_1 18 rfl rfl)
abbrev cX4_row : ByteArray := prog_19_method_27_code
def yX4_row : MethodName := ⟨RX4, "row", "(III)I"⟩
def dkwX4_row_3 : List UInt8 := [7, 27, 104, 96, 28, 96, 29, 79, 21, 4, 172]
abbrev dktX4_row_3 : List UInt8 := dkwX4_row_3 ++ []
def dkwX4_row_2 : List UInt8 := [16, 253, 172, 42, 180, 0, 9, 16, 22, 7, 27, 104, 96, 28, 96, 46, 54, 4, 42, 180, 0, 9, 16, 22]
abbrev dktX4_row_2 : List UInt8 := dkwX4_row_2 ++ dktX4_row_3
def dkwX4_row_1 : List UInt8 := [184, 0, 48, 154, 0, 6, 16, 254, 172, 42, 180, 0, 9, 16, 12, 27, 96, 46, 16, 6, 159, 0, 6]
abbrev dktX4_row_1 : List UInt8 := dkwX4_row_1 ++ dktX4_row_2
def dkwX4_row_0 : List UInt8 := [42, 27, 182, 0, 52, 153, 0, 12, 28, 3, 6, 184, 0, 48, 154, 0, 5, 2, 172, 29, 3, 16, 9]
abbrev dktX4_row_0 : List UInt8 := dkwX4_row_0 ++ dktX4_row_1
theorem dksX4_row_0 : cX4_row.data.toList.drop 0 = dktX4_row_0 := by decide +kernel
theorem dksX4_row_1 : cX4_row.data.toList.drop 23 = dktX4_row_1 := dk_seg dksX4_row_0 23 rfl rfl
theorem dksX4_row_2 : cX4_row.data.toList.drop 46 = dktX4_row_2 := dk_seg dksX4_row_1 23 rfl rfl
theorem dksX4_row_3 : cX4_row.data.toList.drop 70 = dktX4_row_3 := dk_seg dksX4_row_2 24 rfl rfl
theorem dX4_row_0 : decode cX4_row 0 = .ok (.aload_n 0, 1) := dk_42 (dk_at dksX4_row_0 0 rfl rfl)
theorem dX4_row_1 : decode cX4_row 1 = .ok (.iload_n 1, 1) := dk_27 (dk_at dksX4_row_0 1 rfl rfl)
theorem dX4_row_2 : decode cX4_row 2 = .ok (.invokevirtual 52, 3) := dk_182 0 52 (dk_at dksX4_row_0 2 rfl rfl)
theorem dX4_row_5 : decode cX4_row 5 = .ok (.ifCond .eq 12, 3) := dk_153 0 12 (dk_at dksX4_row_0 5 rfl rfl)
theorem dX4_row_8 : decode cX4_row 8 = .ok (.iload_n 2, 1) := dk_28 (dk_at dksX4_row_0 8 rfl rfl)
theorem dX4_row_9 : decode cX4_row 9 = .ok (.iconst 0, 1) := dk_3 (dk_at dksX4_row_0 9 rfl rfl)
theorem dX4_row_10 : decode cX4_row 10 = .ok (.iconst 3, 1) := dk_6 (dk_at dksX4_row_0 10 rfl rfl)
theorem dX4_row_11 : decode cX4_row 11 = .ok (.invokestatic 48, 3) := dk_184 0 48 (dk_at dksX4_row_0 11 rfl rfl)
theorem dX4_row_14 : decode cX4_row 14 = .ok (.ifCond .ne 5, 3) := dk_154 0 5 (dk_at dksX4_row_0 14 rfl rfl)
theorem dX4_row_17 : decode cX4_row 17 = .ok (.iconst (-1), 1) := dk_2 (dk_at dksX4_row_0 17 rfl rfl)
theorem dX4_row_18 : decode cX4_row 18 = .ok (.ireturn, 1) := dk_172 (dk_at dksX4_row_0 18 rfl rfl)
theorem dX4_row_19 : decode cX4_row 19 = .ok (.iload_n 3, 1) := dk_29 (dk_at dksX4_row_0 19 rfl rfl)
theorem dX4_row_20 : decode cX4_row 20 = .ok (.iconst 0, 1) := dk_3 (dk_at dksX4_row_0 20 rfl rfl)
theorem dX4_row_21 : decode cX4_row 21 = .ok (.bipush 9, 2) := dk_16 9 (dk_at dksX4_row_0 21 rfl rfl)
theorem dX4_row_23 : decode cX4_row 23 = .ok (.invokestatic 48, 3) := dk_184 0 48 (dk_at dksX4_row_1 0 rfl rfl)
theorem dX4_row_26 : decode cX4_row 26 = .ok (.ifCond .ne 6, 3) := dk_154 0 6 (dk_at dksX4_row_1 3 rfl rfl)
theorem dX4_row_29 : decode cX4_row 29 = .ok (.bipush (-2), 2) := dk_16 254 (dk_at dksX4_row_1 6 rfl rfl)
theorem dX4_row_31 : decode cX4_row 31 = .ok (.ireturn, 1) := dk_172 (dk_at dksX4_row_1 8 rfl rfl)
theorem dX4_row_32 : decode cX4_row 32 = .ok (.aload_n 0, 1) := dk_42 (dk_at dksX4_row_1 9 rfl rfl)
theorem dX4_row_33 : decode cX4_row 33 = .ok (.getfield 9, 3) := dk_180 0 9 (dk_at dksX4_row_1 10 rfl rfl)
theorem dX4_row_36 : decode cX4_row 36 = .ok (.bipush 12, 2) := dk_16 12 (dk_at dksX4_row_1 13 rfl rfl)
theorem dX4_row_38 : decode cX4_row 38 = .ok (.iload_n 1, 1) := dk_27 (dk_at dksX4_row_1 15 rfl rfl)
theorem dX4_row_39 : decode cX4_row 39 = .ok (.iadd, 1) := dk_96 (dk_at dksX4_row_1 16 rfl rfl)
theorem dX4_row_40 : decode cX4_row 40 = .ok (.iaload, 1) := dk_46 (dk_at dksX4_row_1 17 rfl rfl)
theorem dX4_row_41 : decode cX4_row 41 = .ok (.bipush 6, 2) := dk_16 6 (dk_at dksX4_row_1 18 rfl rfl)
theorem dX4_row_43 : decode cX4_row 43 = .ok (.if_icmp .eq 6, 3) := dk_159 0 6 (dk_at dksX4_row_1 20 rfl rfl)
theorem dX4_row_46 : decode cX4_row 46 = .ok (.bipush (-3), 2) := dk_16 253 (dk_at dksX4_row_2 0 rfl rfl)
theorem dX4_row_48 : decode cX4_row 48 = .ok (.ireturn, 1) := dk_172 (dk_at dksX4_row_2 2 rfl rfl)
theorem dX4_row_49 : decode cX4_row 49 = .ok (.aload_n 0, 1) := dk_42 (dk_at dksX4_row_2 3 rfl rfl)
theorem dX4_row_50 : decode cX4_row 50 = .ok (.getfield 9, 3) := dk_180 0 9 (dk_at dksX4_row_2 4 rfl rfl)
theorem dX4_row_53 : decode cX4_row 53 = .ok (.bipush 22, 2) := dk_16 22 (dk_at dksX4_row_2 7 rfl rfl)
theorem dX4_row_55 : decode cX4_row 55 = .ok (.iconst 4, 1) := dk_7 (dk_at dksX4_row_2 9 rfl rfl)
theorem dX4_row_56 : decode cX4_row 56 = .ok (.iload_n 1, 1) := dk_27 (dk_at dksX4_row_2 10 rfl rfl)
theorem dX4_row_57 : decode cX4_row 57 = .ok (.imul, 1) := dk_104 (dk_at dksX4_row_2 11 rfl rfl)
theorem dX4_row_58 : decode cX4_row 58 = .ok (.iadd, 1) := dk_96 (dk_at dksX4_row_2 12 rfl rfl)
theorem dX4_row_59 : decode cX4_row 59 = .ok (.iload_n 2, 1) := dk_28 (dk_at dksX4_row_2 13 rfl rfl)
theorem dX4_row_60 : decode cX4_row 60 = .ok (.iadd, 1) := dk_96 (dk_at dksX4_row_2 14 rfl rfl)
theorem dX4_row_61 : decode cX4_row 61 = .ok (.iaload, 1) := dk_46 (dk_at dksX4_row_2 15 rfl rfl)
theorem dX4_row_62 : decode cX4_row 62 = .ok (.istore 4, 2) := dk_54 4 (dk_at dksX4_row_2 16 rfl rfl)
theorem dX4_row_64 : decode cX4_row 64 = .ok (.aload_n 0, 1) := dk_42 (dk_at dksX4_row_2 18 rfl rfl)
theorem dX4_row_65 : decode cX4_row 65 = .ok (.getfield 9, 3) := dk_180 0 9 (dk_at dksX4_row_2 19 rfl rfl)
theorem dX4_row_68 : decode cX4_row 68 = .ok (.bipush 22, 2) := dk_16 22 (dk_at dksX4_row_2 22 rfl rfl)
theorem dX4_row_70 : decode cX4_row 70 = .ok (.iconst 4, 1) := dk_7 (dk_at dksX4_row_3 0 rfl rfl)
theorem dX4_row_71 : decode cX4_row 71 = .ok (.iload_n 1, 1) := dk_27 (dk_at dksX4_row_3 1 rfl rfl)
theorem dX4_row_72 : decode cX4_row 72 = .ok (.imul, 1) := dk_104 (dk_at dksX4_row_3 2 rfl rfl)
theorem dX4_row_73 : decode cX4_row 73 = .ok (.iadd, 1) := dk_96 (dk_at dksX4_row_3 3 rfl rfl)
theorem dX4_row_74 : decode cX4_row 74 = .ok (.iload_n 2, 1) := dk_28 (dk_at dksX4_row_3 4 rfl rfl)
theorem dX4_row_75 : decode cX4_row 75 = .ok (.iadd, 1) := dk_96 (dk_at dksX4_row_3 5 rfl rfl)
theorem dX4_row_76 : decode cX4_row 76 = .ok (.iload_n 3, 1) := dk_29 (dk_at dksX4_row_3 6 rfl rfl)
theorem dX4_row_77 : decode cX4_row 77 = .ok (.iastore, 1) := dk_79 (dk_at dksX4_row_3 7 rfl rfl)
theorem dX4_row_78 : decode cX4_row 78 = .ok (.iload 4, 2) := dk_21 4 (dk_at dksX4_row_3 8 rfl rfl)
theorem dX4_row_80 : decode cX4_row 80 = .ok (.ireturn, 1) := dk_172 (dk_at dksX4_row_3 10 rfl rfl)
abbrev cX4_told : ByteArray := prog_19_method_28_code
def yX4_told : MethodName := ⟨RX4, "told", "(I)I"⟩
def dkwX4_told_1 : List UInt8 := [182, 0, 137, 167, 0, 19, 27, 5, 160, 0, 13, 42, 17, 0, 179, 182, 0, 137, 167, 0, 4, 2, 172]
abbrev dktX4_told_1 : List UInt8 := dkwX4_told_1 ++ []
def dkwX4_told_0 : List UInt8 := [27, 154, 0, 12, 42, 180, 0, 9, 3, 46, 167, 0, 34, 27, 4, 160, 0, 13, 42, 17, 0, 174]
abbrev dktX4_told_0 : List UInt8 := dkwX4_told_0 ++ dktX4_told_1
theorem dksX4_told_0 : cX4_told.data.toList.drop 0 = dktX4_told_0 := by decide +kernel
theorem dksX4_told_1 : cX4_told.data.toList.drop 22 = dktX4_told_1 := dk_seg dksX4_told_0 22 rfl rfl
theorem dX4_told_0 : decode cX4_told 0 = .ok (.iload_n 1, 1) := dk_27 (dk_at dksX4_told_0 0 rfl rfl)
theorem dX4_told_1 : decode cX4_told 1 = .ok (.ifCond .ne 12, 3) := dk_154 0 12 (dk_at dksX4_told_0 1 rfl rfl)
theorem dX4_told_4 : decode cX4_told 4 = .ok (.aload_n 0, 1) := dk_42 (dk_at dksX4_told_0 4 rfl rfl)
theorem dX4_told_5 : decode cX4_told 5 = .ok (.getfield 9, 3) := dk_180 0 9 (dk_at dksX4_told_0 5 rfl rfl)
theorem dX4_told_8 : decode cX4_told 8 = .ok (.iconst 0, 1) := dk_3 (dk_at dksX4_told_0 8 rfl rfl)
theorem dX4_told_9 : decode cX4_told 9 = .ok (.iaload, 1) := dk_46 (dk_at dksX4_told_0 9 rfl rfl)
theorem dX4_told_10 : decode cX4_told 10 = .ok (.goto 34, 3) := dk_167 0 34 (dk_at dksX4_told_0 10 rfl rfl)
theorem dX4_told_13 : decode cX4_told 13 = .ok (.iload_n 1, 1) := dk_27 (dk_at dksX4_told_0 13 rfl rfl)
theorem dX4_told_14 : decode cX4_told 14 = .ok (.iconst 1, 1) := dk_4 (dk_at dksX4_told_0 14 rfl rfl)
theorem dX4_told_15 : decode cX4_told 15 = .ok (.if_icmp .ne 13, 3) := dk_160 0 13 (dk_at dksX4_told_0 15 rfl rfl)
theorem dX4_told_18 : decode cX4_told 18 = .ok (.aload_n 0, 1) := dk_42 (dk_at dksX4_told_0 18 rfl rfl)
theorem dX4_told_19 : decode cX4_told 19 = .ok (.sipush 174, 3) := dk_17 0 174 (dk_at dksX4_told_0 19 rfl rfl)
theorem dX4_told_22 : decode cX4_told 22 = .ok (.invokevirtual 137, 3) := dk_182 0 137 (dk_at dksX4_told_1 0 rfl rfl)
theorem dX4_told_25 : decode cX4_told 25 = .ok (.goto 19, 3) := dk_167 0 19 (dk_at dksX4_told_1 3 rfl rfl)
theorem dX4_told_28 : decode cX4_told 28 = .ok (.iload_n 1, 1) := dk_27 (dk_at dksX4_told_1 6 rfl rfl)
theorem dX4_told_29 : decode cX4_told 29 = .ok (.iconst 2, 1) := dk_5 (dk_at dksX4_told_1 7 rfl rfl)
theorem dX4_told_30 : decode cX4_told 30 = .ok (.if_icmp .ne 13, 3) := dk_160 0 13 (dk_at dksX4_told_1 8 rfl rfl)
theorem dX4_told_33 : decode cX4_told 33 = .ok (.aload_n 0, 1) := dk_42 (dk_at dksX4_told_1 11 rfl rfl)
theorem dX4_told_34 : decode cX4_told 34 = .ok (.sipush 179, 3) := dk_17 0 179 (dk_at dksX4_told_1 12 rfl rfl)
theorem dX4_told_37 : decode cX4_told 37 = .ok (.invokevirtual 137, 3) := dk_182 0 137 (dk_at dksX4_told_1 15 rfl rfl)
theorem dX4_told_40 : decode cX4_told 40 = .ok (.goto 4, 3) := dk_167 0 4 (dk_at dksX4_told_1 18 rfl rfl)
theorem dX4_told_43 : decode cX4_told 43 = .ok (.iconst (-1), 1) := dk_2 (dk_at dksX4_told_1 21 rfl rfl)
theorem dX4_told_44 : decode cX4_told 44 = .ok (.ireturn, 1) := dk_172 (dk_at dksX4_told_1 22 rfl rfl)
abbrev cX4_tellsOf : ByteArray := prog_19_method_23_code
def yX4_tellsOf : MethodName := ⟨RX4, "tellsOf", "(I)I"⟩
def dkwX4_tellsOf_1 : List UInt8 := [16, 11, 46, 96, 46, 172]
abbrev dktX4_tellsOf_1 : List UInt8 := dkwX4_tellsOf_1 ++ []
def dkwX4_tellsOf_0 : List UInt8 := [42, 180, 0, 9, 16, 11, 46, 2, 160, 0, 7, 4, 167, 0, 17, 42, 180, 0, 9, 27, 42, 180, 0, 9]
abbrev dktX4_tellsOf_0 : List UInt8 := dkwX4_tellsOf_0 ++ dktX4_tellsOf_1
theorem dksX4_tellsOf_0 : cX4_tellsOf.data.toList.drop 0 = dktX4_tellsOf_0 := by decide +kernel
theorem dksX4_tellsOf_1 : cX4_tellsOf.data.toList.drop 24 = dktX4_tellsOf_1 := dk_seg dksX4_tellsOf_0 24 rfl rfl
theorem dX4_tellsOf_0 : decode cX4_tellsOf 0 = .ok (.aload_n 0, 1) := dk_42 (dk_at dksX4_tellsOf_0 0 rfl rfl)
theorem dX4_tellsOf_1 : decode cX4_tellsOf 1 = .ok (.getfield 9, 3) := dk_180 0 9 (dk_at dksX4_tellsOf_0 1 rfl rfl)
theorem dX4_tellsOf_4 : decode cX4_tellsOf 4 = .ok (.bipush 11, 2) := dk_16 11 (dk_at dksX4_tellsOf_0 4 rfl rfl)
theorem dX4_tellsOf_6 : decode cX4_tellsOf 6 = .ok (.iaload, 1) := dk_46 (dk_at dksX4_tellsOf_0 6 rfl rfl)
theorem dX4_tellsOf_7 : decode cX4_tellsOf 7 = .ok (.iconst (-1), 1) := dk_2 (dk_at dksX4_tellsOf_0 7 rfl rfl)
theorem dX4_tellsOf_8 : decode cX4_tellsOf 8 = .ok (.if_icmp .ne 7, 3) := dk_160 0 7 (dk_at dksX4_tellsOf_0 8 rfl rfl)
theorem dX4_tellsOf_11 : decode cX4_tellsOf 11 = .ok (.iconst 1, 1) := dk_4 (dk_at dksX4_tellsOf_0 11 rfl rfl)
theorem dX4_tellsOf_12 : decode cX4_tellsOf 12 = .ok (.goto 17, 3) := dk_167 0 17 (dk_at dksX4_tellsOf_0 12 rfl rfl)
theorem dX4_tellsOf_15 : decode cX4_tellsOf 15 = .ok (.aload_n 0, 1) := dk_42 (dk_at dksX4_tellsOf_0 15 rfl rfl)
theorem dX4_tellsOf_16 : decode cX4_tellsOf 16 = .ok (.getfield 9, 3) := dk_180 0 9 (dk_at dksX4_tellsOf_0 16 rfl rfl)
theorem dX4_tellsOf_19 : decode cX4_tellsOf 19 = .ok (.iload_n 1, 1) := dk_27 (dk_at dksX4_tellsOf_0 19 rfl rfl)
theorem dX4_tellsOf_20 : decode cX4_tellsOf 20 = .ok (.aload_n 0, 1) := dk_42 (dk_at dksX4_tellsOf_0 20 rfl rfl)
theorem dX4_tellsOf_21 : decode cX4_tellsOf 21 = .ok (.getfield 9, 3) := dk_180 0 9 (dk_at dksX4_tellsOf_0 21 rfl rfl)
theorem dX4_tellsOf_24 : decode cX4_tellsOf 24 = .ok (.bipush 11, 2) := dk_16 11 (dk_at dksX4_tellsOf_1 0 rfl rfl)
theorem dX4_tellsOf_26 : decode cX4_tellsOf 26 = .ok (.iaload, 1) := dk_46 (dk_at dksX4_tellsOf_1 2 rfl rfl)
theorem dX4_tellsOf_27 : decode cX4_tellsOf 27 = .ok (.iadd, 1) := dk_96 (dk_at dksX4_tellsOf_1 3 rfl rfl)
theorem dX4_tellsOf_28 : decode cX4_tellsOf 28 = .ok (.iaload, 1) := dk_46 (dk_at dksX4_tellsOf_1 4 rfl rfl)
theorem dX4_tellsOf_29 : decode cX4_tellsOf 29 = .ok (.ireturn, 1) := dk_172 (dk_at dksX4_tellsOf_1 5 rfl rfl)
abbrev cX4_push : ByteArray := prog_19_method_32_code
def yX4_push : MethodName := ⟨RX4, "push", "(II)I"⟩
def dkwX4_push_1 : List UInt8 := [160, 0, 9, 17, 216, 238, 167, 0, 9, 42, 27, 28, 182, 0, 145, 172]
abbrev dktX4_push_1 : List UInt8 := dkwX4_push_1 ++ []
def dkwX4_push_0 : List UInt8 := [42, 27, 182, 0, 52, 153, 0, 11, 42, 28, 182, 0, 52, 154, 0, 7, 17, 216, 239, 172, 27, 28]
abbrev dktX4_push_0 : List UInt8 := dkwX4_push_0 ++ dktX4_push_1
theorem dksX4_push_0 : cX4_push.data.toList.drop 0 = dktX4_push_0 := by decide +kernel
theorem dksX4_push_1 : cX4_push.data.toList.drop 22 = dktX4_push_1 := dk_seg dksX4_push_0 22 rfl rfl
theorem dX4_push_0 : decode cX4_push 0 = .ok (.aload_n 0, 1) := dk_42 (dk_at dksX4_push_0 0 rfl rfl)
theorem dX4_push_1 : decode cX4_push 1 = .ok (.iload_n 1, 1) := dk_27 (dk_at dksX4_push_0 1 rfl rfl)
theorem dX4_push_2 : decode cX4_push 2 = .ok (.invokevirtual 52, 3) := dk_182 0 52 (dk_at dksX4_push_0 2 rfl rfl)
theorem dX4_push_5 : decode cX4_push 5 = .ok (.ifCond .eq 11, 3) := dk_153 0 11 (dk_at dksX4_push_0 5 rfl rfl)
theorem dX4_push_8 : decode cX4_push 8 = .ok (.aload_n 0, 1) := dk_42 (dk_at dksX4_push_0 8 rfl rfl)
theorem dX4_push_9 : decode cX4_push 9 = .ok (.iload_n 2, 1) := dk_28 (dk_at dksX4_push_0 9 rfl rfl)
theorem dX4_push_10 : decode cX4_push 10 = .ok (.invokevirtual 52, 3) := dk_182 0 52 (dk_at dksX4_push_0 10 rfl rfl)
theorem dX4_push_13 : decode cX4_push 13 = .ok (.ifCond .ne 7, 3) := dk_154 0 7 (dk_at dksX4_push_0 13 rfl rfl)
theorem dX4_push_16 : decode cX4_push 16 = .ok (.sipush (-10001), 3) := dk_17 216 239 (dk_at dksX4_push_0 16 rfl rfl)
theorem dX4_push_19 : decode cX4_push 19 = .ok (.ireturn, 1) := dk_172 (dk_at dksX4_push_0 19 rfl rfl)
theorem dX4_push_20 : decode cX4_push 20 = .ok (.iload_n 1, 1) := dk_27 (dk_at dksX4_push_0 20 rfl rfl)
theorem dX4_push_21 : decode cX4_push 21 = .ok (.iload_n 2, 1) := dk_28 (dk_at dksX4_push_0 21 rfl rfl)
theorem dX4_push_22 : decode cX4_push 22 = .ok (.if_icmp .ne 9, 3) := dk_160 0 9 (dk_at dksX4_push_1 0 rfl rfl)
theorem dX4_push_25 : decode cX4_push 25 = .ok (.sipush (-10002), 3) := dk_17 216 238 (dk_at dksX4_push_1 3 rfl rfl)
theorem dX4_push_28 : decode cX4_push 28 = .ok (.goto 9, 3) := dk_167 0 9 (dk_at dksX4_push_1 6 rfl rfl)
theorem dX4_push_31 : decode cX4_push 31 = .ok (.aload_n 0, 1) := dk_42 (dk_at dksX4_push_1 9 rfl rfl)
theorem dX4_push_32 : decode cX4_push 32 = .ok (.iload_n 1, 1) := dk_27 (dk_at dksX4_push_1 10 rfl rfl)
theorem dX4_push_33 : decode cX4_push 33 = .ok (.iload_n 2, 1) := dk_28 (dk_at dksX4_push_1 11 rfl rfl)
theorem dX4_push_34 : decode cX4_push 34 = .ok (.invokevirtual 145, 3) := dk_182 0 145 (dk_at dksX4_push_1 12 rfl rfl)
theorem dX4_push_37 : decode cX4_push 37 = .ok (.ireturn, 1) := dk_172 (dk_at dksX4_push_1 15 rfl rfl)
abbrev cX4_pushOf : ByteArray := prog_19_method_30_code
def yX4_pushOf : MethodName := ⟨RX4, "pushOf", "(II)I"⟩
def dkwX4_pushOf_8 : List UInt8 := [16, 22, 7, 27, 104, 96, 42, 180, 0, 9, 3, 46, 7, 112, 96, 46, 7, 100, 167, 0, 4, 3, 96, 172]
abbrev dktX4_pushOf_8 : List UInt8 := dkwX4_pushOf_8 ++ []
def dkwX4_pushOf_7 : List UInt8 := [162, 0, 7, 4, 167, 0, 4, 3, 100, 54, 6, 21, 6, 29, 16, 6, 160, 0, 28, 42, 180, 0, 9]
abbrev dktX4_pushOf_7 : List UInt8 := dkwX4_pushOf_7 ++ dktX4_pushOf_8
def dkwX4_pushOf_6 : List UInt8 := [3, 100, 54, 6, 21, 6, 29, 6, 159, 0, 9, 29, 16, 6, 160, 0, 17, 42, 180, 0, 9, 3, 46, 6]
abbrev dktX4_pushOf_6 : List UInt8 := dkwX4_pushOf_6 ++ dktX4_pushOf_7
def dkwX4_pushOf_5 : List UInt8 := [167, 0, 4, 3, 54, 7, 21, 6, 21, 7, 153, 0, 14, 21, 5, 7, 162, 0, 8, 16, 9, 167, 0, 4]
abbrev dktX4_pushOf_5 : List UInt8 := dkwX4_pushOf_5 ++ dktX4_pushOf_6
def dkwX4_pushOf_4 : List UInt8 := [159, 0, 21, 29, 8, 160, 0, 20, 42, 180, 0, 9, 3, 46, 21, 4, 5, 96, 162, 0, 7, 4]
abbrev dktX4_pushOf_4 : List UInt8 := dkwX4_pushOf_4 ++ dktX4_pushOf_5
def dkwX4_pushOf_3 : List UInt8 := [167, 0, 4, 3, 96, 54, 6, 21, 6, 29, 7, 160, 0, 7, 4, 167, 0, 4, 3, 96, 54, 6, 29, 5]
abbrev dktX4_pushOf_3 : List UInt8 := dkwX4_pushOf_3 ++ dktX4_pushOf_4
def dkwX4_pushOf_2 : List UInt8 := [159, 0, 8, 29, 7, 160, 0, 20, 21, 5, 42, 180, 0, 9, 4, 28, 96, 46, 162, 0, 7, 5]
abbrev dktX4_pushOf_2 : List UInt8 := dkwX4_pushOf_2 ++ dktX4_pushOf_3
def dkwX4_pushOf_1 : List UInt8 := [180, 0, 9, 4, 27, 96, 46, 54, 5, 42, 27, 28, 182, 0, 141, 21, 4, 96, 54, 6, 21, 6, 29, 4]
abbrev dktX4_pushOf_1 : List UInt8 := dkwX4_pushOf_1 ++ dktX4_pushOf_2
def dkwX4_pushOf_0 : List UInt8 := [42, 180, 0, 9, 16, 12, 27, 96, 46, 62, 42, 180, 0, 9, 16, 17, 27, 96, 46, 54, 4, 42]
abbrev dktX4_pushOf_0 : List UInt8 := dkwX4_pushOf_0 ++ dktX4_pushOf_1
theorem dksX4_pushOf_0 : cX4_pushOf.data.toList.drop 0 = dktX4_pushOf_0 := by decide +kernel
theorem dksX4_pushOf_1 : cX4_pushOf.data.toList.drop 22 = dktX4_pushOf_1 := dk_seg dksX4_pushOf_0 22 rfl rfl
theorem dksX4_pushOf_2 : cX4_pushOf.data.toList.drop 46 = dktX4_pushOf_2 := dk_seg dksX4_pushOf_1 24 rfl rfl
theorem dksX4_pushOf_3 : cX4_pushOf.data.toList.drop 68 = dktX4_pushOf_3 := dk_seg dksX4_pushOf_2 22 rfl rfl
theorem dksX4_pushOf_4 : cX4_pushOf.data.toList.drop 92 = dktX4_pushOf_4 := dk_seg dksX4_pushOf_3 24 rfl rfl
theorem dksX4_pushOf_5 : cX4_pushOf.data.toList.drop 114 = dktX4_pushOf_5 := dk_seg dksX4_pushOf_4 22 rfl rfl
theorem dksX4_pushOf_6 : cX4_pushOf.data.toList.drop 138 = dktX4_pushOf_6 := dk_seg dksX4_pushOf_5 24 rfl rfl
theorem dksX4_pushOf_7 : cX4_pushOf.data.toList.drop 162 = dktX4_pushOf_7 := dk_seg dksX4_pushOf_6 24 rfl rfl
theorem dksX4_pushOf_8 : cX4_pushOf.data.toList.drop 185 = dktX4_pushOf_8 := dk_seg dksX4_pushOf_7 23 rfl rfl
theorem dX4_pushOf_0 : decode cX4_pushOf 0 = .ok (.aload_n 0, 1) := dk_42 (dk_at dksX4_pushOf_0 0 rfl rfl)
theorem dX4_pushOf_1 : decode cX4_pushOf 1 = .ok (.getfield 9, 3) := dk_180 0 9 (dk_at dksX4_pushOf_0 1 rfl rfl)
theorem dX4_pushOf_4 : decode cX4_pushOf 4 = .ok (.bipush 12, 2) := dk_16 12 (dk_at dksX4_pushOf_0 4 rfl rfl)
theorem dX4_pushOf_6 : decode cX4_pushOf 6 = .ok (.iload_n 1, 1) := dk_27 (dk_at dksX4_pushOf_0 6 rfl rfl)
theorem dX4_pushOf_7 : decode cX4_pushOf 7 = .ok (.iadd, 1) := dk_96 (dk_at dksX4_pushOf_0 7 rfl rfl)
theorem dX4_pushOf_8 : decode cX4_pushOf 8 = .ok (.iaload, 1) := dk_46 (dk_at dksX4_pushOf_0 8 rfl rfl)
theorem dX4_pushOf_9 : decode cX4_pushOf 9 = .ok (.istore_n 3, 1) := dk_62 (dk_at dksX4_pushOf_0 9 rfl rfl)
theorem dX4_pushOf_10 : decode cX4_pushOf 10 = .ok (.aload_n 0, 1) := dk_42 (dk_at dksX4_pushOf_0 10 rfl rfl)
theorem dX4_pushOf_11 : decode cX4_pushOf 11 = .ok (.getfield 9, 3) := dk_180 0 9 (dk_at dksX4_pushOf_0 11 rfl rfl)
theorem dX4_pushOf_14 : decode cX4_pushOf 14 = .ok (.bipush 17, 2) := dk_16 17 (dk_at dksX4_pushOf_0 14 rfl rfl)
theorem dX4_pushOf_16 : decode cX4_pushOf 16 = .ok (.iload_n 1, 1) := dk_27 (dk_at dksX4_pushOf_0 16 rfl rfl)
theorem dX4_pushOf_17 : decode cX4_pushOf 17 = .ok (.iadd, 1) := dk_96 (dk_at dksX4_pushOf_0 17 rfl rfl)
theorem dX4_pushOf_18 : decode cX4_pushOf 18 = .ok (.iaload, 1) := dk_46 (dk_at dksX4_pushOf_0 18 rfl rfl)
theorem dX4_pushOf_19 : decode cX4_pushOf 19 = .ok (.istore 4, 2) := dk_54 4 (dk_at dksX4_pushOf_0 19 rfl rfl)
theorem dX4_pushOf_21 : decode cX4_pushOf 21 = .ok (.aload_n 0, 1) := dk_42 (dk_at dksX4_pushOf_0 21 rfl rfl)
theorem dX4_pushOf_22 : decode cX4_pushOf 22 = .ok (.getfield 9, 3) := dk_180 0 9 (dk_at dksX4_pushOf_1 0 rfl rfl)
theorem dX4_pushOf_25 : decode cX4_pushOf 25 = .ok (.iconst 1, 1) := dk_4 (dk_at dksX4_pushOf_1 3 rfl rfl)
theorem dX4_pushOf_26 : decode cX4_pushOf 26 = .ok (.iload_n 1, 1) := dk_27 (dk_at dksX4_pushOf_1 4 rfl rfl)
theorem dX4_pushOf_27 : decode cX4_pushOf 27 = .ok (.iadd, 1) := dk_96 (dk_at dksX4_pushOf_1 5 rfl rfl)
theorem dX4_pushOf_28 : decode cX4_pushOf 28 = .ok (.iaload, 1) := dk_46 (dk_at dksX4_pushOf_1 6 rfl rfl)
theorem dX4_pushOf_29 : decode cX4_pushOf 29 = .ok (.istore 5, 2) := dk_54 5 (dk_at dksX4_pushOf_1 7 rfl rfl)
theorem dX4_pushOf_31 : decode cX4_pushOf 31 = .ok (.aload_n 0, 1) := dk_42 (dk_at dksX4_pushOf_1 9 rfl rfl)
theorem dX4_pushOf_32 : decode cX4_pushOf 32 = .ok (.iload_n 1, 1) := dk_27 (dk_at dksX4_pushOf_1 10 rfl rfl)
theorem dX4_pushOf_33 : decode cX4_pushOf 33 = .ok (.iload_n 2, 1) := dk_28 (dk_at dksX4_pushOf_1 11 rfl rfl)
theorem dX4_pushOf_34 : decode cX4_pushOf 34 = .ok (.invokevirtual 141, 3) := dk_182 0 141 (dk_at dksX4_pushOf_1 12 rfl rfl)
theorem dX4_pushOf_37 : decode cX4_pushOf 37 = .ok (.iload 4, 2) := dk_21 4 (dk_at dksX4_pushOf_1 15 rfl rfl)
theorem dX4_pushOf_39 : decode cX4_pushOf 39 = .ok (.iadd, 1) := dk_96 (dk_at dksX4_pushOf_1 17 rfl rfl)
theorem dX4_pushOf_40 : decode cX4_pushOf 40 = .ok (.istore 6, 2) := dk_54 6 (dk_at dksX4_pushOf_1 18 rfl rfl)
theorem dX4_pushOf_42 : decode cX4_pushOf 42 = .ok (.iload 6, 2) := dk_21 6 (dk_at dksX4_pushOf_1 20 rfl rfl)
theorem dX4_pushOf_44 : decode cX4_pushOf 44 = .ok (.iload_n 3, 1) := dk_29 (dk_at dksX4_pushOf_1 22 rfl rfl)
theorem dX4_pushOf_45 : decode cX4_pushOf 45 = .ok (.iconst 1, 1) := dk_4 (dk_at dksX4_pushOf_1 23 rfl rfl)
theorem dX4_pushOf_46 : decode cX4_pushOf 46 = .ok (.if_icmp .eq 8, 3) := dk_159 0 8 (dk_at dksX4_pushOf_2 0 rfl rfl)
theorem dX4_pushOf_49 : decode cX4_pushOf 49 = .ok (.iload_n 3, 1) := dk_29 (dk_at dksX4_pushOf_2 3 rfl rfl)
theorem dX4_pushOf_50 : decode cX4_pushOf 50 = .ok (.iconst 4, 1) := dk_7 (dk_at dksX4_pushOf_2 4 rfl rfl)
theorem dX4_pushOf_51 : decode cX4_pushOf 51 = .ok (.if_icmp .ne 20, 3) := dk_160 0 20 (dk_at dksX4_pushOf_2 5 rfl rfl)
theorem dX4_pushOf_54 : decode cX4_pushOf 54 = .ok (.iload 5, 2) := dk_21 5 (dk_at dksX4_pushOf_2 8 rfl rfl)
theorem dX4_pushOf_56 : decode cX4_pushOf 56 = .ok (.aload_n 0, 1) := dk_42 (dk_at dksX4_pushOf_2 10 rfl rfl)
theorem dX4_pushOf_57 : decode cX4_pushOf 57 = .ok (.getfield 9, 3) := dk_180 0 9 (dk_at dksX4_pushOf_2 11 rfl rfl)
theorem dX4_pushOf_60 : decode cX4_pushOf 60 = .ok (.iconst 1, 1) := dk_4 (dk_at dksX4_pushOf_2 14 rfl rfl)
theorem dX4_pushOf_61 : decode cX4_pushOf 61 = .ok (.iload_n 2, 1) := dk_28 (dk_at dksX4_pushOf_2 15 rfl rfl)
theorem dX4_pushOf_62 : decode cX4_pushOf 62 = .ok (.iadd, 1) := dk_96 (dk_at dksX4_pushOf_2 16 rfl rfl)
theorem dX4_pushOf_63 : decode cX4_pushOf 63 = .ok (.iaload, 1) := dk_46 (dk_at dksX4_pushOf_2 17 rfl rfl)
theorem dX4_pushOf_64 : decode cX4_pushOf 64 = .ok (.if_icmp .ge 7, 3) := dk_162 0 7 (dk_at dksX4_pushOf_2 18 rfl rfl)
theorem dX4_pushOf_67 : decode cX4_pushOf 67 = .ok (.iconst 2, 1) := dk_5 (dk_at dksX4_pushOf_2 21 rfl rfl)
theorem dX4_pushOf_68 : decode cX4_pushOf 68 = .ok (.goto 4, 3) := dk_167 0 4 (dk_at dksX4_pushOf_3 0 rfl rfl)
theorem dX4_pushOf_71 : decode cX4_pushOf 71 = .ok (.iconst 0, 1) := dk_3 (dk_at dksX4_pushOf_3 3 rfl rfl)
theorem dX4_pushOf_72 : decode cX4_pushOf 72 = .ok (.iadd, 1) := dk_96 (dk_at dksX4_pushOf_3 4 rfl rfl)
theorem dX4_pushOf_73 : decode cX4_pushOf 73 = .ok (.istore 6, 2) := dk_54 6 (dk_at dksX4_pushOf_3 5 rfl rfl)
theorem dX4_pushOf_75 : decode cX4_pushOf 75 = .ok (.iload 6, 2) := dk_21 6 (dk_at dksX4_pushOf_3 7 rfl rfl)
theorem dX4_pushOf_77 : decode cX4_pushOf 77 = .ok (.iload_n 3, 1) := dk_29 (dk_at dksX4_pushOf_3 9 rfl rfl)
theorem dX4_pushOf_78 : decode cX4_pushOf 78 = .ok (.iconst 4, 1) := dk_7 (dk_at dksX4_pushOf_3 10 rfl rfl)
theorem dX4_pushOf_79 : decode cX4_pushOf 79 = .ok (.if_icmp .ne 7, 3) := dk_160 0 7 (dk_at dksX4_pushOf_3 11 rfl rfl)
theorem dX4_pushOf_82 : decode cX4_pushOf 82 = .ok (.iconst 1, 1) := dk_4 (dk_at dksX4_pushOf_3 14 rfl rfl)
theorem dX4_pushOf_83 : decode cX4_pushOf 83 = .ok (.goto 4, 3) := dk_167 0 4 (dk_at dksX4_pushOf_3 15 rfl rfl)
theorem dX4_pushOf_86 : decode cX4_pushOf 86 = .ok (.iconst 0, 1) := dk_3 (dk_at dksX4_pushOf_3 18 rfl rfl)
theorem dX4_pushOf_87 : decode cX4_pushOf 87 = .ok (.iadd, 1) := dk_96 (dk_at dksX4_pushOf_3 19 rfl rfl)
theorem dX4_pushOf_88 : decode cX4_pushOf 88 = .ok (.istore 6, 2) := dk_54 6 (dk_at dksX4_pushOf_3 20 rfl rfl)
theorem dX4_pushOf_90 : decode cX4_pushOf 90 = .ok (.iload_n 3, 1) := dk_29 (dk_at dksX4_pushOf_3 22 rfl rfl)
theorem dX4_pushOf_91 : decode cX4_pushOf 91 = .ok (.iconst 2, 1) := dk_5 (dk_at dksX4_pushOf_3 23 rfl rfl)
theorem dX4_pushOf_92 : decode cX4_pushOf 92 = .ok (.if_icmp .eq 21, 3) := dk_159 0 21 (dk_at dksX4_pushOf_4 0 rfl rfl)
theorem dX4_pushOf_95 : decode cX4_pushOf 95 = .ok (.iload_n 3, 1) := dk_29 (dk_at dksX4_pushOf_4 3 rfl rfl)
theorem dX4_pushOf_96 : decode cX4_pushOf 96 = .ok (.iconst 5, 1) := dk_8 (dk_at dksX4_pushOf_4 4 rfl rfl)
theorem dX4_pushOf_97 : decode cX4_pushOf 97 = .ok (.if_icmp .ne 20, 3) := dk_160 0 20 (dk_at dksX4_pushOf_4 5 rfl rfl)
theorem dX4_pushOf_100 : decode cX4_pushOf 100 = .ok (.aload_n 0, 1) := dk_42 (dk_at dksX4_pushOf_4 8 rfl rfl)
theorem dX4_pushOf_101 : decode cX4_pushOf 101 = .ok (.getfield 9, 3) := dk_180 0 9 (dk_at dksX4_pushOf_4 9 rfl rfl)
theorem dX4_pushOf_104 : decode cX4_pushOf 104 = .ok (.iconst 0, 1) := dk_3 (dk_at dksX4_pushOf_4 12 rfl rfl)
theorem dX4_pushOf_105 : decode cX4_pushOf 105 = .ok (.iaload, 1) := dk_46 (dk_at dksX4_pushOf_4 13 rfl rfl)
theorem dX4_pushOf_106 : decode cX4_pushOf 106 = .ok (.iload 4, 2) := dk_21 4 (dk_at dksX4_pushOf_4 14 rfl rfl)
theorem dX4_pushOf_108 : decode cX4_pushOf 108 = .ok (.iconst 2, 1) := dk_5 (dk_at dksX4_pushOf_4 16 rfl rfl)
theorem dX4_pushOf_109 : decode cX4_pushOf 109 = .ok (.iadd, 1) := dk_96 (dk_at dksX4_pushOf_4 17 rfl rfl)
theorem dX4_pushOf_110 : decode cX4_pushOf 110 = .ok (.if_icmp .ge 7, 3) := dk_162 0 7 (dk_at dksX4_pushOf_4 18 rfl rfl)
theorem dX4_pushOf_113 : decode cX4_pushOf 113 = .ok (.iconst 1, 1) := dk_4 (dk_at dksX4_pushOf_4 21 rfl rfl)
theorem dX4_pushOf_114 : decode cX4_pushOf 114 = .ok (.goto 4, 3) := dk_167 0 4 (dk_at dksX4_pushOf_5 0 rfl rfl)
theorem dX4_pushOf_117 : decode cX4_pushOf 117 = .ok (.iconst 0, 1) := dk_3 (dk_at dksX4_pushOf_5 3 rfl rfl)
theorem dX4_pushOf_118 : decode cX4_pushOf 118 = .ok (.istore 7, 2) := dk_54 7 (dk_at dksX4_pushOf_5 4 rfl rfl)
theorem dX4_pushOf_120 : decode cX4_pushOf 120 = .ok (.iload 6, 2) := dk_21 6 (dk_at dksX4_pushOf_5 6 rfl rfl)
theorem dX4_pushOf_122 : decode cX4_pushOf 122 = .ok (.iload 7, 2) := dk_21 7 (dk_at dksX4_pushOf_5 8 rfl rfl)
theorem dX4_pushOf_124 : decode cX4_pushOf 124 = .ok (.ifCond .eq 14, 3) := dk_153 0 14 (dk_at dksX4_pushOf_5 10 rfl rfl)
theorem dX4_pushOf_127 : decode cX4_pushOf 127 = .ok (.iload 5, 2) := dk_21 5 (dk_at dksX4_pushOf_5 13 rfl rfl)
theorem dX4_pushOf_129 : decode cX4_pushOf 129 = .ok (.iconst 4, 1) := dk_7 (dk_at dksX4_pushOf_5 15 rfl rfl)
theorem dX4_pushOf_130 : decode cX4_pushOf 130 = .ok (.if_icmp .ge 8, 3) := dk_162 0 8 (dk_at dksX4_pushOf_5 16 rfl rfl)
theorem dX4_pushOf_133 : decode cX4_pushOf 133 = .ok (.bipush 9, 2) := dk_16 9 (dk_at dksX4_pushOf_5 19 rfl rfl)
theorem dX4_pushOf_135 : decode cX4_pushOf 135 = .ok (.goto 4, 3) := dk_167 0 4 (dk_at dksX4_pushOf_5 21 rfl rfl)
theorem dX4_pushOf_138 : decode cX4_pushOf 138 = .ok (.iconst 0, 1) := dk_3 (dk_at dksX4_pushOf_6 0 rfl rfl)
theorem dX4_pushOf_139 : decode cX4_pushOf 139 = .ok (.isub, 1) := dk_100 (dk_at dksX4_pushOf_6 1 rfl rfl)
theorem dX4_pushOf_140 : decode cX4_pushOf 140 = .ok (.istore 6, 2) := dk_54 6 (dk_at dksX4_pushOf_6 2 rfl rfl)
theorem dX4_pushOf_142 : decode cX4_pushOf 142 = .ok (.iload 6, 2) := dk_21 6 (dk_at dksX4_pushOf_6 4 rfl rfl)
theorem dX4_pushOf_144 : decode cX4_pushOf 144 = .ok (.iload_n 3, 1) := dk_29 (dk_at dksX4_pushOf_6 6 rfl rfl)
theorem dX4_pushOf_145 : decode cX4_pushOf 145 = .ok (.iconst 3, 1) := dk_6 (dk_at dksX4_pushOf_6 7 rfl rfl)
theorem dX4_pushOf_146 : decode cX4_pushOf 146 = .ok (.if_icmp .eq 9, 3) := dk_159 0 9 (dk_at dksX4_pushOf_6 8 rfl rfl)
theorem dX4_pushOf_149 : decode cX4_pushOf 149 = .ok (.iload_n 3, 1) := dk_29 (dk_at dksX4_pushOf_6 11 rfl rfl)
theorem dX4_pushOf_150 : decode cX4_pushOf 150 = .ok (.bipush 6, 2) := dk_16 6 (dk_at dksX4_pushOf_6 12 rfl rfl)
theorem dX4_pushOf_152 : decode cX4_pushOf 152 = .ok (.if_icmp .ne 17, 3) := dk_160 0 17 (dk_at dksX4_pushOf_6 14 rfl rfl)
theorem dX4_pushOf_155 : decode cX4_pushOf 155 = .ok (.aload_n 0, 1) := dk_42 (dk_at dksX4_pushOf_6 17 rfl rfl)
theorem dX4_pushOf_156 : decode cX4_pushOf 156 = .ok (.getfield 9, 3) := dk_180 0 9 (dk_at dksX4_pushOf_6 18 rfl rfl)
theorem dX4_pushOf_159 : decode cX4_pushOf 159 = .ok (.iconst 0, 1) := dk_3 (dk_at dksX4_pushOf_6 21 rfl rfl)
theorem dX4_pushOf_160 : decode cX4_pushOf 160 = .ok (.iaload, 1) := dk_46 (dk_at dksX4_pushOf_6 22 rfl rfl)
theorem dX4_pushOf_161 : decode cX4_pushOf 161 = .ok (.iconst 3, 1) := dk_6 (dk_at dksX4_pushOf_6 23 rfl rfl)
theorem dX4_pushOf_162 : decode cX4_pushOf 162 = .ok (.if_icmp .ge 7, 3) := dk_162 0 7 (dk_at dksX4_pushOf_7 0 rfl rfl)
theorem dX4_pushOf_165 : decode cX4_pushOf 165 = .ok (.iconst 1, 1) := dk_4 (dk_at dksX4_pushOf_7 3 rfl rfl)
theorem dX4_pushOf_166 : decode cX4_pushOf 166 = .ok (.goto 4, 3) := dk_167 0 4 (dk_at dksX4_pushOf_7 4 rfl rfl)
theorem dX4_pushOf_169 : decode cX4_pushOf 169 = .ok (.iconst 0, 1) := dk_3 (dk_at dksX4_pushOf_7 7 rfl rfl)
theorem dX4_pushOf_170 : decode cX4_pushOf 170 = .ok (.isub, 1) := dk_100 (dk_at dksX4_pushOf_7 8 rfl rfl)
theorem dX4_pushOf_171 : decode cX4_pushOf 171 = .ok (.istore 6, 2) := dk_54 6 (dk_at dksX4_pushOf_7 9 rfl rfl)
theorem dX4_pushOf_173 : decode cX4_pushOf 173 = .ok (.iload 6, 2) := dk_21 6 (dk_at dksX4_pushOf_7 11 rfl rfl)
theorem dX4_pushOf_175 : decode cX4_pushOf 175 = .ok (.iload_n 3, 1) := dk_29 (dk_at dksX4_pushOf_7 13 rfl rfl)
theorem dX4_pushOf_176 : decode cX4_pushOf 176 = .ok (.bipush 6, 2) := dk_16 6 (dk_at dksX4_pushOf_7 14 rfl rfl)
theorem dX4_pushOf_178 : decode cX4_pushOf 178 = .ok (.if_icmp .ne 28, 3) := dk_160 0 28 (dk_at dksX4_pushOf_7 16 rfl rfl)
theorem dX4_pushOf_181 : decode cX4_pushOf 181 = .ok (.aload_n 0, 1) := dk_42 (dk_at dksX4_pushOf_7 19 rfl rfl)
theorem dX4_pushOf_182 : decode cX4_pushOf 182 = .ok (.getfield 9, 3) := dk_180 0 9 (dk_at dksX4_pushOf_7 20 rfl rfl)
theorem dX4_pushOf_185 : decode cX4_pushOf 185 = .ok (.bipush 22, 2) := dk_16 22 (dk_at dksX4_pushOf_8 0 rfl rfl)
theorem dX4_pushOf_187 : decode cX4_pushOf 187 = .ok (.iconst 4, 1) := dk_7 (dk_at dksX4_pushOf_8 2 rfl rfl)
theorem dX4_pushOf_188 : decode cX4_pushOf 188 = .ok (.iload_n 1, 1) := dk_27 (dk_at dksX4_pushOf_8 3 rfl rfl)
theorem dX4_pushOf_189 : decode cX4_pushOf 189 = .ok (.imul, 1) := dk_104 (dk_at dksX4_pushOf_8 4 rfl rfl)
theorem dX4_pushOf_190 : decode cX4_pushOf 190 = .ok (.iadd, 1) := dk_96 (dk_at dksX4_pushOf_8 5 rfl rfl)
theorem dX4_pushOf_191 : decode cX4_pushOf 191 = .ok (.aload_n 0, 1) := dk_42 (dk_at dksX4_pushOf_8 6 rfl rfl)
theorem dX4_pushOf_192 : decode cX4_pushOf 192 = .ok (.getfield 9, 3) := dk_180 0 9 (dk_at dksX4_pushOf_8 7 rfl rfl)
theorem dX4_pushOf_195 : decode cX4_pushOf 195 = .ok (.iconst 0, 1) := dk_3 (dk_at dksX4_pushOf_8 10 rfl rfl)
theorem dX4_pushOf_196 : decode cX4_pushOf 196 = .ok (.iaload, 1) := dk_46 (dk_at dksX4_pushOf_8 11 rfl rfl)
theorem dX4_pushOf_197 : decode cX4_pushOf 197 = .ok (.iconst 4, 1) := dk_7 (dk_at dksX4_pushOf_8 12 rfl rfl)
theorem dX4_pushOf_198 : decode cX4_pushOf 198 = .ok (.irem, 1) := dk_112 (dk_at dksX4_pushOf_8 13 rfl rfl)
theorem dX4_pushOf_199 : decode cX4_pushOf 199 = .ok (.iadd, 1) := dk_96 (dk_at dksX4_pushOf_8 14 rfl rfl)
theorem dX4_pushOf_200 : decode cX4_pushOf 200 = .ok (.iaload, 1) := dk_46 (dk_at dksX4_pushOf_8 15 rfl rfl)
theorem dX4_pushOf_201 : decode cX4_pushOf 201 = .ok (.iconst 4, 1) := dk_7 (dk_at dksX4_pushOf_8 16 rfl rfl)
theorem dX4_pushOf_202 : decode cX4_pushOf 202 = .ok (.isub, 1) := dk_100 (dk_at dksX4_pushOf_8 17 rfl rfl)
theorem dX4_pushOf_203 : decode cX4_pushOf 203 = .ok (.goto 4, 3) := dk_167 0 4 (dk_at dksX4_pushOf_8 18 rfl rfl)
theorem dX4_pushOf_206 : decode cX4_pushOf 206 = .ok (.iconst 0, 1) := dk_3 (dk_at dksX4_pushOf_8 21 rfl rfl)
theorem dX4_pushOf_207 : decode cX4_pushOf 207 = .ok (.iadd, 1) := dk_96 (dk_at dksX4_pushOf_8 22 rfl rfl)
theorem dX4_pushOf_208 : decode cX4_pushOf 208 = .ok (.ireturn, 1) := dk_172 (dk_at dksX4_pushOf_8 23 rfl rfl)
abbrev cX4_lifted : ByteArray := prog_19_method_29_code
def yX4_lifted : MethodName := ⟨RX4, "lifted", "(II)I"⟩
def dkwX4_lifted_17 : List UInt8 := [100, 96, 62, 132, 7, 1, 167, 254, 229, 29, 172]
abbrev dktX4_lifted_17 : List UInt8 := dkwX4_lifted_17 ++ []
def dkwX4_lifted_16 : List UInt8 := [167, 0, 25, 21, 8, 17, 255, 56, 164, 0, 11, 16, 246, 21, 8, 100, 167, 0, 9, 21, 8, 17, 255, 56]
abbrev dktX4_lifted_16 : List UInt8 := dkwX4_lifted_16 ++ dktX4_lifted_17
def dkwX4_lifted_15 : List UInt8 := [167, 0, 4, 3, 84, 167, 0, 44, 3, 54, 6, 29, 42, 180, 0, 24, 3, 51, 154, 0, 7, 3]
abbrev dktX4_lifted_15 : List UInt8 := dkwX4_lifted_15 ++ dktX4_lifted_16
def dkwX4_lifted_14 : List UInt8 := [42, 180, 0, 24, 21, 6, 4, 100, 51, 154, 0, 13, 42, 180, 0, 24, 21, 6, 51, 153, 0, 7, 4]
abbrev dktX4_lifted_14 : List UInt8 := dkwX4_lifted_14 ++ dktX4_lifted_15
def dkwX4_lifted_13 : List UInt8 := [4, 100, 51, 153, 0, 17, 42, 180, 0, 24, 21, 6, 51, 153, 0, 7, 4, 167, 0, 34, 3, 167, 0, 30]
abbrev dktX4_lifted_13 : List UInt8 := dkwX4_lifted_13 ++ dktX4_lifted_14
def dkwX4_lifted_12 : List UInt8 := [132, 6, 255, 42, 180, 0, 24, 21, 6, 4, 100, 21, 8, 16, 254, 160, 0, 33, 42, 180, 0, 24, 21, 6]
abbrev dktX4_lifted_12 : List UInt8 := dkwX4_lifted_12 ++ dktX4_lifted_13
def dkwX4_lifted_11 : List UInt8 := [21, 6, 4, 100, 51, 154, 0, 7, 4, 167, 0, 4, 3, 84, 167, 0, 130, 21, 8, 16, 246, 164, 0, 82]
abbrev dktX4_lifted_11 : List UInt8 := dkwX4_lifted_11 ++ dktX4_lifted_12
def dkwX4_lifted_10 : List UInt8 := [132, 6, 1, 167, 0, 165, 21, 8, 2, 160, 0, 32, 42, 180, 0, 24, 21, 6, 4, 100, 42, 180, 0, 24]
abbrev dktX4_lifted_10 : List UInt8 := dkwX4_lifted_10 ++ dktX4_lifted_11
def dkwX4_lifted_9 : List UInt8 := [160, 0, 7, 4, 167, 0, 19, 3, 167, 0, 15, 21, 9, 21, 11, 164, 0, 7, 4, 167, 0, 4, 3, 84]
abbrev dktX4_lifted_9 : List UInt8 := dkwX4_lifted_9 ++ dktX4_lifted_10
def dkwX4_lifted_8 : List UInt8 := [21, 11, 162, 0, 7, 4, 167, 0, 40, 3, 167, 0, 36, 21, 10, 4, 160, 0, 18, 21, 9, 21, 11]
abbrev dktX4_lifted_8 : List UInt8 := dkwX4_lifted_8 ++ dktX4_lifted_9
def dkwX4_lifted_7 : List UInt8 := [7, 112, 54, 10, 21, 8, 16, 32, 108, 54, 11, 42, 180, 0, 24, 21, 6, 21, 10, 154, 0, 18, 21, 9]
abbrev dktX4_lifted_7 : List UInt8 := dkwX4_lifted_7 ++ dktX4_lifted_8
def dkwX4_lifted_6 : List UInt8 := [54, 8, 21, 8, 155, 0, 97, 42, 180, 0, 21, 21, 8, 16, 8, 112, 46, 54, 9, 21, 8, 16, 8, 108]
abbrev dktX4_lifted_6 : List UInt8 := dkwX4_lifted_6 ++ dktX4_lifted_7
def dkwX4_lifted_5 : List UInt8 := [54, 6, 21, 5, 54, 7, 21, 7, 21, 5, 21, 4, 96, 162, 1, 23, 42, 180, 0, 9, 21, 7, 46]
abbrev dktX4_lifted_5 : List UInt8 := dkwX4_lifted_5 ++ dktX4_lifted_6
def dkwX4_lifted_4 : List UInt8 := [46, 96, 46, 54, 4, 17, 0, 189, 17, 0, 140, 42, 180, 0, 9, 16, 11, 46, 104, 96, 54, 5, 3]
abbrev dktX4_lifted_4 : List UInt8 := dkwX4_lifted_4 ++ dktX4_lifted_5
def dkwX4_lifted_3 : List UInt8 := [16, 11, 46, 2, 160, 0, 7, 3, 167, 0, 19, 42, 180, 0, 9, 17, 0, 184, 42, 180, 0, 9, 16, 11]
abbrev dktX4_lifted_3 : List UInt8 := dkwX4_lifted_3 ++ dktX4_lifted_4
def dkwX4_lifted_2 : List UInt8 := [96, 46, 79, 42, 180, 0, 21, 7, 42, 180, 0, 9, 3, 46, 16, 10, 112, 79, 3, 62, 42, 180, 0, 9]
abbrev dktX4_lifted_2 : List UInt8 := dkwX4_lifted_2 ++ dktX4_lifted_3
def dkwX4_lifted_1 : List UInt8 := [180, 0, 21, 5, 42, 180, 0, 9, 4, 27, 96, 46, 79, 42, 180, 0, 21, 6, 42, 180, 0, 9, 4, 28]
abbrev dktX4_lifted_1 : List UInt8 := dkwX4_lifted_1 ++ dktX4_lifted_2
def dkwX4_lifted_0 : List UInt8 := [42, 180, 0, 21, 3, 27, 79, 42, 180, 0, 21, 4, 42, 180, 0, 9, 16, 12, 27, 96, 46, 79, 42]
abbrev dktX4_lifted_0 : List UInt8 := dkwX4_lifted_0 ++ dktX4_lifted_1
theorem dksX4_lifted_0 : cX4_lifted.data.toList.drop 0 = dktX4_lifted_0 := by decide +kernel
theorem dksX4_lifted_1 : cX4_lifted.data.toList.drop 23 = dktX4_lifted_1 := dk_seg dksX4_lifted_0 23 rfl rfl
theorem dksX4_lifted_2 : cX4_lifted.data.toList.drop 47 = dktX4_lifted_2 := dk_seg dksX4_lifted_1 24 rfl rfl
theorem dksX4_lifted_3 : cX4_lifted.data.toList.drop 71 = dktX4_lifted_3 := dk_seg dksX4_lifted_2 24 rfl rfl
theorem dksX4_lifted_4 : cX4_lifted.data.toList.drop 95 = dktX4_lifted_4 := dk_seg dksX4_lifted_3 24 rfl rfl
theorem dksX4_lifted_5 : cX4_lifted.data.toList.drop 118 = dktX4_lifted_5 := dk_seg dksX4_lifted_4 23 rfl rfl
theorem dksX4_lifted_6 : cX4_lifted.data.toList.drop 141 = dktX4_lifted_6 := dk_seg dksX4_lifted_5 23 rfl rfl
theorem dksX4_lifted_7 : cX4_lifted.data.toList.drop 165 = dktX4_lifted_7 := dk_seg dksX4_lifted_6 24 rfl rfl
theorem dksX4_lifted_8 : cX4_lifted.data.toList.drop 189 = dktX4_lifted_8 := dk_seg dksX4_lifted_7 24 rfl rfl
theorem dksX4_lifted_9 : cX4_lifted.data.toList.drop 212 = dktX4_lifted_9 := dk_seg dksX4_lifted_8 23 rfl rfl
theorem dksX4_lifted_10 : cX4_lifted.data.toList.drop 236 = dktX4_lifted_10 := dk_seg dksX4_lifted_9 24 rfl rfl
theorem dksX4_lifted_11 : cX4_lifted.data.toList.drop 260 = dktX4_lifted_11 := dk_seg dksX4_lifted_10 24 rfl rfl
theorem dksX4_lifted_12 : cX4_lifted.data.toList.drop 284 = dktX4_lifted_12 := dk_seg dksX4_lifted_11 24 rfl rfl
theorem dksX4_lifted_13 : cX4_lifted.data.toList.drop 308 = dktX4_lifted_13 := dk_seg dksX4_lifted_12 24 rfl rfl
theorem dksX4_lifted_14 : cX4_lifted.data.toList.drop 332 = dktX4_lifted_14 := dk_seg dksX4_lifted_13 24 rfl rfl
theorem dksX4_lifted_15 : cX4_lifted.data.toList.drop 355 = dktX4_lifted_15 := dk_seg dksX4_lifted_14 23 rfl rfl
theorem dksX4_lifted_16 : cX4_lifted.data.toList.drop 377 = dktX4_lifted_16 := dk_seg dksX4_lifted_15 22 rfl rfl
theorem dksX4_lifted_17 : cX4_lifted.data.toList.drop 401 = dktX4_lifted_17 := dk_seg dksX4_lifted_16 24 rfl rfl
theorem dX4_lifted_0 : decode cX4_lifted 0 = .ok (.aload_n 0, 1) := dk_42 (dk_at dksX4_lifted_0 0 rfl rfl)
theorem dX4_lifted_1 : decode cX4_lifted 1 = .ok (.getfield 21, 3) := dk_180 0 21 (dk_at dksX4_lifted_0 1 rfl rfl)
theorem dX4_lifted_4 : decode cX4_lifted 4 = .ok (.iconst 0, 1) := dk_3 (dk_at dksX4_lifted_0 4 rfl rfl)
theorem dX4_lifted_5 : decode cX4_lifted 5 = .ok (.iload_n 1, 1) := dk_27 (dk_at dksX4_lifted_0 5 rfl rfl)
theorem dX4_lifted_6 : decode cX4_lifted 6 = .ok (.iastore, 1) := dk_79 (dk_at dksX4_lifted_0 6 rfl rfl)
theorem dX4_lifted_7 : decode cX4_lifted 7 = .ok (.aload_n 0, 1) := dk_42 (dk_at dksX4_lifted_0 7 rfl rfl)
theorem dX4_lifted_8 : decode cX4_lifted 8 = .ok (.getfield 21, 3) := dk_180 0 21 (dk_at dksX4_lifted_0 8 rfl rfl)
theorem dX4_lifted_11 : decode cX4_lifted 11 = .ok (.iconst 1, 1) := dk_4 (dk_at dksX4_lifted_0 11 rfl rfl)
theorem dX4_lifted_12 : decode cX4_lifted 12 = .ok (.aload_n 0, 1) := dk_42 (dk_at dksX4_lifted_0 12 rfl rfl)
theorem dX4_lifted_13 : decode cX4_lifted 13 = .ok (.getfield 9, 3) := dk_180 0 9 (dk_at dksX4_lifted_0 13 rfl rfl)
theorem dX4_lifted_16 : decode cX4_lifted 16 = .ok (.bipush 12, 2) := dk_16 12 (dk_at dksX4_lifted_0 16 rfl rfl)
theorem dX4_lifted_18 : decode cX4_lifted 18 = .ok (.iload_n 1, 1) := dk_27 (dk_at dksX4_lifted_0 18 rfl rfl)
theorem dX4_lifted_19 : decode cX4_lifted 19 = .ok (.iadd, 1) := dk_96 (dk_at dksX4_lifted_0 19 rfl rfl)
theorem dX4_lifted_20 : decode cX4_lifted 20 = .ok (.iaload, 1) := dk_46 (dk_at dksX4_lifted_0 20 rfl rfl)
theorem dX4_lifted_21 : decode cX4_lifted 21 = .ok (.iastore, 1) := dk_79 (dk_at dksX4_lifted_0 21 rfl rfl)
theorem dX4_lifted_22 : decode cX4_lifted 22 = .ok (.aload_n 0, 1) := dk_42 (dk_at dksX4_lifted_0 22 rfl rfl)
theorem dX4_lifted_23 : decode cX4_lifted 23 = .ok (.getfield 21, 3) := dk_180 0 21 (dk_at dksX4_lifted_1 0 rfl rfl)
theorem dX4_lifted_26 : decode cX4_lifted 26 = .ok (.iconst 2, 1) := dk_5 (dk_at dksX4_lifted_1 3 rfl rfl)
theorem dX4_lifted_27 : decode cX4_lifted 27 = .ok (.aload_n 0, 1) := dk_42 (dk_at dksX4_lifted_1 4 rfl rfl)
theorem dX4_lifted_28 : decode cX4_lifted 28 = .ok (.getfield 9, 3) := dk_180 0 9 (dk_at dksX4_lifted_1 5 rfl rfl)
theorem dX4_lifted_31 : decode cX4_lifted 31 = .ok (.iconst 1, 1) := dk_4 (dk_at dksX4_lifted_1 8 rfl rfl)
theorem dX4_lifted_32 : decode cX4_lifted 32 = .ok (.iload_n 1, 1) := dk_27 (dk_at dksX4_lifted_1 9 rfl rfl)
theorem dX4_lifted_33 : decode cX4_lifted 33 = .ok (.iadd, 1) := dk_96 (dk_at dksX4_lifted_1 10 rfl rfl)
theorem dX4_lifted_34 : decode cX4_lifted 34 = .ok (.iaload, 1) := dk_46 (dk_at dksX4_lifted_1 11 rfl rfl)
theorem dX4_lifted_35 : decode cX4_lifted 35 = .ok (.iastore, 1) := dk_79 (dk_at dksX4_lifted_1 12 rfl rfl)
theorem dX4_lifted_36 : decode cX4_lifted 36 = .ok (.aload_n 0, 1) := dk_42 (dk_at dksX4_lifted_1 13 rfl rfl)
theorem dX4_lifted_37 : decode cX4_lifted 37 = .ok (.getfield 21, 3) := dk_180 0 21 (dk_at dksX4_lifted_1 14 rfl rfl)
theorem dX4_lifted_40 : decode cX4_lifted 40 = .ok (.iconst 3, 1) := dk_6 (dk_at dksX4_lifted_1 17 rfl rfl)
theorem dX4_lifted_41 : decode cX4_lifted 41 = .ok (.aload_n 0, 1) := dk_42 (dk_at dksX4_lifted_1 18 rfl rfl)
theorem dX4_lifted_42 : decode cX4_lifted 42 = .ok (.getfield 9, 3) := dk_180 0 9 (dk_at dksX4_lifted_1 19 rfl rfl)
theorem dX4_lifted_45 : decode cX4_lifted 45 = .ok (.iconst 1, 1) := dk_4 (dk_at dksX4_lifted_1 22 rfl rfl)
theorem dX4_lifted_46 : decode cX4_lifted 46 = .ok (.iload_n 2, 1) := dk_28 (dk_at dksX4_lifted_1 23 rfl rfl)
theorem dX4_lifted_47 : decode cX4_lifted 47 = .ok (.iadd, 1) := dk_96 (dk_at dksX4_lifted_2 0 rfl rfl)
theorem dX4_lifted_48 : decode cX4_lifted 48 = .ok (.iaload, 1) := dk_46 (dk_at dksX4_lifted_2 1 rfl rfl)
theorem dX4_lifted_49 : decode cX4_lifted 49 = .ok (.iastore, 1) := dk_79 (dk_at dksX4_lifted_2 2 rfl rfl)
theorem dX4_lifted_50 : decode cX4_lifted 50 = .ok (.aload_n 0, 1) := dk_42 (dk_at dksX4_lifted_2 3 rfl rfl)
theorem dX4_lifted_51 : decode cX4_lifted 51 = .ok (.getfield 21, 3) := dk_180 0 21 (dk_at dksX4_lifted_2 4 rfl rfl)
theorem dX4_lifted_54 : decode cX4_lifted 54 = .ok (.iconst 4, 1) := dk_7 (dk_at dksX4_lifted_2 7 rfl rfl)
theorem dX4_lifted_55 : decode cX4_lifted 55 = .ok (.aload_n 0, 1) := dk_42 (dk_at dksX4_lifted_2 8 rfl rfl)
theorem dX4_lifted_56 : decode cX4_lifted 56 = .ok (.getfield 9, 3) := dk_180 0 9 (dk_at dksX4_lifted_2 9 rfl rfl)
theorem dX4_lifted_59 : decode cX4_lifted 59 = .ok (.iconst 0, 1) := dk_3 (dk_at dksX4_lifted_2 12 rfl rfl)
theorem dX4_lifted_60 : decode cX4_lifted 60 = .ok (.iaload, 1) := dk_46 (dk_at dksX4_lifted_2 13 rfl rfl)
theorem dX4_lifted_61 : decode cX4_lifted 61 = .ok (.bipush 10, 2) := dk_16 10 (dk_at dksX4_lifted_2 14 rfl rfl)
theorem dX4_lifted_63 : decode cX4_lifted 63 = .ok (.irem, 1) := dk_112 (dk_at dksX4_lifted_2 16 rfl rfl)
theorem dX4_lifted_64 : decode cX4_lifted 64 = .ok (.iastore, 1) := dk_79 (dk_at dksX4_lifted_2 17 rfl rfl)
theorem dX4_lifted_65 : decode cX4_lifted 65 = .ok (.iconst 0, 1) := dk_3 (dk_at dksX4_lifted_2 18 rfl rfl)
theorem dX4_lifted_66 : decode cX4_lifted 66 = .ok (.istore_n 3, 1) := dk_62 (dk_at dksX4_lifted_2 19 rfl rfl)
theorem dX4_lifted_67 : decode cX4_lifted 67 = .ok (.aload_n 0, 1) := dk_42 (dk_at dksX4_lifted_2 20 rfl rfl)
theorem dX4_lifted_68 : decode cX4_lifted 68 = .ok (.getfield 9, 3) := dk_180 0 9 (dk_at dksX4_lifted_2 21 rfl rfl)
theorem dX4_lifted_71 : decode cX4_lifted 71 = .ok (.bipush 11, 2) := dk_16 11 (dk_at dksX4_lifted_3 0 rfl rfl)
theorem dX4_lifted_73 : decode cX4_lifted 73 = .ok (.iaload, 1) := dk_46 (dk_at dksX4_lifted_3 2 rfl rfl)
theorem dX4_lifted_74 : decode cX4_lifted 74 = .ok (.iconst (-1), 1) := dk_2 (dk_at dksX4_lifted_3 3 rfl rfl)
theorem dX4_lifted_75 : decode cX4_lifted 75 = .ok (.if_icmp .ne 7, 3) := dk_160 0 7 (dk_at dksX4_lifted_3 4 rfl rfl)
theorem dX4_lifted_78 : decode cX4_lifted 78 = .ok (.iconst 0, 1) := dk_3 (dk_at dksX4_lifted_3 7 rfl rfl)
theorem dX4_lifted_79 : decode cX4_lifted 79 = .ok (.goto 19, 3) := dk_167 0 19 (dk_at dksX4_lifted_3 8 rfl rfl)
theorem dX4_lifted_82 : decode cX4_lifted 82 = .ok (.aload_n 0, 1) := dk_42 (dk_at dksX4_lifted_3 11 rfl rfl)
theorem dX4_lifted_83 : decode cX4_lifted 83 = .ok (.getfield 9, 3) := dk_180 0 9 (dk_at dksX4_lifted_3 12 rfl rfl)
theorem dX4_lifted_86 : decode cX4_lifted 86 = .ok (.sipush 184, 3) := dk_17 0 184 (dk_at dksX4_lifted_3 15 rfl rfl)
theorem dX4_lifted_89 : decode cX4_lifted 89 = .ok (.aload_n 0, 1) := dk_42 (dk_at dksX4_lifted_3 18 rfl rfl)
theorem dX4_lifted_90 : decode cX4_lifted 90 = .ok (.getfield 9, 3) := dk_180 0 9 (dk_at dksX4_lifted_3 19 rfl rfl)
theorem dX4_lifted_93 : decode cX4_lifted 93 = .ok (.bipush 11, 2) := dk_16 11 (dk_at dksX4_lifted_3 22 rfl rfl)
theorem dX4_lifted_95 : decode cX4_lifted 95 = .ok (.iaload, 1) := dk_46 (dk_at dksX4_lifted_4 0 rfl rfl)
theorem dX4_lifted_96 : decode cX4_lifted 96 = .ok (.iadd, 1) := dk_96 (dk_at dksX4_lifted_4 1 rfl rfl)
theorem dX4_lifted_97 : decode cX4_lifted 97 = .ok (.iaload, 1) := dk_46 (dk_at dksX4_lifted_4 2 rfl rfl)
theorem dX4_lifted_98 : decode cX4_lifted 98 = .ok (.istore 4, 2) := dk_54 4 (dk_at dksX4_lifted_4 3 rfl rfl)
theorem dX4_lifted_100 : decode cX4_lifted 100 = .ok (.sipush 189, 3) := dk_17 0 189 (dk_at dksX4_lifted_4 5 rfl rfl)
theorem dX4_lifted_103 : decode cX4_lifted 103 = .ok (.sipush 140, 3) := dk_17 0 140 (dk_at dksX4_lifted_4 8 rfl rfl)
theorem dX4_lifted_106 : decode cX4_lifted 106 = .ok (.aload_n 0, 1) := dk_42 (dk_at dksX4_lifted_4 11 rfl rfl)
theorem dX4_lifted_107 : decode cX4_lifted 107 = .ok (.getfield 9, 3) := dk_180 0 9 (dk_at dksX4_lifted_4 12 rfl rfl)
theorem dX4_lifted_110 : decode cX4_lifted 110 = .ok (.bipush 11, 2) := dk_16 11 (dk_at dksX4_lifted_4 15 rfl rfl)
theorem dX4_lifted_112 : decode cX4_lifted 112 = .ok (.iaload, 1) := dk_46 (dk_at dksX4_lifted_4 17 rfl rfl)
theorem dX4_lifted_113 : decode cX4_lifted 113 = .ok (.imul, 1) := dk_104 (dk_at dksX4_lifted_4 18 rfl rfl)
theorem dX4_lifted_114 : decode cX4_lifted 114 = .ok (.iadd, 1) := dk_96 (dk_at dksX4_lifted_4 19 rfl rfl)
theorem dX4_lifted_115 : decode cX4_lifted 115 = .ok (.istore 5, 2) := dk_54 5 (dk_at dksX4_lifted_4 20 rfl rfl)
theorem dX4_lifted_117 : decode cX4_lifted 117 = .ok (.iconst 0, 1) := dk_3 (dk_at dksX4_lifted_4 22 rfl rfl)
theorem dX4_lifted_118 : decode cX4_lifted 118 = .ok (.istore 6, 2) := dk_54 6 (dk_at dksX4_lifted_5 0 rfl rfl)
theorem dX4_lifted_120 : decode cX4_lifted 120 = .ok (.iload 5, 2) := dk_21 5 (dk_at dksX4_lifted_5 2 rfl rfl)
theorem dX4_lifted_122 : decode cX4_lifted 122 = .ok (.istore 7, 2) := dk_54 7 (dk_at dksX4_lifted_5 4 rfl rfl)
theorem dX4_lifted_124 : decode cX4_lifted 124 = .ok (.iload 7, 2) := dk_21 7 (dk_at dksX4_lifted_5 6 rfl rfl)
theorem dX4_lifted_126 : decode cX4_lifted 126 = .ok (.iload 5, 2) := dk_21 5 (dk_at dksX4_lifted_5 8 rfl rfl)
theorem dX4_lifted_128 : decode cX4_lifted 128 = .ok (.iload 4, 2) := dk_21 4 (dk_at dksX4_lifted_5 10 rfl rfl)
theorem dX4_lifted_130 : decode cX4_lifted 130 = .ok (.iadd, 1) := dk_96 (dk_at dksX4_lifted_5 12 rfl rfl)
theorem dX4_lifted_131 : decode cX4_lifted 131 = .ok (.if_icmp .ge 279, 3) := dk_162 1 23 (dk_at dksX4_lifted_5 13 rfl rfl)
theorem dX4_lifted_134 : decode cX4_lifted 134 = .ok (.aload_n 0, 1) := dk_42 (dk_at dksX4_lifted_5 16 rfl rfl)
theorem dX4_lifted_135 : decode cX4_lifted 135 = .ok (.getfield 9, 3) := dk_180 0 9 (dk_at dksX4_lifted_5 17 rfl rfl)
theorem dX4_lifted_138 : decode cX4_lifted 138 = .ok (.iload 7, 2) := dk_21 7 (dk_at dksX4_lifted_5 20 rfl rfl)
theorem dX4_lifted_140 : decode cX4_lifted 140 = .ok (.iaload, 1) := dk_46 (dk_at dksX4_lifted_5 22 rfl rfl)
theorem dX4_lifted_141 : decode cX4_lifted 141 = .ok (.istore 8, 2) := dk_54 8 (dk_at dksX4_lifted_6 0 rfl rfl)
theorem dX4_lifted_143 : decode cX4_lifted 143 = .ok (.iload 8, 2) := dk_21 8 (dk_at dksX4_lifted_6 2 rfl rfl)
theorem dX4_lifted_145 : decode cX4_lifted 145 = .ok (.ifCond .lt 97, 3) := dk_155 0 97 (dk_at dksX4_lifted_6 4 rfl rfl)
theorem dX4_lifted_148 : decode cX4_lifted 148 = .ok (.aload_n 0, 1) := dk_42 (dk_at dksX4_lifted_6 7 rfl rfl)
theorem dX4_lifted_149 : decode cX4_lifted 149 = .ok (.getfield 21, 3) := dk_180 0 21 (dk_at dksX4_lifted_6 8 rfl rfl)
theorem dX4_lifted_152 : decode cX4_lifted 152 = .ok (.iload 8, 2) := dk_21 8 (dk_at dksX4_lifted_6 11 rfl rfl)
theorem dX4_lifted_154 : decode cX4_lifted 154 = .ok (.bipush 8, 2) := dk_16 8 (dk_at dksX4_lifted_6 13 rfl rfl)
theorem dX4_lifted_156 : decode cX4_lifted 156 = .ok (.irem, 1) := dk_112 (dk_at dksX4_lifted_6 15 rfl rfl)
theorem dX4_lifted_157 : decode cX4_lifted 157 = .ok (.iaload, 1) := dk_46 (dk_at dksX4_lifted_6 16 rfl rfl)
theorem dX4_lifted_158 : decode cX4_lifted 158 = .ok (.istore 9, 2) := dk_54 9 (dk_at dksX4_lifted_6 17 rfl rfl)
theorem dX4_lifted_160 : decode cX4_lifted 160 = .ok (.iload 8, 2) := dk_21 8 (dk_at dksX4_lifted_6 19 rfl rfl)
theorem dX4_lifted_162 : decode cX4_lifted 162 = .ok (.bipush 8, 2) := dk_16 8 (dk_at dksX4_lifted_6 21 rfl rfl)
theorem dX4_lifted_164 : decode cX4_lifted 164 = .ok (.idiv, 1) := dk_108 (dk_at dksX4_lifted_6 23 rfl rfl)
theorem dX4_lifted_165 : decode cX4_lifted 165 = .ok (.iconst 4, 1) := dk_7 (dk_at dksX4_lifted_7 0 rfl rfl)
theorem dX4_lifted_166 : decode cX4_lifted 166 = .ok (.irem, 1) := dk_112 (dk_at dksX4_lifted_7 1 rfl rfl)
theorem dX4_lifted_167 : decode cX4_lifted 167 = .ok (.istore 10, 2) := dk_54 10 (dk_at dksX4_lifted_7 2 rfl rfl)
theorem dX4_lifted_169 : decode cX4_lifted 169 = .ok (.iload 8, 2) := dk_21 8 (dk_at dksX4_lifted_7 4 rfl rfl)
theorem dX4_lifted_171 : decode cX4_lifted 171 = .ok (.bipush 32, 2) := dk_16 32 (dk_at dksX4_lifted_7 6 rfl rfl)
theorem dX4_lifted_173 : decode cX4_lifted 173 = .ok (.idiv, 1) := dk_108 (dk_at dksX4_lifted_7 8 rfl rfl)
theorem dX4_lifted_174 : decode cX4_lifted 174 = .ok (.istore 11, 2) := dk_54 11 (dk_at dksX4_lifted_7 9 rfl rfl)
theorem dX4_lifted_176 : decode cX4_lifted 176 = .ok (.aload_n 0, 1) := dk_42 (dk_at dksX4_lifted_7 11 rfl rfl)
theorem dX4_lifted_177 : decode cX4_lifted 177 = .ok (.getfield 24, 3) := dk_180 0 24 (dk_at dksX4_lifted_7 12 rfl rfl)
theorem dX4_lifted_180 : decode cX4_lifted 180 = .ok (.iload 6, 2) := dk_21 6 (dk_at dksX4_lifted_7 15 rfl rfl)
theorem dX4_lifted_182 : decode cX4_lifted 182 = .ok (.iload 10, 2) := dk_21 10 (dk_at dksX4_lifted_7 17 rfl rfl)
theorem dX4_lifted_184 : decode cX4_lifted 184 = .ok (.ifCond .ne 18, 3) := dk_154 0 18 (dk_at dksX4_lifted_7 19 rfl rfl)
theorem dX4_lifted_187 : decode cX4_lifted 187 = .ok (.iload 9, 2) := dk_21 9 (dk_at dksX4_lifted_7 22 rfl rfl)
theorem dX4_lifted_189 : decode cX4_lifted 189 = .ok (.iload 11, 2) := dk_21 11 (dk_at dksX4_lifted_8 0 rfl rfl)
theorem dX4_lifted_191 : decode cX4_lifted 191 = .ok (.if_icmp .ge 7, 3) := dk_162 0 7 (dk_at dksX4_lifted_8 2 rfl rfl)
theorem dX4_lifted_194 : decode cX4_lifted 194 = .ok (.iconst 1, 1) := dk_4 (dk_at dksX4_lifted_8 5 rfl rfl)
theorem dX4_lifted_195 : decode cX4_lifted 195 = .ok (.goto 40, 3) := dk_167 0 40 (dk_at dksX4_lifted_8 6 rfl rfl)
theorem dX4_lifted_198 : decode cX4_lifted 198 = .ok (.iconst 0, 1) := dk_3 (dk_at dksX4_lifted_8 9 rfl rfl)
theorem dX4_lifted_199 : decode cX4_lifted 199 = .ok (.goto 36, 3) := dk_167 0 36 (dk_at dksX4_lifted_8 10 rfl rfl)
theorem dX4_lifted_202 : decode cX4_lifted 202 = .ok (.iload 10, 2) := dk_21 10 (dk_at dksX4_lifted_8 13 rfl rfl)
theorem dX4_lifted_204 : decode cX4_lifted 204 = .ok (.iconst 1, 1) := dk_4 (dk_at dksX4_lifted_8 15 rfl rfl)
theorem dX4_lifted_205 : decode cX4_lifted 205 = .ok (.if_icmp .ne 18, 3) := dk_160 0 18 (dk_at dksX4_lifted_8 16 rfl rfl)
theorem dX4_lifted_208 : decode cX4_lifted 208 = .ok (.iload 9, 2) := dk_21 9 (dk_at dksX4_lifted_8 19 rfl rfl)
theorem dX4_lifted_210 : decode cX4_lifted 210 = .ok (.iload 11, 2) := dk_21 11 (dk_at dksX4_lifted_8 21 rfl rfl)
theorem dX4_lifted_212 : decode cX4_lifted 212 = .ok (.if_icmp .ne 7, 3) := dk_160 0 7 (dk_at dksX4_lifted_9 0 rfl rfl)
theorem dX4_lifted_215 : decode cX4_lifted 215 = .ok (.iconst 1, 1) := dk_4 (dk_at dksX4_lifted_9 3 rfl rfl)
theorem dX4_lifted_216 : decode cX4_lifted 216 = .ok (.goto 19, 3) := dk_167 0 19 (dk_at dksX4_lifted_9 4 rfl rfl)
theorem dX4_lifted_219 : decode cX4_lifted 219 = .ok (.iconst 0, 1) := dk_3 (dk_at dksX4_lifted_9 7 rfl rfl)
theorem dX4_lifted_220 : decode cX4_lifted 220 = .ok (.goto 15, 3) := dk_167 0 15 (dk_at dksX4_lifted_9 8 rfl rfl)
theorem dX4_lifted_223 : decode cX4_lifted 223 = .ok (.iload 9, 2) := dk_21 9 (dk_at dksX4_lifted_9 11 rfl rfl)
theorem dX4_lifted_225 : decode cX4_lifted 225 = .ok (.iload 11, 2) := dk_21 11 (dk_at dksX4_lifted_9 13 rfl rfl)
theorem dX4_lifted_227 : decode cX4_lifted 227 = .ok (.if_icmp .le 7, 3) := dk_164 0 7 (dk_at dksX4_lifted_9 15 rfl rfl)
theorem dX4_lifted_230 : decode cX4_lifted 230 = .ok (.iconst 1, 1) := dk_4 (dk_at dksX4_lifted_9 18 rfl rfl)
theorem dX4_lifted_231 : decode cX4_lifted 231 = .ok (.goto 4, 3) := dk_167 0 4 (dk_at dksX4_lifted_9 19 rfl rfl)
theorem dX4_lifted_234 : decode cX4_lifted 234 = .ok (.iconst 0, 1) := dk_3 (dk_at dksX4_lifted_9 22 rfl rfl)
theorem dX4_lifted_235 : decode cX4_lifted 235 = .ok (.bastore, 1) := dk_84 (dk_at dksX4_lifted_9 23 rfl rfl)
theorem dX4_lifted_236 : decode cX4_lifted 236 = .ok (.iinc 6 1, 3) := dk_132 6 1 (dk_at dksX4_lifted_10 0 rfl rfl)
theorem dX4_lifted_239 : decode cX4_lifted 239 = .ok (.goto 165, 3) := dk_167 0 165 (dk_at dksX4_lifted_10 3 rfl rfl)
theorem dX4_lifted_242 : decode cX4_lifted 242 = .ok (.iload 8, 2) := dk_21 8 (dk_at dksX4_lifted_10 6 rfl rfl)
theorem dX4_lifted_244 : decode cX4_lifted 244 = .ok (.iconst (-1), 1) := dk_2 (dk_at dksX4_lifted_10 8 rfl rfl)
theorem dX4_lifted_245 : decode cX4_lifted 245 = .ok (.if_icmp .ne 32, 3) := dk_160 0 32 (dk_at dksX4_lifted_10 9 rfl rfl)
theorem dX4_lifted_248 : decode cX4_lifted 248 = .ok (.aload_n 0, 1) := dk_42 (dk_at dksX4_lifted_10 12 rfl rfl)
theorem dX4_lifted_249 : decode cX4_lifted 249 = .ok (.getfield 24, 3) := dk_180 0 24 (dk_at dksX4_lifted_10 13 rfl rfl)
theorem dX4_lifted_252 : decode cX4_lifted 252 = .ok (.iload 6, 2) := dk_21 6 (dk_at dksX4_lifted_10 16 rfl rfl)
theorem dX4_lifted_254 : decode cX4_lifted 254 = .ok (.iconst 1, 1) := dk_4 (dk_at dksX4_lifted_10 18 rfl rfl)
theorem dX4_lifted_255 : decode cX4_lifted 255 = .ok (.isub, 1) := dk_100 (dk_at dksX4_lifted_10 19 rfl rfl)
theorem dX4_lifted_256 : decode cX4_lifted 256 = .ok (.aload_n 0, 1) := dk_42 (dk_at dksX4_lifted_10 20 rfl rfl)
theorem dX4_lifted_257 : decode cX4_lifted 257 = .ok (.getfield 24, 3) := dk_180 0 24 (dk_at dksX4_lifted_10 21 rfl rfl)
theorem dX4_lifted_260 : decode cX4_lifted 260 = .ok (.iload 6, 2) := dk_21 6 (dk_at dksX4_lifted_11 0 rfl rfl)
theorem dX4_lifted_262 : decode cX4_lifted 262 = .ok (.iconst 1, 1) := dk_4 (dk_at dksX4_lifted_11 2 rfl rfl)
theorem dX4_lifted_263 : decode cX4_lifted 263 = .ok (.isub, 1) := dk_100 (dk_at dksX4_lifted_11 3 rfl rfl)
theorem dX4_lifted_264 : decode cX4_lifted 264 = .ok (.baload, 1) := dk_51 (dk_at dksX4_lifted_11 4 rfl rfl)
theorem dX4_lifted_265 : decode cX4_lifted 265 = .ok (.ifCond .ne 7, 3) := dk_154 0 7 (dk_at dksX4_lifted_11 5 rfl rfl)
theorem dX4_lifted_268 : decode cX4_lifted 268 = .ok (.iconst 1, 1) := dk_4 (dk_at dksX4_lifted_11 8 rfl rfl)
theorem dX4_lifted_269 : decode cX4_lifted 269 = .ok (.goto 4, 3) := dk_167 0 4 (dk_at dksX4_lifted_11 9 rfl rfl)
theorem dX4_lifted_272 : decode cX4_lifted 272 = .ok (.iconst 0, 1) := dk_3 (dk_at dksX4_lifted_11 12 rfl rfl)
theorem dX4_lifted_273 : decode cX4_lifted 273 = .ok (.bastore, 1) := dk_84 (dk_at dksX4_lifted_11 13 rfl rfl)
theorem dX4_lifted_274 : decode cX4_lifted 274 = .ok (.goto 130, 3) := dk_167 0 130 (dk_at dksX4_lifted_11 14 rfl rfl)
theorem dX4_lifted_277 : decode cX4_lifted 277 = .ok (.iload 8, 2) := dk_21 8 (dk_at dksX4_lifted_11 17 rfl rfl)
theorem dX4_lifted_279 : decode cX4_lifted 279 = .ok (.bipush (-10), 2) := dk_16 246 (dk_at dksX4_lifted_11 19 rfl rfl)
theorem dX4_lifted_281 : decode cX4_lifted 281 = .ok (.if_icmp .le 82, 3) := dk_164 0 82 (dk_at dksX4_lifted_11 21 rfl rfl)
theorem dX4_lifted_284 : decode cX4_lifted 284 = .ok (.iinc 6 (-1), 3) := dk_132 6 255 (dk_at dksX4_lifted_12 0 rfl rfl)
theorem dX4_lifted_287 : decode cX4_lifted 287 = .ok (.aload_n 0, 1) := dk_42 (dk_at dksX4_lifted_12 3 rfl rfl)
theorem dX4_lifted_288 : decode cX4_lifted 288 = .ok (.getfield 24, 3) := dk_180 0 24 (dk_at dksX4_lifted_12 4 rfl rfl)
theorem dX4_lifted_291 : decode cX4_lifted 291 = .ok (.iload 6, 2) := dk_21 6 (dk_at dksX4_lifted_12 7 rfl rfl)
theorem dX4_lifted_293 : decode cX4_lifted 293 = .ok (.iconst 1, 1) := dk_4 (dk_at dksX4_lifted_12 9 rfl rfl)
theorem dX4_lifted_294 : decode cX4_lifted 294 = .ok (.isub, 1) := dk_100 (dk_at dksX4_lifted_12 10 rfl rfl)
theorem dX4_lifted_295 : decode cX4_lifted 295 = .ok (.iload 8, 2) := dk_21 8 (dk_at dksX4_lifted_12 11 rfl rfl)
theorem dX4_lifted_297 : decode cX4_lifted 297 = .ok (.bipush (-2), 2) := dk_16 254 (dk_at dksX4_lifted_12 13 rfl rfl)
theorem dX4_lifted_299 : decode cX4_lifted 299 = .ok (.if_icmp .ne 33, 3) := dk_160 0 33 (dk_at dksX4_lifted_12 15 rfl rfl)
theorem dX4_lifted_302 : decode cX4_lifted 302 = .ok (.aload_n 0, 1) := dk_42 (dk_at dksX4_lifted_12 18 rfl rfl)
theorem dX4_lifted_303 : decode cX4_lifted 303 = .ok (.getfield 24, 3) := dk_180 0 24 (dk_at dksX4_lifted_12 19 rfl rfl)
theorem dX4_lifted_306 : decode cX4_lifted 306 = .ok (.iload 6, 2) := dk_21 6 (dk_at dksX4_lifted_12 22 rfl rfl)
theorem dX4_lifted_308 : decode cX4_lifted 308 = .ok (.iconst 1, 1) := dk_4 (dk_at dksX4_lifted_13 0 rfl rfl)
theorem dX4_lifted_309 : decode cX4_lifted 309 = .ok (.isub, 1) := dk_100 (dk_at dksX4_lifted_13 1 rfl rfl)
theorem dX4_lifted_310 : decode cX4_lifted 310 = .ok (.baload, 1) := dk_51 (dk_at dksX4_lifted_13 2 rfl rfl)
theorem dX4_lifted_311 : decode cX4_lifted 311 = .ok (.ifCond .eq 17, 3) := dk_153 0 17 (dk_at dksX4_lifted_13 3 rfl rfl)
theorem dX4_lifted_314 : decode cX4_lifted 314 = .ok (.aload_n 0, 1) := dk_42 (dk_at dksX4_lifted_13 6 rfl rfl)
theorem dX4_lifted_315 : decode cX4_lifted 315 = .ok (.getfield 24, 3) := dk_180 0 24 (dk_at dksX4_lifted_13 7 rfl rfl)
theorem dX4_lifted_318 : decode cX4_lifted 318 = .ok (.iload 6, 2) := dk_21 6 (dk_at dksX4_lifted_13 10 rfl rfl)
theorem dX4_lifted_320 : decode cX4_lifted 320 = .ok (.baload, 1) := dk_51 (dk_at dksX4_lifted_13 12 rfl rfl)
theorem dX4_lifted_321 : decode cX4_lifted 321 = .ok (.ifCond .eq 7, 3) := dk_153 0 7 (dk_at dksX4_lifted_13 13 rfl rfl)
theorem dX4_lifted_324 : decode cX4_lifted 324 = .ok (.iconst 1, 1) := dk_4 (dk_at dksX4_lifted_13 16 rfl rfl)
theorem dX4_lifted_325 : decode cX4_lifted 325 = .ok (.goto 34, 3) := dk_167 0 34 (dk_at dksX4_lifted_13 17 rfl rfl)
theorem dX4_lifted_328 : decode cX4_lifted 328 = .ok (.iconst 0, 1) := dk_3 (dk_at dksX4_lifted_13 20 rfl rfl)
theorem dX4_lifted_329 : decode cX4_lifted 329 = .ok (.goto 30, 3) := dk_167 0 30 (dk_at dksX4_lifted_13 21 rfl rfl)
theorem dX4_lifted_332 : decode cX4_lifted 332 = .ok (.aload_n 0, 1) := dk_42 (dk_at dksX4_lifted_14 0 rfl rfl)
theorem dX4_lifted_333 : decode cX4_lifted 333 = .ok (.getfield 24, 3) := dk_180 0 24 (dk_at dksX4_lifted_14 1 rfl rfl)
theorem dX4_lifted_336 : decode cX4_lifted 336 = .ok (.iload 6, 2) := dk_21 6 (dk_at dksX4_lifted_14 4 rfl rfl)
theorem dX4_lifted_338 : decode cX4_lifted 338 = .ok (.iconst 1, 1) := dk_4 (dk_at dksX4_lifted_14 6 rfl rfl)
theorem dX4_lifted_339 : decode cX4_lifted 339 = .ok (.isub, 1) := dk_100 (dk_at dksX4_lifted_14 7 rfl rfl)
theorem dX4_lifted_340 : decode cX4_lifted 340 = .ok (.baload, 1) := dk_51 (dk_at dksX4_lifted_14 8 rfl rfl)
theorem dX4_lifted_341 : decode cX4_lifted 341 = .ok (.ifCond .ne 13, 3) := dk_154 0 13 (dk_at dksX4_lifted_14 9 rfl rfl)
theorem dX4_lifted_344 : decode cX4_lifted 344 = .ok (.aload_n 0, 1) := dk_42 (dk_at dksX4_lifted_14 12 rfl rfl)
theorem dX4_lifted_345 : decode cX4_lifted 345 = .ok (.getfield 24, 3) := dk_180 0 24 (dk_at dksX4_lifted_14 13 rfl rfl)
theorem dX4_lifted_348 : decode cX4_lifted 348 = .ok (.iload 6, 2) := dk_21 6 (dk_at dksX4_lifted_14 16 rfl rfl)
theorem dX4_lifted_350 : decode cX4_lifted 350 = .ok (.baload, 1) := dk_51 (dk_at dksX4_lifted_14 18 rfl rfl)
theorem dX4_lifted_351 : decode cX4_lifted 351 = .ok (.ifCond .eq 7, 3) := dk_153 0 7 (dk_at dksX4_lifted_14 19 rfl rfl)
theorem dX4_lifted_354 : decode cX4_lifted 354 = .ok (.iconst 1, 1) := dk_4 (dk_at dksX4_lifted_14 22 rfl rfl)
theorem dX4_lifted_355 : decode cX4_lifted 355 = .ok (.goto 4, 3) := dk_167 0 4 (dk_at dksX4_lifted_15 0 rfl rfl)
theorem dX4_lifted_358 : decode cX4_lifted 358 = .ok (.iconst 0, 1) := dk_3 (dk_at dksX4_lifted_15 3 rfl rfl)
theorem dX4_lifted_359 : decode cX4_lifted 359 = .ok (.bastore, 1) := dk_84 (dk_at dksX4_lifted_15 4 rfl rfl)
theorem dX4_lifted_360 : decode cX4_lifted 360 = .ok (.goto 44, 3) := dk_167 0 44 (dk_at dksX4_lifted_15 5 rfl rfl)
theorem dX4_lifted_363 : decode cX4_lifted 363 = .ok (.iconst 0, 1) := dk_3 (dk_at dksX4_lifted_15 8 rfl rfl)
theorem dX4_lifted_364 : decode cX4_lifted 364 = .ok (.istore 6, 2) := dk_54 6 (dk_at dksX4_lifted_15 9 rfl rfl)
theorem dX4_lifted_366 : decode cX4_lifted 366 = .ok (.iload_n 3, 1) := dk_29 (dk_at dksX4_lifted_15 11 rfl rfl)
theorem dX4_lifted_367 : decode cX4_lifted 367 = .ok (.aload_n 0, 1) := dk_42 (dk_at dksX4_lifted_15 12 rfl rfl)
theorem dX4_lifted_368 : decode cX4_lifted 368 = .ok (.getfield 24, 3) := dk_180 0 24 (dk_at dksX4_lifted_15 13 rfl rfl)
theorem dX4_lifted_371 : decode cX4_lifted 371 = .ok (.iconst 0, 1) := dk_3 (dk_at dksX4_lifted_15 16 rfl rfl)
theorem dX4_lifted_372 : decode cX4_lifted 372 = .ok (.baload, 1) := dk_51 (dk_at dksX4_lifted_15 17 rfl rfl)
theorem dX4_lifted_373 : decode cX4_lifted 373 = .ok (.ifCond .ne 7, 3) := dk_154 0 7 (dk_at dksX4_lifted_15 18 rfl rfl)
theorem dX4_lifted_376 : decode cX4_lifted 376 = .ok (.iconst 0, 1) := dk_3 (dk_at dksX4_lifted_15 21 rfl rfl)
theorem dX4_lifted_377 : decode cX4_lifted 377 = .ok (.goto 25, 3) := dk_167 0 25 (dk_at dksX4_lifted_16 0 rfl rfl)
theorem dX4_lifted_380 : decode cX4_lifted 380 = .ok (.iload 8, 2) := dk_21 8 (dk_at dksX4_lifted_16 3 rfl rfl)
theorem dX4_lifted_382 : decode cX4_lifted 382 = .ok (.sipush (-200), 3) := dk_17 255 56 (dk_at dksX4_lifted_16 5 rfl rfl)
theorem dX4_lifted_385 : decode cX4_lifted 385 = .ok (.if_icmp .le 11, 3) := dk_164 0 11 (dk_at dksX4_lifted_16 8 rfl rfl)
theorem dX4_lifted_388 : decode cX4_lifted 388 = .ok (.bipush (-10), 2) := dk_16 246 (dk_at dksX4_lifted_16 11 rfl rfl)
theorem dX4_lifted_390 : decode cX4_lifted 390 = .ok (.iload 8, 2) := dk_21 8 (dk_at dksX4_lifted_16 13 rfl rfl)
theorem dX4_lifted_392 : decode cX4_lifted 392 = .ok (.isub, 1) := dk_100 (dk_at dksX4_lifted_16 15 rfl rfl)
theorem dX4_lifted_393 : decode cX4_lifted 393 = .ok (.goto 9, 3) := dk_167 0 9 (dk_at dksX4_lifted_16 16 rfl rfl)
theorem dX4_lifted_396 : decode cX4_lifted 396 = .ok (.iload 8, 2) := dk_21 8 (dk_at dksX4_lifted_16 19 rfl rfl)
theorem dX4_lifted_398 : decode cX4_lifted 398 = .ok (.sipush (-200), 3) := dk_17 255 56 (dk_at dksX4_lifted_16 21 rfl rfl)
theorem dX4_lifted_401 : decode cX4_lifted 401 = .ok (.isub, 1) := dk_100 (dk_at dksX4_lifted_17 0 rfl rfl)
theorem dX4_lifted_402 : decode cX4_lifted 402 = .ok (.iadd, 1) := dk_96 (dk_at dksX4_lifted_17 1 rfl rfl)
theorem dX4_lifted_403 : decode cX4_lifted 403 = .ok (.istore_n 3, 1) := dk_62 (dk_at dksX4_lifted_17 2 rfl rfl)
theorem dX4_lifted_404 : decode cX4_lifted 404 = .ok (.iinc 7 1, 3) := dk_132 7 1 (dk_at dksX4_lifted_17 3 rfl rfl)
theorem dX4_lifted_407 : decode cX4_lifted 407 = .ok (.goto (-283), 3) := dk_167 254 229 (dk_at dksX4_lifted_17 6 rfl rfl)
theorem dX4_lifted_410 : decode cX4_lifted 410 = .ok (.iload_n 3, 1) := dk_29 (dk_at dksX4_lifted_17 9 rfl rfl)
theorem dX4_lifted_411 : decode cX4_lifted 411 = .ok (.ireturn, 1) := dk_172 (dk_at dksX4_lifted_17 10 rfl rfl)
abbrev cX4_odds : ByteArray := prog_19_method_33_code
def yX4_odds : MethodName := ⟨RX4, "odds", "(II)I"⟩
def dkwX4_odds_1 : List UInt8 := [16, 254, 167, 0, 9, 42, 27, 28, 182, 0, 148, 172]
abbrev dktX4_odds_1 : List UInt8 := dkwX4_odds_1 ++ []
def dkwX4_odds_0 : List UInt8 := [42, 27, 182, 0, 52, 153, 0, 11, 42, 28, 182, 0, 52, 154, 0, 5, 2, 172, 27, 28, 160, 0, 8]
abbrev dktX4_odds_0 : List UInt8 := dkwX4_odds_0 ++ dktX4_odds_1
theorem dksX4_odds_0 : cX4_odds.data.toList.drop 0 = dktX4_odds_0 := by decide +kernel
theorem dksX4_odds_1 : cX4_odds.data.toList.drop 23 = dktX4_odds_1 := dk_seg dksX4_odds_0 23 rfl rfl
theorem dX4_odds_0 : decode cX4_odds 0 = .ok (.aload_n 0, 1) := dk_42 (dk_at dksX4_odds_0 0 rfl rfl)
theorem dX4_odds_1 : decode cX4_odds 1 = .ok (.iload_n 1, 1) := dk_27 (dk_at dksX4_odds_0 1 rfl rfl)
theorem dX4_odds_2 : decode cX4_odds 2 = .ok (.invokevirtual 52, 3) := dk_182 0 52 (dk_at dksX4_odds_0 2 rfl rfl)
theorem dX4_odds_5 : decode cX4_odds 5 = .ok (.ifCond .eq 11, 3) := dk_153 0 11 (dk_at dksX4_odds_0 5 rfl rfl)
theorem dX4_odds_8 : decode cX4_odds 8 = .ok (.aload_n 0, 1) := dk_42 (dk_at dksX4_odds_0 8 rfl rfl)
theorem dX4_odds_9 : decode cX4_odds 9 = .ok (.iload_n 2, 1) := dk_28 (dk_at dksX4_odds_0 9 rfl rfl)
theorem dX4_odds_10 : decode cX4_odds 10 = .ok (.invokevirtual 52, 3) := dk_182 0 52 (dk_at dksX4_odds_0 10 rfl rfl)
theorem dX4_odds_13 : decode cX4_odds 13 = .ok (.ifCond .ne 5, 3) := dk_154 0 5 (dk_at dksX4_odds_0 13 rfl rfl)
theorem dX4_odds_16 : decode cX4_odds 16 = .ok (.iconst (-1), 1) := dk_2 (dk_at dksX4_odds_0 16 rfl rfl)
theorem dX4_odds_17 : decode cX4_odds 17 = .ok (.ireturn, 1) := dk_172 (dk_at dksX4_odds_0 17 rfl rfl)
theorem dX4_odds_18 : decode cX4_odds 18 = .ok (.iload_n 1, 1) := dk_27 (dk_at dksX4_odds_0 18 rfl rfl)
theorem dX4_odds_19 : decode cX4_odds 19 = .ok (.iload_n 2, 1) := dk_28 (dk_at dksX4_odds_0 19 rfl rfl)
theorem dX4_odds_20 : decode cX4_odds 20 = .ok (.if_icmp .ne 8, 3) := dk_160 0 8 (dk_at dksX4_odds_0 20 rfl rfl)
theorem dX4_odds_23 : decode cX4_odds 23 = .ok (.bipush (-2), 2) := dk_16 254 (dk_at dksX4_odds_1 0 rfl rfl)
theorem dX4_odds_25 : decode cX4_odds 25 = .ok (.goto 9, 3) := dk_167 0 9 (dk_at dksX4_odds_1 2 rfl rfl)
theorem dX4_odds_28 : decode cX4_odds 28 = .ok (.aload_n 0, 1) := dk_42 (dk_at dksX4_odds_1 5 rfl rfl)
theorem dX4_odds_29 : decode cX4_odds 29 = .ok (.iload_n 1, 1) := dk_27 (dk_at dksX4_odds_1 6 rfl rfl)
theorem dX4_odds_30 : decode cX4_odds 30 = .ok (.iload_n 2, 1) := dk_28 (dk_at dksX4_odds_1 7 rfl rfl)
theorem dX4_odds_31 : decode cX4_odds 31 = .ok (.invokevirtual 148, 3) := dk_182 0 148 (dk_at dksX4_odds_1 8 rfl rfl)
theorem dX4_odds_34 : decode cX4_odds 34 = .ok (.ireturn, 1) := dk_172 (dk_at dksX4_odds_1 11 rfl rfl)
abbrev cX4_oddsOf : ByteArray := prog_19_method_31_code
def yX4_oddsOf : MethodName := ⟨RX4, "oddsOf", "(II)I"⟩
def dkwX4_oddsOf_2 : List UInt8 := [164, 0, 8, 16, 9, 167, 0, 4, 29, 172]
abbrev dktX4_oddsOf_2 : List UInt8 := dkwX4_oddsOf_2 ++ []
def dkwX4_oddsOf_1 : List UInt8 := [180, 0, 9, 4, 28, 96, 46, 100, 5, 108, 96, 62, 29, 4, 162, 0, 7, 4, 167, 0, 15, 29, 16, 9]
abbrev dktX4_oddsOf_1 : List UInt8 := dkwX4_oddsOf_1 ++ dktX4_oddsOf_2
def dkwX4_oddsOf_0 : List UInt8 := [8, 42, 27, 28, 182, 0, 145, 96, 42, 28, 27, 182, 0, 145, 100, 42, 180, 0, 9, 4, 27, 96, 46, 42]
abbrev dktX4_oddsOf_0 : List UInt8 := dkwX4_oddsOf_0 ++ dktX4_oddsOf_1
theorem dksX4_oddsOf_0 : cX4_oddsOf.data.toList.drop 0 = dktX4_oddsOf_0 := by decide +kernel
theorem dksX4_oddsOf_1 : cX4_oddsOf.data.toList.drop 24 = dktX4_oddsOf_1 := dk_seg dksX4_oddsOf_0 24 rfl rfl
theorem dksX4_oddsOf_2 : cX4_oddsOf.data.toList.drop 48 = dktX4_oddsOf_2 := dk_seg dksX4_oddsOf_1 24 rfl rfl
theorem dX4_oddsOf_0 : decode cX4_oddsOf 0 = .ok (.iconst 5, 1) := dk_8 (dk_at dksX4_oddsOf_0 0 rfl rfl)
theorem dX4_oddsOf_1 : decode cX4_oddsOf 1 = .ok (.aload_n 0, 1) := dk_42 (dk_at dksX4_oddsOf_0 1 rfl rfl)
theorem dX4_oddsOf_2 : decode cX4_oddsOf 2 = .ok (.iload_n 1, 1) := dk_27 (dk_at dksX4_oddsOf_0 2 rfl rfl)
theorem dX4_oddsOf_3 : decode cX4_oddsOf 3 = .ok (.iload_n 2, 1) := dk_28 (dk_at dksX4_oddsOf_0 3 rfl rfl)
theorem dX4_oddsOf_4 : decode cX4_oddsOf 4 = .ok (.invokevirtual 145, 3) := dk_182 0 145 (dk_at dksX4_oddsOf_0 4 rfl rfl)
theorem dX4_oddsOf_7 : decode cX4_oddsOf 7 = .ok (.iadd, 1) := dk_96 (dk_at dksX4_oddsOf_0 7 rfl rfl)
theorem dX4_oddsOf_8 : decode cX4_oddsOf 8 = .ok (.aload_n 0, 1) := dk_42 (dk_at dksX4_oddsOf_0 8 rfl rfl)
theorem dX4_oddsOf_9 : decode cX4_oddsOf 9 = .ok (.iload_n 2, 1) := dk_28 (dk_at dksX4_oddsOf_0 9 rfl rfl)
theorem dX4_oddsOf_10 : decode cX4_oddsOf 10 = .ok (.iload_n 1, 1) := dk_27 (dk_at dksX4_oddsOf_0 10 rfl rfl)
theorem dX4_oddsOf_11 : decode cX4_oddsOf 11 = .ok (.invokevirtual 145, 3) := dk_182 0 145 (dk_at dksX4_oddsOf_0 11 rfl rfl)
theorem dX4_oddsOf_14 : decode cX4_oddsOf 14 = .ok (.isub, 1) := dk_100 (dk_at dksX4_oddsOf_0 14 rfl rfl)
theorem dX4_oddsOf_15 : decode cX4_oddsOf 15 = .ok (.aload_n 0, 1) := dk_42 (dk_at dksX4_oddsOf_0 15 rfl rfl)
theorem dX4_oddsOf_16 : decode cX4_oddsOf 16 = .ok (.getfield 9, 3) := dk_180 0 9 (dk_at dksX4_oddsOf_0 16 rfl rfl)
theorem dX4_oddsOf_19 : decode cX4_oddsOf 19 = .ok (.iconst 1, 1) := dk_4 (dk_at dksX4_oddsOf_0 19 rfl rfl)
theorem dX4_oddsOf_20 : decode cX4_oddsOf 20 = .ok (.iload_n 1, 1) := dk_27 (dk_at dksX4_oddsOf_0 20 rfl rfl)
theorem dX4_oddsOf_21 : decode cX4_oddsOf 21 = .ok (.iadd, 1) := dk_96 (dk_at dksX4_oddsOf_0 21 rfl rfl)
theorem dX4_oddsOf_22 : decode cX4_oddsOf 22 = .ok (.iaload, 1) := dk_46 (dk_at dksX4_oddsOf_0 22 rfl rfl)
theorem dX4_oddsOf_23 : decode cX4_oddsOf 23 = .ok (.aload_n 0, 1) := dk_42 (dk_at dksX4_oddsOf_0 23 rfl rfl)
theorem dX4_oddsOf_24 : decode cX4_oddsOf 24 = .ok (.getfield 9, 3) := dk_180 0 9 (dk_at dksX4_oddsOf_1 0 rfl rfl)
theorem dX4_oddsOf_27 : decode cX4_oddsOf 27 = .ok (.iconst 1, 1) := dk_4 (dk_at dksX4_oddsOf_1 3 rfl rfl)
theorem dX4_oddsOf_28 : decode cX4_oddsOf 28 = .ok (.iload_n 2, 1) := dk_28 (dk_at dksX4_oddsOf_1 4 rfl rfl)
theorem dX4_oddsOf_29 : decode cX4_oddsOf 29 = .ok (.iadd, 1) := dk_96 (dk_at dksX4_oddsOf_1 5 rfl rfl)
theorem dX4_oddsOf_30 : decode cX4_oddsOf 30 = .ok (.iaload, 1) := dk_46 (dk_at dksX4_oddsOf_1 6 rfl rfl)
theorem dX4_oddsOf_31 : decode cX4_oddsOf 31 = .ok (.isub, 1) := dk_100 (dk_at dksX4_oddsOf_1 7 rfl rfl)
theorem dX4_oddsOf_32 : decode cX4_oddsOf 32 = .ok (.iconst 2, 1) := dk_5 (dk_at dksX4_oddsOf_1 8 rfl rfl)
theorem dX4_oddsOf_33 : decode cX4_oddsOf 33 = .ok (.idiv, 1) := dk_108 (dk_at dksX4_oddsOf_1 9 rfl rfl)
theorem dX4_oddsOf_34 : decode cX4_oddsOf 34 = .ok (.iadd, 1) := dk_96 (dk_at dksX4_oddsOf_1 10 rfl rfl)
theorem dX4_oddsOf_35 : decode cX4_oddsOf 35 = .ok (.istore_n 3, 1) := dk_62 (dk_at dksX4_oddsOf_1 11 rfl rfl)
theorem dX4_oddsOf_36 : decode cX4_oddsOf 36 = .ok (.iload_n 3, 1) := dk_29 (dk_at dksX4_oddsOf_1 12 rfl rfl)
theorem dX4_oddsOf_37 : decode cX4_oddsOf 37 = .ok (.iconst 1, 1) := dk_4 (dk_at dksX4_oddsOf_1 13 rfl rfl)
theorem dX4_oddsOf_38 : decode cX4_oddsOf 38 = .ok (.if_icmp .ge 7, 3) := dk_162 0 7 (dk_at dksX4_oddsOf_1 14 rfl rfl)
theorem dX4_oddsOf_41 : decode cX4_oddsOf 41 = .ok (.iconst 1, 1) := dk_4 (dk_at dksX4_oddsOf_1 17 rfl rfl)
theorem dX4_oddsOf_42 : decode cX4_oddsOf 42 = .ok (.goto 15, 3) := dk_167 0 15 (dk_at dksX4_oddsOf_1 18 rfl rfl)
theorem dX4_oddsOf_45 : decode cX4_oddsOf 45 = .ok (.iload_n 3, 1) := dk_29 (dk_at dksX4_oddsOf_1 21 rfl rfl)
theorem dX4_oddsOf_46 : decode cX4_oddsOf 46 = .ok (.bipush 9, 2) := dk_16 9 (dk_at dksX4_oddsOf_1 22 rfl rfl)
theorem dX4_oddsOf_48 : decode cX4_oddsOf 48 = .ok (.if_icmp .le 8, 3) := dk_164 0 8 (dk_at dksX4_oddsOf_2 0 rfl rfl)
theorem dX4_oddsOf_51 : decode cX4_oddsOf 51 = .ok (.bipush 9, 2) := dk_16 9 (dk_at dksX4_oddsOf_2 3 rfl rfl)
theorem dX4_oddsOf_53 : decode cX4_oddsOf 53 = .ok (.goto 4, 3) := dk_167 0 4 (dk_at dksX4_oddsOf_2 5 rfl rfl)
theorem dX4_oddsOf_56 : decode cX4_oddsOf 56 = .ok (.iload_n 3, 1) := dk_29 (dk_at dksX4_oddsOf_2 8 rfl rfl)
theorem dX4_oddsOf_57 : decode cX4_oddsOf 57 = .ok (.ireturn, 1) := dk_172 (dk_at dksX4_oddsOf_2 9 rfl rfl)
abbrev cX4_play : ByteArray := prog_19_method_37_code
def yX4_play : MethodName := ⟨RX4, "play", "(IIZ)I"⟩
def dkwX4_play_3 : List UInt8 := [172]
abbrev dktX4_play_3 : List UInt8 := dkwX4_play_3 ++ []
def dkwX4_play_2 : List UInt8 := [167, 0, 4, 28, 29, 153, 0, 7, 28, 167, 0, 4, 27, 182, 0, 157, 42, 180, 0, 9, 4, 27, 96, 46]
abbrev dktX4_play_2 : List UInt8 := dkwX4_play_2 ++ dktX4_play_3
def dkwX4_play_1 : List UInt8 := [16, 254, 172, 42, 180, 0, 9, 3, 46, 17, 39, 15, 160, 0, 6, 16, 253, 172, 42, 29, 153, 0, 7, 27]
abbrev dktX4_play_1 : List UInt8 := dkwX4_play_1 ++ dktX4_play_2
def dkwX4_play_0 : List UInt8 := [42, 27, 182, 0, 52, 153, 0, 11, 42, 28, 182, 0, 52, 154, 0, 5, 2, 172, 27, 28, 160, 0, 6]
abbrev dktX4_play_0 : List UInt8 := dkwX4_play_0 ++ dktX4_play_1
theorem dksX4_play_0 : cX4_play.data.toList.drop 0 = dktX4_play_0 := by decide +kernel
theorem dksX4_play_1 : cX4_play.data.toList.drop 23 = dktX4_play_1 := dk_seg dksX4_play_0 23 rfl rfl
theorem dksX4_play_2 : cX4_play.data.toList.drop 47 = dktX4_play_2 := dk_seg dksX4_play_1 24 rfl rfl
theorem dksX4_play_3 : cX4_play.data.toList.drop 71 = dktX4_play_3 := dk_seg dksX4_play_2 24 rfl rfl
theorem dX4_play_0 : decode cX4_play 0 = .ok (.aload_n 0, 1) := dk_42 (dk_at dksX4_play_0 0 rfl rfl)
theorem dX4_play_1 : decode cX4_play 1 = .ok (.iload_n 1, 1) := dk_27 (dk_at dksX4_play_0 1 rfl rfl)
theorem dX4_play_2 : decode cX4_play 2 = .ok (.invokevirtual 52, 3) := dk_182 0 52 (dk_at dksX4_play_0 2 rfl rfl)
theorem dX4_play_5 : decode cX4_play 5 = .ok (.ifCond .eq 11, 3) := dk_153 0 11 (dk_at dksX4_play_0 5 rfl rfl)
theorem dX4_play_8 : decode cX4_play 8 = .ok (.aload_n 0, 1) := dk_42 (dk_at dksX4_play_0 8 rfl rfl)
theorem dX4_play_9 : decode cX4_play 9 = .ok (.iload_n 2, 1) := dk_28 (dk_at dksX4_play_0 9 rfl rfl)
theorem dX4_play_10 : decode cX4_play 10 = .ok (.invokevirtual 52, 3) := dk_182 0 52 (dk_at dksX4_play_0 10 rfl rfl)
theorem dX4_play_13 : decode cX4_play 13 = .ok (.ifCond .ne 5, 3) := dk_154 0 5 (dk_at dksX4_play_0 13 rfl rfl)
theorem dX4_play_16 : decode cX4_play 16 = .ok (.iconst (-1), 1) := dk_2 (dk_at dksX4_play_0 16 rfl rfl)
theorem dX4_play_17 : decode cX4_play 17 = .ok (.ireturn, 1) := dk_172 (dk_at dksX4_play_0 17 rfl rfl)
theorem dX4_play_18 : decode cX4_play 18 = .ok (.iload_n 1, 1) := dk_27 (dk_at dksX4_play_0 18 rfl rfl)
theorem dX4_play_19 : decode cX4_play 19 = .ok (.iload_n 2, 1) := dk_28 (dk_at dksX4_play_0 19 rfl rfl)
theorem dX4_play_20 : decode cX4_play 20 = .ok (.if_icmp .ne 6, 3) := dk_160 0 6 (dk_at dksX4_play_0 20 rfl rfl)
theorem dX4_play_23 : decode cX4_play 23 = .ok (.bipush (-2), 2) := dk_16 254 (dk_at dksX4_play_1 0 rfl rfl)
theorem dX4_play_25 : decode cX4_play 25 = .ok (.ireturn, 1) := dk_172 (dk_at dksX4_play_1 2 rfl rfl)
theorem dX4_play_26 : decode cX4_play 26 = .ok (.aload_n 0, 1) := dk_42 (dk_at dksX4_play_1 3 rfl rfl)
theorem dX4_play_27 : decode cX4_play 27 = .ok (.getfield 9, 3) := dk_180 0 9 (dk_at dksX4_play_1 4 rfl rfl)
theorem dX4_play_30 : decode cX4_play 30 = .ok (.iconst 0, 1) := dk_3 (dk_at dksX4_play_1 7 rfl rfl)
theorem dX4_play_31 : decode cX4_play 31 = .ok (.iaload, 1) := dk_46 (dk_at dksX4_play_1 8 rfl rfl)
theorem dX4_play_32 : decode cX4_play 32 = .ok (.sipush 9999, 3) := dk_17 39 15 (dk_at dksX4_play_1 9 rfl rfl)
theorem dX4_play_35 : decode cX4_play 35 = .ok (.if_icmp .ne 6, 3) := dk_160 0 6 (dk_at dksX4_play_1 12 rfl rfl)
theorem dX4_play_38 : decode cX4_play 38 = .ok (.bipush (-3), 2) := dk_16 253 (dk_at dksX4_play_1 15 rfl rfl)
theorem dX4_play_40 : decode cX4_play 40 = .ok (.ireturn, 1) := dk_172 (dk_at dksX4_play_1 17 rfl rfl)
theorem dX4_play_41 : decode cX4_play 41 = .ok (.aload_n 0, 1) := dk_42 (dk_at dksX4_play_1 18 rfl rfl)
theorem dX4_play_42 : decode cX4_play 42 = .ok (.iload_n 3, 1) := dk_29 (dk_at dksX4_play_1 19 rfl rfl)
theorem dX4_play_43 : decode cX4_play 43 = .ok (.ifCond .eq 7, 3) := dk_153 0 7 (dk_at dksX4_play_1 20 rfl rfl)
theorem dX4_play_46 : decode cX4_play 46 = .ok (.iload_n 1, 1) := dk_27 (dk_at dksX4_play_1 23 rfl rfl)
theorem dX4_play_47 : decode cX4_play 47 = .ok (.goto 4, 3) := dk_167 0 4 (dk_at dksX4_play_2 0 rfl rfl)
theorem dX4_play_50 : decode cX4_play 50 = .ok (.iload_n 2, 1) := dk_28 (dk_at dksX4_play_2 3 rfl rfl)
theorem dX4_play_51 : decode cX4_play 51 = .ok (.iload_n 3, 1) := dk_29 (dk_at dksX4_play_2 4 rfl rfl)
theorem dX4_play_52 : decode cX4_play 52 = .ok (.ifCond .eq 7, 3) := dk_153 0 7 (dk_at dksX4_play_2 5 rfl rfl)
theorem dX4_play_55 : decode cX4_play 55 = .ok (.iload_n 2, 1) := dk_28 (dk_at dksX4_play_2 8 rfl rfl)
theorem dX4_play_56 : decode cX4_play 56 = .ok (.goto 4, 3) := dk_167 0 4 (dk_at dksX4_play_2 9 rfl rfl)
theorem dX4_play_59 : decode cX4_play 59 = .ok (.iload_n 1, 1) := dk_27 (dk_at dksX4_play_2 12 rfl rfl)
theorem dX4_play_60 : decode cX4_play 60 = .ok (.invokevirtual 157, 3) := dk_182 0 157 (dk_at dksX4_play_2 13 rfl rfl)
theorem dX4_play_63 : decode cX4_play 63 = .ok (.aload_n 0, 1) := dk_42 (dk_at dksX4_play_2 16 rfl rfl)
theorem dX4_play_64 : decode cX4_play 64 = .ok (.getfield 9, 3) := dk_180 0 9 (dk_at dksX4_play_2 17 rfl rfl)
theorem dX4_play_67 : decode cX4_play 67 = .ok (.iconst 1, 1) := dk_4 (dk_at dksX4_play_2 20 rfl rfl)
theorem dX4_play_68 : decode cX4_play 68 = .ok (.iload_n 1, 1) := dk_27 (dk_at dksX4_play_2 21 rfl rfl)
theorem dX4_play_69 : decode cX4_play 69 = .ok (.iadd, 1) := dk_96 (dk_at dksX4_play_2 22 rfl rfl)
theorem dX4_play_70 : decode cX4_play 70 = .ok (.iaload, 1) := dk_46 (dk_at dksX4_play_2 23 rfl rfl)
theorem dX4_play_71 : decode cX4_play 71 = .ok (.ireturn, 1) := dk_172 (dk_at dksX4_play_3 0 rfl rfl)
abbrev cX4_plays : ByteArray := prog_19_method_36_code
def yX4_plays : MethodName := ⟨RX4, "plays", "(II)V"⟩
def dkwX4_plays_2 : List UInt8 := [96, 79, 177]
abbrev dktX4_plays_2 : List UInt8 := dkwX4_plays_2 ++ []
def dkwX4_plays_1 : List UInt8 := [4, 28, 96, 42, 42, 180, 0, 9, 4, 28, 96, 46, 182, 0, 154, 79, 42, 180, 0, 9, 3, 92, 46, 4]
abbrev dktX4_plays_1 : List UInt8 := dkwX4_plays_1 ++ dktX4_plays_2
def dkwX4_plays_0 : List UInt8 := [42, 180, 0, 9, 4, 27, 96, 42, 42, 180, 0, 9, 4, 27, 96, 46, 182, 0, 151, 79, 42, 180, 0, 9]
abbrev dktX4_plays_0 : List UInt8 := dkwX4_plays_0 ++ dktX4_plays_1
theorem dksX4_plays_0 : cX4_plays.data.toList.drop 0 = dktX4_plays_0 := by decide +kernel
theorem dksX4_plays_1 : cX4_plays.data.toList.drop 24 = dktX4_plays_1 := dk_seg dksX4_plays_0 24 rfl rfl
theorem dksX4_plays_2 : cX4_plays.data.toList.drop 48 = dktX4_plays_2 := dk_seg dksX4_plays_1 24 rfl rfl
theorem dX4_plays_0 : decode cX4_plays 0 = .ok (.aload_n 0, 1) := dk_42 (dk_at dksX4_plays_0 0 rfl rfl)
theorem dX4_plays_1 : decode cX4_plays 1 = .ok (.getfield 9, 3) := dk_180 0 9 (dk_at dksX4_plays_0 1 rfl rfl)
theorem dX4_plays_4 : decode cX4_plays 4 = .ok (.iconst 1, 1) := dk_4 (dk_at dksX4_plays_0 4 rfl rfl)
theorem dX4_plays_5 : decode cX4_plays 5 = .ok (.iload_n 1, 1) := dk_27 (dk_at dksX4_plays_0 5 rfl rfl)
theorem dX4_plays_6 : decode cX4_plays 6 = .ok (.iadd, 1) := dk_96 (dk_at dksX4_plays_0 6 rfl rfl)
theorem dX4_plays_7 : decode cX4_plays 7 = .ok (.aload_n 0, 1) := dk_42 (dk_at dksX4_plays_0 7 rfl rfl)
theorem dX4_plays_8 : decode cX4_plays 8 = .ok (.aload_n 0, 1) := dk_42 (dk_at dksX4_plays_0 8 rfl rfl)
theorem dX4_plays_9 : decode cX4_plays 9 = .ok (.getfield 9, 3) := dk_180 0 9 (dk_at dksX4_plays_0 9 rfl rfl)
theorem dX4_plays_12 : decode cX4_plays 12 = .ok (.iconst 1, 1) := dk_4 (dk_at dksX4_plays_0 12 rfl rfl)
theorem dX4_plays_13 : decode cX4_plays 13 = .ok (.iload_n 1, 1) := dk_27 (dk_at dksX4_plays_0 13 rfl rfl)
theorem dX4_plays_14 : decode cX4_plays 14 = .ok (.iadd, 1) := dk_96 (dk_at dksX4_plays_0 14 rfl rfl)
theorem dX4_plays_15 : decode cX4_plays 15 = .ok (.iaload, 1) := dk_46 (dk_at dksX4_plays_0 15 rfl rfl)
theorem dX4_plays_16 : decode cX4_plays 16 = .ok (.invokevirtual 151, 3) := dk_182 0 151 (dk_at dksX4_plays_0 16 rfl rfl)
theorem dX4_plays_19 : decode cX4_plays 19 = .ok (.iastore, 1) := dk_79 (dk_at dksX4_plays_0 19 rfl rfl)
theorem dX4_plays_20 : decode cX4_plays 20 = .ok (.aload_n 0, 1) := dk_42 (dk_at dksX4_plays_0 20 rfl rfl)
theorem dX4_plays_21 : decode cX4_plays 21 = .ok (.getfield 9, 3) := dk_180 0 9 (dk_at dksX4_plays_0 21 rfl rfl)
theorem dX4_plays_24 : decode cX4_plays 24 = .ok (.iconst 1, 1) := dk_4 (dk_at dksX4_plays_1 0 rfl rfl)
theorem dX4_plays_25 : decode cX4_plays 25 = .ok (.iload_n 2, 1) := dk_28 (dk_at dksX4_plays_1 1 rfl rfl)
theorem dX4_plays_26 : decode cX4_plays 26 = .ok (.iadd, 1) := dk_96 (dk_at dksX4_plays_1 2 rfl rfl)
theorem dX4_plays_27 : decode cX4_plays 27 = .ok (.aload_n 0, 1) := dk_42 (dk_at dksX4_plays_1 3 rfl rfl)
theorem dX4_plays_28 : decode cX4_plays 28 = .ok (.aload_n 0, 1) := dk_42 (dk_at dksX4_plays_1 4 rfl rfl)
theorem dX4_plays_29 : decode cX4_plays 29 = .ok (.getfield 9, 3) := dk_180 0 9 (dk_at dksX4_plays_1 5 rfl rfl)
theorem dX4_plays_32 : decode cX4_plays 32 = .ok (.iconst 1, 1) := dk_4 (dk_at dksX4_plays_1 8 rfl rfl)
theorem dX4_plays_33 : decode cX4_plays 33 = .ok (.iload_n 2, 1) := dk_28 (dk_at dksX4_plays_1 9 rfl rfl)
theorem dX4_plays_34 : decode cX4_plays 34 = .ok (.iadd, 1) := dk_96 (dk_at dksX4_plays_1 10 rfl rfl)
theorem dX4_plays_35 : decode cX4_plays 35 = .ok (.iaload, 1) := dk_46 (dk_at dksX4_plays_1 11 rfl rfl)
theorem dX4_plays_36 : decode cX4_plays 36 = .ok (.invokevirtual 154, 3) := dk_182 0 154 (dk_at dksX4_plays_1 12 rfl rfl)
theorem dX4_plays_39 : decode cX4_plays 39 = .ok (.iastore, 1) := dk_79 (dk_at dksX4_plays_1 15 rfl rfl)
theorem dX4_plays_40 : decode cX4_plays 40 = .ok (.aload_n 0, 1) := dk_42 (dk_at dksX4_plays_1 16 rfl rfl)
theorem dX4_plays_41 : decode cX4_plays 41 = .ok (.getfield 9, 3) := dk_180 0 9 (dk_at dksX4_plays_1 17 rfl rfl)
theorem dX4_plays_44 : decode cX4_plays 44 = .ok (.iconst 0, 1) := dk_3 (dk_at dksX4_plays_1 20 rfl rfl)
theorem dX4_plays_45 : decode cX4_plays 45 = .ok (.dup2, 1) := dk_92 (dk_at dksX4_plays_1 21 rfl rfl)
theorem dX4_plays_46 : decode cX4_plays 46 = .ok (.iaload, 1) := dk_46 (dk_at dksX4_plays_1 22 rfl rfl)
theorem dX4_plays_47 : decode cX4_plays 47 = .ok (.iconst 1, 1) := dk_4 (dk_at dksX4_plays_1 23 rfl rfl)
theorem dX4_plays_48 : decode cX4_plays 48 = .ok (.iadd, 1) := dk_96 (dk_at dksX4_plays_2 0 rfl rfl)
theorem dX4_plays_49 : decode cX4_plays 49 = .ok (.iastore, 1) := dk_79 (dk_at dksX4_plays_2 1 rfl rfl)
theorem dX4_plays_50 : decode cX4_plays 50 = .ok (.return_, 1) := dk_177 (dk_at dksX4_plays_2 2 rfl rfl)
abbrev cX4_fewer : ByteArray := prog_19_method_34_code
def yX4_fewer : MethodName := ⟨RX4, "fewer", "(I)I"⟩
def dkwX4_fewer_0 : List UInt8 := [27, 42, 17, 0, 174, 182, 0, 137, 100, 61, 28, 4, 162, 0, 7, 4, 167, 0, 4, 28, 172]
abbrev dktX4_fewer_0 : List UInt8 := dkwX4_fewer_0 ++ []
theorem dksX4_fewer_0 : cX4_fewer.data.toList.drop 0 = dktX4_fewer_0 := by decide +kernel
theorem dX4_fewer_0 : decode cX4_fewer 0 = .ok (.iload_n 1, 1) := dk_27 (dk_at dksX4_fewer_0 0 rfl rfl)
theorem dX4_fewer_1 : decode cX4_fewer 1 = .ok (.aload_n 0, 1) := dk_42 (dk_at dksX4_fewer_0 1 rfl rfl)
theorem dX4_fewer_2 : decode cX4_fewer 2 = .ok (.sipush 174, 3) := dk_17 0 174 (dk_at dksX4_fewer_0 2 rfl rfl)
theorem dX4_fewer_5 : decode cX4_fewer 5 = .ok (.invokevirtual 137, 3) := dk_182 0 137 (dk_at dksX4_fewer_0 5 rfl rfl)
theorem dX4_fewer_8 : decode cX4_fewer 8 = .ok (.isub, 1) := dk_100 (dk_at dksX4_fewer_0 8 rfl rfl)
theorem dX4_fewer_9 : decode cX4_fewer 9 = .ok (.istore_n 2, 1) := dk_61 (dk_at dksX4_fewer_0 9 rfl rfl)
theorem dX4_fewer_10 : decode cX4_fewer 10 = .ok (.iload_n 2, 1) := dk_28 (dk_at dksX4_fewer_0 10 rfl rfl)
theorem dX4_fewer_11 : decode cX4_fewer 11 = .ok (.iconst 1, 1) := dk_4 (dk_at dksX4_fewer_0 11 rfl rfl)
theorem dX4_fewer_12 : decode cX4_fewer 12 = .ok (.if_icmp .ge 7, 3) := dk_162 0 7 (dk_at dksX4_fewer_0 12 rfl rfl)
theorem dX4_fewer_15 : decode cX4_fewer 15 = .ok (.iconst 1, 1) := dk_4 (dk_at dksX4_fewer_0 15 rfl rfl)
theorem dX4_fewer_16 : decode cX4_fewer 16 = .ok (.goto 4, 3) := dk_167 0 4 (dk_at dksX4_fewer_0 16 rfl rfl)
theorem dX4_fewer_19 : decode cX4_fewer 19 = .ok (.iload_n 2, 1) := dk_28 (dk_at dksX4_fewer_0 19 rfl rfl)
theorem dX4_fewer_20 : decode cX4_fewer 20 = .ok (.ireturn, 1) := dk_172 (dk_at dksX4_fewer_0 20 rfl rfl)
abbrev cX4_moreOf : ByteArray := prog_19_method_35_code
def yX4_moreOf : MethodName := ⟨RX4, "moreOf", "(I)I"⟩
def dkwX4_moreOf_0 : List UInt8 := [27, 42, 17, 0, 179, 182, 0, 137, 96, 61, 28, 16, 20, 164, 0, 8, 16, 20, 167, 0, 4, 28, 172]
abbrev dktX4_moreOf_0 : List UInt8 := dkwX4_moreOf_0 ++ []
theorem dksX4_moreOf_0 : cX4_moreOf.data.toList.drop 0 = dktX4_moreOf_0 := by decide +kernel
theorem dX4_moreOf_0 : decode cX4_moreOf 0 = .ok (.iload_n 1, 1) := dk_27 (dk_at dksX4_moreOf_0 0 rfl rfl)
theorem dX4_moreOf_1 : decode cX4_moreOf 1 = .ok (.aload_n 0, 1) := dk_42 (dk_at dksX4_moreOf_0 1 rfl rfl)
theorem dX4_moreOf_2 : decode cX4_moreOf 2 = .ok (.sipush 179, 3) := dk_17 0 179 (dk_at dksX4_moreOf_0 2 rfl rfl)
theorem dX4_moreOf_5 : decode cX4_moreOf 5 = .ok (.invokevirtual 137, 3) := dk_182 0 137 (dk_at dksX4_moreOf_0 5 rfl rfl)
theorem dX4_moreOf_8 : decode cX4_moreOf 8 = .ok (.iadd, 1) := dk_96 (dk_at dksX4_moreOf_0 8 rfl rfl)
theorem dX4_moreOf_9 : decode cX4_moreOf 9 = .ok (.istore_n 2, 1) := dk_61 (dk_at dksX4_moreOf_0 9 rfl rfl)
theorem dX4_moreOf_10 : decode cX4_moreOf 10 = .ok (.iload_n 2, 1) := dk_28 (dk_at dksX4_moreOf_0 10 rfl rfl)
theorem dX4_moreOf_11 : decode cX4_moreOf 11 = .ok (.bipush 20, 2) := dk_16 20 (dk_at dksX4_moreOf_0 11 rfl rfl)
theorem dX4_moreOf_13 : decode cX4_moreOf 13 = .ok (.if_icmp .le 8, 3) := dk_164 0 8 (dk_at dksX4_moreOf_0 13 rfl rfl)
theorem dX4_moreOf_16 : decode cX4_moreOf 16 = .ok (.bipush 20, 2) := dk_16 20 (dk_at dksX4_moreOf_0 16 rfl rfl)
theorem dX4_moreOf_18 : decode cX4_moreOf 18 = .ok (.goto 4, 3) := dk_167 0 4 (dk_at dksX4_moreOf_0 18 rfl rfl)
theorem dX4_moreOf_21 : decode cX4_moreOf 21 = .ok (.iload_n 2, 1) := dk_28 (dk_at dksX4_moreOf_0 21 rfl rfl)
theorem dX4_moreOf_22 : decode cX4_moreOf 22 = .ok (.ireturn, 1) := dk_172 (dk_at dksX4_moreOf_0 22 rfl rfl)
abbrev cX4_wins : ByteArray := prog_19_method_43_code
def yX4_wins : MethodName := ⟨RX4, "wins", "(IIIII)J"⟩
def dkwX4_wins_4 : List UInt8 := [167, 255, 226, 22, 6, 29, 184, 0, 190, 21, 5, 184, 0, 194, 173]
abbrev dktX4_wins_4 : List UInt8 := dkwX4_wins_4 ++ []
def dkwX4_wins_3 : List UInt8 := [17, 1, 185, 96, 162, 0, 21, 22, 6, 42, 180, 0, 28, 21, 8, 47, 97, 55, 6, 132, 8, 1]
abbrev dktX4_wins_3 : List UInt8 := dkwX4_wins_3 ++ dktX4_wins_4
def dkwX4_wins_2 : List UInt8 := [3, 182, 0, 186, 9, 55, 6, 17, 1, 185, 21, 4, 104, 54, 8, 21, 8, 17, 1, 185, 21, 4, 104]
abbrev dktX4_wins_2 : List UInt8 := dkwX4_wins_2 ++ dktX4_wins_3
def dkwX4_wins_1 : List UInt8 := [184, 0, 48, 153, 0, 13, 21, 5, 3, 4, 184, 0, 48, 154, 0, 7, 20, 0, 184, 173, 42, 27, 28, 29]
abbrev dktX4_wins_1 : List UInt8 := dkwX4_wins_1 ++ dktX4_wins_2
def dkwX4_wins_0 : List UInt8 := [42, 27, 28, 182, 0, 180, 153, 0, 33, 29, 3, 16, 12, 184, 0, 48, 153, 0, 23, 21, 4, 3, 29]
abbrev dktX4_wins_0 : List UInt8 := dkwX4_wins_0 ++ dktX4_wins_1
theorem dksX4_wins_0 : cX4_wins.data.toList.drop 0 = dktX4_wins_0 := by decide +kernel
theorem dksX4_wins_1 : cX4_wins.data.toList.drop 23 = dktX4_wins_1 := dk_seg dksX4_wins_0 23 rfl rfl
theorem dksX4_wins_2 : cX4_wins.data.toList.drop 47 = dktX4_wins_2 := dk_seg dksX4_wins_1 24 rfl rfl
theorem dksX4_wins_3 : cX4_wins.data.toList.drop 70 = dktX4_wins_3 := dk_seg dksX4_wins_2 23 rfl rfl
theorem dksX4_wins_4 : cX4_wins.data.toList.drop 92 = dktX4_wins_4 := dk_seg dksX4_wins_3 22 rfl rfl
theorem dX4_wins_0 : decode cX4_wins 0 = .ok (.aload_n 0, 1) := dk_42 (dk_at dksX4_wins_0 0 rfl rfl)
theorem dX4_wins_1 : decode cX4_wins 1 = .ok (.iload_n 1, 1) := dk_27 (dk_at dksX4_wins_0 1 rfl rfl)
theorem dX4_wins_2 : decode cX4_wins 2 = .ok (.iload_n 2, 1) := dk_28 (dk_at dksX4_wins_0 2 rfl rfl)
theorem dX4_wins_3 : decode cX4_wins 3 = .ok (.invokevirtual 180, 3) := dk_182 0 180 (dk_at dksX4_wins_0 3 rfl rfl)
theorem dX4_wins_6 : decode cX4_wins 6 = .ok (.ifCond .eq 33, 3) := dk_153 0 33 (dk_at dksX4_wins_0 6 rfl rfl)
theorem dX4_wins_9 : decode cX4_wins 9 = .ok (.iload_n 3, 1) := dk_29 (dk_at dksX4_wins_0 9 rfl rfl)
theorem dX4_wins_10 : decode cX4_wins 10 = .ok (.iconst 0, 1) := dk_3 (dk_at dksX4_wins_0 10 rfl rfl)
theorem dX4_wins_11 : decode cX4_wins 11 = .ok (.bipush 12, 2) := dk_16 12 (dk_at dksX4_wins_0 11 rfl rfl)
theorem dX4_wins_13 : decode cX4_wins 13 = .ok (.invokestatic 48, 3) := dk_184 0 48 (dk_at dksX4_wins_0 13 rfl rfl)
theorem dX4_wins_16 : decode cX4_wins 16 = .ok (.ifCond .eq 23, 3) := dk_153 0 23 (dk_at dksX4_wins_0 16 rfl rfl)
theorem dX4_wins_19 : decode cX4_wins 19 = .ok (.iload 4, 2) := dk_21 4 (dk_at dksX4_wins_0 19 rfl rfl)
theorem dX4_wins_21 : decode cX4_wins 21 = .ok (.iconst 0, 1) := dk_3 (dk_at dksX4_wins_0 21 rfl rfl)
theorem dX4_wins_22 : decode cX4_wins 22 = .ok (.iload_n 3, 1) := dk_29 (dk_at dksX4_wins_0 22 rfl rfl)
theorem dX4_wins_23 : decode cX4_wins 23 = .ok (.invokestatic 48, 3) := dk_184 0 48 (dk_at dksX4_wins_1 0 rfl rfl)
theorem dX4_wins_26 : decode cX4_wins 26 = .ok (.ifCond .eq 13, 3) := dk_153 0 13 (dk_at dksX4_wins_1 3 rfl rfl)
theorem dX4_wins_29 : decode cX4_wins 29 = .ok (.iload 5, 2) := dk_21 5 (dk_at dksX4_wins_1 6 rfl rfl)
theorem dX4_wins_31 : decode cX4_wins 31 = .ok (.iconst 0, 1) := dk_3 (dk_at dksX4_wins_1 8 rfl rfl)
theorem dX4_wins_32 : decode cX4_wins 32 = .ok (.iconst 1, 1) := dk_4 (dk_at dksX4_wins_1 9 rfl rfl)
theorem dX4_wins_33 : decode cX4_wins 33 = .ok (.invokestatic 48, 3) := dk_184 0 48 (dk_at dksX4_wins_1 10 rfl rfl)
theorem dX4_wins_36 : decode cX4_wins 36 = .ok (.ifCond .ne 7, 3) := dk_154 0 7 (dk_at dksX4_wins_1 13 rfl rfl)
theorem dX4_wins_39 : decode cX4_wins 39 = .ok (.ldc2_w 184, 3) := dk_20 0 184 (dk_at dksX4_wins_1 16 rfl rfl)
theorem dX4_wins_42 : decode cX4_wins 42 = .ok (.lreturn, 1) := dk_173 (dk_at dksX4_wins_1 19 rfl rfl)
theorem dX4_wins_43 : decode cX4_wins 43 = .ok (.aload_n 0, 1) := dk_42 (dk_at dksX4_wins_1 20 rfl rfl)
theorem dX4_wins_44 : decode cX4_wins 44 = .ok (.iload_n 1, 1) := dk_27 (dk_at dksX4_wins_1 21 rfl rfl)
theorem dX4_wins_45 : decode cX4_wins 45 = .ok (.iload_n 2, 1) := dk_28 (dk_at dksX4_wins_1 22 rfl rfl)
theorem dX4_wins_46 : decode cX4_wins 46 = .ok (.iload_n 3, 1) := dk_29 (dk_at dksX4_wins_1 23 rfl rfl)
theorem dX4_wins_47 : decode cX4_wins 47 = .ok (.iconst 0, 1) := dk_3 (dk_at dksX4_wins_2 0 rfl rfl)
theorem dX4_wins_48 : decode cX4_wins 48 = .ok (.invokevirtual 186, 3) := dk_182 0 186 (dk_at dksX4_wins_2 1 rfl rfl)
theorem dX4_wins_51 : decode cX4_wins 51 = .ok (.lconst 0, 1) := dk_9 (dk_at dksX4_wins_2 4 rfl rfl)
theorem dX4_wins_52 : decode cX4_wins 52 = .ok (.lstore 6, 2) := dk_55 6 (dk_at dksX4_wins_2 5 rfl rfl)
theorem dX4_wins_54 : decode cX4_wins 54 = .ok (.sipush 441, 3) := dk_17 1 185 (dk_at dksX4_wins_2 7 rfl rfl)
theorem dX4_wins_57 : decode cX4_wins 57 = .ok (.iload 4, 2) := dk_21 4 (dk_at dksX4_wins_2 10 rfl rfl)
theorem dX4_wins_59 : decode cX4_wins 59 = .ok (.imul, 1) := dk_104 (dk_at dksX4_wins_2 12 rfl rfl)
theorem dX4_wins_60 : decode cX4_wins 60 = .ok (.istore 8, 2) := dk_54 8 (dk_at dksX4_wins_2 13 rfl rfl)
theorem dX4_wins_62 : decode cX4_wins 62 = .ok (.iload 8, 2) := dk_21 8 (dk_at dksX4_wins_2 15 rfl rfl)
theorem dX4_wins_64 : decode cX4_wins 64 = .ok (.sipush 441, 3) := dk_17 1 185 (dk_at dksX4_wins_2 17 rfl rfl)
theorem dX4_wins_67 : decode cX4_wins 67 = .ok (.iload 4, 2) := dk_21 4 (dk_at dksX4_wins_2 20 rfl rfl)
theorem dX4_wins_69 : decode cX4_wins 69 = .ok (.imul, 1) := dk_104 (dk_at dksX4_wins_2 22 rfl rfl)
theorem dX4_wins_70 : decode cX4_wins 70 = .ok (.sipush 441, 3) := dk_17 1 185 (dk_at dksX4_wins_3 0 rfl rfl)
theorem dX4_wins_73 : decode cX4_wins 73 = .ok (.iadd, 1) := dk_96 (dk_at dksX4_wins_3 3 rfl rfl)
theorem dX4_wins_74 : decode cX4_wins 74 = .ok (.if_icmp .ge 21, 3) := dk_162 0 21 (dk_at dksX4_wins_3 4 rfl rfl)
theorem dX4_wins_77 : decode cX4_wins 77 = .ok (.lload 6, 2) := dk_22 6 (dk_at dksX4_wins_3 7 rfl rfl)
theorem dX4_wins_79 : decode cX4_wins 79 = .ok (.aload_n 0, 1) := dk_42 (dk_at dksX4_wins_3 9 rfl rfl)
theorem dX4_wins_80 : decode cX4_wins 80 = .ok (.getfield 28, 3) := dk_180 0 28 (dk_at dksX4_wins_3 10 rfl rfl)
theorem dX4_wins_83 : decode cX4_wins 83 = .ok (.iload 8, 2) := dk_21 8 (dk_at dksX4_wins_3 13 rfl rfl)
theorem dX4_wins_85 : decode cX4_wins 85 = .ok (.laload, 1) := dk_47 (dk_at dksX4_wins_3 15 rfl rfl)
theorem dX4_wins_86 : decode cX4_wins 86 = .ok (.ladd, 1) := dk_97 (dk_at dksX4_wins_3 16 rfl rfl)
theorem dX4_wins_87 : decode cX4_wins 87 = .ok (.lstore 6, 2) := dk_55 6 (dk_at dksX4_wins_3 17 rfl rfl)
theorem dX4_wins_89 : decode cX4_wins 89 = .ok (.iinc 8 1, 3) := dk_132 8 1 (dk_at dksX4_wins_3 19 rfl rfl)
theorem dX4_wins_92 : decode cX4_wins 92 = .ok (.goto (-30), 3) := dk_167 255 226 (dk_at dksX4_wins_4 0 rfl rfl)
theorem dX4_wins_95 : decode cX4_wins 95 = .ok (.lload 6, 2) := dk_22 6 (dk_at dksX4_wins_4 3 rfl rfl)
theorem dX4_wins_97 : decode cX4_wins 97 = .ok (.iload_n 3, 1) := dk_29 (dk_at dksX4_wins_4 5 rfl rfl)
theorem dX4_wins_98 : decode cX4_wins 98 = .ok (.invokestatic 190, 3) := dk_184 0 190 (dk_at dksX4_wins_4 6 rfl rfl)
theorem dX4_wins_101 : decode cX4_wins 101 = .ok (.iload 5, 2) := dk_21 5 (dk_at dksX4_wins_4 9 rfl rfl)
theorem dX4_wins_103 : decode cX4_wins 103 = .ok (.invokestatic 194, 3) := dk_184 0 194 (dk_at dksX4_wins_4 11 rfl rfl)
theorem dX4_wins_106 : decode cX4_wins 106 = .ok (.lreturn, 1) := dk_173 (dk_at dksX4_wins_4 14 rfl rfl)
abbrev cX4_areTwo : ByteArray := prog_19_method_5_code
def yX4_areTwo : MethodName := ⟨RX4, "areTwo", "(II)Z"⟩
def dkwX4_areTwo_1 : List UInt8 := [167, 0, 4, 3, 172]
abbrev dktX4_areTwo_1 : List UInt8 := dkwX4_areTwo_1 ++ []
def dkwX4_areTwo_0 : List UInt8 := [42, 27, 182, 0, 52, 153, 0, 20, 42, 28, 182, 0, 52, 153, 0, 12, 27, 28, 159, 0, 7, 4]
abbrev dktX4_areTwo_0 : List UInt8 := dkwX4_areTwo_0 ++ dktX4_areTwo_1
theorem dksX4_areTwo_0 : cX4_areTwo.data.toList.drop 0 = dktX4_areTwo_0 := by decide +kernel
theorem dksX4_areTwo_1 : cX4_areTwo.data.toList.drop 22 = dktX4_areTwo_1 := dk_seg dksX4_areTwo_0 22 rfl rfl
theorem dX4_areTwo_0 : decode cX4_areTwo 0 = .ok (.aload_n 0, 1) := dk_42 (dk_at dksX4_areTwo_0 0 rfl rfl)
theorem dX4_areTwo_1 : decode cX4_areTwo 1 = .ok (.iload_n 1, 1) := dk_27 (dk_at dksX4_areTwo_0 1 rfl rfl)
theorem dX4_areTwo_2 : decode cX4_areTwo 2 = .ok (.invokevirtual 52, 3) := dk_182 0 52 (dk_at dksX4_areTwo_0 2 rfl rfl)
theorem dX4_areTwo_5 : decode cX4_areTwo 5 = .ok (.ifCond .eq 20, 3) := dk_153 0 20 (dk_at dksX4_areTwo_0 5 rfl rfl)
theorem dX4_areTwo_8 : decode cX4_areTwo 8 = .ok (.aload_n 0, 1) := dk_42 (dk_at dksX4_areTwo_0 8 rfl rfl)
theorem dX4_areTwo_9 : decode cX4_areTwo 9 = .ok (.iload_n 2, 1) := dk_28 (dk_at dksX4_areTwo_0 9 rfl rfl)
theorem dX4_areTwo_10 : decode cX4_areTwo 10 = .ok (.invokevirtual 52, 3) := dk_182 0 52 (dk_at dksX4_areTwo_0 10 rfl rfl)
theorem dX4_areTwo_13 : decode cX4_areTwo 13 = .ok (.ifCond .eq 12, 3) := dk_153 0 12 (dk_at dksX4_areTwo_0 13 rfl rfl)
theorem dX4_areTwo_16 : decode cX4_areTwo 16 = .ok (.iload_n 1, 1) := dk_27 (dk_at dksX4_areTwo_0 16 rfl rfl)
theorem dX4_areTwo_17 : decode cX4_areTwo 17 = .ok (.iload_n 2, 1) := dk_28 (dk_at dksX4_areTwo_0 17 rfl rfl)
theorem dX4_areTwo_18 : decode cX4_areTwo 18 = .ok (.if_icmp .eq 7, 3) := dk_159 0 7 (dk_at dksX4_areTwo_0 18 rfl rfl)
theorem dX4_areTwo_21 : decode cX4_areTwo 21 = .ok (.iconst 1, 1) := dk_4 (dk_at dksX4_areTwo_0 21 rfl rfl)
theorem dX4_areTwo_22 : decode cX4_areTwo 22 = .ok (.goto 4, 3) := dk_167 0 4 (dk_at dksX4_areTwo_1 0 rfl rfl)
theorem dX4_areTwo_25 : decode cX4_areTwo 25 = .ok (.iconst 0, 1) := dk_3 (dk_at dksX4_areTwo_1 3 rfl rfl)
theorem dX4_areTwo_26 : decode cX4_areTwo 26 = .ok (.ireturn, 1) := dk_172 (dk_at dksX4_areTwo_1 4 rfl rfl)
abbrev cX4_gamesOn : ByteArray := prog_19_method_41_code
def yX4_gamesOn : MethodName := ⟨RX4, "gamesOn", "(IIIZ)V"⟩
def dkwX4_gamesOn_2 : List UInt8 := [42, 182, 0, 177, 177]
abbrev dktX4_gamesOn_2 : List UInt8 := dkwX4_gamesOn_2 ++ []
def dkwX4_gamesOn_1 : List UInt8 := [42, 180, 0, 18, 3, 46, 21, 5, 96, 79, 42, 27, 28, 21, 4, 182, 0, 173, 132, 5, 1, 167, 255, 224]
abbrev dktX4_gamesOn_1 : List UInt8 := dkwX4_gamesOn_1 ++ dktX4_gamesOn_2
def dkwX4_gamesOn_0 : List UInt8 := [42, 182, 0, 167, 42, 27, 28, 182, 0, 170, 3, 54, 5, 21, 5, 29, 162, 0, 32, 42, 180, 0, 9, 3]
abbrev dktX4_gamesOn_0 : List UInt8 := dkwX4_gamesOn_0 ++ dktX4_gamesOn_1
theorem dksX4_gamesOn_0 : cX4_gamesOn.data.toList.drop 0 = dktX4_gamesOn_0 := by decide +kernel
theorem dksX4_gamesOn_1 : cX4_gamesOn.data.toList.drop 24 = dktX4_gamesOn_1 := dk_seg dksX4_gamesOn_0 24 rfl rfl
theorem dksX4_gamesOn_2 : cX4_gamesOn.data.toList.drop 48 = dktX4_gamesOn_2 := dk_seg dksX4_gamesOn_1 24 rfl rfl
theorem dX4_gamesOn_0 : decode cX4_gamesOn 0 = .ok (.aload_n 0, 1) := dk_42 (dk_at dksX4_gamesOn_0 0 rfl rfl)
theorem dX4_gamesOn_1 : decode cX4_gamesOn 1 = .ok (.invokevirtual 167, 3) := dk_182 0 167 (dk_at dksX4_gamesOn_0 1 rfl rfl)
theorem dX4_gamesOn_4 : decode cX4_gamesOn 4 = .ok (.aload_n 0, 1) := dk_42 (dk_at dksX4_gamesOn_0 4 rfl rfl)
theorem dX4_gamesOn_5 : decode cX4_gamesOn 5 = .ok (.iload_n 1, 1) := dk_27 (dk_at dksX4_gamesOn_0 5 rfl rfl)
theorem dX4_gamesOn_6 : decode cX4_gamesOn 6 = .ok (.iload_n 2, 1) := dk_28 (dk_at dksX4_gamesOn_0 6 rfl rfl)
theorem dX4_gamesOn_7 : decode cX4_gamesOn 7 = .ok (.invokevirtual 170, 3) := dk_182 0 170 (dk_at dksX4_gamesOn_0 7 rfl rfl)
theorem dX4_gamesOn_10 : decode cX4_gamesOn 10 = .ok (.iconst 0, 1) := dk_3 (dk_at dksX4_gamesOn_0 10 rfl rfl)
theorem dX4_gamesOn_11 : decode cX4_gamesOn 11 = .ok (.istore 5, 2) := dk_54 5 (dk_at dksX4_gamesOn_0 11 rfl rfl)
theorem dX4_gamesOn_13 : decode cX4_gamesOn 13 = .ok (.iload 5, 2) := dk_21 5 (dk_at dksX4_gamesOn_0 13 rfl rfl)
theorem dX4_gamesOn_15 : decode cX4_gamesOn 15 = .ok (.iload_n 3, 1) := dk_29 (dk_at dksX4_gamesOn_0 15 rfl rfl)
theorem dX4_gamesOn_16 : decode cX4_gamesOn 16 = .ok (.if_icmp .ge 32, 3) := dk_162 0 32 (dk_at dksX4_gamesOn_0 16 rfl rfl)
theorem dX4_gamesOn_19 : decode cX4_gamesOn 19 = .ok (.aload_n 0, 1) := dk_42 (dk_at dksX4_gamesOn_0 19 rfl rfl)
theorem dX4_gamesOn_20 : decode cX4_gamesOn 20 = .ok (.getfield 9, 3) := dk_180 0 9 (dk_at dksX4_gamesOn_0 20 rfl rfl)
theorem dX4_gamesOn_23 : decode cX4_gamesOn 23 = .ok (.iconst 0, 1) := dk_3 (dk_at dksX4_gamesOn_0 23 rfl rfl)
theorem dX4_gamesOn_24 : decode cX4_gamesOn 24 = .ok (.aload_n 0, 1) := dk_42 (dk_at dksX4_gamesOn_1 0 rfl rfl)
theorem dX4_gamesOn_25 : decode cX4_gamesOn 25 = .ok (.getfield 18, 3) := dk_180 0 18 (dk_at dksX4_gamesOn_1 1 rfl rfl)
theorem dX4_gamesOn_28 : decode cX4_gamesOn 28 = .ok (.iconst 0, 1) := dk_3 (dk_at dksX4_gamesOn_1 4 rfl rfl)
theorem dX4_gamesOn_29 : decode cX4_gamesOn 29 = .ok (.iaload, 1) := dk_46 (dk_at dksX4_gamesOn_1 5 rfl rfl)
theorem dX4_gamesOn_30 : decode cX4_gamesOn 30 = .ok (.iload 5, 2) := dk_21 5 (dk_at dksX4_gamesOn_1 6 rfl rfl)
theorem dX4_gamesOn_32 : decode cX4_gamesOn 32 = .ok (.iadd, 1) := dk_96 (dk_at dksX4_gamesOn_1 8 rfl rfl)
theorem dX4_gamesOn_33 : decode cX4_gamesOn 33 = .ok (.iastore, 1) := dk_79 (dk_at dksX4_gamesOn_1 9 rfl rfl)
theorem dX4_gamesOn_34 : decode cX4_gamesOn 34 = .ok (.aload_n 0, 1) := dk_42 (dk_at dksX4_gamesOn_1 10 rfl rfl)
theorem dX4_gamesOn_35 : decode cX4_gamesOn 35 = .ok (.iload_n 1, 1) := dk_27 (dk_at dksX4_gamesOn_1 11 rfl rfl)
theorem dX4_gamesOn_36 : decode cX4_gamesOn 36 = .ok (.iload_n 2, 1) := dk_28 (dk_at dksX4_gamesOn_1 12 rfl rfl)
theorem dX4_gamesOn_37 : decode cX4_gamesOn 37 = .ok (.iload 4, 2) := dk_21 4 (dk_at dksX4_gamesOn_1 13 rfl rfl)
theorem dX4_gamesOn_39 : decode cX4_gamesOn 39 = .ok (.invokevirtual 173, 3) := dk_182 0 173 (dk_at dksX4_gamesOn_1 15 rfl rfl)
theorem dX4_gamesOn_42 : decode cX4_gamesOn 42 = .ok (.iinc 5 1, 3) := dk_132 5 1 (dk_at dksX4_gamesOn_1 18 rfl rfl)
theorem dX4_gamesOn_45 : decode cX4_gamesOn 45 = .ok (.goto (-32), 3) := dk_167 255 224 (dk_at dksX4_gamesOn_1 21 rfl rfl)
theorem dX4_gamesOn_48 : decode cX4_gamesOn 48 = .ok (.aload_n 0, 1) := dk_42 (dk_at dksX4_gamesOn_2 0 rfl rfl)
theorem dX4_gamesOn_49 : decode cX4_gamesOn 49 = .ok (.invokevirtual 177, 3) := dk_182 0 177 (dk_at dksX4_gamesOn_2 1 rfl rfl)
theorem dX4_gamesOn_52 : decode cX4_gamesOn 52 = .ok (.return_, 1) := dk_177 (dk_at dksX4_gamesOn_2 4 rfl rfl)
abbrev cX4_keeps : ByteArray := prog_19_method_6_code
def yX4_keeps : MethodName := ⟨RX4, "keeps", "()V"⟩
def dkwX4_keeps_1 : List UInt8 := [167, 255, 235, 177]
abbrev dktX4_keeps_1 : List UInt8 := dkwX4_keeps_1 ++ []
def dkwX4_keeps_0 : List UInt8 := [3, 60, 27, 16, 6, 162, 0, 21, 42, 180, 0, 18, 27, 42, 180, 0, 9, 27, 46, 79, 132, 1, 1]
abbrev dktX4_keeps_0 : List UInt8 := dkwX4_keeps_0 ++ dktX4_keeps_1
theorem dksX4_keeps_0 : cX4_keeps.data.toList.drop 0 = dktX4_keeps_0 := by decide +kernel
theorem dksX4_keeps_1 : cX4_keeps.data.toList.drop 23 = dktX4_keeps_1 := dk_seg dksX4_keeps_0 23 rfl rfl
theorem dX4_keeps_0 : decode cX4_keeps 0 = .ok (.iconst 0, 1) := dk_3 (dk_at dksX4_keeps_0 0 rfl rfl)
theorem dX4_keeps_1 : decode cX4_keeps 1 = .ok (.istore_n 1, 1) := dk_60 (dk_at dksX4_keeps_0 1 rfl rfl)
theorem dX4_keeps_2 : decode cX4_keeps 2 = .ok (.iload_n 1, 1) := dk_27 (dk_at dksX4_keeps_0 2 rfl rfl)
theorem dX4_keeps_3 : decode cX4_keeps 3 = .ok (.bipush 6, 2) := dk_16 6 (dk_at dksX4_keeps_0 3 rfl rfl)
theorem dX4_keeps_5 : decode cX4_keeps 5 = .ok (.if_icmp .ge 21, 3) := dk_162 0 21 (dk_at dksX4_keeps_0 5 rfl rfl)
theorem dX4_keeps_8 : decode cX4_keeps 8 = .ok (.aload_n 0, 1) := dk_42 (dk_at dksX4_keeps_0 8 rfl rfl)
theorem dX4_keeps_9 : decode cX4_keeps 9 = .ok (.getfield 18, 3) := dk_180 0 18 (dk_at dksX4_keeps_0 9 rfl rfl)
theorem dX4_keeps_12 : decode cX4_keeps 12 = .ok (.iload_n 1, 1) := dk_27 (dk_at dksX4_keeps_0 12 rfl rfl)
theorem dX4_keeps_13 : decode cX4_keeps 13 = .ok (.aload_n 0, 1) := dk_42 (dk_at dksX4_keeps_0 13 rfl rfl)
theorem dX4_keeps_14 : decode cX4_keeps 14 = .ok (.getfield 9, 3) := dk_180 0 9 (dk_at dksX4_keeps_0 14 rfl rfl)
theorem dX4_keeps_17 : decode cX4_keeps 17 = .ok (.iload_n 1, 1) := dk_27 (dk_at dksX4_keeps_0 17 rfl rfl)
theorem dX4_keeps_18 : decode cX4_keeps 18 = .ok (.iaload, 1) := dk_46 (dk_at dksX4_keeps_0 18 rfl rfl)
theorem dX4_keeps_19 : decode cX4_keeps 19 = .ok (.iastore, 1) := dk_79 (dk_at dksX4_keeps_0 19 rfl rfl)
theorem dX4_keeps_20 : decode cX4_keeps 20 = .ok (.iinc 1 1, 3) := dk_132 1 1 (dk_at dksX4_keeps_0 20 rfl rfl)
theorem dX4_keeps_23 : decode cX4_keeps 23 = .ok (.goto (-21), 3) := dk_167 255 235 (dk_at dksX4_keeps_1 0 rfl rfl)
theorem dX4_keeps_26 : decode cX4_keeps 26 = .ok (.return_, 1) := dk_177 (dk_at dksX4_keeps_1 3 rfl rfl)
abbrev cX4_beginsTwo : ByteArray := prog_19_method_39_code
def yX4_beginsTwo : MethodName := ⟨RX4, "beginsTwo", "(II)V"⟩
def dkwX4_beginsTwo_2 : List UInt8 := [80, 42, 9, 181, 0, 163, 177]
abbrev dktX4_beginsTwo_2 : List UInt8 := dkwX4_beginsTwo_2 ++ []
def dkwX4_beginsTwo_1 : List UInt8 := [180, 0, 28, 16, 21, 42, 180, 0, 9, 4, 27, 96, 46, 104, 42, 180, 0, 9, 4, 28, 96, 46, 96, 10]
abbrev dktX4_beginsTwo_1 : List UInt8 := dkwX4_beginsTwo_1 ++ dktX4_beginsTwo_2
def dkwX4_beginsTwo_0 : List UInt8 := [3, 62, 29, 17, 22, 101, 162, 0, 16, 42, 180, 0, 28, 29, 9, 80, 132, 3, 1, 167, 255, 239, 42]
abbrev dktX4_beginsTwo_0 : List UInt8 := dkwX4_beginsTwo_0 ++ dktX4_beginsTwo_1
theorem dksX4_beginsTwo_0 : cX4_beginsTwo.data.toList.drop 0 = dktX4_beginsTwo_0 := by decide +kernel
theorem dksX4_beginsTwo_1 : cX4_beginsTwo.data.toList.drop 23 = dktX4_beginsTwo_1 := dk_seg dksX4_beginsTwo_0 23 rfl rfl
theorem dksX4_beginsTwo_2 : cX4_beginsTwo.data.toList.drop 47 = dktX4_beginsTwo_2 := dk_seg dksX4_beginsTwo_1 24 rfl rfl
theorem dX4_beginsTwo_0 : decode cX4_beginsTwo 0 = .ok (.iconst 0, 1) := dk_3 (dk_at dksX4_beginsTwo_0 0 rfl rfl)
theorem dX4_beginsTwo_1 : decode cX4_beginsTwo 1 = .ok (.istore_n 3, 1) := dk_62 (dk_at dksX4_beginsTwo_0 1 rfl rfl)
theorem dX4_beginsTwo_2 : decode cX4_beginsTwo 2 = .ok (.iload_n 3, 1) := dk_29 (dk_at dksX4_beginsTwo_0 2 rfl rfl)
theorem dX4_beginsTwo_3 : decode cX4_beginsTwo 3 = .ok (.sipush 5733, 3) := dk_17 22 101 (dk_at dksX4_beginsTwo_0 3 rfl rfl)
theorem dX4_beginsTwo_6 : decode cX4_beginsTwo 6 = .ok (.if_icmp .ge 16, 3) := dk_162 0 16 (dk_at dksX4_beginsTwo_0 6 rfl rfl)
theorem dX4_beginsTwo_9 : decode cX4_beginsTwo 9 = .ok (.aload_n 0, 1) := dk_42 (dk_at dksX4_beginsTwo_0 9 rfl rfl)
theorem dX4_beginsTwo_10 : decode cX4_beginsTwo 10 = .ok (.getfield 28, 3) := dk_180 0 28 (dk_at dksX4_beginsTwo_0 10 rfl rfl)
theorem dX4_beginsTwo_13 : decode cX4_beginsTwo 13 = .ok (.iload_n 3, 1) := dk_29 (dk_at dksX4_beginsTwo_0 13 rfl rfl)
theorem dX4_beginsTwo_14 : decode cX4_beginsTwo 14 = .ok (.lconst 0, 1) := dk_9 (dk_at dksX4_beginsTwo_0 14 rfl rfl)
theorem dX4_beginsTwo_15 : decode cX4_beginsTwo 15 = .ok (.lastore, 1) := dk_80 (dk_at dksX4_beginsTwo_0 15 rfl rfl)
theorem dX4_beginsTwo_16 : decode cX4_beginsTwo 16 = .ok (.iinc 3 1, 3) := dk_132 3 1 (dk_at dksX4_beginsTwo_0 16 rfl rfl)
theorem dX4_beginsTwo_19 : decode cX4_beginsTwo 19 = .ok (.goto (-17), 3) := dk_167 255 239 (dk_at dksX4_beginsTwo_0 19 rfl rfl)
theorem dX4_beginsTwo_22 : decode cX4_beginsTwo 22 = .ok (.aload_n 0, 1) := dk_42 (dk_at dksX4_beginsTwo_0 22 rfl rfl)
theorem dX4_beginsTwo_23 : decode cX4_beginsTwo 23 = .ok (.getfield 28, 3) := dk_180 0 28 (dk_at dksX4_beginsTwo_1 0 rfl rfl)
theorem dX4_beginsTwo_26 : decode cX4_beginsTwo 26 = .ok (.bipush 21, 2) := dk_16 21 (dk_at dksX4_beginsTwo_1 3 rfl rfl)
theorem dX4_beginsTwo_28 : decode cX4_beginsTwo 28 = .ok (.aload_n 0, 1) := dk_42 (dk_at dksX4_beginsTwo_1 5 rfl rfl)
theorem dX4_beginsTwo_29 : decode cX4_beginsTwo 29 = .ok (.getfield 9, 3) := dk_180 0 9 (dk_at dksX4_beginsTwo_1 6 rfl rfl)
theorem dX4_beginsTwo_32 : decode cX4_beginsTwo 32 = .ok (.iconst 1, 1) := dk_4 (dk_at dksX4_beginsTwo_1 9 rfl rfl)
theorem dX4_beginsTwo_33 : decode cX4_beginsTwo 33 = .ok (.iload_n 1, 1) := dk_27 (dk_at dksX4_beginsTwo_1 10 rfl rfl)
theorem dX4_beginsTwo_34 : decode cX4_beginsTwo 34 = .ok (.iadd, 1) := dk_96 (dk_at dksX4_beginsTwo_1 11 rfl rfl)
theorem dX4_beginsTwo_35 : decode cX4_beginsTwo 35 = .ok (.iaload, 1) := dk_46 (dk_at dksX4_beginsTwo_1 12 rfl rfl)
theorem dX4_beginsTwo_36 : decode cX4_beginsTwo 36 = .ok (.imul, 1) := dk_104 (dk_at dksX4_beginsTwo_1 13 rfl rfl)
theorem dX4_beginsTwo_37 : decode cX4_beginsTwo 37 = .ok (.aload_n 0, 1) := dk_42 (dk_at dksX4_beginsTwo_1 14 rfl rfl)
theorem dX4_beginsTwo_38 : decode cX4_beginsTwo 38 = .ok (.getfield 9, 3) := dk_180 0 9 (dk_at dksX4_beginsTwo_1 15 rfl rfl)
theorem dX4_beginsTwo_41 : decode cX4_beginsTwo 41 = .ok (.iconst 1, 1) := dk_4 (dk_at dksX4_beginsTwo_1 18 rfl rfl)
theorem dX4_beginsTwo_42 : decode cX4_beginsTwo 42 = .ok (.iload_n 2, 1) := dk_28 (dk_at dksX4_beginsTwo_1 19 rfl rfl)
theorem dX4_beginsTwo_43 : decode cX4_beginsTwo 43 = .ok (.iadd, 1) := dk_96 (dk_at dksX4_beginsTwo_1 20 rfl rfl)
theorem dX4_beginsTwo_44 : decode cX4_beginsTwo 44 = .ok (.iaload, 1) := dk_46 (dk_at dksX4_beginsTwo_1 21 rfl rfl)
theorem dX4_beginsTwo_45 : decode cX4_beginsTwo 45 = .ok (.iadd, 1) := dk_96 (dk_at dksX4_beginsTwo_1 22 rfl rfl)
theorem dX4_beginsTwo_46 : decode cX4_beginsTwo 46 = .ok (.lconst 1, 1) := dk_10 (dk_at dksX4_beginsTwo_1 23 rfl rfl)
theorem dX4_beginsTwo_47 : decode cX4_beginsTwo 47 = .ok (.lastore, 1) := dk_80 (dk_at dksX4_beginsTwo_2 0 rfl rfl)
theorem dX4_beginsTwo_48 : decode cX4_beginsTwo 48 = .ok (.aload_n 0, 1) := dk_42 (dk_at dksX4_beginsTwo_2 1 rfl rfl)
theorem dX4_beginsTwo_49 : decode cX4_beginsTwo 49 = .ok (.lconst 0, 1) := dk_9 (dk_at dksX4_beginsTwo_2 2 rfl rfl)
theorem dX4_beginsTwo_50 : decode cX4_beginsTwo 50 = .ok (.putfield 163, 3) := dk_181 0 163 (dk_at dksX4_beginsTwo_2 3 rfl rfl)
theorem dX4_beginsTwo_53 : decode cX4_beginsTwo 53 = .ok (.return_, 1) := dk_177 (dk_at dksX4_beginsTwo_2 6 rfl rfl)
abbrev cX4_gameOn : ByteArray := prog_19_method_40_code
def yX4_gameOn : MethodName := ⟨RX4, "gameOn", "(IIZ)V"⟩
def dkwX4_gameOn_13 : List UInt8 := [167, 254, 247, 42, 180, 0, 28, 58, 4, 42, 42, 180, 0, 32, 181, 0, 28, 42, 25, 4, 181, 0, 32, 177]
abbrev dktX4_gameOn_13 : List UInt8 := dkwX4_gameOn_13 ++ []
def dkwX4_gameOn_12 : List UInt8 := [21, 6, 100, 42, 180, 0, 9, 4, 27, 96, 46, 104, 100, 133, 105, 97, 181, 0, 163, 132, 4, 1]
abbrev dktX4_gameOn_12 : List UInt8 := dkwX4_gameOn_12 ++ dktX4_gameOn_13
def dkwX4_gameOn_11 : List UInt8 := [89, 180, 0, 163, 42, 180, 0, 28, 21, 4, 47, 21, 6, 42, 180, 0, 9, 4, 28, 96, 46, 104, 16, 10]
abbrev dktX4_gameOn_11 : List UInt8 := dkwX4_gameOn_11 ++ dktX4_gameOn_12
def dkwX4_gameOn_10 : List UInt8 := [46, 182, 0, 151, 96, 92, 47, 16, 10, 21, 6, 100, 133, 42, 180, 0, 28, 21, 4, 47, 105, 97, 80, 42]
abbrev dktX4_gameOn_10 : List UInt8 := dkwX4_gameOn_10 ++ dktX4_gameOn_11
def dkwX4_gameOn_9 : List UInt8 := [16, 21, 42, 42, 180, 0, 9, 4, 27, 96, 46, 182, 0, 154, 104, 96, 42, 42, 180, 0, 9, 4, 28, 96]
abbrev dktX4_gameOn_9 : List UInt8 := dkwX4_gameOn_9 ++ dktX4_gameOn_10
def dkwX4_gameOn_8 : List UInt8 := [21, 6, 133, 42, 180, 0, 28, 21, 4, 47, 105, 97, 80, 42, 180, 0, 32, 17, 1, 185, 21, 5, 104]
abbrev dktX4_gameOn_8 : List UInt8 := dkwX4_gameOn_8 ++ dktX4_gameOn_9
def dkwX4_gameOn_7 : List UInt8 := [4, 27, 96, 46, 182, 0, 151, 104, 96, 42, 42, 180, 0, 9, 4, 28, 96, 46, 182, 0, 154, 96, 92, 47]
abbrev dktX4_gameOn_7 : List UInt8 := dkwX4_gameOn_7 ++ dktX4_gameOn_8
def dkwX4_gameOn_6 : List UInt8 := [182, 0, 148, 54, 6, 42, 180, 0, 32, 17, 1, 185, 21, 5, 4, 96, 104, 16, 21, 42, 42, 180, 0, 9]
abbrev dktX4_gameOn_6 : List UInt8 := dkwX4_gameOn_6 ++ dktX4_gameOn_7
def dkwX4_gameOn_5 : List UInt8 := [21, 4, 92, 47, 20, 0, 161, 42, 180, 0, 28, 21, 4, 47, 105, 97, 80, 167, 0, 168, 42, 27, 28]
abbrev dktX4_gameOn_5 : List UInt8 := dkwX4_gameOn_5 ++ dktX4_gameOn_6
def dkwX4_gameOn_4 : List UInt8 := [16, 21, 112, 79, 29, 153, 0, 39, 42, 180, 0, 9, 4, 27, 96, 46, 4, 160, 0, 27, 42, 180, 0, 32]
abbrev dktX4_gameOn_4 : List UInt8 := dkwX4_gameOn_4 ++ dktX4_gameOn_5
def dkwX4_gameOn_3 : List UInt8 := [180, 0, 9, 4, 27, 96, 21, 4, 16, 21, 108, 16, 21, 112, 79, 42, 180, 0, 9, 4, 28, 96, 21, 4]
abbrev dktX4_gameOn_3 : List UInt8 := dkwX4_gameOn_3 ++ dktX4_gameOn_4
def dkwX4_gameOn_2 : List UInt8 := [162, 1, 7, 42, 180, 0, 28, 21, 4, 47, 9, 148, 158, 0, 245, 21, 4, 17, 1, 185, 108, 54, 5, 42]
abbrev dktX4_gameOn_2 : List UInt8 := dkwX4_gameOn_2 ++ dktX4_gameOn_3
def dkwX4_gameOn_1 : List UInt8 := [167, 255, 237, 42, 89, 180, 0, 163, 20, 0, 161, 105, 181, 0, 163, 3, 54, 4, 21, 4, 17, 22, 101]
abbrev dktX4_gameOn_1 : List UInt8 := dkwX4_gameOn_1 ++ dktX4_gameOn_2
def dkwX4_gameOn_0 : List UInt8 := [3, 54, 4, 21, 4, 17, 22, 101, 162, 0, 17, 42, 180, 0, 32, 21, 4, 9, 80, 132, 4, 1]
abbrev dktX4_gameOn_0 : List UInt8 := dkwX4_gameOn_0 ++ dktX4_gameOn_1
theorem dksX4_gameOn_0 : cX4_gameOn.data.toList.drop 0 = dktX4_gameOn_0 := by decide +kernel
theorem dksX4_gameOn_1 : cX4_gameOn.data.toList.drop 22 = dktX4_gameOn_1 := dk_seg dksX4_gameOn_0 22 rfl rfl
theorem dksX4_gameOn_2 : cX4_gameOn.data.toList.drop 45 = dktX4_gameOn_2 := dk_seg dksX4_gameOn_1 23 rfl rfl
theorem dksX4_gameOn_3 : cX4_gameOn.data.toList.drop 69 = dktX4_gameOn_3 := dk_seg dksX4_gameOn_2 24 rfl rfl
theorem dksX4_gameOn_4 : cX4_gameOn.data.toList.drop 93 = dktX4_gameOn_4 := dk_seg dksX4_gameOn_3 24 rfl rfl
theorem dksX4_gameOn_5 : cX4_gameOn.data.toList.drop 117 = dktX4_gameOn_5 := dk_seg dksX4_gameOn_4 24 rfl rfl
theorem dksX4_gameOn_6 : cX4_gameOn.data.toList.drop 140 = dktX4_gameOn_6 := dk_seg dksX4_gameOn_5 23 rfl rfl
theorem dksX4_gameOn_7 : cX4_gameOn.data.toList.drop 164 = dktX4_gameOn_7 := dk_seg dksX4_gameOn_6 24 rfl rfl
theorem dksX4_gameOn_8 : cX4_gameOn.data.toList.drop 188 = dktX4_gameOn_8 := dk_seg dksX4_gameOn_7 24 rfl rfl
theorem dksX4_gameOn_9 : cX4_gameOn.data.toList.drop 211 = dktX4_gameOn_9 := dk_seg dksX4_gameOn_8 23 rfl rfl
theorem dksX4_gameOn_10 : cX4_gameOn.data.toList.drop 235 = dktX4_gameOn_10 := dk_seg dksX4_gameOn_9 24 rfl rfl
theorem dksX4_gameOn_11 : cX4_gameOn.data.toList.drop 259 = dktX4_gameOn_11 := dk_seg dksX4_gameOn_10 24 rfl rfl
theorem dksX4_gameOn_12 : cX4_gameOn.data.toList.drop 283 = dktX4_gameOn_12 := dk_seg dksX4_gameOn_11 24 rfl rfl
theorem dksX4_gameOn_13 : cX4_gameOn.data.toList.drop 305 = dktX4_gameOn_13 := dk_seg dksX4_gameOn_12 22 rfl rfl
theorem dX4_gameOn_0 : decode cX4_gameOn 0 = .ok (.iconst 0, 1) := dk_3 (dk_at dksX4_gameOn_0 0 rfl rfl)
theorem dX4_gameOn_1 : decode cX4_gameOn 1 = .ok (.istore 4, 2) := dk_54 4 (dk_at dksX4_gameOn_0 1 rfl rfl)
theorem dX4_gameOn_3 : decode cX4_gameOn 3 = .ok (.iload 4, 2) := dk_21 4 (dk_at dksX4_gameOn_0 3 rfl rfl)
theorem dX4_gameOn_5 : decode cX4_gameOn 5 = .ok (.sipush 5733, 3) := dk_17 22 101 (dk_at dksX4_gameOn_0 5 rfl rfl)
theorem dX4_gameOn_8 : decode cX4_gameOn 8 = .ok (.if_icmp .ge 17, 3) := dk_162 0 17 (dk_at dksX4_gameOn_0 8 rfl rfl)
theorem dX4_gameOn_11 : decode cX4_gameOn 11 = .ok (.aload_n 0, 1) := dk_42 (dk_at dksX4_gameOn_0 11 rfl rfl)
theorem dX4_gameOn_12 : decode cX4_gameOn 12 = .ok (.getfield 32, 3) := dk_180 0 32 (dk_at dksX4_gameOn_0 12 rfl rfl)
theorem dX4_gameOn_15 : decode cX4_gameOn 15 = .ok (.iload 4, 2) := dk_21 4 (dk_at dksX4_gameOn_0 15 rfl rfl)
theorem dX4_gameOn_17 : decode cX4_gameOn 17 = .ok (.lconst 0, 1) := dk_9 (dk_at dksX4_gameOn_0 17 rfl rfl)
theorem dX4_gameOn_18 : decode cX4_gameOn 18 = .ok (.lastore, 1) := dk_80 (dk_at dksX4_gameOn_0 18 rfl rfl)
theorem dX4_gameOn_19 : decode cX4_gameOn 19 = .ok (.iinc 4 1, 3) := dk_132 4 1 (dk_at dksX4_gameOn_0 19 rfl rfl)
theorem dX4_gameOn_22 : decode cX4_gameOn 22 = .ok (.goto (-19), 3) := dk_167 255 237 (dk_at dksX4_gameOn_1 0 rfl rfl)
theorem dX4_gameOn_25 : decode cX4_gameOn 25 = .ok (.aload_n 0, 1) := dk_42 (dk_at dksX4_gameOn_1 3 rfl rfl)
theorem dX4_gameOn_26 : decode cX4_gameOn 26 = .ok (.dup, 1) := dk_89 (dk_at dksX4_gameOn_1 4 rfl rfl)
theorem dX4_gameOn_27 : decode cX4_gameOn 27 = .ok (.getfield 163, 3) := dk_180 0 163 (dk_at dksX4_gameOn_1 5 rfl rfl)
theorem dX4_gameOn_30 : decode cX4_gameOn 30 = .ok (.ldc2_w 161, 3) := dk_20 0 161 (dk_at dksX4_gameOn_1 8 rfl rfl)
theorem dX4_gameOn_33 : decode cX4_gameOn 33 = .ok (.lmul, 1) := dk_105 (dk_at dksX4_gameOn_1 11 rfl rfl)
theorem dX4_gameOn_34 : decode cX4_gameOn 34 = .ok (.putfield 163, 3) := dk_181 0 163 (dk_at dksX4_gameOn_1 12 rfl rfl)
theorem dX4_gameOn_37 : decode cX4_gameOn 37 = .ok (.iconst 0, 1) := dk_3 (dk_at dksX4_gameOn_1 15 rfl rfl)
theorem dX4_gameOn_38 : decode cX4_gameOn 38 = .ok (.istore 4, 2) := dk_54 4 (dk_at dksX4_gameOn_1 16 rfl rfl)
theorem dX4_gameOn_40 : decode cX4_gameOn 40 = .ok (.iload 4, 2) := dk_21 4 (dk_at dksX4_gameOn_1 18 rfl rfl)
theorem dX4_gameOn_42 : decode cX4_gameOn 42 = .ok (.sipush 5733, 3) := dk_17 22 101 (dk_at dksX4_gameOn_1 20 rfl rfl)
theorem dX4_gameOn_45 : decode cX4_gameOn 45 = .ok (.if_icmp .ge 263, 3) := dk_162 1 7 (dk_at dksX4_gameOn_2 0 rfl rfl)
theorem dX4_gameOn_48 : decode cX4_gameOn 48 = .ok (.aload_n 0, 1) := dk_42 (dk_at dksX4_gameOn_2 3 rfl rfl)
theorem dX4_gameOn_49 : decode cX4_gameOn 49 = .ok (.getfield 28, 3) := dk_180 0 28 (dk_at dksX4_gameOn_2 4 rfl rfl)
theorem dX4_gameOn_52 : decode cX4_gameOn 52 = .ok (.iload 4, 2) := dk_21 4 (dk_at dksX4_gameOn_2 7 rfl rfl)
theorem dX4_gameOn_54 : decode cX4_gameOn 54 = .ok (.laload, 1) := dk_47 (dk_at dksX4_gameOn_2 9 rfl rfl)
theorem dX4_gameOn_55 : decode cX4_gameOn 55 = .ok (.lconst 0, 1) := dk_9 (dk_at dksX4_gameOn_2 10 rfl rfl)
theorem dX4_gameOn_56 : decode cX4_gameOn 56 = .ok (.lcmp, 1) := dk_148 (dk_at dksX4_gameOn_2 11 rfl rfl)
theorem dX4_gameOn_57 : decode cX4_gameOn 57 = .ok (.ifCond .le 245, 3) := dk_158 0 245 (dk_at dksX4_gameOn_2 12 rfl rfl)
theorem dX4_gameOn_60 : decode cX4_gameOn 60 = .ok (.iload 4, 2) := dk_21 4 (dk_at dksX4_gameOn_2 15 rfl rfl)
theorem dX4_gameOn_62 : decode cX4_gameOn 62 = .ok (.sipush 441, 3) := dk_17 1 185 (dk_at dksX4_gameOn_2 17 rfl rfl)
theorem dX4_gameOn_65 : decode cX4_gameOn 65 = .ok (.idiv, 1) := dk_108 (dk_at dksX4_gameOn_2 20 rfl rfl)
theorem dX4_gameOn_66 : decode cX4_gameOn 66 = .ok (.istore 5, 2) := dk_54 5 (dk_at dksX4_gameOn_2 21 rfl rfl)
theorem dX4_gameOn_68 : decode cX4_gameOn 68 = .ok (.aload_n 0, 1) := dk_42 (dk_at dksX4_gameOn_2 23 rfl rfl)
theorem dX4_gameOn_69 : decode cX4_gameOn 69 = .ok (.getfield 9, 3) := dk_180 0 9 (dk_at dksX4_gameOn_3 0 rfl rfl)
theorem dX4_gameOn_72 : decode cX4_gameOn 72 = .ok (.iconst 1, 1) := dk_4 (dk_at dksX4_gameOn_3 3 rfl rfl)
theorem dX4_gameOn_73 : decode cX4_gameOn 73 = .ok (.iload_n 1, 1) := dk_27 (dk_at dksX4_gameOn_3 4 rfl rfl)
theorem dX4_gameOn_74 : decode cX4_gameOn 74 = .ok (.iadd, 1) := dk_96 (dk_at dksX4_gameOn_3 5 rfl rfl)
theorem dX4_gameOn_75 : decode cX4_gameOn 75 = .ok (.iload 4, 2) := dk_21 4 (dk_at dksX4_gameOn_3 6 rfl rfl)
theorem dX4_gameOn_77 : decode cX4_gameOn 77 = .ok (.bipush 21, 2) := dk_16 21 (dk_at dksX4_gameOn_3 8 rfl rfl)
theorem dX4_gameOn_79 : decode cX4_gameOn 79 = .ok (.idiv, 1) := dk_108 (dk_at dksX4_gameOn_3 10 rfl rfl)
theorem dX4_gameOn_80 : decode cX4_gameOn 80 = .ok (.bipush 21, 2) := dk_16 21 (dk_at dksX4_gameOn_3 11 rfl rfl)
theorem dX4_gameOn_82 : decode cX4_gameOn 82 = .ok (.irem, 1) := dk_112 (dk_at dksX4_gameOn_3 13 rfl rfl)
theorem dX4_gameOn_83 : decode cX4_gameOn 83 = .ok (.iastore, 1) := dk_79 (dk_at dksX4_gameOn_3 14 rfl rfl)
theorem dX4_gameOn_84 : decode cX4_gameOn 84 = .ok (.aload_n 0, 1) := dk_42 (dk_at dksX4_gameOn_3 15 rfl rfl)
theorem dX4_gameOn_85 : decode cX4_gameOn 85 = .ok (.getfield 9, 3) := dk_180 0 9 (dk_at dksX4_gameOn_3 16 rfl rfl)
theorem dX4_gameOn_88 : decode cX4_gameOn 88 = .ok (.iconst 1, 1) := dk_4 (dk_at dksX4_gameOn_3 19 rfl rfl)
theorem dX4_gameOn_89 : decode cX4_gameOn 89 = .ok (.iload_n 2, 1) := dk_28 (dk_at dksX4_gameOn_3 20 rfl rfl)
theorem dX4_gameOn_90 : decode cX4_gameOn 90 = .ok (.iadd, 1) := dk_96 (dk_at dksX4_gameOn_3 21 rfl rfl)
theorem dX4_gameOn_91 : decode cX4_gameOn 91 = .ok (.iload 4, 2) := dk_21 4 (dk_at dksX4_gameOn_3 22 rfl rfl)
theorem dX4_gameOn_93 : decode cX4_gameOn 93 = .ok (.bipush 21, 2) := dk_16 21 (dk_at dksX4_gameOn_4 0 rfl rfl)
theorem dX4_gameOn_95 : decode cX4_gameOn 95 = .ok (.irem, 1) := dk_112 (dk_at dksX4_gameOn_4 2 rfl rfl)
theorem dX4_gameOn_96 : decode cX4_gameOn 96 = .ok (.iastore, 1) := dk_79 (dk_at dksX4_gameOn_4 3 rfl rfl)
theorem dX4_gameOn_97 : decode cX4_gameOn 97 = .ok (.iload_n 3, 1) := dk_29 (dk_at dksX4_gameOn_4 4 rfl rfl)
theorem dX4_gameOn_98 : decode cX4_gameOn 98 = .ok (.ifCond .eq 39, 3) := dk_153 0 39 (dk_at dksX4_gameOn_4 5 rfl rfl)
theorem dX4_gameOn_101 : decode cX4_gameOn 101 = .ok (.aload_n 0, 1) := dk_42 (dk_at dksX4_gameOn_4 8 rfl rfl)
theorem dX4_gameOn_102 : decode cX4_gameOn 102 = .ok (.getfield 9, 3) := dk_180 0 9 (dk_at dksX4_gameOn_4 9 rfl rfl)
theorem dX4_gameOn_105 : decode cX4_gameOn 105 = .ok (.iconst 1, 1) := dk_4 (dk_at dksX4_gameOn_4 12 rfl rfl)
theorem dX4_gameOn_106 : decode cX4_gameOn 106 = .ok (.iload_n 1, 1) := dk_27 (dk_at dksX4_gameOn_4 13 rfl rfl)
theorem dX4_gameOn_107 : decode cX4_gameOn 107 = .ok (.iadd, 1) := dk_96 (dk_at dksX4_gameOn_4 14 rfl rfl)
theorem dX4_gameOn_108 : decode cX4_gameOn 108 = .ok (.iaload, 1) := dk_46 (dk_at dksX4_gameOn_4 15 rfl rfl)
theorem dX4_gameOn_109 : decode cX4_gameOn 109 = .ok (.iconst 1, 1) := dk_4 (dk_at dksX4_gameOn_4 16 rfl rfl)
theorem dX4_gameOn_110 : decode cX4_gameOn 110 = .ok (.if_icmp .ne 27, 3) := dk_160 0 27 (dk_at dksX4_gameOn_4 17 rfl rfl)
theorem dX4_gameOn_113 : decode cX4_gameOn 113 = .ok (.aload_n 0, 1) := dk_42 (dk_at dksX4_gameOn_4 20 rfl rfl)
theorem dX4_gameOn_114 : decode cX4_gameOn 114 = .ok (.getfield 32, 3) := dk_180 0 32 (dk_at dksX4_gameOn_4 21 rfl rfl)
theorem dX4_gameOn_117 : decode cX4_gameOn 117 = .ok (.iload 4, 2) := dk_21 4 (dk_at dksX4_gameOn_5 0 rfl rfl)
theorem dX4_gameOn_119 : decode cX4_gameOn 119 = .ok (.dup2, 1) := dk_92 (dk_at dksX4_gameOn_5 2 rfl rfl)
theorem dX4_gameOn_120 : decode cX4_gameOn 120 = .ok (.laload, 1) := dk_47 (dk_at dksX4_gameOn_5 3 rfl rfl)
theorem dX4_gameOn_121 : decode cX4_gameOn 121 = .ok (.ldc2_w 161, 3) := dk_20 0 161 (dk_at dksX4_gameOn_5 4 rfl rfl)
theorem dX4_gameOn_124 : decode cX4_gameOn 124 = .ok (.aload_n 0, 1) := dk_42 (dk_at dksX4_gameOn_5 7 rfl rfl)
theorem dX4_gameOn_125 : decode cX4_gameOn 125 = .ok (.getfield 28, 3) := dk_180 0 28 (dk_at dksX4_gameOn_5 8 rfl rfl)
theorem dX4_gameOn_128 : decode cX4_gameOn 128 = .ok (.iload 4, 2) := dk_21 4 (dk_at dksX4_gameOn_5 11 rfl rfl)
theorem dX4_gameOn_130 : decode cX4_gameOn 130 = .ok (.laload, 1) := dk_47 (dk_at dksX4_gameOn_5 13 rfl rfl)
theorem dX4_gameOn_131 : decode cX4_gameOn 131 = .ok (.lmul, 1) := dk_105 (dk_at dksX4_gameOn_5 14 rfl rfl)
theorem dX4_gameOn_132 : decode cX4_gameOn 132 = .ok (.ladd, 1) := dk_97 (dk_at dksX4_gameOn_5 15 rfl rfl)
theorem dX4_gameOn_133 : decode cX4_gameOn 133 = .ok (.lastore, 1) := dk_80 (dk_at dksX4_gameOn_5 16 rfl rfl)
theorem dX4_gameOn_134 : decode cX4_gameOn 134 = .ok (.goto 168, 3) := dk_167 0 168 (dk_at dksX4_gameOn_5 17 rfl rfl)
theorem dX4_gameOn_137 : decode cX4_gameOn 137 = .ok (.aload_n 0, 1) := dk_42 (dk_at dksX4_gameOn_5 20 rfl rfl)
theorem dX4_gameOn_138 : decode cX4_gameOn 138 = .ok (.iload_n 1, 1) := dk_27 (dk_at dksX4_gameOn_5 21 rfl rfl)
theorem dX4_gameOn_139 : decode cX4_gameOn 139 = .ok (.iload_n 2, 1) := dk_28 (dk_at dksX4_gameOn_5 22 rfl rfl)
theorem dX4_gameOn_140 : decode cX4_gameOn 140 = .ok (.invokevirtual 148, 3) := dk_182 0 148 (dk_at dksX4_gameOn_6 0 rfl rfl)
theorem dX4_gameOn_143 : decode cX4_gameOn 143 = .ok (.istore 6, 2) := dk_54 6 (dk_at dksX4_gameOn_6 3 rfl rfl)
theorem dX4_gameOn_145 : decode cX4_gameOn 145 = .ok (.aload_n 0, 1) := dk_42 (dk_at dksX4_gameOn_6 5 rfl rfl)
theorem dX4_gameOn_146 : decode cX4_gameOn 146 = .ok (.getfield 32, 3) := dk_180 0 32 (dk_at dksX4_gameOn_6 6 rfl rfl)
theorem dX4_gameOn_149 : decode cX4_gameOn 149 = .ok (.sipush 441, 3) := dk_17 1 185 (dk_at dksX4_gameOn_6 9 rfl rfl)
theorem dX4_gameOn_152 : decode cX4_gameOn 152 = .ok (.iload 5, 2) := dk_21 5 (dk_at dksX4_gameOn_6 12 rfl rfl)
theorem dX4_gameOn_154 : decode cX4_gameOn 154 = .ok (.iconst 1, 1) := dk_4 (dk_at dksX4_gameOn_6 14 rfl rfl)
theorem dX4_gameOn_155 : decode cX4_gameOn 155 = .ok (.iadd, 1) := dk_96 (dk_at dksX4_gameOn_6 15 rfl rfl)
theorem dX4_gameOn_156 : decode cX4_gameOn 156 = .ok (.imul, 1) := dk_104 (dk_at dksX4_gameOn_6 16 rfl rfl)
theorem dX4_gameOn_157 : decode cX4_gameOn 157 = .ok (.bipush 21, 2) := dk_16 21 (dk_at dksX4_gameOn_6 17 rfl rfl)
theorem dX4_gameOn_159 : decode cX4_gameOn 159 = .ok (.aload_n 0, 1) := dk_42 (dk_at dksX4_gameOn_6 19 rfl rfl)
theorem dX4_gameOn_160 : decode cX4_gameOn 160 = .ok (.aload_n 0, 1) := dk_42 (dk_at dksX4_gameOn_6 20 rfl rfl)
theorem dX4_gameOn_161 : decode cX4_gameOn 161 = .ok (.getfield 9, 3) := dk_180 0 9 (dk_at dksX4_gameOn_6 21 rfl rfl)
theorem dX4_gameOn_164 : decode cX4_gameOn 164 = .ok (.iconst 1, 1) := dk_4 (dk_at dksX4_gameOn_7 0 rfl rfl)
theorem dX4_gameOn_165 : decode cX4_gameOn 165 = .ok (.iload_n 1, 1) := dk_27 (dk_at dksX4_gameOn_7 1 rfl rfl)
theorem dX4_gameOn_166 : decode cX4_gameOn 166 = .ok (.iadd, 1) := dk_96 (dk_at dksX4_gameOn_7 2 rfl rfl)
theorem dX4_gameOn_167 : decode cX4_gameOn 167 = .ok (.iaload, 1) := dk_46 (dk_at dksX4_gameOn_7 3 rfl rfl)
theorem dX4_gameOn_168 : decode cX4_gameOn 168 = .ok (.invokevirtual 151, 3) := dk_182 0 151 (dk_at dksX4_gameOn_7 4 rfl rfl)
theorem dX4_gameOn_171 : decode cX4_gameOn 171 = .ok (.imul, 1) := dk_104 (dk_at dksX4_gameOn_7 7 rfl rfl)
theorem dX4_gameOn_172 : decode cX4_gameOn 172 = .ok (.iadd, 1) := dk_96 (dk_at dksX4_gameOn_7 8 rfl rfl)
theorem dX4_gameOn_173 : decode cX4_gameOn 173 = .ok (.aload_n 0, 1) := dk_42 (dk_at dksX4_gameOn_7 9 rfl rfl)
theorem dX4_gameOn_174 : decode cX4_gameOn 174 = .ok (.aload_n 0, 1) := dk_42 (dk_at dksX4_gameOn_7 10 rfl rfl)
theorem dX4_gameOn_175 : decode cX4_gameOn 175 = .ok (.getfield 9, 3) := dk_180 0 9 (dk_at dksX4_gameOn_7 11 rfl rfl)
theorem dX4_gameOn_178 : decode cX4_gameOn 178 = .ok (.iconst 1, 1) := dk_4 (dk_at dksX4_gameOn_7 14 rfl rfl)
theorem dX4_gameOn_179 : decode cX4_gameOn 179 = .ok (.iload_n 2, 1) := dk_28 (dk_at dksX4_gameOn_7 15 rfl rfl)
theorem dX4_gameOn_180 : decode cX4_gameOn 180 = .ok (.iadd, 1) := dk_96 (dk_at dksX4_gameOn_7 16 rfl rfl)
theorem dX4_gameOn_181 : decode cX4_gameOn 181 = .ok (.iaload, 1) := dk_46 (dk_at dksX4_gameOn_7 17 rfl rfl)
theorem dX4_gameOn_182 : decode cX4_gameOn 182 = .ok (.invokevirtual 154, 3) := dk_182 0 154 (dk_at dksX4_gameOn_7 18 rfl rfl)
theorem dX4_gameOn_185 : decode cX4_gameOn 185 = .ok (.iadd, 1) := dk_96 (dk_at dksX4_gameOn_7 21 rfl rfl)
theorem dX4_gameOn_186 : decode cX4_gameOn 186 = .ok (.dup2, 1) := dk_92 (dk_at dksX4_gameOn_7 22 rfl rfl)
theorem dX4_gameOn_187 : decode cX4_gameOn 187 = .ok (.laload, 1) := dk_47 (dk_at dksX4_gameOn_7 23 rfl rfl)
theorem dX4_gameOn_188 : decode cX4_gameOn 188 = .ok (.iload 6, 2) := dk_21 6 (dk_at dksX4_gameOn_8 0 rfl rfl)
theorem dX4_gameOn_190 : decode cX4_gameOn 190 = .ok (.i2l, 1) := dk_133 (dk_at dksX4_gameOn_8 2 rfl rfl)
theorem dX4_gameOn_191 : decode cX4_gameOn 191 = .ok (.aload_n 0, 1) := dk_42 (dk_at dksX4_gameOn_8 3 rfl rfl)
theorem dX4_gameOn_192 : decode cX4_gameOn 192 = .ok (.getfield 28, 3) := dk_180 0 28 (dk_at dksX4_gameOn_8 4 rfl rfl)
theorem dX4_gameOn_195 : decode cX4_gameOn 195 = .ok (.iload 4, 2) := dk_21 4 (dk_at dksX4_gameOn_8 7 rfl rfl)
theorem dX4_gameOn_197 : decode cX4_gameOn 197 = .ok (.laload, 1) := dk_47 (dk_at dksX4_gameOn_8 9 rfl rfl)
theorem dX4_gameOn_198 : decode cX4_gameOn 198 = .ok (.lmul, 1) := dk_105 (dk_at dksX4_gameOn_8 10 rfl rfl)
theorem dX4_gameOn_199 : decode cX4_gameOn 199 = .ok (.ladd, 1) := dk_97 (dk_at dksX4_gameOn_8 11 rfl rfl)
theorem dX4_gameOn_200 : decode cX4_gameOn 200 = .ok (.lastore, 1) := dk_80 (dk_at dksX4_gameOn_8 12 rfl rfl)
theorem dX4_gameOn_201 : decode cX4_gameOn 201 = .ok (.aload_n 0, 1) := dk_42 (dk_at dksX4_gameOn_8 13 rfl rfl)
theorem dX4_gameOn_202 : decode cX4_gameOn 202 = .ok (.getfield 32, 3) := dk_180 0 32 (dk_at dksX4_gameOn_8 14 rfl rfl)
theorem dX4_gameOn_205 : decode cX4_gameOn 205 = .ok (.sipush 441, 3) := dk_17 1 185 (dk_at dksX4_gameOn_8 17 rfl rfl)
theorem dX4_gameOn_208 : decode cX4_gameOn 208 = .ok (.iload 5, 2) := dk_21 5 (dk_at dksX4_gameOn_8 20 rfl rfl)
theorem dX4_gameOn_210 : decode cX4_gameOn 210 = .ok (.imul, 1) := dk_104 (dk_at dksX4_gameOn_8 22 rfl rfl)
theorem dX4_gameOn_211 : decode cX4_gameOn 211 = .ok (.bipush 21, 2) := dk_16 21 (dk_at dksX4_gameOn_9 0 rfl rfl)
theorem dX4_gameOn_213 : decode cX4_gameOn 213 = .ok (.aload_n 0, 1) := dk_42 (dk_at dksX4_gameOn_9 2 rfl rfl)
theorem dX4_gameOn_214 : decode cX4_gameOn 214 = .ok (.aload_n 0, 1) := dk_42 (dk_at dksX4_gameOn_9 3 rfl rfl)
theorem dX4_gameOn_215 : decode cX4_gameOn 215 = .ok (.getfield 9, 3) := dk_180 0 9 (dk_at dksX4_gameOn_9 4 rfl rfl)
theorem dX4_gameOn_218 : decode cX4_gameOn 218 = .ok (.iconst 1, 1) := dk_4 (dk_at dksX4_gameOn_9 7 rfl rfl)
theorem dX4_gameOn_219 : decode cX4_gameOn 219 = .ok (.iload_n 1, 1) := dk_27 (dk_at dksX4_gameOn_9 8 rfl rfl)
theorem dX4_gameOn_220 : decode cX4_gameOn 220 = .ok (.iadd, 1) := dk_96 (dk_at dksX4_gameOn_9 9 rfl rfl)
theorem dX4_gameOn_221 : decode cX4_gameOn 221 = .ok (.iaload, 1) := dk_46 (dk_at dksX4_gameOn_9 10 rfl rfl)
theorem dX4_gameOn_222 : decode cX4_gameOn 222 = .ok (.invokevirtual 154, 3) := dk_182 0 154 (dk_at dksX4_gameOn_9 11 rfl rfl)
theorem dX4_gameOn_225 : decode cX4_gameOn 225 = .ok (.imul, 1) := dk_104 (dk_at dksX4_gameOn_9 14 rfl rfl)
theorem dX4_gameOn_226 : decode cX4_gameOn 226 = .ok (.iadd, 1) := dk_96 (dk_at dksX4_gameOn_9 15 rfl rfl)
theorem dX4_gameOn_227 : decode cX4_gameOn 227 = .ok (.aload_n 0, 1) := dk_42 (dk_at dksX4_gameOn_9 16 rfl rfl)
theorem dX4_gameOn_228 : decode cX4_gameOn 228 = .ok (.aload_n 0, 1) := dk_42 (dk_at dksX4_gameOn_9 17 rfl rfl)
theorem dX4_gameOn_229 : decode cX4_gameOn 229 = .ok (.getfield 9, 3) := dk_180 0 9 (dk_at dksX4_gameOn_9 18 rfl rfl)
theorem dX4_gameOn_232 : decode cX4_gameOn 232 = .ok (.iconst 1, 1) := dk_4 (dk_at dksX4_gameOn_9 21 rfl rfl)
theorem dX4_gameOn_233 : decode cX4_gameOn 233 = .ok (.iload_n 2, 1) := dk_28 (dk_at dksX4_gameOn_9 22 rfl rfl)
theorem dX4_gameOn_234 : decode cX4_gameOn 234 = .ok (.iadd, 1) := dk_96 (dk_at dksX4_gameOn_9 23 rfl rfl)
theorem dX4_gameOn_235 : decode cX4_gameOn 235 = .ok (.iaload, 1) := dk_46 (dk_at dksX4_gameOn_10 0 rfl rfl)
theorem dX4_gameOn_236 : decode cX4_gameOn 236 = .ok (.invokevirtual 151, 3) := dk_182 0 151 (dk_at dksX4_gameOn_10 1 rfl rfl)
theorem dX4_gameOn_239 : decode cX4_gameOn 239 = .ok (.iadd, 1) := dk_96 (dk_at dksX4_gameOn_10 4 rfl rfl)
theorem dX4_gameOn_240 : decode cX4_gameOn 240 = .ok (.dup2, 1) := dk_92 (dk_at dksX4_gameOn_10 5 rfl rfl)
theorem dX4_gameOn_241 : decode cX4_gameOn 241 = .ok (.laload, 1) := dk_47 (dk_at dksX4_gameOn_10 6 rfl rfl)
theorem dX4_gameOn_242 : decode cX4_gameOn 242 = .ok (.bipush 10, 2) := dk_16 10 (dk_at dksX4_gameOn_10 7 rfl rfl)
theorem dX4_gameOn_244 : decode cX4_gameOn 244 = .ok (.iload 6, 2) := dk_21 6 (dk_at dksX4_gameOn_10 9 rfl rfl)
theorem dX4_gameOn_246 : decode cX4_gameOn 246 = .ok (.isub, 1) := dk_100 (dk_at dksX4_gameOn_10 11 rfl rfl)
theorem dX4_gameOn_247 : decode cX4_gameOn 247 = .ok (.i2l, 1) := dk_133 (dk_at dksX4_gameOn_10 12 rfl rfl)
theorem dX4_gameOn_248 : decode cX4_gameOn 248 = .ok (.aload_n 0, 1) := dk_42 (dk_at dksX4_gameOn_10 13 rfl rfl)
theorem dX4_gameOn_249 : decode cX4_gameOn 249 = .ok (.getfield 28, 3) := dk_180 0 28 (dk_at dksX4_gameOn_10 14 rfl rfl)
theorem dX4_gameOn_252 : decode cX4_gameOn 252 = .ok (.iload 4, 2) := dk_21 4 (dk_at dksX4_gameOn_10 17 rfl rfl)
theorem dX4_gameOn_254 : decode cX4_gameOn 254 = .ok (.laload, 1) := dk_47 (dk_at dksX4_gameOn_10 19 rfl rfl)
theorem dX4_gameOn_255 : decode cX4_gameOn 255 = .ok (.lmul, 1) := dk_105 (dk_at dksX4_gameOn_10 20 rfl rfl)
theorem dX4_gameOn_256 : decode cX4_gameOn 256 = .ok (.ladd, 1) := dk_97 (dk_at dksX4_gameOn_10 21 rfl rfl)
theorem dX4_gameOn_257 : decode cX4_gameOn 257 = .ok (.lastore, 1) := dk_80 (dk_at dksX4_gameOn_10 22 rfl rfl)
theorem dX4_gameOn_258 : decode cX4_gameOn 258 = .ok (.aload_n 0, 1) := dk_42 (dk_at dksX4_gameOn_10 23 rfl rfl)
theorem dX4_gameOn_259 : decode cX4_gameOn 259 = .ok (.dup, 1) := dk_89 (dk_at dksX4_gameOn_11 0 rfl rfl)
theorem dX4_gameOn_260 : decode cX4_gameOn 260 = .ok (.getfield 163, 3) := dk_180 0 163 (dk_at dksX4_gameOn_11 1 rfl rfl)
theorem dX4_gameOn_263 : decode cX4_gameOn 263 = .ok (.aload_n 0, 1) := dk_42 (dk_at dksX4_gameOn_11 4 rfl rfl)
theorem dX4_gameOn_264 : decode cX4_gameOn 264 = .ok (.getfield 28, 3) := dk_180 0 28 (dk_at dksX4_gameOn_11 5 rfl rfl)
theorem dX4_gameOn_267 : decode cX4_gameOn 267 = .ok (.iload 4, 2) := dk_21 4 (dk_at dksX4_gameOn_11 8 rfl rfl)
theorem dX4_gameOn_269 : decode cX4_gameOn 269 = .ok (.laload, 1) := dk_47 (dk_at dksX4_gameOn_11 10 rfl rfl)
theorem dX4_gameOn_270 : decode cX4_gameOn 270 = .ok (.iload 6, 2) := dk_21 6 (dk_at dksX4_gameOn_11 11 rfl rfl)
theorem dX4_gameOn_272 : decode cX4_gameOn 272 = .ok (.aload_n 0, 1) := dk_42 (dk_at dksX4_gameOn_11 13 rfl rfl)
theorem dX4_gameOn_273 : decode cX4_gameOn 273 = .ok (.getfield 9, 3) := dk_180 0 9 (dk_at dksX4_gameOn_11 14 rfl rfl)
theorem dX4_gameOn_276 : decode cX4_gameOn 276 = .ok (.iconst 1, 1) := dk_4 (dk_at dksX4_gameOn_11 17 rfl rfl)
theorem dX4_gameOn_277 : decode cX4_gameOn 277 = .ok (.iload_n 2, 1) := dk_28 (dk_at dksX4_gameOn_11 18 rfl rfl)
theorem dX4_gameOn_278 : decode cX4_gameOn 278 = .ok (.iadd, 1) := dk_96 (dk_at dksX4_gameOn_11 19 rfl rfl)
theorem dX4_gameOn_279 : decode cX4_gameOn 279 = .ok (.iaload, 1) := dk_46 (dk_at dksX4_gameOn_11 20 rfl rfl)
theorem dX4_gameOn_280 : decode cX4_gameOn 280 = .ok (.imul, 1) := dk_104 (dk_at dksX4_gameOn_11 21 rfl rfl)
theorem dX4_gameOn_281 : decode cX4_gameOn 281 = .ok (.bipush 10, 2) := dk_16 10 (dk_at dksX4_gameOn_11 22 rfl rfl)
theorem dX4_gameOn_283 : decode cX4_gameOn 283 = .ok (.iload 6, 2) := dk_21 6 (dk_at dksX4_gameOn_12 0 rfl rfl)
theorem dX4_gameOn_285 : decode cX4_gameOn 285 = .ok (.isub, 1) := dk_100 (dk_at dksX4_gameOn_12 2 rfl rfl)
theorem dX4_gameOn_286 : decode cX4_gameOn 286 = .ok (.aload_n 0, 1) := dk_42 (dk_at dksX4_gameOn_12 3 rfl rfl)
theorem dX4_gameOn_287 : decode cX4_gameOn 287 = .ok (.getfield 9, 3) := dk_180 0 9 (dk_at dksX4_gameOn_12 4 rfl rfl)
theorem dX4_gameOn_290 : decode cX4_gameOn 290 = .ok (.iconst 1, 1) := dk_4 (dk_at dksX4_gameOn_12 7 rfl rfl)
theorem dX4_gameOn_291 : decode cX4_gameOn 291 = .ok (.iload_n 1, 1) := dk_27 (dk_at dksX4_gameOn_12 8 rfl rfl)
theorem dX4_gameOn_292 : decode cX4_gameOn 292 = .ok (.iadd, 1) := dk_96 (dk_at dksX4_gameOn_12 9 rfl rfl)
theorem dX4_gameOn_293 : decode cX4_gameOn 293 = .ok (.iaload, 1) := dk_46 (dk_at dksX4_gameOn_12 10 rfl rfl)
theorem dX4_gameOn_294 : decode cX4_gameOn 294 = .ok (.imul, 1) := dk_104 (dk_at dksX4_gameOn_12 11 rfl rfl)
theorem dX4_gameOn_295 : decode cX4_gameOn 295 = .ok (.isub, 1) := dk_100 (dk_at dksX4_gameOn_12 12 rfl rfl)
theorem dX4_gameOn_296 : decode cX4_gameOn 296 = .ok (.i2l, 1) := dk_133 (dk_at dksX4_gameOn_12 13 rfl rfl)
theorem dX4_gameOn_297 : decode cX4_gameOn 297 = .ok (.lmul, 1) := dk_105 (dk_at dksX4_gameOn_12 14 rfl rfl)
theorem dX4_gameOn_298 : decode cX4_gameOn 298 = .ok (.ladd, 1) := dk_97 (dk_at dksX4_gameOn_12 15 rfl rfl)
theorem dX4_gameOn_299 : decode cX4_gameOn 299 = .ok (.putfield 163, 3) := dk_181 0 163 (dk_at dksX4_gameOn_12 16 rfl rfl)
theorem dX4_gameOn_302 : decode cX4_gameOn 302 = .ok (.iinc 4 1, 3) := dk_132 4 1 (dk_at dksX4_gameOn_12 19 rfl rfl)
theorem dX4_gameOn_305 : decode cX4_gameOn 305 = .ok (.goto (-265), 3) := dk_167 254 247 (dk_at dksX4_gameOn_13 0 rfl rfl)
theorem dX4_gameOn_308 : decode cX4_gameOn 308 = .ok (.aload_n 0, 1) := dk_42 (dk_at dksX4_gameOn_13 3 rfl rfl)
theorem dX4_gameOn_309 : decode cX4_gameOn 309 = .ok (.getfield 28, 3) := dk_180 0 28 (dk_at dksX4_gameOn_13 4 rfl rfl)
theorem dX4_gameOn_312 : decode cX4_gameOn 312 = .ok (.astore 4, 2) := dk_58 4 (dk_at dksX4_gameOn_13 7 rfl rfl)
theorem dX4_gameOn_314 : decode cX4_gameOn 314 = .ok (.aload_n 0, 1) := dk_42 (dk_at dksX4_gameOn_13 9 rfl rfl)
theorem dX4_gameOn_315 : decode cX4_gameOn 315 = .ok (.aload_n 0, 1) := dk_42 (dk_at dksX4_gameOn_13 10 rfl rfl)
theorem dX4_gameOn_316 : decode cX4_gameOn 316 = .ok (.getfield 32, 3) := dk_180 0 32 (dk_at dksX4_gameOn_13 11 rfl rfl)
theorem dX4_gameOn_319 : decode cX4_gameOn 319 = .ok (.putfield 28, 3) := dk_181 0 28 (dk_at dksX4_gameOn_13 14 rfl rfl)
theorem dX4_gameOn_322 : decode cX4_gameOn 322 = .ok (.aload_n 0, 1) := dk_42 (dk_at dksX4_gameOn_13 17 rfl rfl)
theorem dX4_gameOn_323 : decode cX4_gameOn 323 = .ok (.aload 4, 2) := dk_25 4 (dk_at dksX4_gameOn_13 18 rfl rfl)
theorem dX4_gameOn_325 : decode cX4_gameOn 325 = .ok (.putfield 32, 3) := dk_181 0 32 (dk_at dksX4_gameOn_13 20 rfl rfl)
theorem dX4_gameOn_328 : decode cX4_gameOn 328 = .ok (.return_, 1) := dk_177 (dk_at dksX4_gameOn_13 23 rfl rfl)
abbrev cX4_goesBack : ByteArray := prog_19_method_7_code
def yX4_goesBack : MethodName := ⟨RX4, "goesBack", "()V"⟩
def dkwX4_goesBack_1 : List UInt8 := [167, 255, 235, 177]
abbrev dktX4_goesBack_1 : List UInt8 := dkwX4_goesBack_1 ++ []
def dkwX4_goesBack_0 : List UInt8 := [3, 60, 27, 16, 6, 162, 0, 21, 42, 180, 0, 9, 27, 42, 180, 0, 18, 27, 46, 79, 132, 1, 1]
abbrev dktX4_goesBack_0 : List UInt8 := dkwX4_goesBack_0 ++ dktX4_goesBack_1
theorem dksX4_goesBack_0 : cX4_goesBack.data.toList.drop 0 = dktX4_goesBack_0 := by decide +kernel
theorem dksX4_goesBack_1 : cX4_goesBack.data.toList.drop 23 = dktX4_goesBack_1 := dk_seg dksX4_goesBack_0 23 rfl rfl
theorem dX4_goesBack_0 : decode cX4_goesBack 0 = .ok (.iconst 0, 1) := dk_3 (dk_at dksX4_goesBack_0 0 rfl rfl)
theorem dX4_goesBack_1 : decode cX4_goesBack 1 = .ok (.istore_n 1, 1) := dk_60 (dk_at dksX4_goesBack_0 1 rfl rfl)
theorem dX4_goesBack_2 : decode cX4_goesBack 2 = .ok (.iload_n 1, 1) := dk_27 (dk_at dksX4_goesBack_0 2 rfl rfl)
theorem dX4_goesBack_3 : decode cX4_goesBack 3 = .ok (.bipush 6, 2) := dk_16 6 (dk_at dksX4_goesBack_0 3 rfl rfl)
theorem dX4_goesBack_5 : decode cX4_goesBack 5 = .ok (.if_icmp .ge 21, 3) := dk_162 0 21 (dk_at dksX4_goesBack_0 5 rfl rfl)
theorem dX4_goesBack_8 : decode cX4_goesBack 8 = .ok (.aload_n 0, 1) := dk_42 (dk_at dksX4_goesBack_0 8 rfl rfl)
theorem dX4_goesBack_9 : decode cX4_goesBack 9 = .ok (.getfield 9, 3) := dk_180 0 9 (dk_at dksX4_goesBack_0 9 rfl rfl)
theorem dX4_goesBack_12 : decode cX4_goesBack 12 = .ok (.iload_n 1, 1) := dk_27 (dk_at dksX4_goesBack_0 12 rfl rfl)
theorem dX4_goesBack_13 : decode cX4_goesBack 13 = .ok (.aload_n 0, 1) := dk_42 (dk_at dksX4_goesBack_0 13 rfl rfl)
theorem dX4_goesBack_14 : decode cX4_goesBack 14 = .ok (.getfield 18, 3) := dk_180 0 18 (dk_at dksX4_goesBack_0 14 rfl rfl)
theorem dX4_goesBack_17 : decode cX4_goesBack 17 = .ok (.iload_n 1, 1) := dk_27 (dk_at dksX4_goesBack_0 17 rfl rfl)
theorem dX4_goesBack_18 : decode cX4_goesBack 18 = .ok (.iaload, 1) := dk_46 (dk_at dksX4_goesBack_0 18 rfl rfl)
theorem dX4_goesBack_19 : decode cX4_goesBack 19 = .ok (.iastore, 1) := dk_79 (dk_at dksX4_goesBack_0 19 rfl rfl)
theorem dX4_goesBack_20 : decode cX4_goesBack 20 = .ok (.iinc 1 1, 3) := dk_132 1 1 (dk_at dksX4_goesBack_0 20 rfl rfl)
theorem dX4_goesBack_23 : decode cX4_goesBack 23 = .ok (.goto (-21), 3) := dk_167 255 235 (dk_at dksX4_goesBack_1 0 rfl rfl)
theorem dX4_goesBack_26 : decode cX4_goesBack 26 = .ok (.return_, 1) := dk_177 (dk_at dksX4_goesBack_1 3 rfl rfl)
abbrev cX4_tens : ByteArray := prog_19_method_38_code
def yX4_tens : MethodName := ⟨RX4, "tens", "(I)J"⟩
def dkwX4_tens_0 : List UInt8 := [10, 64, 3, 62, 29, 26, 162, 0, 15, 31, 20, 0, 161, 105, 64, 132, 3, 1, 167, 255, 242, 31, 173]
abbrev dktX4_tens_0 : List UInt8 := dkwX4_tens_0 ++ []
theorem dksX4_tens_0 : cX4_tens.data.toList.drop 0 = dktX4_tens_0 := by decide +kernel
theorem dX4_tens_0 : decode cX4_tens 0 = .ok (.lconst 1, 1) := dk_10 (dk_at dksX4_tens_0 0 rfl rfl)
theorem dX4_tens_1 : decode cX4_tens 1 = .ok (.lstore_n 1, 1) := dk_64 (dk_at dksX4_tens_0 1 rfl rfl)
theorem dX4_tens_2 : decode cX4_tens 2 = .ok (.iconst 0, 1) := dk_3 (dk_at dksX4_tens_0 2 rfl rfl)
theorem dX4_tens_3 : decode cX4_tens 3 = .ok (.istore_n 3, 1) := dk_62 (dk_at dksX4_tens_0 3 rfl rfl)
theorem dX4_tens_4 : decode cX4_tens 4 = .ok (.iload_n 3, 1) := dk_29 (dk_at dksX4_tens_0 4 rfl rfl)
theorem dX4_tens_5 : decode cX4_tens 5 = .ok (.iload_n 0, 1) := dk_26 (dk_at dksX4_tens_0 5 rfl rfl)
theorem dX4_tens_6 : decode cX4_tens 6 = .ok (.if_icmp .ge 15, 3) := dk_162 0 15 (dk_at dksX4_tens_0 6 rfl rfl)
theorem dX4_tens_9 : decode cX4_tens 9 = .ok (.lload_n 1, 1) := dk_31 (dk_at dksX4_tens_0 9 rfl rfl)
theorem dX4_tens_10 : decode cX4_tens 10 = .ok (.ldc2_w 161, 3) := dk_20 0 161 (dk_at dksX4_tens_0 10 rfl rfl)
theorem dX4_tens_13 : decode cX4_tens 13 = .ok (.lmul, 1) := dk_105 (dk_at dksX4_tens_0 13 rfl rfl)
theorem dX4_tens_14 : decode cX4_tens 14 = .ok (.lstore_n 1, 1) := dk_64 (dk_at dksX4_tens_0 14 rfl rfl)
theorem dX4_tens_15 : decode cX4_tens 15 = .ok (.iinc 3 1, 3) := dk_132 3 1 (dk_at dksX4_tens_0 15 rfl rfl)
theorem dX4_tens_18 : decode cX4_tens 18 = .ok (.goto (-14), 3) := dk_167 255 242 (dk_at dksX4_tens_0 18 rfl rfl)
theorem dX4_tens_21 : decode cX4_tens 21 = .ok (.lload_n 1, 1) := dk_31 (dk_at dksX4_tens_0 21 rfl rfl)
theorem dX4_tens_22 : decode cX4_tens 22 = .ok (.lreturn, 1) := dk_173 (dk_at dksX4_tens_0 22 rfl rfl)
abbrev cX4_lowest : ByteArray := prog_19_method_42_code
def yX4_lowest : MethodName := ⟨RX4, "lowest", "(JJI)J"⟩
def dkwX4_lowest_2 : List UInt8 := [167, 0, 4, 32, 22, 5, 109, 173]
abbrev dktX4_lowest_2 : List UInt8 := dkwX4_lowest_2 ++ []
def dkwX4_lowest_1 : List UInt8 := [22, 5, 22, 7, 113, 55, 9, 22, 7, 55, 5, 22, 9, 55, 7, 167, 255, 234, 21, 4, 154, 0, 7, 30]
abbrev dktX4_lowest_1 : List UInt8 := dkwX4_lowest_1 ++ dktX4_lowest_2
def dkwX4_lowest_0 : List UInt8 := [30, 9, 148, 156, 0, 8, 30, 117, 167, 0, 4, 30, 55, 5, 32, 55, 7, 22, 7, 9, 148, 153, 0, 21]
abbrev dktX4_lowest_0 : List UInt8 := dkwX4_lowest_0 ++ dktX4_lowest_1
theorem dksX4_lowest_0 : cX4_lowest.data.toList.drop 0 = dktX4_lowest_0 := by decide +kernel
theorem dksX4_lowest_1 : cX4_lowest.data.toList.drop 24 = dktX4_lowest_1 := dk_seg dksX4_lowest_0 24 rfl rfl
theorem dksX4_lowest_2 : cX4_lowest.data.toList.drop 48 = dktX4_lowest_2 := dk_seg dksX4_lowest_1 24 rfl rfl
theorem dX4_lowest_0 : decode cX4_lowest 0 = .ok (.lload_n 0, 1) := dk_30 (dk_at dksX4_lowest_0 0 rfl rfl)
theorem dX4_lowest_1 : decode cX4_lowest 1 = .ok (.lconst 0, 1) := dk_9 (dk_at dksX4_lowest_0 1 rfl rfl)
theorem dX4_lowest_2 : decode cX4_lowest 2 = .ok (.lcmp, 1) := dk_148 (dk_at dksX4_lowest_0 2 rfl rfl)
theorem dX4_lowest_3 : decode cX4_lowest 3 = .ok (.ifCond .ge 8, 3) := dk_156 0 8 (dk_at dksX4_lowest_0 3 rfl rfl)
theorem dX4_lowest_6 : decode cX4_lowest 6 = .ok (.lload_n 0, 1) := dk_30 (dk_at dksX4_lowest_0 6 rfl rfl)
theorem dX4_lowest_7 : decode cX4_lowest 7 = .ok (.lneg, 1) := dk_117 (dk_at dksX4_lowest_0 7 rfl rfl)
theorem dX4_lowest_8 : decode cX4_lowest 8 = .ok (.goto 4, 3) := dk_167 0 4 (dk_at dksX4_lowest_0 8 rfl rfl)
theorem dX4_lowest_11 : decode cX4_lowest 11 = .ok (.lload_n 0, 1) := dk_30 (dk_at dksX4_lowest_0 11 rfl rfl)
theorem dX4_lowest_12 : decode cX4_lowest 12 = .ok (.lstore 5, 2) := dk_55 5 (dk_at dksX4_lowest_0 12 rfl rfl)
theorem dX4_lowest_14 : decode cX4_lowest 14 = .ok (.lload_n 2, 1) := dk_32 (dk_at dksX4_lowest_0 14 rfl rfl)
theorem dX4_lowest_15 : decode cX4_lowest 15 = .ok (.lstore 7, 2) := dk_55 7 (dk_at dksX4_lowest_0 15 rfl rfl)
theorem dX4_lowest_17 : decode cX4_lowest 17 = .ok (.lload 7, 2) := dk_22 7 (dk_at dksX4_lowest_0 17 rfl rfl)
theorem dX4_lowest_19 : decode cX4_lowest 19 = .ok (.lconst 0, 1) := dk_9 (dk_at dksX4_lowest_0 19 rfl rfl)
theorem dX4_lowest_20 : decode cX4_lowest 20 = .ok (.lcmp, 1) := dk_148 (dk_at dksX4_lowest_0 20 rfl rfl)
theorem dX4_lowest_21 : decode cX4_lowest 21 = .ok (.ifCond .eq 21, 3) := dk_153 0 21 (dk_at dksX4_lowest_0 21 rfl rfl)
theorem dX4_lowest_24 : decode cX4_lowest 24 = .ok (.lload 5, 2) := dk_22 5 (dk_at dksX4_lowest_1 0 rfl rfl)
theorem dX4_lowest_26 : decode cX4_lowest 26 = .ok (.lload 7, 2) := dk_22 7 (dk_at dksX4_lowest_1 2 rfl rfl)
theorem dX4_lowest_28 : decode cX4_lowest 28 = .ok (.lrem, 1) := dk_113 (dk_at dksX4_lowest_1 4 rfl rfl)
theorem dX4_lowest_29 : decode cX4_lowest 29 = .ok (.lstore 9, 2) := dk_55 9 (dk_at dksX4_lowest_1 5 rfl rfl)
theorem dX4_lowest_31 : decode cX4_lowest 31 = .ok (.lload 7, 2) := dk_22 7 (dk_at dksX4_lowest_1 7 rfl rfl)
theorem dX4_lowest_33 : decode cX4_lowest 33 = .ok (.lstore 5, 2) := dk_55 5 (dk_at dksX4_lowest_1 9 rfl rfl)
theorem dX4_lowest_35 : decode cX4_lowest 35 = .ok (.lload 9, 2) := dk_22 9 (dk_at dksX4_lowest_1 11 rfl rfl)
theorem dX4_lowest_37 : decode cX4_lowest 37 = .ok (.lstore 7, 2) := dk_55 7 (dk_at dksX4_lowest_1 13 rfl rfl)
theorem dX4_lowest_39 : decode cX4_lowest 39 = .ok (.goto (-22), 3) := dk_167 255 234 (dk_at dksX4_lowest_1 15 rfl rfl)
theorem dX4_lowest_42 : decode cX4_lowest 42 = .ok (.iload 4, 2) := dk_21 4 (dk_at dksX4_lowest_1 18 rfl rfl)
theorem dX4_lowest_44 : decode cX4_lowest 44 = .ok (.ifCond .ne 7, 3) := dk_154 0 7 (dk_at dksX4_lowest_1 20 rfl rfl)
theorem dX4_lowest_47 : decode cX4_lowest 47 = .ok (.lload_n 0, 1) := dk_30 (dk_at dksX4_lowest_1 23 rfl rfl)
theorem dX4_lowest_48 : decode cX4_lowest 48 = .ok (.goto 4, 3) := dk_167 0 4 (dk_at dksX4_lowest_2 0 rfl rfl)
theorem dX4_lowest_51 : decode cX4_lowest 51 = .ok (.lload_n 2, 1) := dk_32 (dk_at dksX4_lowest_2 3 rfl rfl)
theorem dX4_lowest_52 : decode cX4_lowest 52 = .ok (.lload 5, 2) := dk_22 5 (dk_at dksX4_lowest_2 4 rfl rfl)
theorem dX4_lowest_54 : decode cX4_lowest 54 = .ok (.ldiv, 1) := dk_109 (dk_at dksX4_lowest_2 6 rfl rfl)
theorem dX4_lowest_55 : decode cX4_lowest 55 = .ok (.lreturn, 1) := dk_173 (dk_at dksX4_lowest_2 7 rfl rfl)
abbrev cX4_mean : ByteArray := prog_19_method_44_code
def yX4_mean : MethodName := ⟨RX4, "mean", "(IIII)J"⟩
def dkwX4_mean_4 : List UInt8 := [173]
abbrev dktX4_mean_4 : List UInt8 := dkwX4_mean_4 ++ []
def dkwX4_mean_3 : List UInt8 := [21, 7, 47, 105, 97, 55, 5, 132, 7, 1, 167, 255, 223, 22, 5, 29, 184, 0, 190, 21, 4, 184, 0, 194]
abbrev dktX4_mean_3 : List UInt8 := dkwX4_mean_3 ++ dktX4_mean_4
def dkwX4_mean_2 : List UInt8 := [21, 7, 17, 22, 101, 162, 0, 31, 22, 5, 21, 7, 16, 21, 108, 16, 21, 112, 133, 42, 180, 0, 28]
abbrev dktX4_mean_2 : List UInt8 := dkwX4_mean_2 ++ dktX4_mean_3
def dkwX4_mean_1 : List UInt8 := [184, 0, 48, 154, 0, 7, 20, 0, 184, 173, 42, 27, 28, 29, 3, 182, 0, 186, 9, 55, 5, 3, 54, 7]
abbrev dktX4_mean_1 : List UInt8 := dkwX4_mean_1 ++ dktX4_mean_2
def dkwX4_mean_0 : List UInt8 := [42, 27, 28, 182, 0, 180, 153, 0, 23, 29, 3, 16, 12, 184, 0, 48, 153, 0, 13, 21, 4, 3, 4]
abbrev dktX4_mean_0 : List UInt8 := dkwX4_mean_0 ++ dktX4_mean_1
theorem dksX4_mean_0 : cX4_mean.data.toList.drop 0 = dktX4_mean_0 := by decide +kernel
theorem dksX4_mean_1 : cX4_mean.data.toList.drop 23 = dktX4_mean_1 := dk_seg dksX4_mean_0 23 rfl rfl
theorem dksX4_mean_2 : cX4_mean.data.toList.drop 47 = dktX4_mean_2 := dk_seg dksX4_mean_1 24 rfl rfl
theorem dksX4_mean_3 : cX4_mean.data.toList.drop 70 = dktX4_mean_3 := dk_seg dksX4_mean_2 23 rfl rfl
theorem dksX4_mean_4 : cX4_mean.data.toList.drop 94 = dktX4_mean_4 := dk_seg dksX4_mean_3 24 rfl rfl
theorem dX4_mean_0 : decode cX4_mean 0 = .ok (.aload_n 0, 1) := dk_42 (dk_at dksX4_mean_0 0 rfl rfl)
theorem dX4_mean_1 : decode cX4_mean 1 = .ok (.iload_n 1, 1) := dk_27 (dk_at dksX4_mean_0 1 rfl rfl)
theorem dX4_mean_2 : decode cX4_mean 2 = .ok (.iload_n 2, 1) := dk_28 (dk_at dksX4_mean_0 2 rfl rfl)
theorem dX4_mean_3 : decode cX4_mean 3 = .ok (.invokevirtual 180, 3) := dk_182 0 180 (dk_at dksX4_mean_0 3 rfl rfl)
theorem dX4_mean_6 : decode cX4_mean 6 = .ok (.ifCond .eq 23, 3) := dk_153 0 23 (dk_at dksX4_mean_0 6 rfl rfl)
theorem dX4_mean_9 : decode cX4_mean 9 = .ok (.iload_n 3, 1) := dk_29 (dk_at dksX4_mean_0 9 rfl rfl)
theorem dX4_mean_10 : decode cX4_mean 10 = .ok (.iconst 0, 1) := dk_3 (dk_at dksX4_mean_0 10 rfl rfl)
theorem dX4_mean_11 : decode cX4_mean 11 = .ok (.bipush 12, 2) := dk_16 12 (dk_at dksX4_mean_0 11 rfl rfl)
theorem dX4_mean_13 : decode cX4_mean 13 = .ok (.invokestatic 48, 3) := dk_184 0 48 (dk_at dksX4_mean_0 13 rfl rfl)
theorem dX4_mean_16 : decode cX4_mean 16 = .ok (.ifCond .eq 13, 3) := dk_153 0 13 (dk_at dksX4_mean_0 16 rfl rfl)
theorem dX4_mean_19 : decode cX4_mean 19 = .ok (.iload 4, 2) := dk_21 4 (dk_at dksX4_mean_0 19 rfl rfl)
theorem dX4_mean_21 : decode cX4_mean 21 = .ok (.iconst 0, 1) := dk_3 (dk_at dksX4_mean_0 21 rfl rfl)
theorem dX4_mean_22 : decode cX4_mean 22 = .ok (.iconst 1, 1) := dk_4 (dk_at dksX4_mean_0 22 rfl rfl)
theorem dX4_mean_23 : decode cX4_mean 23 = .ok (.invokestatic 48, 3) := dk_184 0 48 (dk_at dksX4_mean_1 0 rfl rfl)
theorem dX4_mean_26 : decode cX4_mean 26 = .ok (.ifCond .ne 7, 3) := dk_154 0 7 (dk_at dksX4_mean_1 3 rfl rfl)
theorem dX4_mean_29 : decode cX4_mean 29 = .ok (.ldc2_w 184, 3) := dk_20 0 184 (dk_at dksX4_mean_1 6 rfl rfl)
theorem dX4_mean_32 : decode cX4_mean 32 = .ok (.lreturn, 1) := dk_173 (dk_at dksX4_mean_1 9 rfl rfl)
theorem dX4_mean_33 : decode cX4_mean 33 = .ok (.aload_n 0, 1) := dk_42 (dk_at dksX4_mean_1 10 rfl rfl)
theorem dX4_mean_34 : decode cX4_mean 34 = .ok (.iload_n 1, 1) := dk_27 (dk_at dksX4_mean_1 11 rfl rfl)
theorem dX4_mean_35 : decode cX4_mean 35 = .ok (.iload_n 2, 1) := dk_28 (dk_at dksX4_mean_1 12 rfl rfl)
theorem dX4_mean_36 : decode cX4_mean 36 = .ok (.iload_n 3, 1) := dk_29 (dk_at dksX4_mean_1 13 rfl rfl)
theorem dX4_mean_37 : decode cX4_mean 37 = .ok (.iconst 0, 1) := dk_3 (dk_at dksX4_mean_1 14 rfl rfl)
theorem dX4_mean_38 : decode cX4_mean 38 = .ok (.invokevirtual 186, 3) := dk_182 0 186 (dk_at dksX4_mean_1 15 rfl rfl)
theorem dX4_mean_41 : decode cX4_mean 41 = .ok (.lconst 0, 1) := dk_9 (dk_at dksX4_mean_1 18 rfl rfl)
theorem dX4_mean_42 : decode cX4_mean 42 = .ok (.lstore 5, 2) := dk_55 5 (dk_at dksX4_mean_1 19 rfl rfl)
theorem dX4_mean_44 : decode cX4_mean 44 = .ok (.iconst 0, 1) := dk_3 (dk_at dksX4_mean_1 21 rfl rfl)
theorem dX4_mean_45 : decode cX4_mean 45 = .ok (.istore 7, 2) := dk_54 7 (dk_at dksX4_mean_1 22 rfl rfl)
theorem dX4_mean_47 : decode cX4_mean 47 = .ok (.iload 7, 2) := dk_21 7 (dk_at dksX4_mean_2 0 rfl rfl)
theorem dX4_mean_49 : decode cX4_mean 49 = .ok (.sipush 5733, 3) := dk_17 22 101 (dk_at dksX4_mean_2 2 rfl rfl)
theorem dX4_mean_52 : decode cX4_mean 52 = .ok (.if_icmp .ge 31, 3) := dk_162 0 31 (dk_at dksX4_mean_2 5 rfl rfl)
theorem dX4_mean_55 : decode cX4_mean 55 = .ok (.lload 5, 2) := dk_22 5 (dk_at dksX4_mean_2 8 rfl rfl)
theorem dX4_mean_57 : decode cX4_mean 57 = .ok (.iload 7, 2) := dk_21 7 (dk_at dksX4_mean_2 10 rfl rfl)
theorem dX4_mean_59 : decode cX4_mean 59 = .ok (.bipush 21, 2) := dk_16 21 (dk_at dksX4_mean_2 12 rfl rfl)
theorem dX4_mean_61 : decode cX4_mean 61 = .ok (.idiv, 1) := dk_108 (dk_at dksX4_mean_2 14 rfl rfl)
theorem dX4_mean_62 : decode cX4_mean 62 = .ok (.bipush 21, 2) := dk_16 21 (dk_at dksX4_mean_2 15 rfl rfl)
theorem dX4_mean_64 : decode cX4_mean 64 = .ok (.irem, 1) := dk_112 (dk_at dksX4_mean_2 17 rfl rfl)
theorem dX4_mean_65 : decode cX4_mean 65 = .ok (.i2l, 1) := dk_133 (dk_at dksX4_mean_2 18 rfl rfl)
theorem dX4_mean_66 : decode cX4_mean 66 = .ok (.aload_n 0, 1) := dk_42 (dk_at dksX4_mean_2 19 rfl rfl)
theorem dX4_mean_67 : decode cX4_mean 67 = .ok (.getfield 28, 3) := dk_180 0 28 (dk_at dksX4_mean_2 20 rfl rfl)
theorem dX4_mean_70 : decode cX4_mean 70 = .ok (.iload 7, 2) := dk_21 7 (dk_at dksX4_mean_3 0 rfl rfl)
theorem dX4_mean_72 : decode cX4_mean 72 = .ok (.laload, 1) := dk_47 (dk_at dksX4_mean_3 2 rfl rfl)
theorem dX4_mean_73 : decode cX4_mean 73 = .ok (.lmul, 1) := dk_105 (dk_at dksX4_mean_3 3 rfl rfl)
theorem dX4_mean_74 : decode cX4_mean 74 = .ok (.ladd, 1) := dk_97 (dk_at dksX4_mean_3 4 rfl rfl)
theorem dX4_mean_75 : decode cX4_mean 75 = .ok (.lstore 5, 2) := dk_55 5 (dk_at dksX4_mean_3 5 rfl rfl)
theorem dX4_mean_77 : decode cX4_mean 77 = .ok (.iinc 7 1, 3) := dk_132 7 1 (dk_at dksX4_mean_3 7 rfl rfl)
theorem dX4_mean_80 : decode cX4_mean 80 = .ok (.goto (-33), 3) := dk_167 255 223 (dk_at dksX4_mean_3 10 rfl rfl)
theorem dX4_mean_83 : decode cX4_mean 83 = .ok (.lload 5, 2) := dk_22 5 (dk_at dksX4_mean_3 13 rfl rfl)
theorem dX4_mean_85 : decode cX4_mean 85 = .ok (.iload_n 3, 1) := dk_29 (dk_at dksX4_mean_3 15 rfl rfl)
theorem dX4_mean_86 : decode cX4_mean 86 = .ok (.invokestatic 190, 3) := dk_184 0 190 (dk_at dksX4_mean_3 16 rfl rfl)
theorem dX4_mean_89 : decode cX4_mean 89 = .ok (.iload 4, 2) := dk_21 4 (dk_at dksX4_mean_3 19 rfl rfl)
theorem dX4_mean_91 : decode cX4_mean 91 = .ok (.invokestatic 194, 3) := dk_184 0 194 (dk_at dksX4_mean_3 21 rfl rfl)
theorem dX4_mean_94 : decode cX4_mean 94 = .ok (.lreturn, 1) := dk_173 (dk_at dksX4_mean_4 0 rfl rfl)
abbrev cX4_series : ByteArray := prog_19_method_46_code
def yX4_series : MethodName := ⟨RX4, "series", "(IIII)J"⟩
def dkwX4_series_2 : List UInt8 := [184, 0, 190, 21, 4, 184, 0, 194, 173]
abbrev dktX4_series_2 : List UInt8 := dkwX4_series_2 ++ []
def dkwX4_series_1 : List UInt8 := [184, 0, 48, 154, 0, 7, 20, 0, 184, 173, 42, 27, 28, 3, 3, 29, 182, 0, 198, 5, 29, 104, 4, 100]
abbrev dktX4_series_1 : List UInt8 := dkwX4_series_1 ++ dktX4_series_2
def dkwX4_series_0 : List UInt8 := [42, 27, 28, 182, 0, 180, 153, 0, 22, 29, 4, 8, 184, 0, 48, 153, 0, 13, 21, 4, 3, 4]
abbrev dktX4_series_0 : List UInt8 := dkwX4_series_0 ++ dktX4_series_1
theorem dksX4_series_0 : cX4_series.data.toList.drop 0 = dktX4_series_0 := by decide +kernel
theorem dksX4_series_1 : cX4_series.data.toList.drop 22 = dktX4_series_1 := dk_seg dksX4_series_0 22 rfl rfl
theorem dksX4_series_2 : cX4_series.data.toList.drop 46 = dktX4_series_2 := dk_seg dksX4_series_1 24 rfl rfl
theorem dX4_series_0 : decode cX4_series 0 = .ok (.aload_n 0, 1) := dk_42 (dk_at dksX4_series_0 0 rfl rfl)
theorem dX4_series_1 : decode cX4_series 1 = .ok (.iload_n 1, 1) := dk_27 (dk_at dksX4_series_0 1 rfl rfl)
theorem dX4_series_2 : decode cX4_series 2 = .ok (.iload_n 2, 1) := dk_28 (dk_at dksX4_series_0 2 rfl rfl)
theorem dX4_series_3 : decode cX4_series 3 = .ok (.invokevirtual 180, 3) := dk_182 0 180 (dk_at dksX4_series_0 3 rfl rfl)
theorem dX4_series_6 : decode cX4_series 6 = .ok (.ifCond .eq 22, 3) := dk_153 0 22 (dk_at dksX4_series_0 6 rfl rfl)
theorem dX4_series_9 : decode cX4_series 9 = .ok (.iload_n 3, 1) := dk_29 (dk_at dksX4_series_0 9 rfl rfl)
theorem dX4_series_10 : decode cX4_series 10 = .ok (.iconst 1, 1) := dk_4 (dk_at dksX4_series_0 10 rfl rfl)
theorem dX4_series_11 : decode cX4_series 11 = .ok (.iconst 5, 1) := dk_8 (dk_at dksX4_series_0 11 rfl rfl)
theorem dX4_series_12 : decode cX4_series 12 = .ok (.invokestatic 48, 3) := dk_184 0 48 (dk_at dksX4_series_0 12 rfl rfl)
theorem dX4_series_15 : decode cX4_series 15 = .ok (.ifCond .eq 13, 3) := dk_153 0 13 (dk_at dksX4_series_0 15 rfl rfl)
theorem dX4_series_18 : decode cX4_series 18 = .ok (.iload 4, 2) := dk_21 4 (dk_at dksX4_series_0 18 rfl rfl)
theorem dX4_series_20 : decode cX4_series 20 = .ok (.iconst 0, 1) := dk_3 (dk_at dksX4_series_0 20 rfl rfl)
theorem dX4_series_21 : decode cX4_series 21 = .ok (.iconst 1, 1) := dk_4 (dk_at dksX4_series_0 21 rfl rfl)
theorem dX4_series_22 : decode cX4_series 22 = .ok (.invokestatic 48, 3) := dk_184 0 48 (dk_at dksX4_series_1 0 rfl rfl)
theorem dX4_series_25 : decode cX4_series 25 = .ok (.ifCond .ne 7, 3) := dk_154 0 7 (dk_at dksX4_series_1 3 rfl rfl)
theorem dX4_series_28 : decode cX4_series 28 = .ok (.ldc2_w 184, 3) := dk_20 0 184 (dk_at dksX4_series_1 6 rfl rfl)
theorem dX4_series_31 : decode cX4_series 31 = .ok (.lreturn, 1) := dk_173 (dk_at dksX4_series_1 9 rfl rfl)
theorem dX4_series_32 : decode cX4_series 32 = .ok (.aload_n 0, 1) := dk_42 (dk_at dksX4_series_1 10 rfl rfl)
theorem dX4_series_33 : decode cX4_series 33 = .ok (.iload_n 1, 1) := dk_27 (dk_at dksX4_series_1 11 rfl rfl)
theorem dX4_series_34 : decode cX4_series 34 = .ok (.iload_n 2, 1) := dk_28 (dk_at dksX4_series_1 12 rfl rfl)
theorem dX4_series_35 : decode cX4_series 35 = .ok (.iconst 0, 1) := dk_3 (dk_at dksX4_series_1 13 rfl rfl)
theorem dX4_series_36 : decode cX4_series 36 = .ok (.iconst 0, 1) := dk_3 (dk_at dksX4_series_1 14 rfl rfl)
theorem dX4_series_37 : decode cX4_series 37 = .ok (.iload_n 3, 1) := dk_29 (dk_at dksX4_series_1 15 rfl rfl)
theorem dX4_series_38 : decode cX4_series 38 = .ok (.invokevirtual 198, 3) := dk_182 0 198 (dk_at dksX4_series_1 16 rfl rfl)
theorem dX4_series_41 : decode cX4_series 41 = .ok (.iconst 2, 1) := dk_5 (dk_at dksX4_series_1 19 rfl rfl)
theorem dX4_series_42 : decode cX4_series 42 = .ok (.iload_n 3, 1) := dk_29 (dk_at dksX4_series_1 20 rfl rfl)
theorem dX4_series_43 : decode cX4_series 43 = .ok (.imul, 1) := dk_104 (dk_at dksX4_series_1 21 rfl rfl)
theorem dX4_series_44 : decode cX4_series 44 = .ok (.iconst 1, 1) := dk_4 (dk_at dksX4_series_1 22 rfl rfl)
theorem dX4_series_45 : decode cX4_series 45 = .ok (.isub, 1) := dk_100 (dk_at dksX4_series_1 23 rfl rfl)
theorem dX4_series_46 : decode cX4_series 46 = .ok (.invokestatic 190, 3) := dk_184 0 190 (dk_at dksX4_series_2 0 rfl rfl)
theorem dX4_series_49 : decode cX4_series 49 = .ok (.iload 4, 2) := dk_21 4 (dk_at dksX4_series_2 3 rfl rfl)
theorem dX4_series_51 : decode cX4_series 51 = .ok (.invokestatic 194, 3) := dk_184 0 194 (dk_at dksX4_series_2 5 rfl rfl)
theorem dX4_series_54 : decode cX4_series 54 = .ok (.lreturn, 1) := dk_173 (dk_at dksX4_series_2 8 rfl rfl)
abbrev cX4_firsts : ByteArray := prog_19_method_45_code
def yX4_firsts : MethodName := ⟨RX4, "firsts", "(IIIII)J"⟩
def dkwX4_firsts_7 : List UInt8 := [28, 96, 21, 9, 79, 42, 180, 0, 9, 3, 92, 46, 4, 100, 79, 22, 10, 173]
abbrev dktX4_firsts_7 : List UInt8 := dkwX4_firsts_7 ++ []
def dkwX4_firsts_6 : List UInt8 := [21, 5, 182, 0, 198, 105, 97, 55, 10, 42, 180, 0, 9, 4, 27, 96, 21, 8, 79, 42, 180, 0, 9, 4]
abbrev dktX4_firsts_6 : List UInt8 := dkwX4_firsts_6 ++ dktX4_firsts_7
def dkwX4_firsts_5 : List UInt8 := [42, 21, 9, 182, 0, 151, 79, 22, 10, 16, 10, 21, 7, 100, 133, 42, 27, 28, 29, 21, 4, 4, 96]
abbrev dktX4_firsts_5 : List UInt8 := dkwX4_firsts_5 ++ dktX4_firsts_6
def dkwX4_firsts_4 : List UInt8 := [105, 55, 10, 42, 180, 0, 9, 4, 27, 96, 42, 21, 8, 182, 0, 154, 79, 42, 180, 0, 9, 4, 28, 96]
abbrev dktX4_firsts_4 : List UInt8 := dkwX4_firsts_4 ++ dktX4_firsts_5
def dkwX4_firsts_3 : List UInt8 := [54, 9, 42, 27, 28, 182, 0, 157, 21, 7, 133, 42, 27, 28, 29, 4, 96, 21, 4, 21, 5, 182, 0, 198]
abbrev dktX4_firsts_3 : List UInt8 := dkwX4_firsts_3 ++ dktX4_firsts_4
def dkwX4_firsts_2 : List UInt8 := [182, 0, 148, 54, 7, 42, 180, 0, 9, 4, 27, 96, 46, 54, 8, 42, 180, 0, 9, 4, 28, 96, 46]
abbrev dktX4_firsts_2 : List UInt8 := dkwX4_firsts_2 ++ dktX4_firsts_3
def dkwX4_firsts_1 : List UInt8 := [160, 0, 19, 29, 21, 5, 160, 0, 11, 21, 6, 184, 0, 190, 167, 0, 4, 9, 173, 42, 27, 28]
abbrev dktX4_firsts_1 : List UInt8 := dkwX4_firsts_1 ++ dktX4_firsts_2
def dkwX4_firsts_0 : List UInt8 := [5, 21, 5, 104, 4, 100, 29, 100, 21, 4, 100, 54, 6, 29, 21, 5, 159, 0, 10, 21, 4, 21, 5]
abbrev dktX4_firsts_0 : List UInt8 := dkwX4_firsts_0 ++ dktX4_firsts_1
theorem dksX4_firsts_0 : cX4_firsts.data.toList.drop 0 = dktX4_firsts_0 := by decide +kernel
theorem dksX4_firsts_1 : cX4_firsts.data.toList.drop 23 = dktX4_firsts_1 := dk_seg dksX4_firsts_0 23 rfl rfl
theorem dksX4_firsts_2 : cX4_firsts.data.toList.drop 45 = dktX4_firsts_2 := dk_seg dksX4_firsts_1 22 rfl rfl
theorem dksX4_firsts_3 : cX4_firsts.data.toList.drop 68 = dktX4_firsts_3 := dk_seg dksX4_firsts_2 23 rfl rfl
theorem dksX4_firsts_4 : cX4_firsts.data.toList.drop 92 = dktX4_firsts_4 := dk_seg dksX4_firsts_3 24 rfl rfl
theorem dksX4_firsts_5 : cX4_firsts.data.toList.drop 116 = dktX4_firsts_5 := dk_seg dksX4_firsts_4 24 rfl rfl
theorem dksX4_firsts_6 : cX4_firsts.data.toList.drop 139 = dktX4_firsts_6 := dk_seg dksX4_firsts_5 23 rfl rfl
theorem dksX4_firsts_7 : cX4_firsts.data.toList.drop 163 = dktX4_firsts_7 := dk_seg dksX4_firsts_6 24 rfl rfl
theorem dX4_firsts_0 : decode cX4_firsts 0 = .ok (.iconst 2, 1) := dk_5 (dk_at dksX4_firsts_0 0 rfl rfl)
theorem dX4_firsts_1 : decode cX4_firsts 1 = .ok (.iload 5, 2) := dk_21 5 (dk_at dksX4_firsts_0 1 rfl rfl)
theorem dX4_firsts_3 : decode cX4_firsts 3 = .ok (.imul, 1) := dk_104 (dk_at dksX4_firsts_0 3 rfl rfl)
theorem dX4_firsts_4 : decode cX4_firsts 4 = .ok (.iconst 1, 1) := dk_4 (dk_at dksX4_firsts_0 4 rfl rfl)
theorem dX4_firsts_5 : decode cX4_firsts 5 = .ok (.isub, 1) := dk_100 (dk_at dksX4_firsts_0 5 rfl rfl)
theorem dX4_firsts_6 : decode cX4_firsts 6 = .ok (.iload_n 3, 1) := dk_29 (dk_at dksX4_firsts_0 6 rfl rfl)
theorem dX4_firsts_7 : decode cX4_firsts 7 = .ok (.isub, 1) := dk_100 (dk_at dksX4_firsts_0 7 rfl rfl)
theorem dX4_firsts_8 : decode cX4_firsts 8 = .ok (.iload 4, 2) := dk_21 4 (dk_at dksX4_firsts_0 8 rfl rfl)
theorem dX4_firsts_10 : decode cX4_firsts 10 = .ok (.isub, 1) := dk_100 (dk_at dksX4_firsts_0 10 rfl rfl)
theorem dX4_firsts_11 : decode cX4_firsts 11 = .ok (.istore 6, 2) := dk_54 6 (dk_at dksX4_firsts_0 11 rfl rfl)
theorem dX4_firsts_13 : decode cX4_firsts 13 = .ok (.iload_n 3, 1) := dk_29 (dk_at dksX4_firsts_0 13 rfl rfl)
theorem dX4_firsts_14 : decode cX4_firsts 14 = .ok (.iload 5, 2) := dk_21 5 (dk_at dksX4_firsts_0 14 rfl rfl)
theorem dX4_firsts_16 : decode cX4_firsts 16 = .ok (.if_icmp .eq 10, 3) := dk_159 0 10 (dk_at dksX4_firsts_0 16 rfl rfl)
theorem dX4_firsts_19 : decode cX4_firsts 19 = .ok (.iload 4, 2) := dk_21 4 (dk_at dksX4_firsts_0 19 rfl rfl)
theorem dX4_firsts_21 : decode cX4_firsts 21 = .ok (.iload 5, 2) := dk_21 5 (dk_at dksX4_firsts_0 21 rfl rfl)
theorem dX4_firsts_23 : decode cX4_firsts 23 = .ok (.if_icmp .ne 19, 3) := dk_160 0 19 (dk_at dksX4_firsts_1 0 rfl rfl)
theorem dX4_firsts_26 : decode cX4_firsts 26 = .ok (.iload_n 3, 1) := dk_29 (dk_at dksX4_firsts_1 3 rfl rfl)
theorem dX4_firsts_27 : decode cX4_firsts 27 = .ok (.iload 5, 2) := dk_21 5 (dk_at dksX4_firsts_1 4 rfl rfl)
theorem dX4_firsts_29 : decode cX4_firsts 29 = .ok (.if_icmp .ne 11, 3) := dk_160 0 11 (dk_at dksX4_firsts_1 6 rfl rfl)
theorem dX4_firsts_32 : decode cX4_firsts 32 = .ok (.iload 6, 2) := dk_21 6 (dk_at dksX4_firsts_1 9 rfl rfl)
theorem dX4_firsts_34 : decode cX4_firsts 34 = .ok (.invokestatic 190, 3) := dk_184 0 190 (dk_at dksX4_firsts_1 11 rfl rfl)
theorem dX4_firsts_37 : decode cX4_firsts 37 = .ok (.goto 4, 3) := dk_167 0 4 (dk_at dksX4_firsts_1 14 rfl rfl)
theorem dX4_firsts_40 : decode cX4_firsts 40 = .ok (.lconst 0, 1) := dk_9 (dk_at dksX4_firsts_1 17 rfl rfl)
theorem dX4_firsts_41 : decode cX4_firsts 41 = .ok (.lreturn, 1) := dk_173 (dk_at dksX4_firsts_1 18 rfl rfl)
theorem dX4_firsts_42 : decode cX4_firsts 42 = .ok (.aload_n 0, 1) := dk_42 (dk_at dksX4_firsts_1 19 rfl rfl)
theorem dX4_firsts_43 : decode cX4_firsts 43 = .ok (.iload_n 1, 1) := dk_27 (dk_at dksX4_firsts_1 20 rfl rfl)
theorem dX4_firsts_44 : decode cX4_firsts 44 = .ok (.iload_n 2, 1) := dk_28 (dk_at dksX4_firsts_1 21 rfl rfl)
theorem dX4_firsts_45 : decode cX4_firsts 45 = .ok (.invokevirtual 148, 3) := dk_182 0 148 (dk_at dksX4_firsts_2 0 rfl rfl)
theorem dX4_firsts_48 : decode cX4_firsts 48 = .ok (.istore 7, 2) := dk_54 7 (dk_at dksX4_firsts_2 3 rfl rfl)
theorem dX4_firsts_50 : decode cX4_firsts 50 = .ok (.aload_n 0, 1) := dk_42 (dk_at dksX4_firsts_2 5 rfl rfl)
theorem dX4_firsts_51 : decode cX4_firsts 51 = .ok (.getfield 9, 3) := dk_180 0 9 (dk_at dksX4_firsts_2 6 rfl rfl)
theorem dX4_firsts_54 : decode cX4_firsts 54 = .ok (.iconst 1, 1) := dk_4 (dk_at dksX4_firsts_2 9 rfl rfl)
theorem dX4_firsts_55 : decode cX4_firsts 55 = .ok (.iload_n 1, 1) := dk_27 (dk_at dksX4_firsts_2 10 rfl rfl)
theorem dX4_firsts_56 : decode cX4_firsts 56 = .ok (.iadd, 1) := dk_96 (dk_at dksX4_firsts_2 11 rfl rfl)
theorem dX4_firsts_57 : decode cX4_firsts 57 = .ok (.iaload, 1) := dk_46 (dk_at dksX4_firsts_2 12 rfl rfl)
theorem dX4_firsts_58 : decode cX4_firsts 58 = .ok (.istore 8, 2) := dk_54 8 (dk_at dksX4_firsts_2 13 rfl rfl)
theorem dX4_firsts_60 : decode cX4_firsts 60 = .ok (.aload_n 0, 1) := dk_42 (dk_at dksX4_firsts_2 15 rfl rfl)
theorem dX4_firsts_61 : decode cX4_firsts 61 = .ok (.getfield 9, 3) := dk_180 0 9 (dk_at dksX4_firsts_2 16 rfl rfl)
theorem dX4_firsts_64 : decode cX4_firsts 64 = .ok (.iconst 1, 1) := dk_4 (dk_at dksX4_firsts_2 19 rfl rfl)
theorem dX4_firsts_65 : decode cX4_firsts 65 = .ok (.iload_n 2, 1) := dk_28 (dk_at dksX4_firsts_2 20 rfl rfl)
theorem dX4_firsts_66 : decode cX4_firsts 66 = .ok (.iadd, 1) := dk_96 (dk_at dksX4_firsts_2 21 rfl rfl)
theorem dX4_firsts_67 : decode cX4_firsts 67 = .ok (.iaload, 1) := dk_46 (dk_at dksX4_firsts_2 22 rfl rfl)
theorem dX4_firsts_68 : decode cX4_firsts 68 = .ok (.istore 9, 2) := dk_54 9 (dk_at dksX4_firsts_3 0 rfl rfl)
theorem dX4_firsts_70 : decode cX4_firsts 70 = .ok (.aload_n 0, 1) := dk_42 (dk_at dksX4_firsts_3 2 rfl rfl)
theorem dX4_firsts_71 : decode cX4_firsts 71 = .ok (.iload_n 1, 1) := dk_27 (dk_at dksX4_firsts_3 3 rfl rfl)
theorem dX4_firsts_72 : decode cX4_firsts 72 = .ok (.iload_n 2, 1) := dk_28 (dk_at dksX4_firsts_3 4 rfl rfl)
theorem dX4_firsts_73 : decode cX4_firsts 73 = .ok (.invokevirtual 157, 3) := dk_182 0 157 (dk_at dksX4_firsts_3 5 rfl rfl)
theorem dX4_firsts_76 : decode cX4_firsts 76 = .ok (.iload 7, 2) := dk_21 7 (dk_at dksX4_firsts_3 8 rfl rfl)
theorem dX4_firsts_78 : decode cX4_firsts 78 = .ok (.i2l, 1) := dk_133 (dk_at dksX4_firsts_3 10 rfl rfl)
theorem dX4_firsts_79 : decode cX4_firsts 79 = .ok (.aload_n 0, 1) := dk_42 (dk_at dksX4_firsts_3 11 rfl rfl)
theorem dX4_firsts_80 : decode cX4_firsts 80 = .ok (.iload_n 1, 1) := dk_27 (dk_at dksX4_firsts_3 12 rfl rfl)
theorem dX4_firsts_81 : decode cX4_firsts 81 = .ok (.iload_n 2, 1) := dk_28 (dk_at dksX4_firsts_3 13 rfl rfl)
theorem dX4_firsts_82 : decode cX4_firsts 82 = .ok (.iload_n 3, 1) := dk_29 (dk_at dksX4_firsts_3 14 rfl rfl)
theorem dX4_firsts_83 : decode cX4_firsts 83 = .ok (.iconst 1, 1) := dk_4 (dk_at dksX4_firsts_3 15 rfl rfl)
theorem dX4_firsts_84 : decode cX4_firsts 84 = .ok (.iadd, 1) := dk_96 (dk_at dksX4_firsts_3 16 rfl rfl)
theorem dX4_firsts_85 : decode cX4_firsts 85 = .ok (.iload 4, 2) := dk_21 4 (dk_at dksX4_firsts_3 17 rfl rfl)
theorem dX4_firsts_87 : decode cX4_firsts 87 = .ok (.iload 5, 2) := dk_21 5 (dk_at dksX4_firsts_3 19 rfl rfl)
theorem dX4_firsts_89 : decode cX4_firsts 89 = .ok (.invokevirtual 198, 3) := dk_182 0 198 (dk_at dksX4_firsts_3 21 rfl rfl)
theorem dX4_firsts_92 : decode cX4_firsts 92 = .ok (.lmul, 1) := dk_105 (dk_at dksX4_firsts_4 0 rfl rfl)
theorem dX4_firsts_93 : decode cX4_firsts 93 = .ok (.lstore 10, 2) := dk_55 10 (dk_at dksX4_firsts_4 1 rfl rfl)
theorem dX4_firsts_95 : decode cX4_firsts 95 = .ok (.aload_n 0, 1) := dk_42 (dk_at dksX4_firsts_4 3 rfl rfl)
theorem dX4_firsts_96 : decode cX4_firsts 96 = .ok (.getfield 9, 3) := dk_180 0 9 (dk_at dksX4_firsts_4 4 rfl rfl)
theorem dX4_firsts_99 : decode cX4_firsts 99 = .ok (.iconst 1, 1) := dk_4 (dk_at dksX4_firsts_4 7 rfl rfl)
theorem dX4_firsts_100 : decode cX4_firsts 100 = .ok (.iload_n 1, 1) := dk_27 (dk_at dksX4_firsts_4 8 rfl rfl)
theorem dX4_firsts_101 : decode cX4_firsts 101 = .ok (.iadd, 1) := dk_96 (dk_at dksX4_firsts_4 9 rfl rfl)
theorem dX4_firsts_102 : decode cX4_firsts 102 = .ok (.aload_n 0, 1) := dk_42 (dk_at dksX4_firsts_4 10 rfl rfl)
theorem dX4_firsts_103 : decode cX4_firsts 103 = .ok (.iload 8, 2) := dk_21 8 (dk_at dksX4_firsts_4 11 rfl rfl)
theorem dX4_firsts_105 : decode cX4_firsts 105 = .ok (.invokevirtual 154, 3) := dk_182 0 154 (dk_at dksX4_firsts_4 13 rfl rfl)
theorem dX4_firsts_108 : decode cX4_firsts 108 = .ok (.iastore, 1) := dk_79 (dk_at dksX4_firsts_4 16 rfl rfl)
theorem dX4_firsts_109 : decode cX4_firsts 109 = .ok (.aload_n 0, 1) := dk_42 (dk_at dksX4_firsts_4 17 rfl rfl)
theorem dX4_firsts_110 : decode cX4_firsts 110 = .ok (.getfield 9, 3) := dk_180 0 9 (dk_at dksX4_firsts_4 18 rfl rfl)
theorem dX4_firsts_113 : decode cX4_firsts 113 = .ok (.iconst 1, 1) := dk_4 (dk_at dksX4_firsts_4 21 rfl rfl)
theorem dX4_firsts_114 : decode cX4_firsts 114 = .ok (.iload_n 2, 1) := dk_28 (dk_at dksX4_firsts_4 22 rfl rfl)
theorem dX4_firsts_115 : decode cX4_firsts 115 = .ok (.iadd, 1) := dk_96 (dk_at dksX4_firsts_4 23 rfl rfl)
theorem dX4_firsts_116 : decode cX4_firsts 116 = .ok (.aload_n 0, 1) := dk_42 (dk_at dksX4_firsts_5 0 rfl rfl)
theorem dX4_firsts_117 : decode cX4_firsts 117 = .ok (.iload 9, 2) := dk_21 9 (dk_at dksX4_firsts_5 1 rfl rfl)
theorem dX4_firsts_119 : decode cX4_firsts 119 = .ok (.invokevirtual 151, 3) := dk_182 0 151 (dk_at dksX4_firsts_5 3 rfl rfl)
theorem dX4_firsts_122 : decode cX4_firsts 122 = .ok (.iastore, 1) := dk_79 (dk_at dksX4_firsts_5 6 rfl rfl)
theorem dX4_firsts_123 : decode cX4_firsts 123 = .ok (.lload 10, 2) := dk_22 10 (dk_at dksX4_firsts_5 7 rfl rfl)
theorem dX4_firsts_125 : decode cX4_firsts 125 = .ok (.bipush 10, 2) := dk_16 10 (dk_at dksX4_firsts_5 9 rfl rfl)
theorem dX4_firsts_127 : decode cX4_firsts 127 = .ok (.iload 7, 2) := dk_21 7 (dk_at dksX4_firsts_5 11 rfl rfl)
theorem dX4_firsts_129 : decode cX4_firsts 129 = .ok (.isub, 1) := dk_100 (dk_at dksX4_firsts_5 13 rfl rfl)
theorem dX4_firsts_130 : decode cX4_firsts 130 = .ok (.i2l, 1) := dk_133 (dk_at dksX4_firsts_5 14 rfl rfl)
theorem dX4_firsts_131 : decode cX4_firsts 131 = .ok (.aload_n 0, 1) := dk_42 (dk_at dksX4_firsts_5 15 rfl rfl)
theorem dX4_firsts_132 : decode cX4_firsts 132 = .ok (.iload_n 1, 1) := dk_27 (dk_at dksX4_firsts_5 16 rfl rfl)
theorem dX4_firsts_133 : decode cX4_firsts 133 = .ok (.iload_n 2, 1) := dk_28 (dk_at dksX4_firsts_5 17 rfl rfl)
theorem dX4_firsts_134 : decode cX4_firsts 134 = .ok (.iload_n 3, 1) := dk_29 (dk_at dksX4_firsts_5 18 rfl rfl)
theorem dX4_firsts_135 : decode cX4_firsts 135 = .ok (.iload 4, 2) := dk_21 4 (dk_at dksX4_firsts_5 19 rfl rfl)
theorem dX4_firsts_137 : decode cX4_firsts 137 = .ok (.iconst 1, 1) := dk_4 (dk_at dksX4_firsts_5 21 rfl rfl)
theorem dX4_firsts_138 : decode cX4_firsts 138 = .ok (.iadd, 1) := dk_96 (dk_at dksX4_firsts_5 22 rfl rfl)
theorem dX4_firsts_139 : decode cX4_firsts 139 = .ok (.iload 5, 2) := dk_21 5 (dk_at dksX4_firsts_6 0 rfl rfl)
theorem dX4_firsts_141 : decode cX4_firsts 141 = .ok (.invokevirtual 198, 3) := dk_182 0 198 (dk_at dksX4_firsts_6 2 rfl rfl)
theorem dX4_firsts_144 : decode cX4_firsts 144 = .ok (.lmul, 1) := dk_105 (dk_at dksX4_firsts_6 5 rfl rfl)
theorem dX4_firsts_145 : decode cX4_firsts 145 = .ok (.ladd, 1) := dk_97 (dk_at dksX4_firsts_6 6 rfl rfl)
theorem dX4_firsts_146 : decode cX4_firsts 146 = .ok (.lstore 10, 2) := dk_55 10 (dk_at dksX4_firsts_6 7 rfl rfl)
theorem dX4_firsts_148 : decode cX4_firsts 148 = .ok (.aload_n 0, 1) := dk_42 (dk_at dksX4_firsts_6 9 rfl rfl)
theorem dX4_firsts_149 : decode cX4_firsts 149 = .ok (.getfield 9, 3) := dk_180 0 9 (dk_at dksX4_firsts_6 10 rfl rfl)
theorem dX4_firsts_152 : decode cX4_firsts 152 = .ok (.iconst 1, 1) := dk_4 (dk_at dksX4_firsts_6 13 rfl rfl)
theorem dX4_firsts_153 : decode cX4_firsts 153 = .ok (.iload_n 1, 1) := dk_27 (dk_at dksX4_firsts_6 14 rfl rfl)
theorem dX4_firsts_154 : decode cX4_firsts 154 = .ok (.iadd, 1) := dk_96 (dk_at dksX4_firsts_6 15 rfl rfl)
theorem dX4_firsts_155 : decode cX4_firsts 155 = .ok (.iload 8, 2) := dk_21 8 (dk_at dksX4_firsts_6 16 rfl rfl)
theorem dX4_firsts_157 : decode cX4_firsts 157 = .ok (.iastore, 1) := dk_79 (dk_at dksX4_firsts_6 18 rfl rfl)
theorem dX4_firsts_158 : decode cX4_firsts 158 = .ok (.aload_n 0, 1) := dk_42 (dk_at dksX4_firsts_6 19 rfl rfl)
theorem dX4_firsts_159 : decode cX4_firsts 159 = .ok (.getfield 9, 3) := dk_180 0 9 (dk_at dksX4_firsts_6 20 rfl rfl)
theorem dX4_firsts_162 : decode cX4_firsts 162 = .ok (.iconst 1, 1) := dk_4 (dk_at dksX4_firsts_6 23 rfl rfl)
theorem dX4_firsts_163 : decode cX4_firsts 163 = .ok (.iload_n 2, 1) := dk_28 (dk_at dksX4_firsts_7 0 rfl rfl)
theorem dX4_firsts_164 : decode cX4_firsts 164 = .ok (.iadd, 1) := dk_96 (dk_at dksX4_firsts_7 1 rfl rfl)
theorem dX4_firsts_165 : decode cX4_firsts 165 = .ok (.iload 9, 2) := dk_21 9 (dk_at dksX4_firsts_7 2 rfl rfl)
theorem dX4_firsts_167 : decode cX4_firsts 167 = .ok (.iastore, 1) := dk_79 (dk_at dksX4_firsts_7 4 rfl rfl)
theorem dX4_firsts_168 : decode cX4_firsts 168 = .ok (.aload_n 0, 1) := dk_42 (dk_at dksX4_firsts_7 5 rfl rfl)
theorem dX4_firsts_169 : decode cX4_firsts 169 = .ok (.getfield 9, 3) := dk_180 0 9 (dk_at dksX4_firsts_7 6 rfl rfl)
theorem dX4_firsts_172 : decode cX4_firsts 172 = .ok (.iconst 0, 1) := dk_3 (dk_at dksX4_firsts_7 9 rfl rfl)
theorem dX4_firsts_173 : decode cX4_firsts 173 = .ok (.dup2, 1) := dk_92 (dk_at dksX4_firsts_7 10 rfl rfl)
theorem dX4_firsts_174 : decode cX4_firsts 174 = .ok (.iaload, 1) := dk_46 (dk_at dksX4_firsts_7 11 rfl rfl)
theorem dX4_firsts_175 : decode cX4_firsts 175 = .ok (.iconst 1, 1) := dk_4 (dk_at dksX4_firsts_7 12 rfl rfl)
theorem dX4_firsts_176 : decode cX4_firsts 176 = .ok (.isub, 1) := dk_100 (dk_at dksX4_firsts_7 13 rfl rfl)
theorem dX4_firsts_177 : decode cX4_firsts 177 = .ok (.iastore, 1) := dk_79 (dk_at dksX4_firsts_7 14 rfl rfl)
theorem dX4_firsts_178 : decode cX4_firsts 178 = .ok (.lload 10, 2) := dk_22 10 (dk_at dksX4_firsts_7 15 rfl rfl)
theorem dX4_firsts_180 : decode cX4_firsts 180 = .ok (.lreturn, 1) := dk_173 (dk_at dksX4_firsts_7 17 rfl rfl)
abbrev cX4_ends : ByteArray := prog_19_method_47_code
def yX4_ends : MethodName := ⟨RX4, "ends", "(IIII)J"⟩
def dkwX4_ends_4 : List UInt8 := [184, 0, 190, 21, 4, 184, 0, 194, 173]
abbrev dktX4_ends_4 : List UInt8 := dkwX4_ends_4 ++ []
def dkwX4_ends_3 : List UInt8 := [180, 0, 28, 21, 7, 47, 167, 0, 4, 9, 97, 55, 5, 132, 7, 1, 167, 255, 217, 22, 5, 29]
abbrev dktX4_ends_3 : List UInt8 := dkwX4_ends_3 ++ dktX4_ends_4
def dkwX4_ends_2 : List UInt8 := [21, 7, 17, 22, 101, 162, 0, 37, 22, 5, 21, 7, 16, 21, 108, 16, 21, 112, 4, 160, 0, 13, 42]
abbrev dktX4_ends_2 : List UInt8 := dkwX4_ends_2 ++ dktX4_ends_3
def dkwX4_ends_1 : List UInt8 := [184, 0, 48, 154, 0, 7, 20, 0, 184, 173, 42, 27, 28, 29, 4, 182, 0, 186, 9, 55, 5, 3, 54, 7]
abbrev dktX4_ends_1 : List UInt8 := dkwX4_ends_1 ++ dktX4_ends_2
def dkwX4_ends_0 : List UInt8 := [42, 27, 28, 182, 0, 180, 153, 0, 23, 29, 3, 16, 12, 184, 0, 48, 153, 0, 13, 21, 4, 3, 4]
abbrev dktX4_ends_0 : List UInt8 := dkwX4_ends_0 ++ dktX4_ends_1
theorem dksX4_ends_0 : cX4_ends.data.toList.drop 0 = dktX4_ends_0 := by decide +kernel
theorem dksX4_ends_1 : cX4_ends.data.toList.drop 23 = dktX4_ends_1 := dk_seg dksX4_ends_0 23 rfl rfl
theorem dksX4_ends_2 : cX4_ends.data.toList.drop 47 = dktX4_ends_2 := dk_seg dksX4_ends_1 24 rfl rfl
theorem dksX4_ends_3 : cX4_ends.data.toList.drop 70 = dktX4_ends_3 := dk_seg dksX4_ends_2 23 rfl rfl
theorem dksX4_ends_4 : cX4_ends.data.toList.drop 92 = dktX4_ends_4 := dk_seg dksX4_ends_3 22 rfl rfl
theorem dX4_ends_0 : decode cX4_ends 0 = .ok (.aload_n 0, 1) := dk_42 (dk_at dksX4_ends_0 0 rfl rfl)
theorem dX4_ends_1 : decode cX4_ends 1 = .ok (.iload_n 1, 1) := dk_27 (dk_at dksX4_ends_0 1 rfl rfl)
theorem dX4_ends_2 : decode cX4_ends 2 = .ok (.iload_n 2, 1) := dk_28 (dk_at dksX4_ends_0 2 rfl rfl)
theorem dX4_ends_3 : decode cX4_ends 3 = .ok (.invokevirtual 180, 3) := dk_182 0 180 (dk_at dksX4_ends_0 3 rfl rfl)
theorem dX4_ends_6 : decode cX4_ends 6 = .ok (.ifCond .eq 23, 3) := dk_153 0 23 (dk_at dksX4_ends_0 6 rfl rfl)
theorem dX4_ends_9 : decode cX4_ends 9 = .ok (.iload_n 3, 1) := dk_29 (dk_at dksX4_ends_0 9 rfl rfl)
theorem dX4_ends_10 : decode cX4_ends 10 = .ok (.iconst 0, 1) := dk_3 (dk_at dksX4_ends_0 10 rfl rfl)
theorem dX4_ends_11 : decode cX4_ends 11 = .ok (.bipush 12, 2) := dk_16 12 (dk_at dksX4_ends_0 11 rfl rfl)
theorem dX4_ends_13 : decode cX4_ends 13 = .ok (.invokestatic 48, 3) := dk_184 0 48 (dk_at dksX4_ends_0 13 rfl rfl)
theorem dX4_ends_16 : decode cX4_ends 16 = .ok (.ifCond .eq 13, 3) := dk_153 0 13 (dk_at dksX4_ends_0 16 rfl rfl)
theorem dX4_ends_19 : decode cX4_ends 19 = .ok (.iload 4, 2) := dk_21 4 (dk_at dksX4_ends_0 19 rfl rfl)
theorem dX4_ends_21 : decode cX4_ends 21 = .ok (.iconst 0, 1) := dk_3 (dk_at dksX4_ends_0 21 rfl rfl)
theorem dX4_ends_22 : decode cX4_ends 22 = .ok (.iconst 1, 1) := dk_4 (dk_at dksX4_ends_0 22 rfl rfl)
theorem dX4_ends_23 : decode cX4_ends 23 = .ok (.invokestatic 48, 3) := dk_184 0 48 (dk_at dksX4_ends_1 0 rfl rfl)
theorem dX4_ends_26 : decode cX4_ends 26 = .ok (.ifCond .ne 7, 3) := dk_154 0 7 (dk_at dksX4_ends_1 3 rfl rfl)
theorem dX4_ends_29 : decode cX4_ends 29 = .ok (.ldc2_w 184, 3) := dk_20 0 184 (dk_at dksX4_ends_1 6 rfl rfl)
theorem dX4_ends_32 : decode cX4_ends 32 = .ok (.lreturn, 1) := dk_173 (dk_at dksX4_ends_1 9 rfl rfl)
theorem dX4_ends_33 : decode cX4_ends 33 = .ok (.aload_n 0, 1) := dk_42 (dk_at dksX4_ends_1 10 rfl rfl)
theorem dX4_ends_34 : decode cX4_ends 34 = .ok (.iload_n 1, 1) := dk_27 (dk_at dksX4_ends_1 11 rfl rfl)
theorem dX4_ends_35 : decode cX4_ends 35 = .ok (.iload_n 2, 1) := dk_28 (dk_at dksX4_ends_1 12 rfl rfl)
theorem dX4_ends_36 : decode cX4_ends 36 = .ok (.iload_n 3, 1) := dk_29 (dk_at dksX4_ends_1 13 rfl rfl)
theorem dX4_ends_37 : decode cX4_ends 37 = .ok (.iconst 1, 1) := dk_4 (dk_at dksX4_ends_1 14 rfl rfl)
theorem dX4_ends_38 : decode cX4_ends 38 = .ok (.invokevirtual 186, 3) := dk_182 0 186 (dk_at dksX4_ends_1 15 rfl rfl)
theorem dX4_ends_41 : decode cX4_ends 41 = .ok (.lconst 0, 1) := dk_9 (dk_at dksX4_ends_1 18 rfl rfl)
theorem dX4_ends_42 : decode cX4_ends 42 = .ok (.lstore 5, 2) := dk_55 5 (dk_at dksX4_ends_1 19 rfl rfl)
theorem dX4_ends_44 : decode cX4_ends 44 = .ok (.iconst 0, 1) := dk_3 (dk_at dksX4_ends_1 21 rfl rfl)
theorem dX4_ends_45 : decode cX4_ends 45 = .ok (.istore 7, 2) := dk_54 7 (dk_at dksX4_ends_1 22 rfl rfl)
theorem dX4_ends_47 : decode cX4_ends 47 = .ok (.iload 7, 2) := dk_21 7 (dk_at dksX4_ends_2 0 rfl rfl)
theorem dX4_ends_49 : decode cX4_ends 49 = .ok (.sipush 5733, 3) := dk_17 22 101 (dk_at dksX4_ends_2 2 rfl rfl)
theorem dX4_ends_52 : decode cX4_ends 52 = .ok (.if_icmp .ge 37, 3) := dk_162 0 37 (dk_at dksX4_ends_2 5 rfl rfl)
theorem dX4_ends_55 : decode cX4_ends 55 = .ok (.lload 5, 2) := dk_22 5 (dk_at dksX4_ends_2 8 rfl rfl)
theorem dX4_ends_57 : decode cX4_ends 57 = .ok (.iload 7, 2) := dk_21 7 (dk_at dksX4_ends_2 10 rfl rfl)
theorem dX4_ends_59 : decode cX4_ends 59 = .ok (.bipush 21, 2) := dk_16 21 (dk_at dksX4_ends_2 12 rfl rfl)
theorem dX4_ends_61 : decode cX4_ends 61 = .ok (.idiv, 1) := dk_108 (dk_at dksX4_ends_2 14 rfl rfl)
theorem dX4_ends_62 : decode cX4_ends 62 = .ok (.bipush 21, 2) := dk_16 21 (dk_at dksX4_ends_2 15 rfl rfl)
theorem dX4_ends_64 : decode cX4_ends 64 = .ok (.irem, 1) := dk_112 (dk_at dksX4_ends_2 17 rfl rfl)
theorem dX4_ends_65 : decode cX4_ends 65 = .ok (.iconst 1, 1) := dk_4 (dk_at dksX4_ends_2 18 rfl rfl)
theorem dX4_ends_66 : decode cX4_ends 66 = .ok (.if_icmp .ne 13, 3) := dk_160 0 13 (dk_at dksX4_ends_2 19 rfl rfl)
theorem dX4_ends_69 : decode cX4_ends 69 = .ok (.aload_n 0, 1) := dk_42 (dk_at dksX4_ends_2 22 rfl rfl)
theorem dX4_ends_70 : decode cX4_ends 70 = .ok (.getfield 28, 3) := dk_180 0 28 (dk_at dksX4_ends_3 0 rfl rfl)
theorem dX4_ends_73 : decode cX4_ends 73 = .ok (.iload 7, 2) := dk_21 7 (dk_at dksX4_ends_3 3 rfl rfl)
theorem dX4_ends_75 : decode cX4_ends 75 = .ok (.laload, 1) := dk_47 (dk_at dksX4_ends_3 5 rfl rfl)
theorem dX4_ends_76 : decode cX4_ends 76 = .ok (.goto 4, 3) := dk_167 0 4 (dk_at dksX4_ends_3 6 rfl rfl)
theorem dX4_ends_79 : decode cX4_ends 79 = .ok (.lconst 0, 1) := dk_9 (dk_at dksX4_ends_3 9 rfl rfl)
theorem dX4_ends_80 : decode cX4_ends 80 = .ok (.ladd, 1) := dk_97 (dk_at dksX4_ends_3 10 rfl rfl)
theorem dX4_ends_81 : decode cX4_ends 81 = .ok (.lstore 5, 2) := dk_55 5 (dk_at dksX4_ends_3 11 rfl rfl)
theorem dX4_ends_83 : decode cX4_ends 83 = .ok (.iinc 7 1, 3) := dk_132 7 1 (dk_at dksX4_ends_3 13 rfl rfl)
theorem dX4_ends_86 : decode cX4_ends 86 = .ok (.goto (-39), 3) := dk_167 255 217 (dk_at dksX4_ends_3 16 rfl rfl)
theorem dX4_ends_89 : decode cX4_ends 89 = .ok (.lload 5, 2) := dk_22 5 (dk_at dksX4_ends_3 19 rfl rfl)
theorem dX4_ends_91 : decode cX4_ends 91 = .ok (.iload_n 3, 1) := dk_29 (dk_at dksX4_ends_3 21 rfl rfl)
theorem dX4_ends_92 : decode cX4_ends 92 = .ok (.invokestatic 190, 3) := dk_184 0 190 (dk_at dksX4_ends_4 0 rfl rfl)
theorem dX4_ends_95 : decode cX4_ends 95 = .ok (.iload 4, 2) := dk_21 4 (dk_at dksX4_ends_4 3 rfl rfl)
theorem dX4_ends_97 : decode cX4_ends 97 = .ok (.invokestatic 194, 3) := dk_184 0 194 (dk_at dksX4_ends_4 5 rfl rfl)
theorem dX4_ends_100 : decode cX4_ends 100 = .ok (.lreturn, 1) := dk_173 (dk_at dksX4_ends_4 8 rfl rfl)
abbrev cX4_stakes : ByteArray := prog_19_method_48_code
def yX4_stakes : MethodName := ⟨RX4, "stakes", "(IIII)J"⟩
def dkwX4_stakes_2 : List UInt8 := [184, 0, 190, 21, 4, 184, 0, 194, 173]
abbrev dktX4_stakes_2 : List UInt8 := dkwX4_stakes_2 ++ []
def dkwX4_stakes_1 : List UInt8 := [184, 0, 48, 154, 0, 7, 20, 0, 184, 173, 42, 27, 28, 29, 3, 182, 0, 186, 42, 180, 0, 163, 29]
abbrev dktX4_stakes_1 : List UInt8 := dkwX4_stakes_1 ++ dktX4_stakes_2
def dkwX4_stakes_0 : List UInt8 := [42, 27, 28, 182, 0, 180, 153, 0, 23, 29, 3, 16, 10, 184, 0, 48, 153, 0, 13, 21, 4, 3, 4]
abbrev dktX4_stakes_0 : List UInt8 := dkwX4_stakes_0 ++ dktX4_stakes_1
theorem dksX4_stakes_0 : cX4_stakes.data.toList.drop 0 = dktX4_stakes_0 := by decide +kernel
theorem dksX4_stakes_1 : cX4_stakes.data.toList.drop 23 = dktX4_stakes_1 := dk_seg dksX4_stakes_0 23 rfl rfl
theorem dksX4_stakes_2 : cX4_stakes.data.toList.drop 46 = dktX4_stakes_2 := dk_seg dksX4_stakes_1 23 rfl rfl
theorem dX4_stakes_0 : decode cX4_stakes 0 = .ok (.aload_n 0, 1) := dk_42 (dk_at dksX4_stakes_0 0 rfl rfl)
theorem dX4_stakes_1 : decode cX4_stakes 1 = .ok (.iload_n 1, 1) := dk_27 (dk_at dksX4_stakes_0 1 rfl rfl)
theorem dX4_stakes_2 : decode cX4_stakes 2 = .ok (.iload_n 2, 1) := dk_28 (dk_at dksX4_stakes_0 2 rfl rfl)
theorem dX4_stakes_3 : decode cX4_stakes 3 = .ok (.invokevirtual 180, 3) := dk_182 0 180 (dk_at dksX4_stakes_0 3 rfl rfl)
theorem dX4_stakes_6 : decode cX4_stakes 6 = .ok (.ifCond .eq 23, 3) := dk_153 0 23 (dk_at dksX4_stakes_0 6 rfl rfl)
theorem dX4_stakes_9 : decode cX4_stakes 9 = .ok (.iload_n 3, 1) := dk_29 (dk_at dksX4_stakes_0 9 rfl rfl)
theorem dX4_stakes_10 : decode cX4_stakes 10 = .ok (.iconst 0, 1) := dk_3 (dk_at dksX4_stakes_0 10 rfl rfl)
theorem dX4_stakes_11 : decode cX4_stakes 11 = .ok (.bipush 10, 2) := dk_16 10 (dk_at dksX4_stakes_0 11 rfl rfl)
theorem dX4_stakes_13 : decode cX4_stakes 13 = .ok (.invokestatic 48, 3) := dk_184 0 48 (dk_at dksX4_stakes_0 13 rfl rfl)
theorem dX4_stakes_16 : decode cX4_stakes 16 = .ok (.ifCond .eq 13, 3) := dk_153 0 13 (dk_at dksX4_stakes_0 16 rfl rfl)
theorem dX4_stakes_19 : decode cX4_stakes 19 = .ok (.iload 4, 2) := dk_21 4 (dk_at dksX4_stakes_0 19 rfl rfl)
theorem dX4_stakes_21 : decode cX4_stakes 21 = .ok (.iconst 0, 1) := dk_3 (dk_at dksX4_stakes_0 21 rfl rfl)
theorem dX4_stakes_22 : decode cX4_stakes 22 = .ok (.iconst 1, 1) := dk_4 (dk_at dksX4_stakes_0 22 rfl rfl)
theorem dX4_stakes_23 : decode cX4_stakes 23 = .ok (.invokestatic 48, 3) := dk_184 0 48 (dk_at dksX4_stakes_1 0 rfl rfl)
theorem dX4_stakes_26 : decode cX4_stakes 26 = .ok (.ifCond .ne 7, 3) := dk_154 0 7 (dk_at dksX4_stakes_1 3 rfl rfl)
theorem dX4_stakes_29 : decode cX4_stakes 29 = .ok (.ldc2_w 184, 3) := dk_20 0 184 (dk_at dksX4_stakes_1 6 rfl rfl)
theorem dX4_stakes_32 : decode cX4_stakes 32 = .ok (.lreturn, 1) := dk_173 (dk_at dksX4_stakes_1 9 rfl rfl)
theorem dX4_stakes_33 : decode cX4_stakes 33 = .ok (.aload_n 0, 1) := dk_42 (dk_at dksX4_stakes_1 10 rfl rfl)
theorem dX4_stakes_34 : decode cX4_stakes 34 = .ok (.iload_n 1, 1) := dk_27 (dk_at dksX4_stakes_1 11 rfl rfl)
theorem dX4_stakes_35 : decode cX4_stakes 35 = .ok (.iload_n 2, 1) := dk_28 (dk_at dksX4_stakes_1 12 rfl rfl)
theorem dX4_stakes_36 : decode cX4_stakes 36 = .ok (.iload_n 3, 1) := dk_29 (dk_at dksX4_stakes_1 13 rfl rfl)
theorem dX4_stakes_37 : decode cX4_stakes 37 = .ok (.iconst 0, 1) := dk_3 (dk_at dksX4_stakes_1 14 rfl rfl)
theorem dX4_stakes_38 : decode cX4_stakes 38 = .ok (.invokevirtual 186, 3) := dk_182 0 186 (dk_at dksX4_stakes_1 15 rfl rfl)
theorem dX4_stakes_41 : decode cX4_stakes 41 = .ok (.aload_n 0, 1) := dk_42 (dk_at dksX4_stakes_1 18 rfl rfl)
theorem dX4_stakes_42 : decode cX4_stakes 42 = .ok (.getfield 163, 3) := dk_180 0 163 (dk_at dksX4_stakes_1 19 rfl rfl)
theorem dX4_stakes_45 : decode cX4_stakes 45 = .ok (.iload_n 3, 1) := dk_29 (dk_at dksX4_stakes_1 22 rfl rfl)
theorem dX4_stakes_46 : decode cX4_stakes 46 = .ok (.invokestatic 190, 3) := dk_184 0 190 (dk_at dksX4_stakes_2 0 rfl rfl)
theorem dX4_stakes_49 : decode cX4_stakes 49 = .ok (.iload 4, 2) := dk_21 4 (dk_at dksX4_stakes_2 3 rfl rfl)
theorem dX4_stakes_51 : decode cX4_stakes 51 = .ok (.invokestatic 194, 3) := dk_184 0 194 (dk_at dksX4_stakes_2 5 rfl rfl)
theorem dX4_stakes_54 : decode cX4_stakes 54 = .ok (.lreturn, 1) := dk_173 (dk_at dksX4_stakes_2 8 rfl rfl)
abbrev cX4_even : ByteArray := prog_19_method_49_code
def yX4_even : MethodName := ⟨RX4, "even", "(II)I"⟩
def dkwX4_even_5 : List UInt8 := [54, 5, 132, 6, 1, 167, 255, 179, 42, 180, 0, 9, 4, 27, 96, 29, 79, 21, 4, 172]
abbrev dktX4_even_5 : List UInt8 := dkwX4_even_5 ++ []
def dkwX4_even_4 : List UInt8 := [21, 6, 167, 0, 5, 21, 4, 54, 4, 21, 7, 21, 5, 162, 0, 8, 21, 7, 167, 0, 5, 21, 5]
abbrev dktX4_even_4 : List UInt8 := dkwX4_even_4 ++ dktX4_even_5
def dkwX4_even_3 : List UInt8 := [54, 7, 21, 7, 156, 0, 9, 21, 7, 116, 167, 0, 5, 21, 7, 54, 7, 21, 7, 21, 5, 162, 0, 8]
abbrev dktX4_even_3 : List UInt8 := dkwX4_even_3 ++ dktX4_even_4
def dkwX4_even_2 : List UInt8 := [16, 20, 163, 0, 76, 42, 180, 0, 9, 4, 27, 96, 21, 6, 79, 42, 27, 28, 182, 0, 148, 8, 100]
abbrev dktX4_even_2 : List UInt8 := dkwX4_even_2 ++ dktX4_even_3
def dkwX4_even_1 : List UInt8 := [16, 254, 172, 42, 180, 0, 9, 4, 27, 96, 46, 62, 3, 54, 4, 16, 99, 54, 5, 4, 54, 6, 21, 6]
abbrev dktX4_even_1 : List UInt8 := dkwX4_even_1 ++ dktX4_even_2
def dkwX4_even_0 : List UInt8 := [42, 27, 182, 0, 52, 153, 0, 11, 42, 28, 182, 0, 52, 154, 0, 5, 2, 172, 27, 28, 160, 0, 6]
abbrev dktX4_even_0 : List UInt8 := dkwX4_even_0 ++ dktX4_even_1
theorem dksX4_even_0 : cX4_even.data.toList.drop 0 = dktX4_even_0 := by decide +kernel
theorem dksX4_even_1 : cX4_even.data.toList.drop 23 = dktX4_even_1 := dk_seg dksX4_even_0 23 rfl rfl
theorem dksX4_even_2 : cX4_even.data.toList.drop 47 = dktX4_even_2 := dk_seg dksX4_even_1 24 rfl rfl
theorem dksX4_even_3 : cX4_even.data.toList.drop 70 = dktX4_even_3 := dk_seg dksX4_even_2 23 rfl rfl
theorem dksX4_even_4 : cX4_even.data.toList.drop 94 = dktX4_even_4 := dk_seg dksX4_even_3 24 rfl rfl
theorem dksX4_even_5 : cX4_even.data.toList.drop 117 = dktX4_even_5 := dk_seg dksX4_even_4 23 rfl rfl
theorem dX4_even_0 : decode cX4_even 0 = .ok (.aload_n 0, 1) := dk_42 (dk_at dksX4_even_0 0 rfl rfl)
theorem dX4_even_1 : decode cX4_even 1 = .ok (.iload_n 1, 1) := dk_27 (dk_at dksX4_even_0 1 rfl rfl)
theorem dX4_even_2 : decode cX4_even 2 = .ok (.invokevirtual 52, 3) := dk_182 0 52 (dk_at dksX4_even_0 2 rfl rfl)
theorem dX4_even_5 : decode cX4_even 5 = .ok (.ifCond .eq 11, 3) := dk_153 0 11 (dk_at dksX4_even_0 5 rfl rfl)
theorem dX4_even_8 : decode cX4_even 8 = .ok (.aload_n 0, 1) := dk_42 (dk_at dksX4_even_0 8 rfl rfl)
theorem dX4_even_9 : decode cX4_even 9 = .ok (.iload_n 2, 1) := dk_28 (dk_at dksX4_even_0 9 rfl rfl)
theorem dX4_even_10 : decode cX4_even 10 = .ok (.invokevirtual 52, 3) := dk_182 0 52 (dk_at dksX4_even_0 10 rfl rfl)
theorem dX4_even_13 : decode cX4_even 13 = .ok (.ifCond .ne 5, 3) := dk_154 0 5 (dk_at dksX4_even_0 13 rfl rfl)
theorem dX4_even_16 : decode cX4_even 16 = .ok (.iconst (-1), 1) := dk_2 (dk_at dksX4_even_0 16 rfl rfl)
theorem dX4_even_17 : decode cX4_even 17 = .ok (.ireturn, 1) := dk_172 (dk_at dksX4_even_0 17 rfl rfl)
theorem dX4_even_18 : decode cX4_even 18 = .ok (.iload_n 1, 1) := dk_27 (dk_at dksX4_even_0 18 rfl rfl)
theorem dX4_even_19 : decode cX4_even 19 = .ok (.iload_n 2, 1) := dk_28 (dk_at dksX4_even_0 19 rfl rfl)
theorem dX4_even_20 : decode cX4_even 20 = .ok (.if_icmp .ne 6, 3) := dk_160 0 6 (dk_at dksX4_even_0 20 rfl rfl)
theorem dX4_even_23 : decode cX4_even 23 = .ok (.bipush (-2), 2) := dk_16 254 (dk_at dksX4_even_1 0 rfl rfl)
theorem dX4_even_25 : decode cX4_even 25 = .ok (.ireturn, 1) := dk_172 (dk_at dksX4_even_1 2 rfl rfl)
theorem dX4_even_26 : decode cX4_even 26 = .ok (.aload_n 0, 1) := dk_42 (dk_at dksX4_even_1 3 rfl rfl)
theorem dX4_even_27 : decode cX4_even 27 = .ok (.getfield 9, 3) := dk_180 0 9 (dk_at dksX4_even_1 4 rfl rfl)
theorem dX4_even_30 : decode cX4_even 30 = .ok (.iconst 1, 1) := dk_4 (dk_at dksX4_even_1 7 rfl rfl)
theorem dX4_even_31 : decode cX4_even 31 = .ok (.iload_n 1, 1) := dk_27 (dk_at dksX4_even_1 8 rfl rfl)
theorem dX4_even_32 : decode cX4_even 32 = .ok (.iadd, 1) := dk_96 (dk_at dksX4_even_1 9 rfl rfl)
theorem dX4_even_33 : decode cX4_even 33 = .ok (.iaload, 1) := dk_46 (dk_at dksX4_even_1 10 rfl rfl)
theorem dX4_even_34 : decode cX4_even 34 = .ok (.istore_n 3, 1) := dk_62 (dk_at dksX4_even_1 11 rfl rfl)
theorem dX4_even_35 : decode cX4_even 35 = .ok (.iconst 0, 1) := dk_3 (dk_at dksX4_even_1 12 rfl rfl)
theorem dX4_even_36 : decode cX4_even 36 = .ok (.istore 4, 2) := dk_54 4 (dk_at dksX4_even_1 13 rfl rfl)
theorem dX4_even_38 : decode cX4_even 38 = .ok (.bipush 99, 2) := dk_16 99 (dk_at dksX4_even_1 15 rfl rfl)
theorem dX4_even_40 : decode cX4_even 40 = .ok (.istore 5, 2) := dk_54 5 (dk_at dksX4_even_1 17 rfl rfl)
theorem dX4_even_42 : decode cX4_even 42 = .ok (.iconst 1, 1) := dk_4 (dk_at dksX4_even_1 19 rfl rfl)
theorem dX4_even_43 : decode cX4_even 43 = .ok (.istore 6, 2) := dk_54 6 (dk_at dksX4_even_1 20 rfl rfl)
theorem dX4_even_45 : decode cX4_even 45 = .ok (.iload 6, 2) := dk_21 6 (dk_at dksX4_even_1 22 rfl rfl)
theorem dX4_even_47 : decode cX4_even 47 = .ok (.bipush 20, 2) := dk_16 20 (dk_at dksX4_even_2 0 rfl rfl)
theorem dX4_even_49 : decode cX4_even 49 = .ok (.if_icmp .gt 76, 3) := dk_163 0 76 (dk_at dksX4_even_2 2 rfl rfl)
theorem dX4_even_52 : decode cX4_even 52 = .ok (.aload_n 0, 1) := dk_42 (dk_at dksX4_even_2 5 rfl rfl)
theorem dX4_even_53 : decode cX4_even 53 = .ok (.getfield 9, 3) := dk_180 0 9 (dk_at dksX4_even_2 6 rfl rfl)
theorem dX4_even_56 : decode cX4_even 56 = .ok (.iconst 1, 1) := dk_4 (dk_at dksX4_even_2 9 rfl rfl)
theorem dX4_even_57 : decode cX4_even 57 = .ok (.iload_n 1, 1) := dk_27 (dk_at dksX4_even_2 10 rfl rfl)
theorem dX4_even_58 : decode cX4_even 58 = .ok (.iadd, 1) := dk_96 (dk_at dksX4_even_2 11 rfl rfl)
theorem dX4_even_59 : decode cX4_even 59 = .ok (.iload 6, 2) := dk_21 6 (dk_at dksX4_even_2 12 rfl rfl)
theorem dX4_even_61 : decode cX4_even 61 = .ok (.iastore, 1) := dk_79 (dk_at dksX4_even_2 14 rfl rfl)
theorem dX4_even_62 : decode cX4_even 62 = .ok (.aload_n 0, 1) := dk_42 (dk_at dksX4_even_2 15 rfl rfl)
theorem dX4_even_63 : decode cX4_even 63 = .ok (.iload_n 1, 1) := dk_27 (dk_at dksX4_even_2 16 rfl rfl)
theorem dX4_even_64 : decode cX4_even 64 = .ok (.iload_n 2, 1) := dk_28 (dk_at dksX4_even_2 17 rfl rfl)
theorem dX4_even_65 : decode cX4_even 65 = .ok (.invokevirtual 148, 3) := dk_182 0 148 (dk_at dksX4_even_2 18 rfl rfl)
theorem dX4_even_68 : decode cX4_even 68 = .ok (.iconst 5, 1) := dk_8 (dk_at dksX4_even_2 21 rfl rfl)
theorem dX4_even_69 : decode cX4_even 69 = .ok (.isub, 1) := dk_100 (dk_at dksX4_even_2 22 rfl rfl)
theorem dX4_even_70 : decode cX4_even 70 = .ok (.istore 7, 2) := dk_54 7 (dk_at dksX4_even_3 0 rfl rfl)
theorem dX4_even_72 : decode cX4_even 72 = .ok (.iload 7, 2) := dk_21 7 (dk_at dksX4_even_3 2 rfl rfl)
theorem dX4_even_74 : decode cX4_even 74 = .ok (.ifCond .ge 9, 3) := dk_156 0 9 (dk_at dksX4_even_3 4 rfl rfl)
theorem dX4_even_77 : decode cX4_even 77 = .ok (.iload 7, 2) := dk_21 7 (dk_at dksX4_even_3 7 rfl rfl)
theorem dX4_even_79 : decode cX4_even 79 = .ok (.ineg, 1) := dk_116 (dk_at dksX4_even_3 9 rfl rfl)
theorem dX4_even_80 : decode cX4_even 80 = .ok (.goto 5, 3) := dk_167 0 5 (dk_at dksX4_even_3 10 rfl rfl)
theorem dX4_even_83 : decode cX4_even 83 = .ok (.iload 7, 2) := dk_21 7 (dk_at dksX4_even_3 13 rfl rfl)
theorem dX4_even_85 : decode cX4_even 85 = .ok (.istore 7, 2) := dk_54 7 (dk_at dksX4_even_3 15 rfl rfl)
theorem dX4_even_87 : decode cX4_even 87 = .ok (.iload 7, 2) := dk_21 7 (dk_at dksX4_even_3 17 rfl rfl)
theorem dX4_even_89 : decode cX4_even 89 = .ok (.iload 5, 2) := dk_21 5 (dk_at dksX4_even_3 19 rfl rfl)
theorem dX4_even_91 : decode cX4_even 91 = .ok (.if_icmp .ge 8, 3) := dk_162 0 8 (dk_at dksX4_even_3 21 rfl rfl)
theorem dX4_even_94 : decode cX4_even 94 = .ok (.iload 6, 2) := dk_21 6 (dk_at dksX4_even_4 0 rfl rfl)
theorem dX4_even_96 : decode cX4_even 96 = .ok (.goto 5, 3) := dk_167 0 5 (dk_at dksX4_even_4 2 rfl rfl)
theorem dX4_even_99 : decode cX4_even 99 = .ok (.iload 4, 2) := dk_21 4 (dk_at dksX4_even_4 5 rfl rfl)
theorem dX4_even_101 : decode cX4_even 101 = .ok (.istore 4, 2) := dk_54 4 (dk_at dksX4_even_4 7 rfl rfl)
theorem dX4_even_103 : decode cX4_even 103 = .ok (.iload 7, 2) := dk_21 7 (dk_at dksX4_even_4 9 rfl rfl)
theorem dX4_even_105 : decode cX4_even 105 = .ok (.iload 5, 2) := dk_21 5 (dk_at dksX4_even_4 11 rfl rfl)
theorem dX4_even_107 : decode cX4_even 107 = .ok (.if_icmp .ge 8, 3) := dk_162 0 8 (dk_at dksX4_even_4 13 rfl rfl)
theorem dX4_even_110 : decode cX4_even 110 = .ok (.iload 7, 2) := dk_21 7 (dk_at dksX4_even_4 16 rfl rfl)
theorem dX4_even_112 : decode cX4_even 112 = .ok (.goto 5, 3) := dk_167 0 5 (dk_at dksX4_even_4 18 rfl rfl)
theorem dX4_even_115 : decode cX4_even 115 = .ok (.iload 5, 2) := dk_21 5 (dk_at dksX4_even_4 21 rfl rfl)
theorem dX4_even_117 : decode cX4_even 117 = .ok (.istore 5, 2) := dk_54 5 (dk_at dksX4_even_5 0 rfl rfl)
theorem dX4_even_119 : decode cX4_even 119 = .ok (.iinc 6 1, 3) := dk_132 6 1 (dk_at dksX4_even_5 2 rfl rfl)
theorem dX4_even_122 : decode cX4_even 122 = .ok (.goto (-77), 3) := dk_167 255 179 (dk_at dksX4_even_5 5 rfl rfl)
theorem dX4_even_125 : decode cX4_even 125 = .ok (.aload_n 0, 1) := dk_42 (dk_at dksX4_even_5 8 rfl rfl)
theorem dX4_even_126 : decode cX4_even 126 = .ok (.getfield 9, 3) := dk_180 0 9 (dk_at dksX4_even_5 9 rfl rfl)
theorem dX4_even_129 : decode cX4_even 129 = .ok (.iconst 1, 1) := dk_4 (dk_at dksX4_even_5 12 rfl rfl)
theorem dX4_even_130 : decode cX4_even 130 = .ok (.iload_n 1, 1) := dk_27 (dk_at dksX4_even_5 13 rfl rfl)
theorem dX4_even_131 : decode cX4_even 131 = .ok (.iadd, 1) := dk_96 (dk_at dksX4_even_5 14 rfl rfl)
theorem dX4_even_132 : decode cX4_even 132 = .ok (.iload_n 3, 1) := dk_29 (dk_at dksX4_even_5 15 rfl rfl)
theorem dX4_even_133 : decode cX4_even 133 = .ok (.iastore, 1) := dk_79 (dk_at dksX4_even_5 16 rfl rfl)
theorem dX4_even_134 : decode cX4_even 134 = .ok (.iload 4, 2) := dk_21 4 (dk_at dksX4_even_5 17 rfl rfl)
theorem dX4_even_136 : decode cX4_even 136 = .ok (.ireturn, 1) := dk_172 (dk_at dksX4_even_5 19 rfl rfl)
abbrev cX4_purpose : ByteArray := prog_19_method_51_code
def yX4_purpose : MethodName := ⟨RX4, "purpose", "(IIII)J"⟩
def dkwX4_purpose_2 : List UInt8 := [184, 0, 194, 173]
abbrev dktX4_purpose_2 : List UInt8 := dkwX4_purpose_2 ++ []
def dkwX4_purpose_1 : List UInt8 := [184, 0, 48, 154, 0, 7, 20, 0, 184, 173, 42, 27, 28, 29, 182, 0, 205, 29, 184, 0, 190, 21, 4]
abbrev dktX4_purpose_1 : List UInt8 := dkwX4_purpose_1 ++ dktX4_purpose_2
def dkwX4_purpose_0 : List UInt8 := [42, 27, 28, 182, 0, 180, 153, 0, 23, 29, 4, 16, 8, 184, 0, 48, 153, 0, 13, 21, 4, 3, 4]
abbrev dktX4_purpose_0 : List UInt8 := dkwX4_purpose_0 ++ dktX4_purpose_1
theorem dksX4_purpose_0 : cX4_purpose.data.toList.drop 0 = dktX4_purpose_0 := by decide +kernel
theorem dksX4_purpose_1 : cX4_purpose.data.toList.drop 23 = dktX4_purpose_1 := dk_seg dksX4_purpose_0 23 rfl rfl
theorem dksX4_purpose_2 : cX4_purpose.data.toList.drop 46 = dktX4_purpose_2 := dk_seg dksX4_purpose_1 23 rfl rfl
theorem dX4_purpose_0 : decode cX4_purpose 0 = .ok (.aload_n 0, 1) := dk_42 (dk_at dksX4_purpose_0 0 rfl rfl)
theorem dX4_purpose_1 : decode cX4_purpose 1 = .ok (.iload_n 1, 1) := dk_27 (dk_at dksX4_purpose_0 1 rfl rfl)
theorem dX4_purpose_2 : decode cX4_purpose 2 = .ok (.iload_n 2, 1) := dk_28 (dk_at dksX4_purpose_0 2 rfl rfl)
theorem dX4_purpose_3 : decode cX4_purpose 3 = .ok (.invokevirtual 180, 3) := dk_182 0 180 (dk_at dksX4_purpose_0 3 rfl rfl)
theorem dX4_purpose_6 : decode cX4_purpose 6 = .ok (.ifCond .eq 23, 3) := dk_153 0 23 (dk_at dksX4_purpose_0 6 rfl rfl)
theorem dX4_purpose_9 : decode cX4_purpose 9 = .ok (.iload_n 3, 1) := dk_29 (dk_at dksX4_purpose_0 9 rfl rfl)
theorem dX4_purpose_10 : decode cX4_purpose 10 = .ok (.iconst 1, 1) := dk_4 (dk_at dksX4_purpose_0 10 rfl rfl)
theorem dX4_purpose_11 : decode cX4_purpose 11 = .ok (.bipush 8, 2) := dk_16 8 (dk_at dksX4_purpose_0 11 rfl rfl)
theorem dX4_purpose_13 : decode cX4_purpose 13 = .ok (.invokestatic 48, 3) := dk_184 0 48 (dk_at dksX4_purpose_0 13 rfl rfl)
theorem dX4_purpose_16 : decode cX4_purpose 16 = .ok (.ifCond .eq 13, 3) := dk_153 0 13 (dk_at dksX4_purpose_0 16 rfl rfl)
theorem dX4_purpose_19 : decode cX4_purpose 19 = .ok (.iload 4, 2) := dk_21 4 (dk_at dksX4_purpose_0 19 rfl rfl)
theorem dX4_purpose_21 : decode cX4_purpose 21 = .ok (.iconst 0, 1) := dk_3 (dk_at dksX4_purpose_0 21 rfl rfl)
theorem dX4_purpose_22 : decode cX4_purpose 22 = .ok (.iconst 1, 1) := dk_4 (dk_at dksX4_purpose_0 22 rfl rfl)
theorem dX4_purpose_23 : decode cX4_purpose 23 = .ok (.invokestatic 48, 3) := dk_184 0 48 (dk_at dksX4_purpose_1 0 rfl rfl)
theorem dX4_purpose_26 : decode cX4_purpose 26 = .ok (.ifCond .ne 7, 3) := dk_154 0 7 (dk_at dksX4_purpose_1 3 rfl rfl)
theorem dX4_purpose_29 : decode cX4_purpose 29 = .ok (.ldc2_w 184, 3) := dk_20 0 184 (dk_at dksX4_purpose_1 6 rfl rfl)
theorem dX4_purpose_32 : decode cX4_purpose 32 = .ok (.lreturn, 1) := dk_173 (dk_at dksX4_purpose_1 9 rfl rfl)
theorem dX4_purpose_33 : decode cX4_purpose 33 = .ok (.aload_n 0, 1) := dk_42 (dk_at dksX4_purpose_1 10 rfl rfl)
theorem dX4_purpose_34 : decode cX4_purpose 34 = .ok (.iload_n 1, 1) := dk_27 (dk_at dksX4_purpose_1 11 rfl rfl)
theorem dX4_purpose_35 : decode cX4_purpose 35 = .ok (.iload_n 2, 1) := dk_28 (dk_at dksX4_purpose_1 12 rfl rfl)
theorem dX4_purpose_36 : decode cX4_purpose 36 = .ok (.iload_n 3, 1) := dk_29 (dk_at dksX4_purpose_1 13 rfl rfl)
theorem dX4_purpose_37 : decode cX4_purpose 37 = .ok (.invokevirtual 205, 3) := dk_182 0 205 (dk_at dksX4_purpose_1 14 rfl rfl)
theorem dX4_purpose_40 : decode cX4_purpose 40 = .ok (.iload_n 3, 1) := dk_29 (dk_at dksX4_purpose_1 17 rfl rfl)
theorem dX4_purpose_41 : decode cX4_purpose 41 = .ok (.invokestatic 190, 3) := dk_184 0 190 (dk_at dksX4_purpose_1 18 rfl rfl)
theorem dX4_purpose_44 : decode cX4_purpose 44 = .ok (.iload 4, 2) := dk_21 4 (dk_at dksX4_purpose_1 21 rfl rfl)
theorem dX4_purpose_46 : decode cX4_purpose 46 = .ok (.invokestatic 194, 3) := dk_184 0 194 (dk_at dksX4_purpose_2 0 rfl rfl)
theorem dX4_purpose_49 : decode cX4_purpose 49 = .ok (.lreturn, 1) := dk_173 (dk_at dksX4_purpose_2 3 rfl rfl)
abbrev cX4_bestFor : ByteArray := prog_19_method_50_code
def yX4_bestFor : MethodName := ⟨RX4, "bestFor", "(III)J"⟩
def dkwX4_bestFor_7 : List UInt8 := [181, 0, 202, 42, 180, 0, 202, 153, 0, 12, 20, 0, 161, 22, 9, 105, 167, 0, 5, 22, 11, 173]
abbrev dktX4_bestFor_7 : List UInt8 := dkwX4_bestFor_7 ++ []
def dkwX4_bestFor_6 : List UInt8 := [22, 9, 105, 97, 55, 11, 42, 20, 0, 161, 22, 9, 105, 22, 11, 148, 158, 0, 7, 4, 167, 0, 4, 3]
abbrev dktX4_bestFor_6 : List UInt8 := dkwX4_bestFor_6 ++ dktX4_bestFor_7
def dkwX4_bestFor_5 : List UInt8 := [79, 42, 180, 0, 9, 3, 92, 46, 4, 100, 79, 21, 4, 133, 22, 7, 105, 16, 10, 21, 4, 100, 133]
abbrev dktX4_bestFor_5 : List UInt8 := dkwX4_bestFor_5 ++ dktX4_bestFor_6
def dkwX4_bestFor_4 : List UInt8 := [182, 0, 205, 55, 9, 42, 180, 0, 9, 4, 27, 96, 21, 5, 79, 42, 180, 0, 9, 4, 28, 96, 21, 6]
abbrev dktX4_bestFor_4 : List UInt8 := dkwX4_bestFor_4 ++ dktX4_bestFor_5
def dkwX4_bestFor_3 : List UInt8 := [182, 0, 154, 79, 42, 180, 0, 9, 4, 28, 96, 42, 21, 6, 182, 0, 151, 79, 42, 27, 28, 29, 4, 100]
abbrev dktX4_bestFor_3 : List UInt8 := dkwX4_bestFor_3 ++ dktX4_bestFor_4
def dkwX4_bestFor_2 : List UInt8 := [182, 0, 157, 42, 27, 28, 29, 4, 100, 182, 0, 205, 55, 7, 42, 180, 0, 9, 4, 27, 96, 42, 21, 5]
abbrev dktX4_bestFor_2 : List UInt8 := dkwX4_bestFor_2 ++ dktX4_bestFor_3
def dkwX4_bestFor_1 : List UInt8 := [180, 0, 9, 4, 27, 96, 46, 54, 5, 42, 180, 0, 9, 4, 28, 96, 46, 54, 6, 42, 27, 28]
abbrev dktX4_bestFor_1 : List UInt8 := dkwX4_bestFor_1 ++ dktX4_bestFor_2
def dkwX4_bestFor_0 : List UInt8 := [42, 27, 28, 182, 0, 148, 54, 4, 29, 4, 160, 0, 12, 42, 3, 181, 0, 202, 21, 4, 133, 173, 42]
abbrev dktX4_bestFor_0 : List UInt8 := dkwX4_bestFor_0 ++ dktX4_bestFor_1
theorem dksX4_bestFor_0 : cX4_bestFor.data.toList.drop 0 = dktX4_bestFor_0 := by decide +kernel
theorem dksX4_bestFor_1 : cX4_bestFor.data.toList.drop 23 = dktX4_bestFor_1 := dk_seg dksX4_bestFor_0 23 rfl rfl
theorem dksX4_bestFor_2 : cX4_bestFor.data.toList.drop 45 = dktX4_bestFor_2 := dk_seg dksX4_bestFor_1 22 rfl rfl
theorem dksX4_bestFor_3 : cX4_bestFor.data.toList.drop 69 = dktX4_bestFor_3 := dk_seg dksX4_bestFor_2 24 rfl rfl
theorem dksX4_bestFor_4 : cX4_bestFor.data.toList.drop 93 = dktX4_bestFor_4 := dk_seg dksX4_bestFor_3 24 rfl rfl
theorem dksX4_bestFor_5 : cX4_bestFor.data.toList.drop 117 = dktX4_bestFor_5 := dk_seg dksX4_bestFor_4 24 rfl rfl
theorem dksX4_bestFor_6 : cX4_bestFor.data.toList.drop 140 = dktX4_bestFor_6 := dk_seg dksX4_bestFor_5 23 rfl rfl
theorem dksX4_bestFor_7 : cX4_bestFor.data.toList.drop 164 = dktX4_bestFor_7 := dk_seg dksX4_bestFor_6 24 rfl rfl
theorem dX4_bestFor_0 : decode cX4_bestFor 0 = .ok (.aload_n 0, 1) := dk_42 (dk_at dksX4_bestFor_0 0 rfl rfl)
theorem dX4_bestFor_1 : decode cX4_bestFor 1 = .ok (.iload_n 1, 1) := dk_27 (dk_at dksX4_bestFor_0 1 rfl rfl)
theorem dX4_bestFor_2 : decode cX4_bestFor 2 = .ok (.iload_n 2, 1) := dk_28 (dk_at dksX4_bestFor_0 2 rfl rfl)
theorem dX4_bestFor_3 : decode cX4_bestFor 3 = .ok (.invokevirtual 148, 3) := dk_182 0 148 (dk_at dksX4_bestFor_0 3 rfl rfl)
theorem dX4_bestFor_6 : decode cX4_bestFor 6 = .ok (.istore 4, 2) := dk_54 4 (dk_at dksX4_bestFor_0 6 rfl rfl)
theorem dX4_bestFor_8 : decode cX4_bestFor 8 = .ok (.iload_n 3, 1) := dk_29 (dk_at dksX4_bestFor_0 8 rfl rfl)
theorem dX4_bestFor_9 : decode cX4_bestFor 9 = .ok (.iconst 1, 1) := dk_4 (dk_at dksX4_bestFor_0 9 rfl rfl)
theorem dX4_bestFor_10 : decode cX4_bestFor 10 = .ok (.if_icmp .ne 12, 3) := dk_160 0 12 (dk_at dksX4_bestFor_0 10 rfl rfl)
theorem dX4_bestFor_13 : decode cX4_bestFor 13 = .ok (.aload_n 0, 1) := dk_42 (dk_at dksX4_bestFor_0 13 rfl rfl)
theorem dX4_bestFor_14 : decode cX4_bestFor 14 = .ok (.iconst 0, 1) := dk_3 (dk_at dksX4_bestFor_0 14 rfl rfl)
theorem dX4_bestFor_15 : decode cX4_bestFor 15 = .ok (.putfield 202, 3) := dk_181 0 202 (dk_at dksX4_bestFor_0 15 rfl rfl)
theorem dX4_bestFor_18 : decode cX4_bestFor 18 = .ok (.iload 4, 2) := dk_21 4 (dk_at dksX4_bestFor_0 18 rfl rfl)
theorem dX4_bestFor_20 : decode cX4_bestFor 20 = .ok (.i2l, 1) := dk_133 (dk_at dksX4_bestFor_0 20 rfl rfl)
theorem dX4_bestFor_21 : decode cX4_bestFor 21 = .ok (.lreturn, 1) := dk_173 (dk_at dksX4_bestFor_0 21 rfl rfl)
theorem dX4_bestFor_22 : decode cX4_bestFor 22 = .ok (.aload_n 0, 1) := dk_42 (dk_at dksX4_bestFor_0 22 rfl rfl)
theorem dX4_bestFor_23 : decode cX4_bestFor 23 = .ok (.getfield 9, 3) := dk_180 0 9 (dk_at dksX4_bestFor_1 0 rfl rfl)
theorem dX4_bestFor_26 : decode cX4_bestFor 26 = .ok (.iconst 1, 1) := dk_4 (dk_at dksX4_bestFor_1 3 rfl rfl)
theorem dX4_bestFor_27 : decode cX4_bestFor 27 = .ok (.iload_n 1, 1) := dk_27 (dk_at dksX4_bestFor_1 4 rfl rfl)
theorem dX4_bestFor_28 : decode cX4_bestFor 28 = .ok (.iadd, 1) := dk_96 (dk_at dksX4_bestFor_1 5 rfl rfl)
theorem dX4_bestFor_29 : decode cX4_bestFor 29 = .ok (.iaload, 1) := dk_46 (dk_at dksX4_bestFor_1 6 rfl rfl)
theorem dX4_bestFor_30 : decode cX4_bestFor 30 = .ok (.istore 5, 2) := dk_54 5 (dk_at dksX4_bestFor_1 7 rfl rfl)
theorem dX4_bestFor_32 : decode cX4_bestFor 32 = .ok (.aload_n 0, 1) := dk_42 (dk_at dksX4_bestFor_1 9 rfl rfl)
theorem dX4_bestFor_33 : decode cX4_bestFor 33 = .ok (.getfield 9, 3) := dk_180 0 9 (dk_at dksX4_bestFor_1 10 rfl rfl)
theorem dX4_bestFor_36 : decode cX4_bestFor 36 = .ok (.iconst 1, 1) := dk_4 (dk_at dksX4_bestFor_1 13 rfl rfl)
theorem dX4_bestFor_37 : decode cX4_bestFor 37 = .ok (.iload_n 2, 1) := dk_28 (dk_at dksX4_bestFor_1 14 rfl rfl)
theorem dX4_bestFor_38 : decode cX4_bestFor 38 = .ok (.iadd, 1) := dk_96 (dk_at dksX4_bestFor_1 15 rfl rfl)
theorem dX4_bestFor_39 : decode cX4_bestFor 39 = .ok (.iaload, 1) := dk_46 (dk_at dksX4_bestFor_1 16 rfl rfl)
theorem dX4_bestFor_40 : decode cX4_bestFor 40 = .ok (.istore 6, 2) := dk_54 6 (dk_at dksX4_bestFor_1 17 rfl rfl)
theorem dX4_bestFor_42 : decode cX4_bestFor 42 = .ok (.aload_n 0, 1) := dk_42 (dk_at dksX4_bestFor_1 19 rfl rfl)
theorem dX4_bestFor_43 : decode cX4_bestFor 43 = .ok (.iload_n 1, 1) := dk_27 (dk_at dksX4_bestFor_1 20 rfl rfl)
theorem dX4_bestFor_44 : decode cX4_bestFor 44 = .ok (.iload_n 2, 1) := dk_28 (dk_at dksX4_bestFor_1 21 rfl rfl)
theorem dX4_bestFor_45 : decode cX4_bestFor 45 = .ok (.invokevirtual 157, 3) := dk_182 0 157 (dk_at dksX4_bestFor_2 0 rfl rfl)
theorem dX4_bestFor_48 : decode cX4_bestFor 48 = .ok (.aload_n 0, 1) := dk_42 (dk_at dksX4_bestFor_2 3 rfl rfl)
theorem dX4_bestFor_49 : decode cX4_bestFor 49 = .ok (.iload_n 1, 1) := dk_27 (dk_at dksX4_bestFor_2 4 rfl rfl)
theorem dX4_bestFor_50 : decode cX4_bestFor 50 = .ok (.iload_n 2, 1) := dk_28 (dk_at dksX4_bestFor_2 5 rfl rfl)
theorem dX4_bestFor_51 : decode cX4_bestFor 51 = .ok (.iload_n 3, 1) := dk_29 (dk_at dksX4_bestFor_2 6 rfl rfl)
theorem dX4_bestFor_52 : decode cX4_bestFor 52 = .ok (.iconst 1, 1) := dk_4 (dk_at dksX4_bestFor_2 7 rfl rfl)
theorem dX4_bestFor_53 : decode cX4_bestFor 53 = .ok (.isub, 1) := dk_100 (dk_at dksX4_bestFor_2 8 rfl rfl)
theorem dX4_bestFor_54 : decode cX4_bestFor 54 = .ok (.invokevirtual 205, 3) := dk_182 0 205 (dk_at dksX4_bestFor_2 9 rfl rfl)
theorem dX4_bestFor_57 : decode cX4_bestFor 57 = .ok (.lstore 7, 2) := dk_55 7 (dk_at dksX4_bestFor_2 12 rfl rfl)
theorem dX4_bestFor_59 : decode cX4_bestFor 59 = .ok (.aload_n 0, 1) := dk_42 (dk_at dksX4_bestFor_2 14 rfl rfl)
theorem dX4_bestFor_60 : decode cX4_bestFor 60 = .ok (.getfield 9, 3) := dk_180 0 9 (dk_at dksX4_bestFor_2 15 rfl rfl)
theorem dX4_bestFor_63 : decode cX4_bestFor 63 = .ok (.iconst 1, 1) := dk_4 (dk_at dksX4_bestFor_2 18 rfl rfl)
theorem dX4_bestFor_64 : decode cX4_bestFor 64 = .ok (.iload_n 1, 1) := dk_27 (dk_at dksX4_bestFor_2 19 rfl rfl)
theorem dX4_bestFor_65 : decode cX4_bestFor 65 = .ok (.iadd, 1) := dk_96 (dk_at dksX4_bestFor_2 20 rfl rfl)
theorem dX4_bestFor_66 : decode cX4_bestFor 66 = .ok (.aload_n 0, 1) := dk_42 (dk_at dksX4_bestFor_2 21 rfl rfl)
theorem dX4_bestFor_67 : decode cX4_bestFor 67 = .ok (.iload 5, 2) := dk_21 5 (dk_at dksX4_bestFor_2 22 rfl rfl)
theorem dX4_bestFor_69 : decode cX4_bestFor 69 = .ok (.invokevirtual 154, 3) := dk_182 0 154 (dk_at dksX4_bestFor_3 0 rfl rfl)
theorem dX4_bestFor_72 : decode cX4_bestFor 72 = .ok (.iastore, 1) := dk_79 (dk_at dksX4_bestFor_3 3 rfl rfl)
theorem dX4_bestFor_73 : decode cX4_bestFor 73 = .ok (.aload_n 0, 1) := dk_42 (dk_at dksX4_bestFor_3 4 rfl rfl)
theorem dX4_bestFor_74 : decode cX4_bestFor 74 = .ok (.getfield 9, 3) := dk_180 0 9 (dk_at dksX4_bestFor_3 5 rfl rfl)
theorem dX4_bestFor_77 : decode cX4_bestFor 77 = .ok (.iconst 1, 1) := dk_4 (dk_at dksX4_bestFor_3 8 rfl rfl)
theorem dX4_bestFor_78 : decode cX4_bestFor 78 = .ok (.iload_n 2, 1) := dk_28 (dk_at dksX4_bestFor_3 9 rfl rfl)
theorem dX4_bestFor_79 : decode cX4_bestFor 79 = .ok (.iadd, 1) := dk_96 (dk_at dksX4_bestFor_3 10 rfl rfl)
theorem dX4_bestFor_80 : decode cX4_bestFor 80 = .ok (.aload_n 0, 1) := dk_42 (dk_at dksX4_bestFor_3 11 rfl rfl)
theorem dX4_bestFor_81 : decode cX4_bestFor 81 = .ok (.iload 6, 2) := dk_21 6 (dk_at dksX4_bestFor_3 12 rfl rfl)
theorem dX4_bestFor_83 : decode cX4_bestFor 83 = .ok (.invokevirtual 151, 3) := dk_182 0 151 (dk_at dksX4_bestFor_3 14 rfl rfl)
theorem dX4_bestFor_86 : decode cX4_bestFor 86 = .ok (.iastore, 1) := dk_79 (dk_at dksX4_bestFor_3 17 rfl rfl)
theorem dX4_bestFor_87 : decode cX4_bestFor 87 = .ok (.aload_n 0, 1) := dk_42 (dk_at dksX4_bestFor_3 18 rfl rfl)
theorem dX4_bestFor_88 : decode cX4_bestFor 88 = .ok (.iload_n 1, 1) := dk_27 (dk_at dksX4_bestFor_3 19 rfl rfl)
theorem dX4_bestFor_89 : decode cX4_bestFor 89 = .ok (.iload_n 2, 1) := dk_28 (dk_at dksX4_bestFor_3 20 rfl rfl)
theorem dX4_bestFor_90 : decode cX4_bestFor 90 = .ok (.iload_n 3, 1) := dk_29 (dk_at dksX4_bestFor_3 21 rfl rfl)
theorem dX4_bestFor_91 : decode cX4_bestFor 91 = .ok (.iconst 1, 1) := dk_4 (dk_at dksX4_bestFor_3 22 rfl rfl)
theorem dX4_bestFor_92 : decode cX4_bestFor 92 = .ok (.isub, 1) := dk_100 (dk_at dksX4_bestFor_3 23 rfl rfl)
theorem dX4_bestFor_93 : decode cX4_bestFor 93 = .ok (.invokevirtual 205, 3) := dk_182 0 205 (dk_at dksX4_bestFor_4 0 rfl rfl)
theorem dX4_bestFor_96 : decode cX4_bestFor 96 = .ok (.lstore 9, 2) := dk_55 9 (dk_at dksX4_bestFor_4 3 rfl rfl)
theorem dX4_bestFor_98 : decode cX4_bestFor 98 = .ok (.aload_n 0, 1) := dk_42 (dk_at dksX4_bestFor_4 5 rfl rfl)
theorem dX4_bestFor_99 : decode cX4_bestFor 99 = .ok (.getfield 9, 3) := dk_180 0 9 (dk_at dksX4_bestFor_4 6 rfl rfl)
theorem dX4_bestFor_102 : decode cX4_bestFor 102 = .ok (.iconst 1, 1) := dk_4 (dk_at dksX4_bestFor_4 9 rfl rfl)
theorem dX4_bestFor_103 : decode cX4_bestFor 103 = .ok (.iload_n 1, 1) := dk_27 (dk_at dksX4_bestFor_4 10 rfl rfl)
theorem dX4_bestFor_104 : decode cX4_bestFor 104 = .ok (.iadd, 1) := dk_96 (dk_at dksX4_bestFor_4 11 rfl rfl)
theorem dX4_bestFor_105 : decode cX4_bestFor 105 = .ok (.iload 5, 2) := dk_21 5 (dk_at dksX4_bestFor_4 12 rfl rfl)
theorem dX4_bestFor_107 : decode cX4_bestFor 107 = .ok (.iastore, 1) := dk_79 (dk_at dksX4_bestFor_4 14 rfl rfl)
theorem dX4_bestFor_108 : decode cX4_bestFor 108 = .ok (.aload_n 0, 1) := dk_42 (dk_at dksX4_bestFor_4 15 rfl rfl)
theorem dX4_bestFor_109 : decode cX4_bestFor 109 = .ok (.getfield 9, 3) := dk_180 0 9 (dk_at dksX4_bestFor_4 16 rfl rfl)
theorem dX4_bestFor_112 : decode cX4_bestFor 112 = .ok (.iconst 1, 1) := dk_4 (dk_at dksX4_bestFor_4 19 rfl rfl)
theorem dX4_bestFor_113 : decode cX4_bestFor 113 = .ok (.iload_n 2, 1) := dk_28 (dk_at dksX4_bestFor_4 20 rfl rfl)
theorem dX4_bestFor_114 : decode cX4_bestFor 114 = .ok (.iadd, 1) := dk_96 (dk_at dksX4_bestFor_4 21 rfl rfl)
theorem dX4_bestFor_115 : decode cX4_bestFor 115 = .ok (.iload 6, 2) := dk_21 6 (dk_at dksX4_bestFor_4 22 rfl rfl)
theorem dX4_bestFor_117 : decode cX4_bestFor 117 = .ok (.iastore, 1) := dk_79 (dk_at dksX4_bestFor_5 0 rfl rfl)
theorem dX4_bestFor_118 : decode cX4_bestFor 118 = .ok (.aload_n 0, 1) := dk_42 (dk_at dksX4_bestFor_5 1 rfl rfl)
theorem dX4_bestFor_119 : decode cX4_bestFor 119 = .ok (.getfield 9, 3) := dk_180 0 9 (dk_at dksX4_bestFor_5 2 rfl rfl)
theorem dX4_bestFor_122 : decode cX4_bestFor 122 = .ok (.iconst 0, 1) := dk_3 (dk_at dksX4_bestFor_5 5 rfl rfl)
theorem dX4_bestFor_123 : decode cX4_bestFor 123 = .ok (.dup2, 1) := dk_92 (dk_at dksX4_bestFor_5 6 rfl rfl)
theorem dX4_bestFor_124 : decode cX4_bestFor 124 = .ok (.iaload, 1) := dk_46 (dk_at dksX4_bestFor_5 7 rfl rfl)
theorem dX4_bestFor_125 : decode cX4_bestFor 125 = .ok (.iconst 1, 1) := dk_4 (dk_at dksX4_bestFor_5 8 rfl rfl)
theorem dX4_bestFor_126 : decode cX4_bestFor 126 = .ok (.isub, 1) := dk_100 (dk_at dksX4_bestFor_5 9 rfl rfl)
theorem dX4_bestFor_127 : decode cX4_bestFor 127 = .ok (.iastore, 1) := dk_79 (dk_at dksX4_bestFor_5 10 rfl rfl)
theorem dX4_bestFor_128 : decode cX4_bestFor 128 = .ok (.iload 4, 2) := dk_21 4 (dk_at dksX4_bestFor_5 11 rfl rfl)
theorem dX4_bestFor_130 : decode cX4_bestFor 130 = .ok (.i2l, 1) := dk_133 (dk_at dksX4_bestFor_5 13 rfl rfl)
theorem dX4_bestFor_131 : decode cX4_bestFor 131 = .ok (.lload 7, 2) := dk_22 7 (dk_at dksX4_bestFor_5 14 rfl rfl)
theorem dX4_bestFor_133 : decode cX4_bestFor 133 = .ok (.lmul, 1) := dk_105 (dk_at dksX4_bestFor_5 16 rfl rfl)
theorem dX4_bestFor_134 : decode cX4_bestFor 134 = .ok (.bipush 10, 2) := dk_16 10 (dk_at dksX4_bestFor_5 17 rfl rfl)
theorem dX4_bestFor_136 : decode cX4_bestFor 136 = .ok (.iload 4, 2) := dk_21 4 (dk_at dksX4_bestFor_5 19 rfl rfl)
theorem dX4_bestFor_138 : decode cX4_bestFor 138 = .ok (.isub, 1) := dk_100 (dk_at dksX4_bestFor_5 21 rfl rfl)
theorem dX4_bestFor_139 : decode cX4_bestFor 139 = .ok (.i2l, 1) := dk_133 (dk_at dksX4_bestFor_5 22 rfl rfl)
theorem dX4_bestFor_140 : decode cX4_bestFor 140 = .ok (.lload 9, 2) := dk_22 9 (dk_at dksX4_bestFor_6 0 rfl rfl)
theorem dX4_bestFor_142 : decode cX4_bestFor 142 = .ok (.lmul, 1) := dk_105 (dk_at dksX4_bestFor_6 2 rfl rfl)
theorem dX4_bestFor_143 : decode cX4_bestFor 143 = .ok (.ladd, 1) := dk_97 (dk_at dksX4_bestFor_6 3 rfl rfl)
theorem dX4_bestFor_144 : decode cX4_bestFor 144 = .ok (.lstore 11, 2) := dk_55 11 (dk_at dksX4_bestFor_6 4 rfl rfl)
theorem dX4_bestFor_146 : decode cX4_bestFor 146 = .ok (.aload_n 0, 1) := dk_42 (dk_at dksX4_bestFor_6 6 rfl rfl)
theorem dX4_bestFor_147 : decode cX4_bestFor 147 = .ok (.ldc2_w 161, 3) := dk_20 0 161 (dk_at dksX4_bestFor_6 7 rfl rfl)
theorem dX4_bestFor_150 : decode cX4_bestFor 150 = .ok (.lload 9, 2) := dk_22 9 (dk_at dksX4_bestFor_6 10 rfl rfl)
theorem dX4_bestFor_152 : decode cX4_bestFor 152 = .ok (.lmul, 1) := dk_105 (dk_at dksX4_bestFor_6 12 rfl rfl)
theorem dX4_bestFor_153 : decode cX4_bestFor 153 = .ok (.lload 11, 2) := dk_22 11 (dk_at dksX4_bestFor_6 13 rfl rfl)
theorem dX4_bestFor_155 : decode cX4_bestFor 155 = .ok (.lcmp, 1) := dk_148 (dk_at dksX4_bestFor_6 15 rfl rfl)
theorem dX4_bestFor_156 : decode cX4_bestFor 156 = .ok (.ifCond .le 7, 3) := dk_158 0 7 (dk_at dksX4_bestFor_6 16 rfl rfl)
theorem dX4_bestFor_159 : decode cX4_bestFor 159 = .ok (.iconst 1, 1) := dk_4 (dk_at dksX4_bestFor_6 19 rfl rfl)
theorem dX4_bestFor_160 : decode cX4_bestFor 160 = .ok (.goto 4, 3) := dk_167 0 4 (dk_at dksX4_bestFor_6 20 rfl rfl)
theorem dX4_bestFor_163 : decode cX4_bestFor 163 = .ok (.iconst 0, 1) := dk_3 (dk_at dksX4_bestFor_6 23 rfl rfl)
theorem dX4_bestFor_164 : decode cX4_bestFor 164 = .ok (.putfield 202, 3) := dk_181 0 202 (dk_at dksX4_bestFor_7 0 rfl rfl)
theorem dX4_bestFor_167 : decode cX4_bestFor 167 = .ok (.aload_n 0, 1) := dk_42 (dk_at dksX4_bestFor_7 3 rfl rfl)
theorem dX4_bestFor_168 : decode cX4_bestFor 168 = .ok (.getfield 202, 3) := dk_180 0 202 (dk_at dksX4_bestFor_7 4 rfl rfl)
theorem dX4_bestFor_171 : decode cX4_bestFor 171 = .ok (.ifCond .eq 12, 3) := dk_153 0 12 (dk_at dksX4_bestFor_7 7 rfl rfl)
theorem dX4_bestFor_174 : decode cX4_bestFor 174 = .ok (.ldc2_w 161, 3) := dk_20 0 161 (dk_at dksX4_bestFor_7 10 rfl rfl)
theorem dX4_bestFor_177 : decode cX4_bestFor 177 = .ok (.lload 9, 2) := dk_22 9 (dk_at dksX4_bestFor_7 13 rfl rfl)
theorem dX4_bestFor_179 : decode cX4_bestFor 179 = .ok (.lmul, 1) := dk_105 (dk_at dksX4_bestFor_7 15 rfl rfl)
theorem dX4_bestFor_180 : decode cX4_bestFor 180 = .ok (.goto 5, 3) := dk_167 0 5 (dk_at dksX4_bestFor_7 16 rfl rfl)
theorem dX4_bestFor_183 : decode cX4_bestFor 183 = .ok (.lload 11, 2) := dk_22 11 (dk_at dksX4_bestFor_7 19 rfl rfl)
theorem dX4_bestFor_185 : decode cX4_bestFor 185 = .ok (.lreturn, 1) := dk_173 (dk_at dksX4_bestFor_7 21 rfl rfl)
abbrev cX4_loses : ByteArray := prog_19_method_52_code
def yX4_loses : MethodName := ⟨RX4, "loses", "(III)I"⟩
def dkwX4_loses_2 : List UInt8 := [153, 0, 7, 4, 167, 0, 4, 3, 172]
abbrev dktX4_loses_2 : List UInt8 := dkwX4_loses_2 ++ []
def dkwX4_loses_1 : List UInt8 := [4, 16, 8, 184, 0, 48, 154, 0, 6, 16, 254, 172, 42, 27, 28, 29, 182, 0, 205, 88, 42, 180, 0, 202]
abbrev dktX4_loses_1 : List UInt8 := dkwX4_loses_1 ++ dktX4_loses_2
def dkwX4_loses_0 : List UInt8 := [42, 27, 182, 0, 52, 153, 0, 11, 42, 28, 182, 0, 52, 154, 0, 5, 2, 172, 27, 28, 159, 0, 13, 29]
abbrev dktX4_loses_0 : List UInt8 := dkwX4_loses_0 ++ dktX4_loses_1
theorem dksX4_loses_0 : cX4_loses.data.toList.drop 0 = dktX4_loses_0 := by decide +kernel
theorem dksX4_loses_1 : cX4_loses.data.toList.drop 24 = dktX4_loses_1 := dk_seg dksX4_loses_0 24 rfl rfl
theorem dksX4_loses_2 : cX4_loses.data.toList.drop 48 = dktX4_loses_2 := dk_seg dksX4_loses_1 24 rfl rfl
theorem dX4_loses_0 : decode cX4_loses 0 = .ok (.aload_n 0, 1) := dk_42 (dk_at dksX4_loses_0 0 rfl rfl)
theorem dX4_loses_1 : decode cX4_loses 1 = .ok (.iload_n 1, 1) := dk_27 (dk_at dksX4_loses_0 1 rfl rfl)
theorem dX4_loses_2 : decode cX4_loses 2 = .ok (.invokevirtual 52, 3) := dk_182 0 52 (dk_at dksX4_loses_0 2 rfl rfl)
theorem dX4_loses_5 : decode cX4_loses 5 = .ok (.ifCond .eq 11, 3) := dk_153 0 11 (dk_at dksX4_loses_0 5 rfl rfl)
theorem dX4_loses_8 : decode cX4_loses 8 = .ok (.aload_n 0, 1) := dk_42 (dk_at dksX4_loses_0 8 rfl rfl)
theorem dX4_loses_9 : decode cX4_loses 9 = .ok (.iload_n 2, 1) := dk_28 (dk_at dksX4_loses_0 9 rfl rfl)
theorem dX4_loses_10 : decode cX4_loses 10 = .ok (.invokevirtual 52, 3) := dk_182 0 52 (dk_at dksX4_loses_0 10 rfl rfl)
theorem dX4_loses_13 : decode cX4_loses 13 = .ok (.ifCond .ne 5, 3) := dk_154 0 5 (dk_at dksX4_loses_0 13 rfl rfl)
theorem dX4_loses_16 : decode cX4_loses 16 = .ok (.iconst (-1), 1) := dk_2 (dk_at dksX4_loses_0 16 rfl rfl)
theorem dX4_loses_17 : decode cX4_loses 17 = .ok (.ireturn, 1) := dk_172 (dk_at dksX4_loses_0 17 rfl rfl)
theorem dX4_loses_18 : decode cX4_loses 18 = .ok (.iload_n 1, 1) := dk_27 (dk_at dksX4_loses_0 18 rfl rfl)
theorem dX4_loses_19 : decode cX4_loses 19 = .ok (.iload_n 2, 1) := dk_28 (dk_at dksX4_loses_0 19 rfl rfl)
theorem dX4_loses_20 : decode cX4_loses 20 = .ok (.if_icmp .eq 13, 3) := dk_159 0 13 (dk_at dksX4_loses_0 20 rfl rfl)
theorem dX4_loses_23 : decode cX4_loses 23 = .ok (.iload_n 3, 1) := dk_29 (dk_at dksX4_loses_0 23 rfl rfl)
theorem dX4_loses_24 : decode cX4_loses 24 = .ok (.iconst 1, 1) := dk_4 (dk_at dksX4_loses_1 0 rfl rfl)
theorem dX4_loses_25 : decode cX4_loses 25 = .ok (.bipush 8, 2) := dk_16 8 (dk_at dksX4_loses_1 1 rfl rfl)
theorem dX4_loses_27 : decode cX4_loses 27 = .ok (.invokestatic 48, 3) := dk_184 0 48 (dk_at dksX4_loses_1 3 rfl rfl)
theorem dX4_loses_30 : decode cX4_loses 30 = .ok (.ifCond .ne 6, 3) := dk_154 0 6 (dk_at dksX4_loses_1 6 rfl rfl)
theorem dX4_loses_33 : decode cX4_loses 33 = .ok (.bipush (-2), 2) := dk_16 254 (dk_at dksX4_loses_1 9 rfl rfl)
theorem dX4_loses_35 : decode cX4_loses 35 = .ok (.ireturn, 1) := dk_172 (dk_at dksX4_loses_1 11 rfl rfl)
theorem dX4_loses_36 : decode cX4_loses 36 = .ok (.aload_n 0, 1) := dk_42 (dk_at dksX4_loses_1 12 rfl rfl)
theorem dX4_loses_37 : decode cX4_loses 37 = .ok (.iload_n 1, 1) := dk_27 (dk_at dksX4_loses_1 13 rfl rfl)
theorem dX4_loses_38 : decode cX4_loses 38 = .ok (.iload_n 2, 1) := dk_28 (dk_at dksX4_loses_1 14 rfl rfl)
theorem dX4_loses_39 : decode cX4_loses 39 = .ok (.iload_n 3, 1) := dk_29 (dk_at dksX4_loses_1 15 rfl rfl)
theorem dX4_loses_40 : decode cX4_loses 40 = .ok (.invokevirtual 205, 3) := dk_182 0 205 (dk_at dksX4_loses_1 16 rfl rfl)
theorem dX4_loses_43 : decode cX4_loses 43 = .ok (.pop2, 1) := dk_88 (dk_at dksX4_loses_1 19 rfl rfl)
theorem dX4_loses_44 : decode cX4_loses 44 = .ok (.aload_n 0, 1) := dk_42 (dk_at dksX4_loses_1 20 rfl rfl)
theorem dX4_loses_45 : decode cX4_loses 45 = .ok (.getfield 202, 3) := dk_180 0 202 (dk_at dksX4_loses_1 21 rfl rfl)
theorem dX4_loses_48 : decode cX4_loses 48 = .ok (.ifCond .eq 7, 3) := dk_153 0 7 (dk_at dksX4_loses_2 0 rfl rfl)
theorem dX4_loses_51 : decode cX4_loses 51 = .ok (.iconst 1, 1) := dk_4 (dk_at dksX4_loses_2 3 rfl rfl)
theorem dX4_loses_52 : decode cX4_loses 52 = .ok (.goto 4, 3) := dk_167 0 4 (dk_at dksX4_loses_2 4 rfl rfl)
theorem dX4_loses_55 : decode cX4_loses 55 = .ok (.iconst 0, 1) := dk_3 (dk_at dksX4_loses_2 7 rfl rfl)
theorem dX4_loses_56 : decode cX4_loses 56 = .ok (.ireturn, 1) := dk_172 (dk_at dksX4_loses_2 8 rfl rfl)
abbrev cX4_order : ByteArray := prog_19_method_57_code
def yX4_order : MethodName := ⟨RX4, "order", "(III)I"⟩
def dkwX4_order_1 : List UInt8 := [182, 0, 221, 154, 0, 6, 16, 254, 172, 42, 27, 28, 182, 0, 224, 42, 180, 0, 38, 29, 46, 172]
abbrev dktX4_order_1 : List UInt8 := dkwX4_order_1 ++ []
def dkwX4_order_0 : List UInt8 := [42, 27, 182, 0, 52, 153, 0, 12, 29, 3, 6, 184, 0, 48, 154, 0, 5, 2, 172, 42, 27, 28]
abbrev dktX4_order_0 : List UInt8 := dkwX4_order_0 ++ dktX4_order_1
theorem dksX4_order_0 : cX4_order.data.toList.drop 0 = dktX4_order_0 := by decide +kernel
theorem dksX4_order_1 : cX4_order.data.toList.drop 22 = dktX4_order_1 := dk_seg dksX4_order_0 22 rfl rfl
theorem dX4_order_0 : decode cX4_order 0 = .ok (.aload_n 0, 1) := dk_42 (dk_at dksX4_order_0 0 rfl rfl)
theorem dX4_order_1 : decode cX4_order 1 = .ok (.iload_n 1, 1) := dk_27 (dk_at dksX4_order_0 1 rfl rfl)
theorem dX4_order_2 : decode cX4_order 2 = .ok (.invokevirtual 52, 3) := dk_182 0 52 (dk_at dksX4_order_0 2 rfl rfl)
theorem dX4_order_5 : decode cX4_order 5 = .ok (.ifCond .eq 12, 3) := dk_153 0 12 (dk_at dksX4_order_0 5 rfl rfl)
theorem dX4_order_8 : decode cX4_order 8 = .ok (.iload_n 3, 1) := dk_29 (dk_at dksX4_order_0 8 rfl rfl)
theorem dX4_order_9 : decode cX4_order 9 = .ok (.iconst 0, 1) := dk_3 (dk_at dksX4_order_0 9 rfl rfl)
theorem dX4_order_10 : decode cX4_order 10 = .ok (.iconst 3, 1) := dk_6 (dk_at dksX4_order_0 10 rfl rfl)
theorem dX4_order_11 : decode cX4_order 11 = .ok (.invokestatic 48, 3) := dk_184 0 48 (dk_at dksX4_order_0 11 rfl rfl)
theorem dX4_order_14 : decode cX4_order 14 = .ok (.ifCond .ne 5, 3) := dk_154 0 5 (dk_at dksX4_order_0 14 rfl rfl)
theorem dX4_order_17 : decode cX4_order 17 = .ok (.iconst (-1), 1) := dk_2 (dk_at dksX4_order_0 17 rfl rfl)
theorem dX4_order_18 : decode cX4_order 18 = .ok (.ireturn, 1) := dk_172 (dk_at dksX4_order_0 18 rfl rfl)
theorem dX4_order_19 : decode cX4_order 19 = .ok (.aload_n 0, 1) := dk_42 (dk_at dksX4_order_0 19 rfl rfl)
theorem dX4_order_20 : decode cX4_order 20 = .ok (.iload_n 1, 1) := dk_27 (dk_at dksX4_order_0 20 rfl rfl)
theorem dX4_order_21 : decode cX4_order 21 = .ok (.iload_n 2, 1) := dk_28 (dk_at dksX4_order_0 21 rfl rfl)
theorem dX4_order_22 : decode cX4_order 22 = .ok (.invokevirtual 221, 3) := dk_182 0 221 (dk_at dksX4_order_1 0 rfl rfl)
theorem dX4_order_25 : decode cX4_order 25 = .ok (.ifCond .ne 6, 3) := dk_154 0 6 (dk_at dksX4_order_1 3 rfl rfl)
theorem dX4_order_28 : decode cX4_order 28 = .ok (.bipush (-2), 2) := dk_16 254 (dk_at dksX4_order_1 6 rfl rfl)
theorem dX4_order_30 : decode cX4_order 30 = .ok (.ireturn, 1) := dk_172 (dk_at dksX4_order_1 8 rfl rfl)
theorem dX4_order_31 : decode cX4_order 31 = .ok (.aload_n 0, 1) := dk_42 (dk_at dksX4_order_1 9 rfl rfl)
theorem dX4_order_32 : decode cX4_order 32 = .ok (.iload_n 1, 1) := dk_27 (dk_at dksX4_order_1 10 rfl rfl)
theorem dX4_order_33 : decode cX4_order 33 = .ok (.iload_n 2, 1) := dk_28 (dk_at dksX4_order_1 11 rfl rfl)
theorem dX4_order_34 : decode cX4_order 34 = .ok (.invokevirtual 224, 3) := dk_182 0 224 (dk_at dksX4_order_1 12 rfl rfl)
theorem dX4_order_37 : decode cX4_order 37 = .ok (.aload_n 0, 1) := dk_42 (dk_at dksX4_order_1 15 rfl rfl)
theorem dX4_order_38 : decode cX4_order 38 = .ok (.getfield 38, 3) := dk_180 0 38 (dk_at dksX4_order_1 16 rfl rfl)
theorem dX4_order_41 : decode cX4_order 41 = .ok (.iload_n 3, 1) := dk_29 (dk_at dksX4_order_1 19 rfl rfl)
theorem dX4_order_42 : decode cX4_order 42 = .ok (.iaload, 1) := dk_46 (dk_at dksX4_order_1 20 rfl rfl)
theorem dX4_order_43 : decode cX4_order 43 = .ok (.ireturn, 1) := dk_172 (dk_at dksX4_order_1 21 rfl rfl)
abbrev cX4_isSet : ByteArray := prog_19_method_55_code
def yX4_isSet : MethodName := ⟨RX4, "isSet", "(II)Z"⟩
def dkwX4_isSet_1 : List UInt8 := [4, 167, 0, 4, 3, 172]
abbrev dktX4_isSet_1 : List UInt8 := dkwX4_isSet_1 ++ []
def dkwX4_isSet_0 : List UInt8 := [28, 155, 0, 27, 28, 42, 180, 0, 9, 16, 6, 46, 122, 154, 0, 15, 28, 27, 122, 4, 126, 154, 0, 7]
abbrev dktX4_isSet_0 : List UInt8 := dkwX4_isSet_0 ++ dktX4_isSet_1
theorem dksX4_isSet_0 : cX4_isSet.data.toList.drop 0 = dktX4_isSet_0 := by decide +kernel
theorem dksX4_isSet_1 : cX4_isSet.data.toList.drop 24 = dktX4_isSet_1 := dk_seg dksX4_isSet_0 24 rfl rfl
theorem dX4_isSet_0 : decode cX4_isSet 0 = .ok (.iload_n 2, 1) := dk_28 (dk_at dksX4_isSet_0 0 rfl rfl)
theorem dX4_isSet_1 : decode cX4_isSet 1 = .ok (.ifCond .lt 27, 3) := dk_155 0 27 (dk_at dksX4_isSet_0 1 rfl rfl)
theorem dX4_isSet_4 : decode cX4_isSet 4 = .ok (.iload_n 2, 1) := dk_28 (dk_at dksX4_isSet_0 4 rfl rfl)
theorem dX4_isSet_5 : decode cX4_isSet 5 = .ok (.aload_n 0, 1) := dk_42 (dk_at dksX4_isSet_0 5 rfl rfl)
theorem dX4_isSet_6 : decode cX4_isSet 6 = .ok (.getfield 9, 3) := dk_180 0 9 (dk_at dksX4_isSet_0 6 rfl rfl)
theorem dX4_isSet_9 : decode cX4_isSet 9 = .ok (.bipush 6, 2) := dk_16 6 (dk_at dksX4_isSet_0 9 rfl rfl)
theorem dX4_isSet_11 : decode cX4_isSet 11 = .ok (.iaload, 1) := dk_46 (dk_at dksX4_isSet_0 11 rfl rfl)
theorem dX4_isSet_12 : decode cX4_isSet 12 = .ok (.ishr, 1) := dk_122 (dk_at dksX4_isSet_0 12 rfl rfl)
theorem dX4_isSet_13 : decode cX4_isSet 13 = .ok (.ifCond .ne 15, 3) := dk_154 0 15 (dk_at dksX4_isSet_0 13 rfl rfl)
theorem dX4_isSet_16 : decode cX4_isSet 16 = .ok (.iload_n 2, 1) := dk_28 (dk_at dksX4_isSet_0 16 rfl rfl)
theorem dX4_isSet_17 : decode cX4_isSet 17 = .ok (.iload_n 1, 1) := dk_27 (dk_at dksX4_isSet_0 17 rfl rfl)
theorem dX4_isSet_18 : decode cX4_isSet 18 = .ok (.ishr, 1) := dk_122 (dk_at dksX4_isSet_0 18 rfl rfl)
theorem dX4_isSet_19 : decode cX4_isSet 19 = .ok (.iconst 1, 1) := dk_4 (dk_at dksX4_isSet_0 19 rfl rfl)
theorem dX4_isSet_20 : decode cX4_isSet 20 = .ok (.iand, 1) := dk_126 (dk_at dksX4_isSet_0 20 rfl rfl)
theorem dX4_isSet_21 : decode cX4_isSet 21 = .ok (.ifCond .ne 7, 3) := dk_154 0 7 (dk_at dksX4_isSet_0 21 rfl rfl)
theorem dX4_isSet_24 : decode cX4_isSet 24 = .ok (.iconst 1, 1) := dk_4 (dk_at dksX4_isSet_1 0 rfl rfl)
theorem dX4_isSet_25 : decode cX4_isSet 25 = .ok (.goto 4, 3) := dk_167 0 4 (dk_at dksX4_isSet_1 1 rfl rfl)
theorem dX4_isSet_28 : decode cX4_isSet 28 = .ok (.iconst 0, 1) := dk_3 (dk_at dksX4_isSet_1 4 rfl rfl)
theorem dX4_isSet_29 : decode cX4_isSet 29 = .ok (.ireturn, 1) := dk_172 (dk_at dksX4_isSet_1 5 rfl rfl)
abbrev cX4_looksForOrder : ByteArray := prog_19_method_56_code
def yX4_looksForOrder : MethodName := ⟨RX4, "looksForOrder", "(II)V"⟩
def dkwX4_looksForOrder_0 : List UInt8 := [42, 20, 0, 219, 181, 0, 212, 42, 27, 28, 3, 182, 0, 215, 177]
abbrev dktX4_looksForOrder_0 : List UInt8 := dkwX4_looksForOrder_0 ++ []
theorem dksX4_looksForOrder_0 : cX4_looksForOrder.data.toList.drop 0 = dktX4_looksForOrder_0 := by decide +kernel
theorem dX4_looksForOrder_0 : decode cX4_looksForOrder 0 = .ok (.aload_n 0, 1) := dk_42 (dk_at dksX4_looksForOrder_0 0 rfl rfl)
theorem dX4_looksForOrder_1 : decode cX4_looksForOrder 1 = .ok (.ldc2_w 219, 3) := dk_20 0 219 (dk_at dksX4_looksForOrder_0 1 rfl rfl)
theorem dX4_looksForOrder_4 : decode cX4_looksForOrder 4 = .ok (.putfield 212, 3) := dk_181 0 212 (dk_at dksX4_looksForOrder_0 4 rfl rfl)
theorem dX4_looksForOrder_7 : decode cX4_looksForOrder 7 = .ok (.aload_n 0, 1) := dk_42 (dk_at dksX4_looksForOrder_0 7 rfl rfl)
theorem dX4_looksForOrder_8 : decode cX4_looksForOrder 8 = .ok (.iload_n 1, 1) := dk_27 (dk_at dksX4_looksForOrder_0 8 rfl rfl)
theorem dX4_looksForOrder_9 : decode cX4_looksForOrder 9 = .ok (.iload_n 2, 1) := dk_28 (dk_at dksX4_looksForOrder_0 9 rfl rfl)
theorem dX4_looksForOrder_10 : decode cX4_looksForOrder 10 = .ok (.iconst 0, 1) := dk_3 (dk_at dksX4_looksForOrder_0 10 rfl rfl)
theorem dX4_looksForOrder_11 : decode cX4_looksForOrder 11 = .ok (.invokevirtual 215, 3) := dk_182 0 215 (dk_at dksX4_looksForOrder_0 11 rfl rfl)
theorem dX4_looksForOrder_14 : decode cX4_looksForOrder 14 = .ok (.return_, 1) := dk_177 (dk_at dksX4_looksForOrder_0 14 rfl rfl)
abbrev cX4_ordersFrom : ByteArray := prog_19_method_54_code
def yX4_ordersFrom : MethodName := ⟨RX4, "ordersFrom", "(III)V"⟩
def dkwX4_ordersFrom_5 : List UInt8 := [132, 4, 1, 167, 255, 207, 177]
abbrev dktX4_ordersFrom_5 : List UInt8 := dkwX4_ordersFrom_5 ++ []
def dkwX4_ordersFrom_4 : List UInt8 := [42, 180, 0, 35, 29, 21, 4, 79, 42, 27, 28, 4, 21, 4, 120, 2, 130, 126, 29, 4, 96, 182, 0, 215]
abbrev dktX4_ordersFrom_4 : List UInt8 := dkwX4_ordersFrom_4 ++ dktX4_ordersFrom_5
def dkwX4_ordersFrom_3 : List UInt8 := [54, 4, 21, 4, 42, 180, 0, 9, 16, 6, 46, 162, 0, 43, 28, 21, 4, 122, 4, 126, 4, 160, 0, 27]
abbrev dktX4_ordersFrom_3 : List UInt8 := dkwX4_ordersFrom_3 ++ dktX4_ordersFrom_4
def dkwX4_ordersFrom_2 : List UInt8 := [162, 0, 13, 42, 180, 0, 35, 21, 6, 46, 167, 0, 5, 16, 251, 79, 132, 6, 1, 167, 255, 222, 177, 3]
abbrev dktX4_ordersFrom_2 : List UInt8 := dkwX4_ordersFrom_2 ++ dktX4_ordersFrom_3
def dkwX4_ordersFrom_1 : List UInt8 := [22, 4, 181, 0, 212, 3, 54, 6, 21, 6, 7, 162, 0, 34, 42, 180, 0, 38, 21, 6, 21, 6, 29]
abbrev dktX4_ordersFrom_1 : List UInt8 := dkwX4_ordersFrom_1 ++ dktX4_ordersFrom_2
def dkwX4_ordersFrom_0 : List UInt8 := [28, 154, 0, 69, 42, 27, 3, 29, 182, 0, 209, 55, 4, 22, 4, 42, 180, 0, 212, 148, 158, 0, 49, 42]
abbrev dktX4_ordersFrom_0 : List UInt8 := dkwX4_ordersFrom_0 ++ dktX4_ordersFrom_1
theorem dksX4_ordersFrom_0 : cX4_ordersFrom.data.toList.drop 0 = dktX4_ordersFrom_0 := by decide +kernel
theorem dksX4_ordersFrom_1 : cX4_ordersFrom.data.toList.drop 24 = dktX4_ordersFrom_1 := dk_seg dksX4_ordersFrom_0 24 rfl rfl
theorem dksX4_ordersFrom_2 : cX4_ordersFrom.data.toList.drop 47 = dktX4_ordersFrom_2 := dk_seg dksX4_ordersFrom_1 23 rfl rfl
theorem dksX4_ordersFrom_3 : cX4_ordersFrom.data.toList.drop 71 = dktX4_ordersFrom_3 := dk_seg dksX4_ordersFrom_2 24 rfl rfl
theorem dksX4_ordersFrom_4 : cX4_ordersFrom.data.toList.drop 95 = dktX4_ordersFrom_4 := dk_seg dksX4_ordersFrom_3 24 rfl rfl
theorem dksX4_ordersFrom_5 : cX4_ordersFrom.data.toList.drop 119 = dktX4_ordersFrom_5 := dk_seg dksX4_ordersFrom_4 24 rfl rfl
theorem dX4_ordersFrom_0 : decode cX4_ordersFrom 0 = .ok (.iload_n 2, 1) := dk_28 (dk_at dksX4_ordersFrom_0 0 rfl rfl)
theorem dX4_ordersFrom_1 : decode cX4_ordersFrom 1 = .ok (.ifCond .ne 69, 3) := dk_154 0 69 (dk_at dksX4_ordersFrom_0 1 rfl rfl)
theorem dX4_ordersFrom_4 : decode cX4_ordersFrom 4 = .ok (.aload_n 0, 1) := dk_42 (dk_at dksX4_ordersFrom_0 4 rfl rfl)
theorem dX4_ordersFrom_5 : decode cX4_ordersFrom 5 = .ok (.iload_n 1, 1) := dk_27 (dk_at dksX4_ordersFrom_0 5 rfl rfl)
theorem dX4_ordersFrom_6 : decode cX4_ordersFrom 6 = .ok (.iconst 0, 1) := dk_3 (dk_at dksX4_ordersFrom_0 6 rfl rfl)
theorem dX4_ordersFrom_7 : decode cX4_ordersFrom 7 = .ok (.iload_n 3, 1) := dk_29 (dk_at dksX4_ordersFrom_0 7 rfl rfl)
theorem dX4_ordersFrom_8 : decode cX4_ordersFrom 8 = .ok (.invokevirtual 209, 3) := dk_182 0 209 (dk_at dksX4_ordersFrom_0 8 rfl rfl)
theorem dX4_ordersFrom_11 : decode cX4_ordersFrom 11 = .ok (.lstore 4, 2) := dk_55 4 (dk_at dksX4_ordersFrom_0 11 rfl rfl)
theorem dX4_ordersFrom_13 : decode cX4_ordersFrom 13 = .ok (.lload 4, 2) := dk_22 4 (dk_at dksX4_ordersFrom_0 13 rfl rfl)
theorem dX4_ordersFrom_15 : decode cX4_ordersFrom 15 = .ok (.aload_n 0, 1) := dk_42 (dk_at dksX4_ordersFrom_0 15 rfl rfl)
theorem dX4_ordersFrom_16 : decode cX4_ordersFrom 16 = .ok (.getfield 212, 3) := dk_180 0 212 (dk_at dksX4_ordersFrom_0 16 rfl rfl)
theorem dX4_ordersFrom_19 : decode cX4_ordersFrom 19 = .ok (.lcmp, 1) := dk_148 (dk_at dksX4_ordersFrom_0 19 rfl rfl)
theorem dX4_ordersFrom_20 : decode cX4_ordersFrom 20 = .ok (.ifCond .le 49, 3) := dk_158 0 49 (dk_at dksX4_ordersFrom_0 20 rfl rfl)
theorem dX4_ordersFrom_23 : decode cX4_ordersFrom 23 = .ok (.aload_n 0, 1) := dk_42 (dk_at dksX4_ordersFrom_0 23 rfl rfl)
theorem dX4_ordersFrom_24 : decode cX4_ordersFrom 24 = .ok (.lload 4, 2) := dk_22 4 (dk_at dksX4_ordersFrom_1 0 rfl rfl)
theorem dX4_ordersFrom_26 : decode cX4_ordersFrom 26 = .ok (.putfield 212, 3) := dk_181 0 212 (dk_at dksX4_ordersFrom_1 2 rfl rfl)
theorem dX4_ordersFrom_29 : decode cX4_ordersFrom 29 = .ok (.iconst 0, 1) := dk_3 (dk_at dksX4_ordersFrom_1 5 rfl rfl)
theorem dX4_ordersFrom_30 : decode cX4_ordersFrom 30 = .ok (.istore 6, 2) := dk_54 6 (dk_at dksX4_ordersFrom_1 6 rfl rfl)
theorem dX4_ordersFrom_32 : decode cX4_ordersFrom 32 = .ok (.iload 6, 2) := dk_21 6 (dk_at dksX4_ordersFrom_1 8 rfl rfl)
theorem dX4_ordersFrom_34 : decode cX4_ordersFrom 34 = .ok (.iconst 4, 1) := dk_7 (dk_at dksX4_ordersFrom_1 10 rfl rfl)
theorem dX4_ordersFrom_35 : decode cX4_ordersFrom 35 = .ok (.if_icmp .ge 34, 3) := dk_162 0 34 (dk_at dksX4_ordersFrom_1 11 rfl rfl)
theorem dX4_ordersFrom_38 : decode cX4_ordersFrom 38 = .ok (.aload_n 0, 1) := dk_42 (dk_at dksX4_ordersFrom_1 14 rfl rfl)
theorem dX4_ordersFrom_39 : decode cX4_ordersFrom 39 = .ok (.getfield 38, 3) := dk_180 0 38 (dk_at dksX4_ordersFrom_1 15 rfl rfl)
theorem dX4_ordersFrom_42 : decode cX4_ordersFrom 42 = .ok (.iload 6, 2) := dk_21 6 (dk_at dksX4_ordersFrom_1 18 rfl rfl)
theorem dX4_ordersFrom_44 : decode cX4_ordersFrom 44 = .ok (.iload 6, 2) := dk_21 6 (dk_at dksX4_ordersFrom_1 20 rfl rfl)
theorem dX4_ordersFrom_46 : decode cX4_ordersFrom 46 = .ok (.iload_n 3, 1) := dk_29 (dk_at dksX4_ordersFrom_1 22 rfl rfl)
theorem dX4_ordersFrom_47 : decode cX4_ordersFrom 47 = .ok (.if_icmp .ge 13, 3) := dk_162 0 13 (dk_at dksX4_ordersFrom_2 0 rfl rfl)
theorem dX4_ordersFrom_50 : decode cX4_ordersFrom 50 = .ok (.aload_n 0, 1) := dk_42 (dk_at dksX4_ordersFrom_2 3 rfl rfl)
theorem dX4_ordersFrom_51 : decode cX4_ordersFrom 51 = .ok (.getfield 35, 3) := dk_180 0 35 (dk_at dksX4_ordersFrom_2 4 rfl rfl)
theorem dX4_ordersFrom_54 : decode cX4_ordersFrom 54 = .ok (.iload 6, 2) := dk_21 6 (dk_at dksX4_ordersFrom_2 7 rfl rfl)
theorem dX4_ordersFrom_56 : decode cX4_ordersFrom 56 = .ok (.iaload, 1) := dk_46 (dk_at dksX4_ordersFrom_2 9 rfl rfl)
theorem dX4_ordersFrom_57 : decode cX4_ordersFrom 57 = .ok (.goto 5, 3) := dk_167 0 5 (dk_at dksX4_ordersFrom_2 10 rfl rfl)
theorem dX4_ordersFrom_60 : decode cX4_ordersFrom 60 = .ok (.bipush (-5), 2) := dk_16 251 (dk_at dksX4_ordersFrom_2 13 rfl rfl)
theorem dX4_ordersFrom_62 : decode cX4_ordersFrom 62 = .ok (.iastore, 1) := dk_79 (dk_at dksX4_ordersFrom_2 15 rfl rfl)
theorem dX4_ordersFrom_63 : decode cX4_ordersFrom 63 = .ok (.iinc 6 1, 3) := dk_132 6 1 (dk_at dksX4_ordersFrom_2 16 rfl rfl)
theorem dX4_ordersFrom_66 : decode cX4_ordersFrom 66 = .ok (.goto (-34), 3) := dk_167 255 222 (dk_at dksX4_ordersFrom_2 19 rfl rfl)
theorem dX4_ordersFrom_69 : decode cX4_ordersFrom 69 = .ok (.return_, 1) := dk_177 (dk_at dksX4_ordersFrom_2 22 rfl rfl)
theorem dX4_ordersFrom_70 : decode cX4_ordersFrom 70 = .ok (.iconst 0, 1) := dk_3 (dk_at dksX4_ordersFrom_2 23 rfl rfl)
theorem dX4_ordersFrom_71 : decode cX4_ordersFrom 71 = .ok (.istore 4, 2) := dk_54 4 (dk_at dksX4_ordersFrom_3 0 rfl rfl)
theorem dX4_ordersFrom_73 : decode cX4_ordersFrom 73 = .ok (.iload 4, 2) := dk_21 4 (dk_at dksX4_ordersFrom_3 2 rfl rfl)
theorem dX4_ordersFrom_75 : decode cX4_ordersFrom 75 = .ok (.aload_n 0, 1) := dk_42 (dk_at dksX4_ordersFrom_3 4 rfl rfl)
theorem dX4_ordersFrom_76 : decode cX4_ordersFrom 76 = .ok (.getfield 9, 3) := dk_180 0 9 (dk_at dksX4_ordersFrom_3 5 rfl rfl)
theorem dX4_ordersFrom_79 : decode cX4_ordersFrom 79 = .ok (.bipush 6, 2) := dk_16 6 (dk_at dksX4_ordersFrom_3 8 rfl rfl)
theorem dX4_ordersFrom_81 : decode cX4_ordersFrom 81 = .ok (.iaload, 1) := dk_46 (dk_at dksX4_ordersFrom_3 10 rfl rfl)
theorem dX4_ordersFrom_82 : decode cX4_ordersFrom 82 = .ok (.if_icmp .ge 43, 3) := dk_162 0 43 (dk_at dksX4_ordersFrom_3 11 rfl rfl)
theorem dX4_ordersFrom_85 : decode cX4_ordersFrom 85 = .ok (.iload_n 2, 1) := dk_28 (dk_at dksX4_ordersFrom_3 14 rfl rfl)
theorem dX4_ordersFrom_86 : decode cX4_ordersFrom 86 = .ok (.iload 4, 2) := dk_21 4 (dk_at dksX4_ordersFrom_3 15 rfl rfl)
theorem dX4_ordersFrom_88 : decode cX4_ordersFrom 88 = .ok (.ishr, 1) := dk_122 (dk_at dksX4_ordersFrom_3 17 rfl rfl)
theorem dX4_ordersFrom_89 : decode cX4_ordersFrom 89 = .ok (.iconst 1, 1) := dk_4 (dk_at dksX4_ordersFrom_3 18 rfl rfl)
theorem dX4_ordersFrom_90 : decode cX4_ordersFrom 90 = .ok (.iand, 1) := dk_126 (dk_at dksX4_ordersFrom_3 19 rfl rfl)
theorem dX4_ordersFrom_91 : decode cX4_ordersFrom 91 = .ok (.iconst 1, 1) := dk_4 (dk_at dksX4_ordersFrom_3 20 rfl rfl)
theorem dX4_ordersFrom_92 : decode cX4_ordersFrom 92 = .ok (.if_icmp .ne 27, 3) := dk_160 0 27 (dk_at dksX4_ordersFrom_3 21 rfl rfl)
theorem dX4_ordersFrom_95 : decode cX4_ordersFrom 95 = .ok (.aload_n 0, 1) := dk_42 (dk_at dksX4_ordersFrom_4 0 rfl rfl)
theorem dX4_ordersFrom_96 : decode cX4_ordersFrom 96 = .ok (.getfield 35, 3) := dk_180 0 35 (dk_at dksX4_ordersFrom_4 1 rfl rfl)
theorem dX4_ordersFrom_99 : decode cX4_ordersFrom 99 = .ok (.iload_n 3, 1) := dk_29 (dk_at dksX4_ordersFrom_4 4 rfl rfl)
theorem dX4_ordersFrom_100 : decode cX4_ordersFrom 100 = .ok (.iload 4, 2) := dk_21 4 (dk_at dksX4_ordersFrom_4 5 rfl rfl)
theorem dX4_ordersFrom_102 : decode cX4_ordersFrom 102 = .ok (.iastore, 1) := dk_79 (dk_at dksX4_ordersFrom_4 7 rfl rfl)
theorem dX4_ordersFrom_103 : decode cX4_ordersFrom 103 = .ok (.aload_n 0, 1) := dk_42 (dk_at dksX4_ordersFrom_4 8 rfl rfl)
theorem dX4_ordersFrom_104 : decode cX4_ordersFrom 104 = .ok (.iload_n 1, 1) := dk_27 (dk_at dksX4_ordersFrom_4 9 rfl rfl)
theorem dX4_ordersFrom_105 : decode cX4_ordersFrom 105 = .ok (.iload_n 2, 1) := dk_28 (dk_at dksX4_ordersFrom_4 10 rfl rfl)
theorem dX4_ordersFrom_106 : decode cX4_ordersFrom 106 = .ok (.iconst 1, 1) := dk_4 (dk_at dksX4_ordersFrom_4 11 rfl rfl)
theorem dX4_ordersFrom_107 : decode cX4_ordersFrom 107 = .ok (.iload 4, 2) := dk_21 4 (dk_at dksX4_ordersFrom_4 12 rfl rfl)
theorem dX4_ordersFrom_109 : decode cX4_ordersFrom 109 = .ok (.ishl, 1) := dk_120 (dk_at dksX4_ordersFrom_4 14 rfl rfl)
theorem dX4_ordersFrom_110 : decode cX4_ordersFrom 110 = .ok (.iconst (-1), 1) := dk_2 (dk_at dksX4_ordersFrom_4 15 rfl rfl)
theorem dX4_ordersFrom_111 : decode cX4_ordersFrom 111 = .ok (.ixor, 1) := dk_130 (dk_at dksX4_ordersFrom_4 16 rfl rfl)
theorem dX4_ordersFrom_112 : decode cX4_ordersFrom 112 = .ok (.iand, 1) := dk_126 (dk_at dksX4_ordersFrom_4 17 rfl rfl)
theorem dX4_ordersFrom_113 : decode cX4_ordersFrom 113 = .ok (.iload_n 3, 1) := dk_29 (dk_at dksX4_ordersFrom_4 18 rfl rfl)
theorem dX4_ordersFrom_114 : decode cX4_ordersFrom 114 = .ok (.iconst 1, 1) := dk_4 (dk_at dksX4_ordersFrom_4 19 rfl rfl)
theorem dX4_ordersFrom_115 : decode cX4_ordersFrom 115 = .ok (.iadd, 1) := dk_96 (dk_at dksX4_ordersFrom_4 20 rfl rfl)
theorem dX4_ordersFrom_116 : decode cX4_ordersFrom 116 = .ok (.invokevirtual 215, 3) := dk_182 0 215 (dk_at dksX4_ordersFrom_4 21 rfl rfl)
theorem dX4_ordersFrom_119 : decode cX4_ordersFrom 119 = .ok (.iinc 4 1, 3) := dk_132 4 1 (dk_at dksX4_ordersFrom_5 0 rfl rfl)
theorem dX4_ordersFrom_122 : decode cX4_ordersFrom 122 = .ok (.goto (-49), 3) := dk_167 255 207 (dk_at dksX4_ordersFrom_5 3 rfl rfl)
theorem dX4_ordersFrom_125 : decode cX4_ordersFrom 125 = .ok (.return_, 1) := dk_177 (dk_at dksX4_ordersFrom_5 6 rfl rfl)
abbrev cX4_wonBy : ByteArray := prog_19_method_53_code
def yX4_wonBy : MethodName := ⟨RX4, "wonBy", "(III)J"⟩
def dkwX4_wonBy_5 : List UInt8 := [180, 0, 9, 4, 27, 96, 21, 6, 79, 42, 180, 0, 9, 3, 92, 46, 4, 100, 79, 22, 7, 173]
abbrev dktX4_wonBy_5 : List UInt8 := dkwX4_wonBy_5 ++ []
def dkwX4_wonBy_4 : List UInt8 := [22, 7, 16, 10, 21, 5, 100, 133, 42, 27, 28, 4, 96, 29, 182, 0, 209, 105, 97, 55, 7, 42]
abbrev dktX4_wonBy_4 : List UInt8 := dkwX4_wonBy_4 ++ dktX4_wonBy_5
def dkwX4_wonBy_3 : List UInt8 := [4, 96, 29, 182, 0, 209, 97, 105, 55, 7, 42, 180, 0, 9, 4, 27, 96, 42, 21, 6, 182, 0, 154, 79]
abbrev dktX4_wonBy_3 : List UInt8 := dkwX4_wonBy_3 ++ dktX4_wonBy_4
def dkwX4_wonBy_2 : List UInt8 := [4, 27, 96, 42, 21, 6, 182, 0, 151, 79, 21, 5, 133, 29, 4, 100, 28, 100, 184, 0, 190, 42, 27, 28]
abbrev dktX4_wonBy_2 : List UInt8 := dkwX4_wonBy_2 ++ dktX4_wonBy_3
def dkwX4_wonBy_1 : List UInt8 := [42, 180, 0, 9, 4, 27, 96, 46, 54, 6, 42, 180, 0, 9, 3, 92, 46, 4, 96, 79, 42, 180, 0, 9]
abbrev dktX4_wonBy_1 : List UInt8 := dkwX4_wonBy_1 ++ dktX4_wonBy_2
def dkwX4_wonBy_0 : List UInt8 := [28, 29, 160, 0, 5, 9, 173, 42, 180, 0, 35, 28, 46, 54, 4, 42, 27, 21, 4, 182, 0, 148, 54, 5]
abbrev dktX4_wonBy_0 : List UInt8 := dkwX4_wonBy_0 ++ dktX4_wonBy_1
theorem dksX4_wonBy_0 : cX4_wonBy.data.toList.drop 0 = dktX4_wonBy_0 := by decide +kernel
theorem dksX4_wonBy_1 : cX4_wonBy.data.toList.drop 24 = dktX4_wonBy_1 := dk_seg dksX4_wonBy_0 24 rfl rfl
theorem dksX4_wonBy_2 : cX4_wonBy.data.toList.drop 48 = dktX4_wonBy_2 := dk_seg dksX4_wonBy_1 24 rfl rfl
theorem dksX4_wonBy_3 : cX4_wonBy.data.toList.drop 72 = dktX4_wonBy_3 := dk_seg dksX4_wonBy_2 24 rfl rfl
theorem dksX4_wonBy_4 : cX4_wonBy.data.toList.drop 96 = dktX4_wonBy_4 := dk_seg dksX4_wonBy_3 24 rfl rfl
theorem dksX4_wonBy_5 : cX4_wonBy.data.toList.drop 118 = dktX4_wonBy_5 := dk_seg dksX4_wonBy_4 22 rfl rfl
theorem dX4_wonBy_0 : decode cX4_wonBy 0 = .ok (.iload_n 2, 1) := dk_28 (dk_at dksX4_wonBy_0 0 rfl rfl)
theorem dX4_wonBy_1 : decode cX4_wonBy 1 = .ok (.iload_n 3, 1) := dk_29 (dk_at dksX4_wonBy_0 1 rfl rfl)
theorem dX4_wonBy_2 : decode cX4_wonBy 2 = .ok (.if_icmp .ne 5, 3) := dk_160 0 5 (dk_at dksX4_wonBy_0 2 rfl rfl)
theorem dX4_wonBy_5 : decode cX4_wonBy 5 = .ok (.lconst 0, 1) := dk_9 (dk_at dksX4_wonBy_0 5 rfl rfl)
theorem dX4_wonBy_6 : decode cX4_wonBy 6 = .ok (.lreturn, 1) := dk_173 (dk_at dksX4_wonBy_0 6 rfl rfl)
theorem dX4_wonBy_7 : decode cX4_wonBy 7 = .ok (.aload_n 0, 1) := dk_42 (dk_at dksX4_wonBy_0 7 rfl rfl)
theorem dX4_wonBy_8 : decode cX4_wonBy 8 = .ok (.getfield 35, 3) := dk_180 0 35 (dk_at dksX4_wonBy_0 8 rfl rfl)
theorem dX4_wonBy_11 : decode cX4_wonBy 11 = .ok (.iload_n 2, 1) := dk_28 (dk_at dksX4_wonBy_0 11 rfl rfl)
theorem dX4_wonBy_12 : decode cX4_wonBy 12 = .ok (.iaload, 1) := dk_46 (dk_at dksX4_wonBy_0 12 rfl rfl)
theorem dX4_wonBy_13 : decode cX4_wonBy 13 = .ok (.istore 4, 2) := dk_54 4 (dk_at dksX4_wonBy_0 13 rfl rfl)
theorem dX4_wonBy_15 : decode cX4_wonBy 15 = .ok (.aload_n 0, 1) := dk_42 (dk_at dksX4_wonBy_0 15 rfl rfl)
theorem dX4_wonBy_16 : decode cX4_wonBy 16 = .ok (.iload_n 1, 1) := dk_27 (dk_at dksX4_wonBy_0 16 rfl rfl)
theorem dX4_wonBy_17 : decode cX4_wonBy 17 = .ok (.iload 4, 2) := dk_21 4 (dk_at dksX4_wonBy_0 17 rfl rfl)
theorem dX4_wonBy_19 : decode cX4_wonBy 19 = .ok (.invokevirtual 148, 3) := dk_182 0 148 (dk_at dksX4_wonBy_0 19 rfl rfl)
theorem dX4_wonBy_22 : decode cX4_wonBy 22 = .ok (.istore 5, 2) := dk_54 5 (dk_at dksX4_wonBy_0 22 rfl rfl)
theorem dX4_wonBy_24 : decode cX4_wonBy 24 = .ok (.aload_n 0, 1) := dk_42 (dk_at dksX4_wonBy_1 0 rfl rfl)
theorem dX4_wonBy_25 : decode cX4_wonBy 25 = .ok (.getfield 9, 3) := dk_180 0 9 (dk_at dksX4_wonBy_1 1 rfl rfl)
theorem dX4_wonBy_28 : decode cX4_wonBy 28 = .ok (.iconst 1, 1) := dk_4 (dk_at dksX4_wonBy_1 4 rfl rfl)
theorem dX4_wonBy_29 : decode cX4_wonBy 29 = .ok (.iload_n 1, 1) := dk_27 (dk_at dksX4_wonBy_1 5 rfl rfl)
theorem dX4_wonBy_30 : decode cX4_wonBy 30 = .ok (.iadd, 1) := dk_96 (dk_at dksX4_wonBy_1 6 rfl rfl)
theorem dX4_wonBy_31 : decode cX4_wonBy 31 = .ok (.iaload, 1) := dk_46 (dk_at dksX4_wonBy_1 7 rfl rfl)
theorem dX4_wonBy_32 : decode cX4_wonBy 32 = .ok (.istore 6, 2) := dk_54 6 (dk_at dksX4_wonBy_1 8 rfl rfl)
theorem dX4_wonBy_34 : decode cX4_wonBy 34 = .ok (.aload_n 0, 1) := dk_42 (dk_at dksX4_wonBy_1 10 rfl rfl)
theorem dX4_wonBy_35 : decode cX4_wonBy 35 = .ok (.getfield 9, 3) := dk_180 0 9 (dk_at dksX4_wonBy_1 11 rfl rfl)
theorem dX4_wonBy_38 : decode cX4_wonBy 38 = .ok (.iconst 0, 1) := dk_3 (dk_at dksX4_wonBy_1 14 rfl rfl)
theorem dX4_wonBy_39 : decode cX4_wonBy 39 = .ok (.dup2, 1) := dk_92 (dk_at dksX4_wonBy_1 15 rfl rfl)
theorem dX4_wonBy_40 : decode cX4_wonBy 40 = .ok (.iaload, 1) := dk_46 (dk_at dksX4_wonBy_1 16 rfl rfl)
theorem dX4_wonBy_41 : decode cX4_wonBy 41 = .ok (.iconst 1, 1) := dk_4 (dk_at dksX4_wonBy_1 17 rfl rfl)
theorem dX4_wonBy_42 : decode cX4_wonBy 42 = .ok (.iadd, 1) := dk_96 (dk_at dksX4_wonBy_1 18 rfl rfl)
theorem dX4_wonBy_43 : decode cX4_wonBy 43 = .ok (.iastore, 1) := dk_79 (dk_at dksX4_wonBy_1 19 rfl rfl)
theorem dX4_wonBy_44 : decode cX4_wonBy 44 = .ok (.aload_n 0, 1) := dk_42 (dk_at dksX4_wonBy_1 20 rfl rfl)
theorem dX4_wonBy_45 : decode cX4_wonBy 45 = .ok (.getfield 9, 3) := dk_180 0 9 (dk_at dksX4_wonBy_1 21 rfl rfl)
theorem dX4_wonBy_48 : decode cX4_wonBy 48 = .ok (.iconst 1, 1) := dk_4 (dk_at dksX4_wonBy_2 0 rfl rfl)
theorem dX4_wonBy_49 : decode cX4_wonBy 49 = .ok (.iload_n 1, 1) := dk_27 (dk_at dksX4_wonBy_2 1 rfl rfl)
theorem dX4_wonBy_50 : decode cX4_wonBy 50 = .ok (.iadd, 1) := dk_96 (dk_at dksX4_wonBy_2 2 rfl rfl)
theorem dX4_wonBy_51 : decode cX4_wonBy 51 = .ok (.aload_n 0, 1) := dk_42 (dk_at dksX4_wonBy_2 3 rfl rfl)
theorem dX4_wonBy_52 : decode cX4_wonBy 52 = .ok (.iload 6, 2) := dk_21 6 (dk_at dksX4_wonBy_2 4 rfl rfl)
theorem dX4_wonBy_54 : decode cX4_wonBy 54 = .ok (.invokevirtual 151, 3) := dk_182 0 151 (dk_at dksX4_wonBy_2 6 rfl rfl)
theorem dX4_wonBy_57 : decode cX4_wonBy 57 = .ok (.iastore, 1) := dk_79 (dk_at dksX4_wonBy_2 9 rfl rfl)
theorem dX4_wonBy_58 : decode cX4_wonBy 58 = .ok (.iload 5, 2) := dk_21 5 (dk_at dksX4_wonBy_2 10 rfl rfl)
theorem dX4_wonBy_60 : decode cX4_wonBy 60 = .ok (.i2l, 1) := dk_133 (dk_at dksX4_wonBy_2 12 rfl rfl)
theorem dX4_wonBy_61 : decode cX4_wonBy 61 = .ok (.iload_n 3, 1) := dk_29 (dk_at dksX4_wonBy_2 13 rfl rfl)
theorem dX4_wonBy_62 : decode cX4_wonBy 62 = .ok (.iconst 1, 1) := dk_4 (dk_at dksX4_wonBy_2 14 rfl rfl)
theorem dX4_wonBy_63 : decode cX4_wonBy 63 = .ok (.isub, 1) := dk_100 (dk_at dksX4_wonBy_2 15 rfl rfl)
theorem dX4_wonBy_64 : decode cX4_wonBy 64 = .ok (.iload_n 2, 1) := dk_28 (dk_at dksX4_wonBy_2 16 rfl rfl)
theorem dX4_wonBy_65 : decode cX4_wonBy 65 = .ok (.isub, 1) := dk_100 (dk_at dksX4_wonBy_2 17 rfl rfl)
theorem dX4_wonBy_66 : decode cX4_wonBy 66 = .ok (.invokestatic 190, 3) := dk_184 0 190 (dk_at dksX4_wonBy_2 18 rfl rfl)
theorem dX4_wonBy_69 : decode cX4_wonBy 69 = .ok (.aload_n 0, 1) := dk_42 (dk_at dksX4_wonBy_2 21 rfl rfl)
theorem dX4_wonBy_70 : decode cX4_wonBy 70 = .ok (.iload_n 1, 1) := dk_27 (dk_at dksX4_wonBy_2 22 rfl rfl)
theorem dX4_wonBy_71 : decode cX4_wonBy 71 = .ok (.iload_n 2, 1) := dk_28 (dk_at dksX4_wonBy_2 23 rfl rfl)
theorem dX4_wonBy_72 : decode cX4_wonBy 72 = .ok (.iconst 1, 1) := dk_4 (dk_at dksX4_wonBy_3 0 rfl rfl)
theorem dX4_wonBy_73 : decode cX4_wonBy 73 = .ok (.iadd, 1) := dk_96 (dk_at dksX4_wonBy_3 1 rfl rfl)
theorem dX4_wonBy_74 : decode cX4_wonBy 74 = .ok (.iload_n 3, 1) := dk_29 (dk_at dksX4_wonBy_3 2 rfl rfl)
theorem dX4_wonBy_75 : decode cX4_wonBy 75 = .ok (.invokevirtual 209, 3) := dk_182 0 209 (dk_at dksX4_wonBy_3 3 rfl rfl)
theorem dX4_wonBy_78 : decode cX4_wonBy 78 = .ok (.ladd, 1) := dk_97 (dk_at dksX4_wonBy_3 6 rfl rfl)
theorem dX4_wonBy_79 : decode cX4_wonBy 79 = .ok (.lmul, 1) := dk_105 (dk_at dksX4_wonBy_3 7 rfl rfl)
theorem dX4_wonBy_80 : decode cX4_wonBy 80 = .ok (.lstore 7, 2) := dk_55 7 (dk_at dksX4_wonBy_3 8 rfl rfl)
theorem dX4_wonBy_82 : decode cX4_wonBy 82 = .ok (.aload_n 0, 1) := dk_42 (dk_at dksX4_wonBy_3 10 rfl rfl)
theorem dX4_wonBy_83 : decode cX4_wonBy 83 = .ok (.getfield 9, 3) := dk_180 0 9 (dk_at dksX4_wonBy_3 11 rfl rfl)
theorem dX4_wonBy_86 : decode cX4_wonBy 86 = .ok (.iconst 1, 1) := dk_4 (dk_at dksX4_wonBy_3 14 rfl rfl)
theorem dX4_wonBy_87 : decode cX4_wonBy 87 = .ok (.iload_n 1, 1) := dk_27 (dk_at dksX4_wonBy_3 15 rfl rfl)
theorem dX4_wonBy_88 : decode cX4_wonBy 88 = .ok (.iadd, 1) := dk_96 (dk_at dksX4_wonBy_3 16 rfl rfl)
theorem dX4_wonBy_89 : decode cX4_wonBy 89 = .ok (.aload_n 0, 1) := dk_42 (dk_at dksX4_wonBy_3 17 rfl rfl)
theorem dX4_wonBy_90 : decode cX4_wonBy 90 = .ok (.iload 6, 2) := dk_21 6 (dk_at dksX4_wonBy_3 18 rfl rfl)
theorem dX4_wonBy_92 : decode cX4_wonBy 92 = .ok (.invokevirtual 154, 3) := dk_182 0 154 (dk_at dksX4_wonBy_3 20 rfl rfl)
theorem dX4_wonBy_95 : decode cX4_wonBy 95 = .ok (.iastore, 1) := dk_79 (dk_at dksX4_wonBy_3 23 rfl rfl)
theorem dX4_wonBy_96 : decode cX4_wonBy 96 = .ok (.lload 7, 2) := dk_22 7 (dk_at dksX4_wonBy_4 0 rfl rfl)
theorem dX4_wonBy_98 : decode cX4_wonBy 98 = .ok (.bipush 10, 2) := dk_16 10 (dk_at dksX4_wonBy_4 2 rfl rfl)
theorem dX4_wonBy_100 : decode cX4_wonBy 100 = .ok (.iload 5, 2) := dk_21 5 (dk_at dksX4_wonBy_4 4 rfl rfl)
theorem dX4_wonBy_102 : decode cX4_wonBy 102 = .ok (.isub, 1) := dk_100 (dk_at dksX4_wonBy_4 6 rfl rfl)
theorem dX4_wonBy_103 : decode cX4_wonBy 103 = .ok (.i2l, 1) := dk_133 (dk_at dksX4_wonBy_4 7 rfl rfl)
theorem dX4_wonBy_104 : decode cX4_wonBy 104 = .ok (.aload_n 0, 1) := dk_42 (dk_at dksX4_wonBy_4 8 rfl rfl)
theorem dX4_wonBy_105 : decode cX4_wonBy 105 = .ok (.iload_n 1, 1) := dk_27 (dk_at dksX4_wonBy_4 9 rfl rfl)
theorem dX4_wonBy_106 : decode cX4_wonBy 106 = .ok (.iload_n 2, 1) := dk_28 (dk_at dksX4_wonBy_4 10 rfl rfl)
theorem dX4_wonBy_107 : decode cX4_wonBy 107 = .ok (.iconst 1, 1) := dk_4 (dk_at dksX4_wonBy_4 11 rfl rfl)
theorem dX4_wonBy_108 : decode cX4_wonBy 108 = .ok (.iadd, 1) := dk_96 (dk_at dksX4_wonBy_4 12 rfl rfl)
theorem dX4_wonBy_109 : decode cX4_wonBy 109 = .ok (.iload_n 3, 1) := dk_29 (dk_at dksX4_wonBy_4 13 rfl rfl)
theorem dX4_wonBy_110 : decode cX4_wonBy 110 = .ok (.invokevirtual 209, 3) := dk_182 0 209 (dk_at dksX4_wonBy_4 14 rfl rfl)
theorem dX4_wonBy_113 : decode cX4_wonBy 113 = .ok (.lmul, 1) := dk_105 (dk_at dksX4_wonBy_4 17 rfl rfl)
theorem dX4_wonBy_114 : decode cX4_wonBy 114 = .ok (.ladd, 1) := dk_97 (dk_at dksX4_wonBy_4 18 rfl rfl)
theorem dX4_wonBy_115 : decode cX4_wonBy 115 = .ok (.lstore 7, 2) := dk_55 7 (dk_at dksX4_wonBy_4 19 rfl rfl)
theorem dX4_wonBy_117 : decode cX4_wonBy 117 = .ok (.aload_n 0, 1) := dk_42 (dk_at dksX4_wonBy_4 21 rfl rfl)
theorem dX4_wonBy_118 : decode cX4_wonBy 118 = .ok (.getfield 9, 3) := dk_180 0 9 (dk_at dksX4_wonBy_5 0 rfl rfl)
theorem dX4_wonBy_121 : decode cX4_wonBy 121 = .ok (.iconst 1, 1) := dk_4 (dk_at dksX4_wonBy_5 3 rfl rfl)
theorem dX4_wonBy_122 : decode cX4_wonBy 122 = .ok (.iload_n 1, 1) := dk_27 (dk_at dksX4_wonBy_5 4 rfl rfl)
theorem dX4_wonBy_123 : decode cX4_wonBy 123 = .ok (.iadd, 1) := dk_96 (dk_at dksX4_wonBy_5 5 rfl rfl)
theorem dX4_wonBy_124 : decode cX4_wonBy 124 = .ok (.iload 6, 2) := dk_21 6 (dk_at dksX4_wonBy_5 6 rfl rfl)
theorem dX4_wonBy_126 : decode cX4_wonBy 126 = .ok (.iastore, 1) := dk_79 (dk_at dksX4_wonBy_5 8 rfl rfl)
theorem dX4_wonBy_127 : decode cX4_wonBy 127 = .ok (.aload_n 0, 1) := dk_42 (dk_at dksX4_wonBy_5 9 rfl rfl)
theorem dX4_wonBy_128 : decode cX4_wonBy 128 = .ok (.getfield 9, 3) := dk_180 0 9 (dk_at dksX4_wonBy_5 10 rfl rfl)
theorem dX4_wonBy_131 : decode cX4_wonBy 131 = .ok (.iconst 0, 1) := dk_3 (dk_at dksX4_wonBy_5 13 rfl rfl)
theorem dX4_wonBy_132 : decode cX4_wonBy 132 = .ok (.dup2, 1) := dk_92 (dk_at dksX4_wonBy_5 14 rfl rfl)
theorem dX4_wonBy_133 : decode cX4_wonBy 133 = .ok (.iaload, 1) := dk_46 (dk_at dksX4_wonBy_5 15 rfl rfl)
theorem dX4_wonBy_134 : decode cX4_wonBy 134 = .ok (.iconst 1, 1) := dk_4 (dk_at dksX4_wonBy_5 16 rfl rfl)
theorem dX4_wonBy_135 : decode cX4_wonBy 135 = .ok (.isub, 1) := dk_100 (dk_at dksX4_wonBy_5 17 rfl rfl)
theorem dX4_wonBy_136 : decode cX4_wonBy 136 = .ok (.iastore, 1) := dk_79 (dk_at dksX4_wonBy_5 18 rfl rfl)
theorem dX4_wonBy_137 : decode cX4_wonBy 137 = .ok (.lload 7, 2) := dk_22 7 (dk_at dksX4_wonBy_5 19 rfl rfl)
theorem dX4_wonBy_139 : decode cX4_wonBy 139 = .ok (.lreturn, 1) := dk_173 (dk_at dksX4_wonBy_5 21 rfl rfl)
abbrev cX4_orderMean : ByteArray := prog_19_method_58_code
def yX4_orderMean : MethodName := ⟨RX4, "orderMean", "(III)J"⟩
def dkwX4_orderMean_3 : List UInt8 := [21, 4, 184, 0, 190, 29, 184, 0, 194, 173]
abbrev dktX4_orderMean_3 : List UInt8 := dkwX4_orderMean_3 ++ []
def dkwX4_orderMean_2 : List UInt8 := [162, 0, 20, 21, 4, 28, 21, 5, 122, 4, 126, 96, 54, 4, 132, 5, 1, 167, 255, 236, 42, 180, 0, 212]
abbrev dktX4_orderMean_2 : List UInt8 := dkwX4_orderMean_2 ++ dktX4_orderMean_3
def dkwX4_orderMean_1 : List UInt8 := [154, 0, 7, 20, 0, 184, 173, 42, 27, 28, 182, 0, 224, 3, 54, 4, 3, 54, 5, 21, 5, 8]
abbrev dktX4_orderMean_1 : List UInt8 := dkwX4_orderMean_1 ++ dktX4_orderMean_2
def dkwX4_orderMean_0 : List UInt8 := [42, 27, 182, 0, 52, 153, 0, 21, 42, 27, 28, 182, 0, 221, 153, 0, 12, 29, 3, 4, 184, 0, 48]
abbrev dktX4_orderMean_0 : List UInt8 := dkwX4_orderMean_0 ++ dktX4_orderMean_1
theorem dksX4_orderMean_0 : cX4_orderMean.data.toList.drop 0 = dktX4_orderMean_0 := by decide +kernel
theorem dksX4_orderMean_1 : cX4_orderMean.data.toList.drop 23 = dktX4_orderMean_1 := dk_seg dksX4_orderMean_0 23 rfl rfl
theorem dksX4_orderMean_2 : cX4_orderMean.data.toList.drop 45 = dktX4_orderMean_2 := dk_seg dksX4_orderMean_1 22 rfl rfl
theorem dksX4_orderMean_3 : cX4_orderMean.data.toList.drop 69 = dktX4_orderMean_3 := dk_seg dksX4_orderMean_2 24 rfl rfl
theorem dX4_orderMean_0 : decode cX4_orderMean 0 = .ok (.aload_n 0, 1) := dk_42 (dk_at dksX4_orderMean_0 0 rfl rfl)
theorem dX4_orderMean_1 : decode cX4_orderMean 1 = .ok (.iload_n 1, 1) := dk_27 (dk_at dksX4_orderMean_0 1 rfl rfl)
theorem dX4_orderMean_2 : decode cX4_orderMean 2 = .ok (.invokevirtual 52, 3) := dk_182 0 52 (dk_at dksX4_orderMean_0 2 rfl rfl)
theorem dX4_orderMean_5 : decode cX4_orderMean 5 = .ok (.ifCond .eq 21, 3) := dk_153 0 21 (dk_at dksX4_orderMean_0 5 rfl rfl)
theorem dX4_orderMean_8 : decode cX4_orderMean 8 = .ok (.aload_n 0, 1) := dk_42 (dk_at dksX4_orderMean_0 8 rfl rfl)
theorem dX4_orderMean_9 : decode cX4_orderMean 9 = .ok (.iload_n 1, 1) := dk_27 (dk_at dksX4_orderMean_0 9 rfl rfl)
theorem dX4_orderMean_10 : decode cX4_orderMean 10 = .ok (.iload_n 2, 1) := dk_28 (dk_at dksX4_orderMean_0 10 rfl rfl)
theorem dX4_orderMean_11 : decode cX4_orderMean 11 = .ok (.invokevirtual 221, 3) := dk_182 0 221 (dk_at dksX4_orderMean_0 11 rfl rfl)
theorem dX4_orderMean_14 : decode cX4_orderMean 14 = .ok (.ifCond .eq 12, 3) := dk_153 0 12 (dk_at dksX4_orderMean_0 14 rfl rfl)
theorem dX4_orderMean_17 : decode cX4_orderMean 17 = .ok (.iload_n 3, 1) := dk_29 (dk_at dksX4_orderMean_0 17 rfl rfl)
theorem dX4_orderMean_18 : decode cX4_orderMean 18 = .ok (.iconst 0, 1) := dk_3 (dk_at dksX4_orderMean_0 18 rfl rfl)
theorem dX4_orderMean_19 : decode cX4_orderMean 19 = .ok (.iconst 1, 1) := dk_4 (dk_at dksX4_orderMean_0 19 rfl rfl)
theorem dX4_orderMean_20 : decode cX4_orderMean 20 = .ok (.invokestatic 48, 3) := dk_184 0 48 (dk_at dksX4_orderMean_0 20 rfl rfl)
theorem dX4_orderMean_23 : decode cX4_orderMean 23 = .ok (.ifCond .ne 7, 3) := dk_154 0 7 (dk_at dksX4_orderMean_1 0 rfl rfl)
theorem dX4_orderMean_26 : decode cX4_orderMean 26 = .ok (.ldc2_w 184, 3) := dk_20 0 184 (dk_at dksX4_orderMean_1 3 rfl rfl)
theorem dX4_orderMean_29 : decode cX4_orderMean 29 = .ok (.lreturn, 1) := dk_173 (dk_at dksX4_orderMean_1 6 rfl rfl)
theorem dX4_orderMean_30 : decode cX4_orderMean 30 = .ok (.aload_n 0, 1) := dk_42 (dk_at dksX4_orderMean_1 7 rfl rfl)
theorem dX4_orderMean_31 : decode cX4_orderMean 31 = .ok (.iload_n 1, 1) := dk_27 (dk_at dksX4_orderMean_1 8 rfl rfl)
theorem dX4_orderMean_32 : decode cX4_orderMean 32 = .ok (.iload_n 2, 1) := dk_28 (dk_at dksX4_orderMean_1 9 rfl rfl)
theorem dX4_orderMean_33 : decode cX4_orderMean 33 = .ok (.invokevirtual 224, 3) := dk_182 0 224 (dk_at dksX4_orderMean_1 10 rfl rfl)
theorem dX4_orderMean_36 : decode cX4_orderMean 36 = .ok (.iconst 0, 1) := dk_3 (dk_at dksX4_orderMean_1 13 rfl rfl)
theorem dX4_orderMean_37 : decode cX4_orderMean 37 = .ok (.istore 4, 2) := dk_54 4 (dk_at dksX4_orderMean_1 14 rfl rfl)
theorem dX4_orderMean_39 : decode cX4_orderMean 39 = .ok (.iconst 0, 1) := dk_3 (dk_at dksX4_orderMean_1 16 rfl rfl)
theorem dX4_orderMean_40 : decode cX4_orderMean 40 = .ok (.istore 5, 2) := dk_54 5 (dk_at dksX4_orderMean_1 17 rfl rfl)
theorem dX4_orderMean_42 : decode cX4_orderMean 42 = .ok (.iload 5, 2) := dk_21 5 (dk_at dksX4_orderMean_1 19 rfl rfl)
theorem dX4_orderMean_44 : decode cX4_orderMean 44 = .ok (.iconst 5, 1) := dk_8 (dk_at dksX4_orderMean_1 21 rfl rfl)
theorem dX4_orderMean_45 : decode cX4_orderMean 45 = .ok (.if_icmp .ge 20, 3) := dk_162 0 20 (dk_at dksX4_orderMean_2 0 rfl rfl)
theorem dX4_orderMean_48 : decode cX4_orderMean 48 = .ok (.iload 4, 2) := dk_21 4 (dk_at dksX4_orderMean_2 3 rfl rfl)
theorem dX4_orderMean_50 : decode cX4_orderMean 50 = .ok (.iload_n 2, 1) := dk_28 (dk_at dksX4_orderMean_2 5 rfl rfl)
theorem dX4_orderMean_51 : decode cX4_orderMean 51 = .ok (.iload 5, 2) := dk_21 5 (dk_at dksX4_orderMean_2 6 rfl rfl)
theorem dX4_orderMean_53 : decode cX4_orderMean 53 = .ok (.ishr, 1) := dk_122 (dk_at dksX4_orderMean_2 8 rfl rfl)
theorem dX4_orderMean_54 : decode cX4_orderMean 54 = .ok (.iconst 1, 1) := dk_4 (dk_at dksX4_orderMean_2 9 rfl rfl)
theorem dX4_orderMean_55 : decode cX4_orderMean 55 = .ok (.iand, 1) := dk_126 (dk_at dksX4_orderMean_2 10 rfl rfl)
theorem dX4_orderMean_56 : decode cX4_orderMean 56 = .ok (.iadd, 1) := dk_96 (dk_at dksX4_orderMean_2 11 rfl rfl)
theorem dX4_orderMean_57 : decode cX4_orderMean 57 = .ok (.istore 4, 2) := dk_54 4 (dk_at dksX4_orderMean_2 12 rfl rfl)
theorem dX4_orderMean_59 : decode cX4_orderMean 59 = .ok (.iinc 5 1, 3) := dk_132 5 1 (dk_at dksX4_orderMean_2 14 rfl rfl)
theorem dX4_orderMean_62 : decode cX4_orderMean 62 = .ok (.goto (-20), 3) := dk_167 255 236 (dk_at dksX4_orderMean_2 17 rfl rfl)
theorem dX4_orderMean_65 : decode cX4_orderMean 65 = .ok (.aload_n 0, 1) := dk_42 (dk_at dksX4_orderMean_2 20 rfl rfl)
theorem dX4_orderMean_66 : decode cX4_orderMean 66 = .ok (.getfield 212, 3) := dk_180 0 212 (dk_at dksX4_orderMean_2 21 rfl rfl)
theorem dX4_orderMean_69 : decode cX4_orderMean 69 = .ok (.iload 4, 2) := dk_21 4 (dk_at dksX4_orderMean_3 0 rfl rfl)
theorem dX4_orderMean_71 : decode cX4_orderMean 71 = .ok (.invokestatic 190, 3) := dk_184 0 190 (dk_at dksX4_orderMean_3 2 rfl rfl)
theorem dX4_orderMean_74 : decode cX4_orderMean 74 = .ok (.iload_n 3, 1) := dk_29 (dk_at dksX4_orderMean_3 5 rfl rfl)
theorem dX4_orderMean_75 : decode cX4_orderMean 75 = .ok (.invokestatic 194, 3) := dk_184 0 194 (dk_at dksX4_orderMean_3 6 rfl rfl)
theorem dX4_orderMean_78 : decode cX4_orderMean 78 = .ok (.lreturn, 1) := dk_173 (dk_at dksX4_orderMean_3 9 rfl rfl)
abbrev cX4_table : ByteArray := prog_19_method_61_code
def yX4_table : MethodName := ⟨RX4, "table", "(III)J"⟩
def dkwX4_table_4 : List UInt8 := [182, 0, 231, 28, 184, 0, 190, 29, 184, 0, 194, 173]
abbrev dktX4_table_4 : List UInt8 := dkwX4_table_4 ++ []
def dkwX4_table_3 : List UInt8 := [132, 5, 1, 167, 255, 231, 42, 27, 3, 4, 21, 4, 42, 180, 0, 9, 16, 6, 46, 5, 100, 28]
abbrev dktX4_table_3 : List UInt8 := dkwX4_table_3 ++ dktX4_table_4
def dkwX4_table_2 : List UInt8 := [21, 5, 42, 180, 0, 9, 16, 6, 46, 162, 0, 19, 16, 10, 21, 4, 104, 21, 5, 96, 54, 4]
abbrev dktX4_table_2 : List UInt8 := dkwX4_table_2 ++ dktX4_table_3
def dkwX4_table_1 : List UInt8 := [153, 0, 14, 42, 180, 0, 9, 16, 6, 46, 5, 162, 0, 7, 20, 0, 184, 173, 3, 54, 4, 5, 54, 5]
abbrev dktX4_table_1 : List UInt8 := dkwX4_table_1 ++ dktX4_table_2
def dkwX4_table_0 : List UInt8 := [42, 27, 182, 0, 52, 153, 0, 33, 28, 4, 16, 8, 184, 0, 48, 153, 0, 23, 29, 3, 4, 184, 0, 48]
abbrev dktX4_table_0 : List UInt8 := dkwX4_table_0 ++ dktX4_table_1
theorem dksX4_table_0 : cX4_table.data.toList.drop 0 = dktX4_table_0 := by decide +kernel
theorem dksX4_table_1 : cX4_table.data.toList.drop 24 = dktX4_table_1 := dk_seg dksX4_table_0 24 rfl rfl
theorem dksX4_table_2 : cX4_table.data.toList.drop 48 = dktX4_table_2 := dk_seg dksX4_table_1 24 rfl rfl
theorem dksX4_table_3 : cX4_table.data.toList.drop 70 = dktX4_table_3 := dk_seg dksX4_table_2 22 rfl rfl
theorem dksX4_table_4 : cX4_table.data.toList.drop 92 = dktX4_table_4 := dk_seg dksX4_table_3 22 rfl rfl
theorem dX4_table_0 : decode cX4_table 0 = .ok (.aload_n 0, 1) := dk_42 (dk_at dksX4_table_0 0 rfl rfl)
theorem dX4_table_1 : decode cX4_table 1 = .ok (.iload_n 1, 1) := dk_27 (dk_at dksX4_table_0 1 rfl rfl)
theorem dX4_table_2 : decode cX4_table 2 = .ok (.invokevirtual 52, 3) := dk_182 0 52 (dk_at dksX4_table_0 2 rfl rfl)
theorem dX4_table_5 : decode cX4_table 5 = .ok (.ifCond .eq 33, 3) := dk_153 0 33 (dk_at dksX4_table_0 5 rfl rfl)
theorem dX4_table_8 : decode cX4_table 8 = .ok (.iload_n 2, 1) := dk_28 (dk_at dksX4_table_0 8 rfl rfl)
theorem dX4_table_9 : decode cX4_table 9 = .ok (.iconst 1, 1) := dk_4 (dk_at dksX4_table_0 9 rfl rfl)
theorem dX4_table_10 : decode cX4_table 10 = .ok (.bipush 8, 2) := dk_16 8 (dk_at dksX4_table_0 10 rfl rfl)
theorem dX4_table_12 : decode cX4_table 12 = .ok (.invokestatic 48, 3) := dk_184 0 48 (dk_at dksX4_table_0 12 rfl rfl)
theorem dX4_table_15 : decode cX4_table 15 = .ok (.ifCond .eq 23, 3) := dk_153 0 23 (dk_at dksX4_table_0 15 rfl rfl)
theorem dX4_table_18 : decode cX4_table 18 = .ok (.iload_n 3, 1) := dk_29 (dk_at dksX4_table_0 18 rfl rfl)
theorem dX4_table_19 : decode cX4_table 19 = .ok (.iconst 0, 1) := dk_3 (dk_at dksX4_table_0 19 rfl rfl)
theorem dX4_table_20 : decode cX4_table 20 = .ok (.iconst 1, 1) := dk_4 (dk_at dksX4_table_0 20 rfl rfl)
theorem dX4_table_21 : decode cX4_table 21 = .ok (.invokestatic 48, 3) := dk_184 0 48 (dk_at dksX4_table_0 21 rfl rfl)
theorem dX4_table_24 : decode cX4_table 24 = .ok (.ifCond .eq 14, 3) := dk_153 0 14 (dk_at dksX4_table_1 0 rfl rfl)
theorem dX4_table_27 : decode cX4_table 27 = .ok (.aload_n 0, 1) := dk_42 (dk_at dksX4_table_1 3 rfl rfl)
theorem dX4_table_28 : decode cX4_table 28 = .ok (.getfield 9, 3) := dk_180 0 9 (dk_at dksX4_table_1 4 rfl rfl)
theorem dX4_table_31 : decode cX4_table 31 = .ok (.bipush 6, 2) := dk_16 6 (dk_at dksX4_table_1 7 rfl rfl)
theorem dX4_table_33 : decode cX4_table 33 = .ok (.iaload, 1) := dk_46 (dk_at dksX4_table_1 9 rfl rfl)
theorem dX4_table_34 : decode cX4_table 34 = .ok (.iconst 2, 1) := dk_5 (dk_at dksX4_table_1 10 rfl rfl)
theorem dX4_table_35 : decode cX4_table 35 = .ok (.if_icmp .ge 7, 3) := dk_162 0 7 (dk_at dksX4_table_1 11 rfl rfl)
theorem dX4_table_38 : decode cX4_table 38 = .ok (.ldc2_w 184, 3) := dk_20 0 184 (dk_at dksX4_table_1 14 rfl rfl)
theorem dX4_table_41 : decode cX4_table 41 = .ok (.lreturn, 1) := dk_173 (dk_at dksX4_table_1 17 rfl rfl)
theorem dX4_table_42 : decode cX4_table 42 = .ok (.iconst 0, 1) := dk_3 (dk_at dksX4_table_1 18 rfl rfl)
theorem dX4_table_43 : decode cX4_table 43 = .ok (.istore 4, 2) := dk_54 4 (dk_at dksX4_table_1 19 rfl rfl)
theorem dX4_table_45 : decode cX4_table 45 = .ok (.iconst 2, 1) := dk_5 (dk_at dksX4_table_1 21 rfl rfl)
theorem dX4_table_46 : decode cX4_table 46 = .ok (.istore 5, 2) := dk_54 5 (dk_at dksX4_table_1 22 rfl rfl)
theorem dX4_table_48 : decode cX4_table 48 = .ok (.iload 5, 2) := dk_21 5 (dk_at dksX4_table_2 0 rfl rfl)
theorem dX4_table_50 : decode cX4_table 50 = .ok (.aload_n 0, 1) := dk_42 (dk_at dksX4_table_2 2 rfl rfl)
theorem dX4_table_51 : decode cX4_table 51 = .ok (.getfield 9, 3) := dk_180 0 9 (dk_at dksX4_table_2 3 rfl rfl)
theorem dX4_table_54 : decode cX4_table 54 = .ok (.bipush 6, 2) := dk_16 6 (dk_at dksX4_table_2 6 rfl rfl)
theorem dX4_table_56 : decode cX4_table 56 = .ok (.iaload, 1) := dk_46 (dk_at dksX4_table_2 8 rfl rfl)
theorem dX4_table_57 : decode cX4_table 57 = .ok (.if_icmp .ge 19, 3) := dk_162 0 19 (dk_at dksX4_table_2 9 rfl rfl)
theorem dX4_table_60 : decode cX4_table 60 = .ok (.bipush 10, 2) := dk_16 10 (dk_at dksX4_table_2 12 rfl rfl)
theorem dX4_table_62 : decode cX4_table 62 = .ok (.iload 4, 2) := dk_21 4 (dk_at dksX4_table_2 14 rfl rfl)
theorem dX4_table_64 : decode cX4_table 64 = .ok (.imul, 1) := dk_104 (dk_at dksX4_table_2 16 rfl rfl)
theorem dX4_table_65 : decode cX4_table 65 = .ok (.iload 5, 2) := dk_21 5 (dk_at dksX4_table_2 17 rfl rfl)
theorem dX4_table_67 : decode cX4_table 67 = .ok (.iadd, 1) := dk_96 (dk_at dksX4_table_2 19 rfl rfl)
theorem dX4_table_68 : decode cX4_table 68 = .ok (.istore 4, 2) := dk_54 4 (dk_at dksX4_table_2 20 rfl rfl)
theorem dX4_table_70 : decode cX4_table 70 = .ok (.iinc 5 1, 3) := dk_132 5 1 (dk_at dksX4_table_3 0 rfl rfl)
theorem dX4_table_73 : decode cX4_table 73 = .ok (.goto (-25), 3) := dk_167 255 231 (dk_at dksX4_table_3 3 rfl rfl)
theorem dX4_table_76 : decode cX4_table 76 = .ok (.aload_n 0, 1) := dk_42 (dk_at dksX4_table_3 6 rfl rfl)
theorem dX4_table_77 : decode cX4_table 77 = .ok (.iload_n 1, 1) := dk_27 (dk_at dksX4_table_3 7 rfl rfl)
theorem dX4_table_78 : decode cX4_table 78 = .ok (.iconst 0, 1) := dk_3 (dk_at dksX4_table_3 8 rfl rfl)
theorem dX4_table_79 : decode cX4_table 79 = .ok (.iconst 1, 1) := dk_4 (dk_at dksX4_table_3 9 rfl rfl)
theorem dX4_table_80 : decode cX4_table 80 = .ok (.iload 4, 2) := dk_21 4 (dk_at dksX4_table_3 10 rfl rfl)
theorem dX4_table_82 : decode cX4_table 82 = .ok (.aload_n 0, 1) := dk_42 (dk_at dksX4_table_3 12 rfl rfl)
theorem dX4_table_83 : decode cX4_table 83 = .ok (.getfield 9, 3) := dk_180 0 9 (dk_at dksX4_table_3 13 rfl rfl)
theorem dX4_table_86 : decode cX4_table 86 = .ok (.bipush 6, 2) := dk_16 6 (dk_at dksX4_table_3 16 rfl rfl)
theorem dX4_table_88 : decode cX4_table 88 = .ok (.iaload, 1) := dk_46 (dk_at dksX4_table_3 18 rfl rfl)
theorem dX4_table_89 : decode cX4_table 89 = .ok (.iconst 2, 1) := dk_5 (dk_at dksX4_table_3 19 rfl rfl)
theorem dX4_table_90 : decode cX4_table 90 = .ok (.isub, 1) := dk_100 (dk_at dksX4_table_3 20 rfl rfl)
theorem dX4_table_91 : decode cX4_table 91 = .ok (.iload_n 2, 1) := dk_28 (dk_at dksX4_table_3 21 rfl rfl)
theorem dX4_table_92 : decode cX4_table 92 = .ok (.invokevirtual 231, 3) := dk_182 0 231 (dk_at dksX4_table_4 0 rfl rfl)
theorem dX4_table_95 : decode cX4_table 95 = .ok (.iload_n 2, 1) := dk_28 (dk_at dksX4_table_4 3 rfl rfl)
theorem dX4_table_96 : decode cX4_table 96 = .ok (.invokestatic 190, 3) := dk_184 0 190 (dk_at dksX4_table_4 4 rfl rfl)
theorem dX4_table_99 : decode cX4_table 99 = .ok (.iload_n 3, 1) := dk_29 (dk_at dksX4_table_4 7 rfl rfl)
theorem dX4_table_100 : decode cX4_table 100 = .ok (.invokestatic 194, 3) := dk_184 0 194 (dk_at dksX4_table_4 8 rfl rfl)
theorem dX4_table_103 : decode cX4_table 103 = .ok (.lreturn, 1) := dk_173 (dk_at dksX4_table_4 11 rfl rfl)
abbrev cX4_tables : ByteArray := prog_19_method_59_code
def yX4_tables : MethodName := ⟨RX4, "tables", "(IIIIII)J"⟩
def dkwX4_tables_7 : List UInt8 := [92, 46, 4, 100, 79, 22, 10, 173]
abbrev dktX4_tables_7 : List UInt8 := dkwX4_tables_7 ++ []
def dkwX4_tables_6 : List UInt8 := [180, 0, 9, 4, 28, 96, 21, 8, 79, 42, 180, 0, 9, 4, 29, 96, 21, 9, 79, 42, 180, 0, 9, 3]
abbrev dktX4_tables_6 : List UInt8 := dkwX4_tables_6 ++ dktX4_tables_7
def dkwX4_tables_5 : List UInt8 := [21, 7, 100, 133, 42, 27, 29, 28, 21, 4, 21, 5, 21, 6, 182, 0, 227, 105, 97, 55, 10, 42]
abbrev dktX4_tables_5 : List UInt8 := dkwX4_tables_5 ++ dktX4_tables_6
def dkwX4_tables_4 : List UInt8 := [21, 8, 182, 0, 154, 79, 42, 180, 0, 9, 4, 29, 96, 42, 21, 9, 182, 0, 151, 79, 22, 10, 16, 10]
abbrev dktX4_tables_4 : List UInt8 := dkwX4_tables_4 ++ dktX4_tables_5
def dkwX4_tables_3 : List UInt8 := [42, 27, 28, 29, 21, 4, 21, 5, 21, 6, 182, 0, 227, 105, 55, 10, 42, 180, 0, 9, 4, 28, 96, 42]
abbrev dktX4_tables_3 : List UInt8 := dkwX4_tables_3 ++ dktX4_tables_4
def dkwX4_tables_2 : List UInt8 := [28, 96, 46, 54, 8, 42, 180, 0, 9, 4, 29, 96, 46, 54, 9, 42, 28, 29, 182, 0, 157, 21, 7, 133]
abbrev dktX4_tables_2 : List UInt8 := dkwX4_tables_2 ++ dktX4_tables_3
def dkwX4_tables_1 : List UInt8 := [167, 0, 18, 27, 29, 160, 0, 12, 16, 10, 21, 7, 100, 133, 167, 0, 4, 9, 173, 42, 180, 0, 9, 4]
abbrev dktX4_tables_1 : List UInt8 := dkwX4_tables_1 ++ dktX4_tables_2
def dkwX4_tables_0 : List UInt8 := [42, 28, 29, 182, 0, 148, 54, 7, 21, 6, 4, 160, 0, 30, 27, 28, 160, 0, 9, 21, 7, 133]
abbrev dktX4_tables_0 : List UInt8 := dkwX4_tables_0 ++ dktX4_tables_1
theorem dksX4_tables_0 : cX4_tables.data.toList.drop 0 = dktX4_tables_0 := by decide +kernel
theorem dksX4_tables_1 : cX4_tables.data.toList.drop 22 = dktX4_tables_1 := dk_seg dksX4_tables_0 22 rfl rfl
theorem dksX4_tables_2 : cX4_tables.data.toList.drop 46 = dktX4_tables_2 := dk_seg dksX4_tables_1 24 rfl rfl
theorem dksX4_tables_3 : cX4_tables.data.toList.drop 70 = dktX4_tables_3 := dk_seg dksX4_tables_2 24 rfl rfl
theorem dksX4_tables_4 : cX4_tables.data.toList.drop 94 = dktX4_tables_4 := dk_seg dksX4_tables_3 24 rfl rfl
theorem dksX4_tables_5 : cX4_tables.data.toList.drop 118 = dktX4_tables_5 := dk_seg dksX4_tables_4 24 rfl rfl
theorem dksX4_tables_6 : cX4_tables.data.toList.drop 140 = dktX4_tables_6 := dk_seg dksX4_tables_5 22 rfl rfl
theorem dksX4_tables_7 : cX4_tables.data.toList.drop 164 = dktX4_tables_7 := dk_seg dksX4_tables_6 24 rfl rfl
theorem dX4_tables_0 : decode cX4_tables 0 = .ok (.aload_n 0, 1) := dk_42 (dk_at dksX4_tables_0 0 rfl rfl)
theorem dX4_tables_1 : decode cX4_tables 1 = .ok (.iload_n 2, 1) := dk_28 (dk_at dksX4_tables_0 1 rfl rfl)
theorem dX4_tables_2 : decode cX4_tables 2 = .ok (.iload_n 3, 1) := dk_29 (dk_at dksX4_tables_0 2 rfl rfl)
theorem dX4_tables_3 : decode cX4_tables 3 = .ok (.invokevirtual 148, 3) := dk_182 0 148 (dk_at dksX4_tables_0 3 rfl rfl)
theorem dX4_tables_6 : decode cX4_tables 6 = .ok (.istore 7, 2) := dk_54 7 (dk_at dksX4_tables_0 6 rfl rfl)
theorem dX4_tables_8 : decode cX4_tables 8 = .ok (.iload 6, 2) := dk_21 6 (dk_at dksX4_tables_0 8 rfl rfl)
theorem dX4_tables_10 : decode cX4_tables 10 = .ok (.iconst 1, 1) := dk_4 (dk_at dksX4_tables_0 10 rfl rfl)
theorem dX4_tables_11 : decode cX4_tables 11 = .ok (.if_icmp .ne 30, 3) := dk_160 0 30 (dk_at dksX4_tables_0 11 rfl rfl)
theorem dX4_tables_14 : decode cX4_tables 14 = .ok (.iload_n 1, 1) := dk_27 (dk_at dksX4_tables_0 14 rfl rfl)
theorem dX4_tables_15 : decode cX4_tables 15 = .ok (.iload_n 2, 1) := dk_28 (dk_at dksX4_tables_0 15 rfl rfl)
theorem dX4_tables_16 : decode cX4_tables 16 = .ok (.if_icmp .ne 9, 3) := dk_160 0 9 (dk_at dksX4_tables_0 16 rfl rfl)
theorem dX4_tables_19 : decode cX4_tables 19 = .ok (.iload 7, 2) := dk_21 7 (dk_at dksX4_tables_0 19 rfl rfl)
theorem dX4_tables_21 : decode cX4_tables 21 = .ok (.i2l, 1) := dk_133 (dk_at dksX4_tables_0 21 rfl rfl)
theorem dX4_tables_22 : decode cX4_tables 22 = .ok (.goto 18, 3) := dk_167 0 18 (dk_at dksX4_tables_1 0 rfl rfl)
theorem dX4_tables_25 : decode cX4_tables 25 = .ok (.iload_n 1, 1) := dk_27 (dk_at dksX4_tables_1 3 rfl rfl)
theorem dX4_tables_26 : decode cX4_tables 26 = .ok (.iload_n 3, 1) := dk_29 (dk_at dksX4_tables_1 4 rfl rfl)
theorem dX4_tables_27 : decode cX4_tables 27 = .ok (.if_icmp .ne 12, 3) := dk_160 0 12 (dk_at dksX4_tables_1 5 rfl rfl)
theorem dX4_tables_30 : decode cX4_tables 30 = .ok (.bipush 10, 2) := dk_16 10 (dk_at dksX4_tables_1 8 rfl rfl)
theorem dX4_tables_32 : decode cX4_tables 32 = .ok (.iload 7, 2) := dk_21 7 (dk_at dksX4_tables_1 10 rfl rfl)
theorem dX4_tables_34 : decode cX4_tables 34 = .ok (.isub, 1) := dk_100 (dk_at dksX4_tables_1 12 rfl rfl)
theorem dX4_tables_35 : decode cX4_tables 35 = .ok (.i2l, 1) := dk_133 (dk_at dksX4_tables_1 13 rfl rfl)
theorem dX4_tables_36 : decode cX4_tables 36 = .ok (.goto 4, 3) := dk_167 0 4 (dk_at dksX4_tables_1 14 rfl rfl)
theorem dX4_tables_39 : decode cX4_tables 39 = .ok (.lconst 0, 1) := dk_9 (dk_at dksX4_tables_1 17 rfl rfl)
theorem dX4_tables_40 : decode cX4_tables 40 = .ok (.lreturn, 1) := dk_173 (dk_at dksX4_tables_1 18 rfl rfl)
theorem dX4_tables_41 : decode cX4_tables 41 = .ok (.aload_n 0, 1) := dk_42 (dk_at dksX4_tables_1 19 rfl rfl)
theorem dX4_tables_42 : decode cX4_tables 42 = .ok (.getfield 9, 3) := dk_180 0 9 (dk_at dksX4_tables_1 20 rfl rfl)
theorem dX4_tables_45 : decode cX4_tables 45 = .ok (.iconst 1, 1) := dk_4 (dk_at dksX4_tables_1 23 rfl rfl)
theorem dX4_tables_46 : decode cX4_tables 46 = .ok (.iload_n 2, 1) := dk_28 (dk_at dksX4_tables_2 0 rfl rfl)
theorem dX4_tables_47 : decode cX4_tables 47 = .ok (.iadd, 1) := dk_96 (dk_at dksX4_tables_2 1 rfl rfl)
theorem dX4_tables_48 : decode cX4_tables 48 = .ok (.iaload, 1) := dk_46 (dk_at dksX4_tables_2 2 rfl rfl)
theorem dX4_tables_49 : decode cX4_tables 49 = .ok (.istore 8, 2) := dk_54 8 (dk_at dksX4_tables_2 3 rfl rfl)
theorem dX4_tables_51 : decode cX4_tables 51 = .ok (.aload_n 0, 1) := dk_42 (dk_at dksX4_tables_2 5 rfl rfl)
theorem dX4_tables_52 : decode cX4_tables 52 = .ok (.getfield 9, 3) := dk_180 0 9 (dk_at dksX4_tables_2 6 rfl rfl)
theorem dX4_tables_55 : decode cX4_tables 55 = .ok (.iconst 1, 1) := dk_4 (dk_at dksX4_tables_2 9 rfl rfl)
theorem dX4_tables_56 : decode cX4_tables 56 = .ok (.iload_n 3, 1) := dk_29 (dk_at dksX4_tables_2 10 rfl rfl)
theorem dX4_tables_57 : decode cX4_tables 57 = .ok (.iadd, 1) := dk_96 (dk_at dksX4_tables_2 11 rfl rfl)
theorem dX4_tables_58 : decode cX4_tables 58 = .ok (.iaload, 1) := dk_46 (dk_at dksX4_tables_2 12 rfl rfl)
theorem dX4_tables_59 : decode cX4_tables 59 = .ok (.istore 9, 2) := dk_54 9 (dk_at dksX4_tables_2 13 rfl rfl)
theorem dX4_tables_61 : decode cX4_tables 61 = .ok (.aload_n 0, 1) := dk_42 (dk_at dksX4_tables_2 15 rfl rfl)
theorem dX4_tables_62 : decode cX4_tables 62 = .ok (.iload_n 2, 1) := dk_28 (dk_at dksX4_tables_2 16 rfl rfl)
theorem dX4_tables_63 : decode cX4_tables 63 = .ok (.iload_n 3, 1) := dk_29 (dk_at dksX4_tables_2 17 rfl rfl)
theorem dX4_tables_64 : decode cX4_tables 64 = .ok (.invokevirtual 157, 3) := dk_182 0 157 (dk_at dksX4_tables_2 18 rfl rfl)
theorem dX4_tables_67 : decode cX4_tables 67 = .ok (.iload 7, 2) := dk_21 7 (dk_at dksX4_tables_2 21 rfl rfl)
theorem dX4_tables_69 : decode cX4_tables 69 = .ok (.i2l, 1) := dk_133 (dk_at dksX4_tables_2 23 rfl rfl)
theorem dX4_tables_70 : decode cX4_tables 70 = .ok (.aload_n 0, 1) := dk_42 (dk_at dksX4_tables_3 0 rfl rfl)
theorem dX4_tables_71 : decode cX4_tables 71 = .ok (.iload_n 1, 1) := dk_27 (dk_at dksX4_tables_3 1 rfl rfl)
theorem dX4_tables_72 : decode cX4_tables 72 = .ok (.iload_n 2, 1) := dk_28 (dk_at dksX4_tables_3 2 rfl rfl)
theorem dX4_tables_73 : decode cX4_tables 73 = .ok (.iload_n 3, 1) := dk_29 (dk_at dksX4_tables_3 3 rfl rfl)
theorem dX4_tables_74 : decode cX4_tables 74 = .ok (.iload 4, 2) := dk_21 4 (dk_at dksX4_tables_3 4 rfl rfl)
theorem dX4_tables_76 : decode cX4_tables 76 = .ok (.iload 5, 2) := dk_21 5 (dk_at dksX4_tables_3 6 rfl rfl)
theorem dX4_tables_78 : decode cX4_tables 78 = .ok (.iload 6, 2) := dk_21 6 (dk_at dksX4_tables_3 8 rfl rfl)
theorem dX4_tables_80 : decode cX4_tables 80 = .ok (.invokevirtual 227, 3) := dk_182 0 227 (dk_at dksX4_tables_3 10 rfl rfl)
theorem dX4_tables_83 : decode cX4_tables 83 = .ok (.lmul, 1) := dk_105 (dk_at dksX4_tables_3 13 rfl rfl)
theorem dX4_tables_84 : decode cX4_tables 84 = .ok (.lstore 10, 2) := dk_55 10 (dk_at dksX4_tables_3 14 rfl rfl)
theorem dX4_tables_86 : decode cX4_tables 86 = .ok (.aload_n 0, 1) := dk_42 (dk_at dksX4_tables_3 16 rfl rfl)
theorem dX4_tables_87 : decode cX4_tables 87 = .ok (.getfield 9, 3) := dk_180 0 9 (dk_at dksX4_tables_3 17 rfl rfl)
theorem dX4_tables_90 : decode cX4_tables 90 = .ok (.iconst 1, 1) := dk_4 (dk_at dksX4_tables_3 20 rfl rfl)
theorem dX4_tables_91 : decode cX4_tables 91 = .ok (.iload_n 2, 1) := dk_28 (dk_at dksX4_tables_3 21 rfl rfl)
theorem dX4_tables_92 : decode cX4_tables 92 = .ok (.iadd, 1) := dk_96 (dk_at dksX4_tables_3 22 rfl rfl)
theorem dX4_tables_93 : decode cX4_tables 93 = .ok (.aload_n 0, 1) := dk_42 (dk_at dksX4_tables_3 23 rfl rfl)
theorem dX4_tables_94 : decode cX4_tables 94 = .ok (.iload 8, 2) := dk_21 8 (dk_at dksX4_tables_4 0 rfl rfl)
theorem dX4_tables_96 : decode cX4_tables 96 = .ok (.invokevirtual 154, 3) := dk_182 0 154 (dk_at dksX4_tables_4 2 rfl rfl)
theorem dX4_tables_99 : decode cX4_tables 99 = .ok (.iastore, 1) := dk_79 (dk_at dksX4_tables_4 5 rfl rfl)
theorem dX4_tables_100 : decode cX4_tables 100 = .ok (.aload_n 0, 1) := dk_42 (dk_at dksX4_tables_4 6 rfl rfl)
theorem dX4_tables_101 : decode cX4_tables 101 = .ok (.getfield 9, 3) := dk_180 0 9 (dk_at dksX4_tables_4 7 rfl rfl)
theorem dX4_tables_104 : decode cX4_tables 104 = .ok (.iconst 1, 1) := dk_4 (dk_at dksX4_tables_4 10 rfl rfl)
theorem dX4_tables_105 : decode cX4_tables 105 = .ok (.iload_n 3, 1) := dk_29 (dk_at dksX4_tables_4 11 rfl rfl)
theorem dX4_tables_106 : decode cX4_tables 106 = .ok (.iadd, 1) := dk_96 (dk_at dksX4_tables_4 12 rfl rfl)
theorem dX4_tables_107 : decode cX4_tables 107 = .ok (.aload_n 0, 1) := dk_42 (dk_at dksX4_tables_4 13 rfl rfl)
theorem dX4_tables_108 : decode cX4_tables 108 = .ok (.iload 9, 2) := dk_21 9 (dk_at dksX4_tables_4 14 rfl rfl)
theorem dX4_tables_110 : decode cX4_tables 110 = .ok (.invokevirtual 151, 3) := dk_182 0 151 (dk_at dksX4_tables_4 16 rfl rfl)
theorem dX4_tables_113 : decode cX4_tables 113 = .ok (.iastore, 1) := dk_79 (dk_at dksX4_tables_4 19 rfl rfl)
theorem dX4_tables_114 : decode cX4_tables 114 = .ok (.lload 10, 2) := dk_22 10 (dk_at dksX4_tables_4 20 rfl rfl)
theorem dX4_tables_116 : decode cX4_tables 116 = .ok (.bipush 10, 2) := dk_16 10 (dk_at dksX4_tables_4 22 rfl rfl)
theorem dX4_tables_118 : decode cX4_tables 118 = .ok (.iload 7, 2) := dk_21 7 (dk_at dksX4_tables_5 0 rfl rfl)
theorem dX4_tables_120 : decode cX4_tables 120 = .ok (.isub, 1) := dk_100 (dk_at dksX4_tables_5 2 rfl rfl)
theorem dX4_tables_121 : decode cX4_tables 121 = .ok (.i2l, 1) := dk_133 (dk_at dksX4_tables_5 3 rfl rfl)
theorem dX4_tables_122 : decode cX4_tables 122 = .ok (.aload_n 0, 1) := dk_42 (dk_at dksX4_tables_5 4 rfl rfl)
theorem dX4_tables_123 : decode cX4_tables 123 = .ok (.iload_n 1, 1) := dk_27 (dk_at dksX4_tables_5 5 rfl rfl)
theorem dX4_tables_124 : decode cX4_tables 124 = .ok (.iload_n 3, 1) := dk_29 (dk_at dksX4_tables_5 6 rfl rfl)
theorem dX4_tables_125 : decode cX4_tables 125 = .ok (.iload_n 2, 1) := dk_28 (dk_at dksX4_tables_5 7 rfl rfl)
theorem dX4_tables_126 : decode cX4_tables 126 = .ok (.iload 4, 2) := dk_21 4 (dk_at dksX4_tables_5 8 rfl rfl)
theorem dX4_tables_128 : decode cX4_tables 128 = .ok (.iload 5, 2) := dk_21 5 (dk_at dksX4_tables_5 10 rfl rfl)
theorem dX4_tables_130 : decode cX4_tables 130 = .ok (.iload 6, 2) := dk_21 6 (dk_at dksX4_tables_5 12 rfl rfl)
theorem dX4_tables_132 : decode cX4_tables 132 = .ok (.invokevirtual 227, 3) := dk_182 0 227 (dk_at dksX4_tables_5 14 rfl rfl)
theorem dX4_tables_135 : decode cX4_tables 135 = .ok (.lmul, 1) := dk_105 (dk_at dksX4_tables_5 17 rfl rfl)
theorem dX4_tables_136 : decode cX4_tables 136 = .ok (.ladd, 1) := dk_97 (dk_at dksX4_tables_5 18 rfl rfl)
theorem dX4_tables_137 : decode cX4_tables 137 = .ok (.lstore 10, 2) := dk_55 10 (dk_at dksX4_tables_5 19 rfl rfl)
theorem dX4_tables_139 : decode cX4_tables 139 = .ok (.aload_n 0, 1) := dk_42 (dk_at dksX4_tables_5 21 rfl rfl)
theorem dX4_tables_140 : decode cX4_tables 140 = .ok (.getfield 9, 3) := dk_180 0 9 (dk_at dksX4_tables_6 0 rfl rfl)
theorem dX4_tables_143 : decode cX4_tables 143 = .ok (.iconst 1, 1) := dk_4 (dk_at dksX4_tables_6 3 rfl rfl)
theorem dX4_tables_144 : decode cX4_tables 144 = .ok (.iload_n 2, 1) := dk_28 (dk_at dksX4_tables_6 4 rfl rfl)
theorem dX4_tables_145 : decode cX4_tables 145 = .ok (.iadd, 1) := dk_96 (dk_at dksX4_tables_6 5 rfl rfl)
theorem dX4_tables_146 : decode cX4_tables 146 = .ok (.iload 8, 2) := dk_21 8 (dk_at dksX4_tables_6 6 rfl rfl)
theorem dX4_tables_148 : decode cX4_tables 148 = .ok (.iastore, 1) := dk_79 (dk_at dksX4_tables_6 8 rfl rfl)
theorem dX4_tables_149 : decode cX4_tables 149 = .ok (.aload_n 0, 1) := dk_42 (dk_at dksX4_tables_6 9 rfl rfl)
theorem dX4_tables_150 : decode cX4_tables 150 = .ok (.getfield 9, 3) := dk_180 0 9 (dk_at dksX4_tables_6 10 rfl rfl)
theorem dX4_tables_153 : decode cX4_tables 153 = .ok (.iconst 1, 1) := dk_4 (dk_at dksX4_tables_6 13 rfl rfl)
theorem dX4_tables_154 : decode cX4_tables 154 = .ok (.iload_n 3, 1) := dk_29 (dk_at dksX4_tables_6 14 rfl rfl)
theorem dX4_tables_155 : decode cX4_tables 155 = .ok (.iadd, 1) := dk_96 (dk_at dksX4_tables_6 15 rfl rfl)
theorem dX4_tables_156 : decode cX4_tables 156 = .ok (.iload 9, 2) := dk_21 9 (dk_at dksX4_tables_6 16 rfl rfl)
theorem dX4_tables_158 : decode cX4_tables 158 = .ok (.iastore, 1) := dk_79 (dk_at dksX4_tables_6 18 rfl rfl)
theorem dX4_tables_159 : decode cX4_tables 159 = .ok (.aload_n 0, 1) := dk_42 (dk_at dksX4_tables_6 19 rfl rfl)
theorem dX4_tables_160 : decode cX4_tables 160 = .ok (.getfield 9, 3) := dk_180 0 9 (dk_at dksX4_tables_6 20 rfl rfl)
theorem dX4_tables_163 : decode cX4_tables 163 = .ok (.iconst 0, 1) := dk_3 (dk_at dksX4_tables_6 23 rfl rfl)
theorem dX4_tables_164 : decode cX4_tables 164 = .ok (.dup2, 1) := dk_92 (dk_at dksX4_tables_7 0 rfl rfl)
theorem dX4_tables_165 : decode cX4_tables 165 = .ok (.iaload, 1) := dk_46 (dk_at dksX4_tables_7 1 rfl rfl)
theorem dX4_tables_166 : decode cX4_tables 166 = .ok (.iconst 1, 1) := dk_4 (dk_at dksX4_tables_7 2 rfl rfl)
theorem dX4_tables_167 : decode cX4_tables 167 = .ok (.isub, 1) := dk_100 (dk_at dksX4_tables_7 3 rfl rfl)
theorem dX4_tables_168 : decode cX4_tables 168 = .ok (.iastore, 1) := dk_79 (dk_at dksX4_tables_7 4 rfl rfl)
theorem dX4_tables_169 : decode cX4_tables 169 = .ok (.lload 10, 2) := dk_22 10 (dk_at dksX4_tables_7 5 rfl rfl)
theorem dX4_tables_171 : decode cX4_tables 171 = .ok (.lreturn, 1) := dk_173 (dk_at dksX4_tables_7 7 rfl rfl)
abbrev cX4_nextTable : ByteArray := prog_19_method_60_code
def yX4_nextTable : MethodName := ⟨RX4, "nextTable", "(IIIIII)J"⟩
def dkwX4_nextTable_2 : List UInt8 := [112, 21, 5, 21, 6, 4, 100, 182, 0, 231, 173]
abbrev dktX4_nextTable_2 : List UInt8 := dkwX4_nextTable_2 ++ []
def dkwX4_nextTable_1 : List UInt8 := [167, 255, 239, 16, 10, 21, 4, 104, 29, 96, 54, 8, 42, 27, 28, 21, 8, 21, 7, 108, 21, 8, 21, 7]
abbrev dktX4_nextTable_1 : List UInt8 := dkwX4_nextTable_1 ++ dktX4_nextTable_2
def dkwX4_nextTable_0 : List UInt8 := [4, 54, 7, 3, 54, 8, 21, 8, 21, 5, 162, 0, 16, 21, 7, 16, 10, 104, 54, 7, 132, 8, 1]
abbrev dktX4_nextTable_0 : List UInt8 := dkwX4_nextTable_0 ++ dktX4_nextTable_1
theorem dksX4_nextTable_0 : cX4_nextTable.data.toList.drop 0 = dktX4_nextTable_0 := by decide +kernel
theorem dksX4_nextTable_1 : cX4_nextTable.data.toList.drop 23 = dktX4_nextTable_1 := dk_seg dksX4_nextTable_0 23 rfl rfl
theorem dksX4_nextTable_2 : cX4_nextTable.data.toList.drop 47 = dktX4_nextTable_2 := dk_seg dksX4_nextTable_1 24 rfl rfl
theorem dX4_nextTable_0 : decode cX4_nextTable 0 = .ok (.iconst 1, 1) := dk_4 (dk_at dksX4_nextTable_0 0 rfl rfl)
theorem dX4_nextTable_1 : decode cX4_nextTable 1 = .ok (.istore 7, 2) := dk_54 7 (dk_at dksX4_nextTable_0 1 rfl rfl)
theorem dX4_nextTable_3 : decode cX4_nextTable 3 = .ok (.iconst 0, 1) := dk_3 (dk_at dksX4_nextTable_0 3 rfl rfl)
theorem dX4_nextTable_4 : decode cX4_nextTable 4 = .ok (.istore 8, 2) := dk_54 8 (dk_at dksX4_nextTable_0 4 rfl rfl)
theorem dX4_nextTable_6 : decode cX4_nextTable 6 = .ok (.iload 8, 2) := dk_21 8 (dk_at dksX4_nextTable_0 6 rfl rfl)
theorem dX4_nextTable_8 : decode cX4_nextTable 8 = .ok (.iload 5, 2) := dk_21 5 (dk_at dksX4_nextTable_0 8 rfl rfl)
theorem dX4_nextTable_10 : decode cX4_nextTable 10 = .ok (.if_icmp .ge 16, 3) := dk_162 0 16 (dk_at dksX4_nextTable_0 10 rfl rfl)
theorem dX4_nextTable_13 : decode cX4_nextTable 13 = .ok (.iload 7, 2) := dk_21 7 (dk_at dksX4_nextTable_0 13 rfl rfl)
theorem dX4_nextTable_15 : decode cX4_nextTable 15 = .ok (.bipush 10, 2) := dk_16 10 (dk_at dksX4_nextTable_0 15 rfl rfl)
theorem dX4_nextTable_17 : decode cX4_nextTable 17 = .ok (.imul, 1) := dk_104 (dk_at dksX4_nextTable_0 17 rfl rfl)
theorem dX4_nextTable_18 : decode cX4_nextTable 18 = .ok (.istore 7, 2) := dk_54 7 (dk_at dksX4_nextTable_0 18 rfl rfl)
theorem dX4_nextTable_20 : decode cX4_nextTable 20 = .ok (.iinc 8 1, 3) := dk_132 8 1 (dk_at dksX4_nextTable_0 20 rfl rfl)
theorem dX4_nextTable_23 : decode cX4_nextTable 23 = .ok (.goto (-17), 3) := dk_167 255 239 (dk_at dksX4_nextTable_1 0 rfl rfl)
theorem dX4_nextTable_26 : decode cX4_nextTable 26 = .ok (.bipush 10, 2) := dk_16 10 (dk_at dksX4_nextTable_1 3 rfl rfl)
theorem dX4_nextTable_28 : decode cX4_nextTable 28 = .ok (.iload 4, 2) := dk_21 4 (dk_at dksX4_nextTable_1 5 rfl rfl)
theorem dX4_nextTable_30 : decode cX4_nextTable 30 = .ok (.imul, 1) := dk_104 (dk_at dksX4_nextTable_1 7 rfl rfl)
theorem dX4_nextTable_31 : decode cX4_nextTable 31 = .ok (.iload_n 3, 1) := dk_29 (dk_at dksX4_nextTable_1 8 rfl rfl)
theorem dX4_nextTable_32 : decode cX4_nextTable 32 = .ok (.iadd, 1) := dk_96 (dk_at dksX4_nextTable_1 9 rfl rfl)
theorem dX4_nextTable_33 : decode cX4_nextTable 33 = .ok (.istore 8, 2) := dk_54 8 (dk_at dksX4_nextTable_1 10 rfl rfl)
theorem dX4_nextTable_35 : decode cX4_nextTable 35 = .ok (.aload_n 0, 1) := dk_42 (dk_at dksX4_nextTable_1 12 rfl rfl)
theorem dX4_nextTable_36 : decode cX4_nextTable 36 = .ok (.iload_n 1, 1) := dk_27 (dk_at dksX4_nextTable_1 13 rfl rfl)
theorem dX4_nextTable_37 : decode cX4_nextTable 37 = .ok (.iload_n 2, 1) := dk_28 (dk_at dksX4_nextTable_1 14 rfl rfl)
theorem dX4_nextTable_38 : decode cX4_nextTable 38 = .ok (.iload 8, 2) := dk_21 8 (dk_at dksX4_nextTable_1 15 rfl rfl)
theorem dX4_nextTable_40 : decode cX4_nextTable 40 = .ok (.iload 7, 2) := dk_21 7 (dk_at dksX4_nextTable_1 17 rfl rfl)
theorem dX4_nextTable_42 : decode cX4_nextTable 42 = .ok (.idiv, 1) := dk_108 (dk_at dksX4_nextTable_1 19 rfl rfl)
theorem dX4_nextTable_43 : decode cX4_nextTable 43 = .ok (.iload 8, 2) := dk_21 8 (dk_at dksX4_nextTable_1 20 rfl rfl)
theorem dX4_nextTable_45 : decode cX4_nextTable 45 = .ok (.iload 7, 2) := dk_21 7 (dk_at dksX4_nextTable_1 22 rfl rfl)
theorem dX4_nextTable_47 : decode cX4_nextTable 47 = .ok (.irem, 1) := dk_112 (dk_at dksX4_nextTable_2 0 rfl rfl)
theorem dX4_nextTable_48 : decode cX4_nextTable 48 = .ok (.iload 5, 2) := dk_21 5 (dk_at dksX4_nextTable_2 1 rfl rfl)
theorem dX4_nextTable_50 : decode cX4_nextTable 50 = .ok (.iload 6, 2) := dk_21 6 (dk_at dksX4_nextTable_2 3 rfl rfl)
theorem dX4_nextTable_52 : decode cX4_nextTable 52 = .ok (.iconst 1, 1) := dk_4 (dk_at dksX4_nextTable_2 5 rfl rfl)
theorem dX4_nextTable_53 : decode cX4_nextTable 53 = .ok (.isub, 1) := dk_100 (dk_at dksX4_nextTable_2 6 rfl rfl)
theorem dX4_nextTable_54 : decode cX4_nextTable 54 = .ok (.invokevirtual 231, 3) := dk_182 0 231 (dk_at dksX4_nextTable_2 7 rfl rfl)
theorem dX4_nextTable_57 : decode cX4_nextTable 57 = .ok (.lreturn, 1) := dk_173 (dk_at dksX4_nextTable_2 10 rfl rfl)
abbrev cX4_book : ByteArray := prog_19_method_62_code
def yX4_book : MethodName := ⟨RX4, "book", "(IIZ)I"⟩
def dkwX4_book_5 : List UInt8 := [46, 4, 96, 79, 42, 180, 0, 9, 16, 8, 46, 172]
abbrev dktX4_book_5 : List UInt8 := dkwX4_book_5 ++ []
def dkwX4_book_4 : List UInt8 := [180, 0, 9, 16, 8, 46, 96, 29, 153, 0, 7, 4, 167, 0, 4, 3, 79, 42, 180, 0, 9, 16, 8, 92]
abbrev dktX4_book_4 : List UInt8 := dkwX4_book_4 ++ dktX4_book_5
def dkwX4_book_3 : List UInt8 := [42, 180, 0, 9, 16, 50, 42, 180, 0, 9, 16, 8, 46, 96, 28, 79, 42, 180, 0, 9, 16, 58, 42]
abbrev dktX4_book_3 : List UInt8 := dkwX4_book_3 ++ dktX4_book_4
def dkwX4_book_2 : List UInt8 := [16, 8, 160, 0, 6, 16, 252, 172, 42, 180, 0, 9, 16, 42, 42, 180, 0, 9, 16, 8, 46, 96, 27, 79]
abbrev dktX4_book_2 : List UInt8 := dkwX4_book_2 ++ dktX4_book_3
def dkwX4_book_1 : List UInt8 := [28, 182, 0, 52, 154, 0, 5, 2, 172, 27, 28, 160, 0, 6, 16, 254, 172, 42, 180, 0, 9, 16, 8, 46]
abbrev dktX4_book_1 : List UInt8 := dkwX4_book_1 ++ dktX4_book_2
def dkwX4_book_0 : List UInt8 := [27, 2, 160, 0, 13, 42, 180, 0, 9, 16, 8, 3, 79, 3, 172, 42, 27, 182, 0, 52, 153, 0, 11, 42]
abbrev dktX4_book_0 : List UInt8 := dkwX4_book_0 ++ dktX4_book_1
theorem dksX4_book_0 : cX4_book.data.toList.drop 0 = dktX4_book_0 := by decide +kernel
theorem dksX4_book_1 : cX4_book.data.toList.drop 24 = dktX4_book_1 := dk_seg dksX4_book_0 24 rfl rfl
theorem dksX4_book_2 : cX4_book.data.toList.drop 48 = dktX4_book_2 := dk_seg dksX4_book_1 24 rfl rfl
theorem dksX4_book_3 : cX4_book.data.toList.drop 72 = dktX4_book_3 := dk_seg dksX4_book_2 24 rfl rfl
theorem dksX4_book_4 : cX4_book.data.toList.drop 95 = dktX4_book_4 := dk_seg dksX4_book_3 23 rfl rfl
theorem dksX4_book_5 : cX4_book.data.toList.drop 119 = dktX4_book_5 := dk_seg dksX4_book_4 24 rfl rfl
theorem dX4_book_0 : decode cX4_book 0 = .ok (.iload_n 1, 1) := dk_27 (dk_at dksX4_book_0 0 rfl rfl)
theorem dX4_book_1 : decode cX4_book 1 = .ok (.iconst (-1), 1) := dk_2 (dk_at dksX4_book_0 1 rfl rfl)
theorem dX4_book_2 : decode cX4_book 2 = .ok (.if_icmp .ne 13, 3) := dk_160 0 13 (dk_at dksX4_book_0 2 rfl rfl)
theorem dX4_book_5 : decode cX4_book 5 = .ok (.aload_n 0, 1) := dk_42 (dk_at dksX4_book_0 5 rfl rfl)
theorem dX4_book_6 : decode cX4_book 6 = .ok (.getfield 9, 3) := dk_180 0 9 (dk_at dksX4_book_0 6 rfl rfl)
theorem dX4_book_9 : decode cX4_book 9 = .ok (.bipush 8, 2) := dk_16 8 (dk_at dksX4_book_0 9 rfl rfl)
theorem dX4_book_11 : decode cX4_book 11 = .ok (.iconst 0, 1) := dk_3 (dk_at dksX4_book_0 11 rfl rfl)
theorem dX4_book_12 : decode cX4_book 12 = .ok (.iastore, 1) := dk_79 (dk_at dksX4_book_0 12 rfl rfl)
theorem dX4_book_13 : decode cX4_book 13 = .ok (.iconst 0, 1) := dk_3 (dk_at dksX4_book_0 13 rfl rfl)
theorem dX4_book_14 : decode cX4_book 14 = .ok (.ireturn, 1) := dk_172 (dk_at dksX4_book_0 14 rfl rfl)
theorem dX4_book_15 : decode cX4_book 15 = .ok (.aload_n 0, 1) := dk_42 (dk_at dksX4_book_0 15 rfl rfl)
theorem dX4_book_16 : decode cX4_book 16 = .ok (.iload_n 1, 1) := dk_27 (dk_at dksX4_book_0 16 rfl rfl)
theorem dX4_book_17 : decode cX4_book 17 = .ok (.invokevirtual 52, 3) := dk_182 0 52 (dk_at dksX4_book_0 17 rfl rfl)
theorem dX4_book_20 : decode cX4_book 20 = .ok (.ifCond .eq 11, 3) := dk_153 0 11 (dk_at dksX4_book_0 20 rfl rfl)
theorem dX4_book_23 : decode cX4_book 23 = .ok (.aload_n 0, 1) := dk_42 (dk_at dksX4_book_0 23 rfl rfl)
theorem dX4_book_24 : decode cX4_book 24 = .ok (.iload_n 2, 1) := dk_28 (dk_at dksX4_book_1 0 rfl rfl)
theorem dX4_book_25 : decode cX4_book 25 = .ok (.invokevirtual 52, 3) := dk_182 0 52 (dk_at dksX4_book_1 1 rfl rfl)
theorem dX4_book_28 : decode cX4_book 28 = .ok (.ifCond .ne 5, 3) := dk_154 0 5 (dk_at dksX4_book_1 4 rfl rfl)
theorem dX4_book_31 : decode cX4_book 31 = .ok (.iconst (-1), 1) := dk_2 (dk_at dksX4_book_1 7 rfl rfl)
theorem dX4_book_32 : decode cX4_book 32 = .ok (.ireturn, 1) := dk_172 (dk_at dksX4_book_1 8 rfl rfl)
theorem dX4_book_33 : decode cX4_book 33 = .ok (.iload_n 1, 1) := dk_27 (dk_at dksX4_book_1 9 rfl rfl)
theorem dX4_book_34 : decode cX4_book 34 = .ok (.iload_n 2, 1) := dk_28 (dk_at dksX4_book_1 10 rfl rfl)
theorem dX4_book_35 : decode cX4_book 35 = .ok (.if_icmp .ne 6, 3) := dk_160 0 6 (dk_at dksX4_book_1 11 rfl rfl)
theorem dX4_book_38 : decode cX4_book 38 = .ok (.bipush (-2), 2) := dk_16 254 (dk_at dksX4_book_1 14 rfl rfl)
theorem dX4_book_40 : decode cX4_book 40 = .ok (.ireturn, 1) := dk_172 (dk_at dksX4_book_1 16 rfl rfl)
theorem dX4_book_41 : decode cX4_book 41 = .ok (.aload_n 0, 1) := dk_42 (dk_at dksX4_book_1 17 rfl rfl)
theorem dX4_book_42 : decode cX4_book 42 = .ok (.getfield 9, 3) := dk_180 0 9 (dk_at dksX4_book_1 18 rfl rfl)
theorem dX4_book_45 : decode cX4_book 45 = .ok (.bipush 8, 2) := dk_16 8 (dk_at dksX4_book_1 21 rfl rfl)
theorem dX4_book_47 : decode cX4_book 47 = .ok (.iaload, 1) := dk_46 (dk_at dksX4_book_1 23 rfl rfl)
theorem dX4_book_48 : decode cX4_book 48 = .ok (.bipush 8, 2) := dk_16 8 (dk_at dksX4_book_2 0 rfl rfl)
theorem dX4_book_50 : decode cX4_book 50 = .ok (.if_icmp .ne 6, 3) := dk_160 0 6 (dk_at dksX4_book_2 2 rfl rfl)
theorem dX4_book_53 : decode cX4_book 53 = .ok (.bipush (-4), 2) := dk_16 252 (dk_at dksX4_book_2 5 rfl rfl)
theorem dX4_book_55 : decode cX4_book 55 = .ok (.ireturn, 1) := dk_172 (dk_at dksX4_book_2 7 rfl rfl)
theorem dX4_book_56 : decode cX4_book 56 = .ok (.aload_n 0, 1) := dk_42 (dk_at dksX4_book_2 8 rfl rfl)
theorem dX4_book_57 : decode cX4_book 57 = .ok (.getfield 9, 3) := dk_180 0 9 (dk_at dksX4_book_2 9 rfl rfl)
theorem dX4_book_60 : decode cX4_book 60 = .ok (.bipush 42, 2) := dk_16 42 (dk_at dksX4_book_2 12 rfl rfl)
theorem dX4_book_62 : decode cX4_book 62 = .ok (.aload_n 0, 1) := dk_42 (dk_at dksX4_book_2 14 rfl rfl)
theorem dX4_book_63 : decode cX4_book 63 = .ok (.getfield 9, 3) := dk_180 0 9 (dk_at dksX4_book_2 15 rfl rfl)
theorem dX4_book_66 : decode cX4_book 66 = .ok (.bipush 8, 2) := dk_16 8 (dk_at dksX4_book_2 18 rfl rfl)
theorem dX4_book_68 : decode cX4_book 68 = .ok (.iaload, 1) := dk_46 (dk_at dksX4_book_2 20 rfl rfl)
theorem dX4_book_69 : decode cX4_book 69 = .ok (.iadd, 1) := dk_96 (dk_at dksX4_book_2 21 rfl rfl)
theorem dX4_book_70 : decode cX4_book 70 = .ok (.iload_n 1, 1) := dk_27 (dk_at dksX4_book_2 22 rfl rfl)
theorem dX4_book_71 : decode cX4_book 71 = .ok (.iastore, 1) := dk_79 (dk_at dksX4_book_2 23 rfl rfl)
theorem dX4_book_72 : decode cX4_book 72 = .ok (.aload_n 0, 1) := dk_42 (dk_at dksX4_book_3 0 rfl rfl)
theorem dX4_book_73 : decode cX4_book 73 = .ok (.getfield 9, 3) := dk_180 0 9 (dk_at dksX4_book_3 1 rfl rfl)
theorem dX4_book_76 : decode cX4_book 76 = .ok (.bipush 50, 2) := dk_16 50 (dk_at dksX4_book_3 4 rfl rfl)
theorem dX4_book_78 : decode cX4_book 78 = .ok (.aload_n 0, 1) := dk_42 (dk_at dksX4_book_3 6 rfl rfl)
theorem dX4_book_79 : decode cX4_book 79 = .ok (.getfield 9, 3) := dk_180 0 9 (dk_at dksX4_book_3 7 rfl rfl)
theorem dX4_book_82 : decode cX4_book 82 = .ok (.bipush 8, 2) := dk_16 8 (dk_at dksX4_book_3 10 rfl rfl)
theorem dX4_book_84 : decode cX4_book 84 = .ok (.iaload, 1) := dk_46 (dk_at dksX4_book_3 12 rfl rfl)
theorem dX4_book_85 : decode cX4_book 85 = .ok (.iadd, 1) := dk_96 (dk_at dksX4_book_3 13 rfl rfl)
theorem dX4_book_86 : decode cX4_book 86 = .ok (.iload_n 2, 1) := dk_28 (dk_at dksX4_book_3 14 rfl rfl)
theorem dX4_book_87 : decode cX4_book 87 = .ok (.iastore, 1) := dk_79 (dk_at dksX4_book_3 15 rfl rfl)
theorem dX4_book_88 : decode cX4_book 88 = .ok (.aload_n 0, 1) := dk_42 (dk_at dksX4_book_3 16 rfl rfl)
theorem dX4_book_89 : decode cX4_book 89 = .ok (.getfield 9, 3) := dk_180 0 9 (dk_at dksX4_book_3 17 rfl rfl)
theorem dX4_book_92 : decode cX4_book 92 = .ok (.bipush 58, 2) := dk_16 58 (dk_at dksX4_book_3 20 rfl rfl)
theorem dX4_book_94 : decode cX4_book 94 = .ok (.aload_n 0, 1) := dk_42 (dk_at dksX4_book_3 22 rfl rfl)
theorem dX4_book_95 : decode cX4_book 95 = .ok (.getfield 9, 3) := dk_180 0 9 (dk_at dksX4_book_4 0 rfl rfl)
theorem dX4_book_98 : decode cX4_book 98 = .ok (.bipush 8, 2) := dk_16 8 (dk_at dksX4_book_4 3 rfl rfl)
theorem dX4_book_100 : decode cX4_book 100 = .ok (.iaload, 1) := dk_46 (dk_at dksX4_book_4 5 rfl rfl)
theorem dX4_book_101 : decode cX4_book 101 = .ok (.iadd, 1) := dk_96 (dk_at dksX4_book_4 6 rfl rfl)
theorem dX4_book_102 : decode cX4_book 102 = .ok (.iload_n 3, 1) := dk_29 (dk_at dksX4_book_4 7 rfl rfl)
theorem dX4_book_103 : decode cX4_book 103 = .ok (.ifCond .eq 7, 3) := dk_153 0 7 (dk_at dksX4_book_4 8 rfl rfl)
theorem dX4_book_106 : decode cX4_book 106 = .ok (.iconst 1, 1) := dk_4 (dk_at dksX4_book_4 11 rfl rfl)
theorem dX4_book_107 : decode cX4_book 107 = .ok (.goto 4, 3) := dk_167 0 4 (dk_at dksX4_book_4 12 rfl rfl)
theorem dX4_book_110 : decode cX4_book 110 = .ok (.iconst 0, 1) := dk_3 (dk_at dksX4_book_4 15 rfl rfl)
theorem dX4_book_111 : decode cX4_book 111 = .ok (.iastore, 1) := dk_79 (dk_at dksX4_book_4 16 rfl rfl)
theorem dX4_book_112 : decode cX4_book 112 = .ok (.aload_n 0, 1) := dk_42 (dk_at dksX4_book_4 17 rfl rfl)
theorem dX4_book_113 : decode cX4_book 113 = .ok (.getfield 9, 3) := dk_180 0 9 (dk_at dksX4_book_4 18 rfl rfl)
theorem dX4_book_116 : decode cX4_book 116 = .ok (.bipush 8, 2) := dk_16 8 (dk_at dksX4_book_4 21 rfl rfl)
theorem dX4_book_118 : decode cX4_book 118 = .ok (.dup2, 1) := dk_92 (dk_at dksX4_book_4 23 rfl rfl)
theorem dX4_book_119 : decode cX4_book 119 = .ok (.iaload, 1) := dk_46 (dk_at dksX4_book_5 0 rfl rfl)
theorem dX4_book_120 : decode cX4_book 120 = .ok (.iconst 1, 1) := dk_4 (dk_at dksX4_book_5 1 rfl rfl)
theorem dX4_book_121 : decode cX4_book 121 = .ok (.iadd, 1) := dk_96 (dk_at dksX4_book_5 2 rfl rfl)
theorem dX4_book_122 : decode cX4_book 122 = .ok (.iastore, 1) := dk_79 (dk_at dksX4_book_5 3 rfl rfl)
theorem dX4_book_123 : decode cX4_book 123 = .ok (.aload_n 0, 1) := dk_42 (dk_at dksX4_book_5 4 rfl rfl)
theorem dX4_book_124 : decode cX4_book 124 = .ok (.getfield 9, 3) := dk_180 0 9 (dk_at dksX4_book_5 5 rfl rfl)
theorem dX4_book_127 : decode cX4_book 127 = .ok (.bipush 8, 2) := dk_16 8 (dk_at dksX4_book_5 8 rfl rfl)
theorem dX4_book_129 : decode cX4_book 129 = .ok (.iaload, 1) := dk_46 (dk_at dksX4_book_5 10 rfl rfl)
theorem dX4_book_130 : decode cX4_book 130 = .ok (.ireturn, 1) := dk_172 (dk_at dksX4_book_5 11 rfl rfl)
abbrev cX4_likely : ByteArray := prog_19_method_64_code
def yX4_likely : MethodName := ⟨RX4, "likely", "(I)I"⟩
def dkwX4_likely_8 : List UInt8 := [27, 96, 28, 79, 29, 172]
abbrev dktX4_likely_8 : List UInt8 := dkwX4_likely_8 ++ []
def dkwX4_likely_7 : List UInt8 := [158, 0, 8, 22, 7, 167, 0, 5, 22, 4, 55, 4, 132, 6, 1, 167, 255, 108, 42, 180, 0, 9, 16, 17]
abbrev dktX4_likely_7 : List UInt8 := dkwX4_likely_7 ++ dktX4_likely_8
def dkwX4_likely_6 : List UInt8 := [42, 182, 0, 177, 22, 7, 22, 4, 148, 158, 0, 8, 21, 6, 167, 0, 4, 29, 62, 22, 7, 22, 4, 148]
abbrev dktX4_likely_6 : List UInt8 := dkwX4_likely_6 ++ dktX4_likely_7
def dkwX4_likely_5 : List UInt8 := [167, 0, 9, 16, 10, 21, 10, 100, 133, 105, 55, 7, 42, 21, 9, 182, 0, 234, 132, 9, 1, 167, 255, 178]
abbrev dktX4_likely_5 : List UInt8 := dkwX4_likely_5 ++ dktX4_likely_6
def dkwX4_likely_4 : List UInt8 := [182, 0, 148, 54, 10, 22, 7, 42, 180, 0, 9, 16, 58, 21, 9, 96, 46, 4, 160, 0, 9, 21, 10, 133]
abbrev dktX4_likely_4 : List UInt8 := dkwX4_likely_4 ++ dktX4_likely_5
def dkwX4_likely_3 : List UInt8 := [162, 0, 72, 42, 42, 180, 0, 9, 16, 42, 21, 9, 96, 46, 42, 180, 0, 9, 16, 50, 21, 9, 96, 46]
abbrev dktX4_likely_3 : List UInt8 := dkwX4_likely_3 ++ dktX4_likely_4
def dkwX4_likely_2 : List UInt8 := [21, 6, 79, 42, 182, 0, 167, 10, 55, 7, 3, 54, 9, 21, 9, 42, 180, 0, 9, 16, 8, 46]
abbrev dktX4_likely_2 : List UInt8 := dkwX4_likely_2 ++ dktX4_likely_3
def dkwX4_likely_1 : List UInt8 := [20, 0, 219, 55, 4, 3, 54, 6, 21, 6, 16, 10, 162, 0, 147, 42, 180, 0, 9, 16, 17, 27, 96]
abbrev dktX4_likely_1 : List UInt8 := dkwX4_likely_1 ++ dktX4_likely_2
def dkwX4_likely_0 : List UInt8 := [42, 27, 182, 0, 52, 154, 0, 5, 2, 172, 42, 180, 0, 9, 16, 17, 27, 96, 46, 61, 3, 62]
abbrev dktX4_likely_0 : List UInt8 := dkwX4_likely_0 ++ dktX4_likely_1
theorem dksX4_likely_0 : cX4_likely.data.toList.drop 0 = dktX4_likely_0 := by decide +kernel
theorem dksX4_likely_1 : cX4_likely.data.toList.drop 22 = dktX4_likely_1 := dk_seg dksX4_likely_0 22 rfl rfl
theorem dksX4_likely_2 : cX4_likely.data.toList.drop 45 = dktX4_likely_2 := dk_seg dksX4_likely_1 23 rfl rfl
theorem dksX4_likely_3 : cX4_likely.data.toList.drop 67 = dktX4_likely_3 := dk_seg dksX4_likely_2 22 rfl rfl
theorem dksX4_likely_4 : cX4_likely.data.toList.drop 91 = dktX4_likely_4 := dk_seg dksX4_likely_3 24 rfl rfl
theorem dksX4_likely_5 : cX4_likely.data.toList.drop 115 = dktX4_likely_5 := dk_seg dksX4_likely_4 24 rfl rfl
theorem dksX4_likely_6 : cX4_likely.data.toList.drop 139 = dktX4_likely_6 := dk_seg dksX4_likely_5 24 rfl rfl
theorem dksX4_likely_7 : cX4_likely.data.toList.drop 163 = dktX4_likely_7 := dk_seg dksX4_likely_6 24 rfl rfl
theorem dksX4_likely_8 : cX4_likely.data.toList.drop 187 = dktX4_likely_8 := dk_seg dksX4_likely_7 24 rfl rfl
theorem dX4_likely_0 : decode cX4_likely 0 = .ok (.aload_n 0, 1) := dk_42 (dk_at dksX4_likely_0 0 rfl rfl)
theorem dX4_likely_1 : decode cX4_likely 1 = .ok (.iload_n 1, 1) := dk_27 (dk_at dksX4_likely_0 1 rfl rfl)
theorem dX4_likely_2 : decode cX4_likely 2 = .ok (.invokevirtual 52, 3) := dk_182 0 52 (dk_at dksX4_likely_0 2 rfl rfl)
theorem dX4_likely_5 : decode cX4_likely 5 = .ok (.ifCond .ne 5, 3) := dk_154 0 5 (dk_at dksX4_likely_0 5 rfl rfl)
theorem dX4_likely_8 : decode cX4_likely 8 = .ok (.iconst (-1), 1) := dk_2 (dk_at dksX4_likely_0 8 rfl rfl)
theorem dX4_likely_9 : decode cX4_likely 9 = .ok (.ireturn, 1) := dk_172 (dk_at dksX4_likely_0 9 rfl rfl)
theorem dX4_likely_10 : decode cX4_likely 10 = .ok (.aload_n 0, 1) := dk_42 (dk_at dksX4_likely_0 10 rfl rfl)
theorem dX4_likely_11 : decode cX4_likely 11 = .ok (.getfield 9, 3) := dk_180 0 9 (dk_at dksX4_likely_0 11 rfl rfl)
theorem dX4_likely_14 : decode cX4_likely 14 = .ok (.bipush 17, 2) := dk_16 17 (dk_at dksX4_likely_0 14 rfl rfl)
theorem dX4_likely_16 : decode cX4_likely 16 = .ok (.iload_n 1, 1) := dk_27 (dk_at dksX4_likely_0 16 rfl rfl)
theorem dX4_likely_17 : decode cX4_likely 17 = .ok (.iadd, 1) := dk_96 (dk_at dksX4_likely_0 17 rfl rfl)
theorem dX4_likely_18 : decode cX4_likely 18 = .ok (.iaload, 1) := dk_46 (dk_at dksX4_likely_0 18 rfl rfl)
theorem dX4_likely_19 : decode cX4_likely 19 = .ok (.istore_n 2, 1) := dk_61 (dk_at dksX4_likely_0 19 rfl rfl)
theorem dX4_likely_20 : decode cX4_likely 20 = .ok (.iconst 0, 1) := dk_3 (dk_at dksX4_likely_0 20 rfl rfl)
theorem dX4_likely_21 : decode cX4_likely 21 = .ok (.istore_n 3, 1) := dk_62 (dk_at dksX4_likely_0 21 rfl rfl)
theorem dX4_likely_22 : decode cX4_likely 22 = .ok (.ldc2_w 219, 3) := dk_20 0 219 (dk_at dksX4_likely_1 0 rfl rfl)
theorem dX4_likely_25 : decode cX4_likely 25 = .ok (.lstore 4, 2) := dk_55 4 (dk_at dksX4_likely_1 3 rfl rfl)
theorem dX4_likely_27 : decode cX4_likely 27 = .ok (.iconst 0, 1) := dk_3 (dk_at dksX4_likely_1 5 rfl rfl)
theorem dX4_likely_28 : decode cX4_likely 28 = .ok (.istore 6, 2) := dk_54 6 (dk_at dksX4_likely_1 6 rfl rfl)
theorem dX4_likely_30 : decode cX4_likely 30 = .ok (.iload 6, 2) := dk_21 6 (dk_at dksX4_likely_1 8 rfl rfl)
theorem dX4_likely_32 : decode cX4_likely 32 = .ok (.bipush 10, 2) := dk_16 10 (dk_at dksX4_likely_1 10 rfl rfl)
theorem dX4_likely_34 : decode cX4_likely 34 = .ok (.if_icmp .ge 147, 3) := dk_162 0 147 (dk_at dksX4_likely_1 12 rfl rfl)
theorem dX4_likely_37 : decode cX4_likely 37 = .ok (.aload_n 0, 1) := dk_42 (dk_at dksX4_likely_1 15 rfl rfl)
theorem dX4_likely_38 : decode cX4_likely 38 = .ok (.getfield 9, 3) := dk_180 0 9 (dk_at dksX4_likely_1 16 rfl rfl)
theorem dX4_likely_41 : decode cX4_likely 41 = .ok (.bipush 17, 2) := dk_16 17 (dk_at dksX4_likely_1 19 rfl rfl)
theorem dX4_likely_43 : decode cX4_likely 43 = .ok (.iload_n 1, 1) := dk_27 (dk_at dksX4_likely_1 21 rfl rfl)
theorem dX4_likely_44 : decode cX4_likely 44 = .ok (.iadd, 1) := dk_96 (dk_at dksX4_likely_1 22 rfl rfl)
theorem dX4_likely_45 : decode cX4_likely 45 = .ok (.iload 6, 2) := dk_21 6 (dk_at dksX4_likely_2 0 rfl rfl)
theorem dX4_likely_47 : decode cX4_likely 47 = .ok (.iastore, 1) := dk_79 (dk_at dksX4_likely_2 2 rfl rfl)
theorem dX4_likely_48 : decode cX4_likely 48 = .ok (.aload_n 0, 1) := dk_42 (dk_at dksX4_likely_2 3 rfl rfl)
theorem dX4_likely_49 : decode cX4_likely 49 = .ok (.invokevirtual 167, 3) := dk_182 0 167 (dk_at dksX4_likely_2 4 rfl rfl)
theorem dX4_likely_52 : decode cX4_likely 52 = .ok (.lconst 1, 1) := dk_10 (dk_at dksX4_likely_2 7 rfl rfl)
theorem dX4_likely_53 : decode cX4_likely 53 = .ok (.lstore 7, 2) := dk_55 7 (dk_at dksX4_likely_2 8 rfl rfl)
theorem dX4_likely_55 : decode cX4_likely 55 = .ok (.iconst 0, 1) := dk_3 (dk_at dksX4_likely_2 10 rfl rfl)
theorem dX4_likely_56 : decode cX4_likely 56 = .ok (.istore 9, 2) := dk_54 9 (dk_at dksX4_likely_2 11 rfl rfl)
theorem dX4_likely_58 : decode cX4_likely 58 = .ok (.iload 9, 2) := dk_21 9 (dk_at dksX4_likely_2 13 rfl rfl)
theorem dX4_likely_60 : decode cX4_likely 60 = .ok (.aload_n 0, 1) := dk_42 (dk_at dksX4_likely_2 15 rfl rfl)
theorem dX4_likely_61 : decode cX4_likely 61 = .ok (.getfield 9, 3) := dk_180 0 9 (dk_at dksX4_likely_2 16 rfl rfl)
theorem dX4_likely_64 : decode cX4_likely 64 = .ok (.bipush 8, 2) := dk_16 8 (dk_at dksX4_likely_2 19 rfl rfl)
theorem dX4_likely_66 : decode cX4_likely 66 = .ok (.iaload, 1) := dk_46 (dk_at dksX4_likely_2 21 rfl rfl)
theorem dX4_likely_67 : decode cX4_likely 67 = .ok (.if_icmp .ge 72, 3) := dk_162 0 72 (dk_at dksX4_likely_3 0 rfl rfl)
theorem dX4_likely_70 : decode cX4_likely 70 = .ok (.aload_n 0, 1) := dk_42 (dk_at dksX4_likely_3 3 rfl rfl)
theorem dX4_likely_71 : decode cX4_likely 71 = .ok (.aload_n 0, 1) := dk_42 (dk_at dksX4_likely_3 4 rfl rfl)
theorem dX4_likely_72 : decode cX4_likely 72 = .ok (.getfield 9, 3) := dk_180 0 9 (dk_at dksX4_likely_3 5 rfl rfl)
theorem dX4_likely_75 : decode cX4_likely 75 = .ok (.bipush 42, 2) := dk_16 42 (dk_at dksX4_likely_3 8 rfl rfl)
theorem dX4_likely_77 : decode cX4_likely 77 = .ok (.iload 9, 2) := dk_21 9 (dk_at dksX4_likely_3 10 rfl rfl)
theorem dX4_likely_79 : decode cX4_likely 79 = .ok (.iadd, 1) := dk_96 (dk_at dksX4_likely_3 12 rfl rfl)
theorem dX4_likely_80 : decode cX4_likely 80 = .ok (.iaload, 1) := dk_46 (dk_at dksX4_likely_3 13 rfl rfl)
theorem dX4_likely_81 : decode cX4_likely 81 = .ok (.aload_n 0, 1) := dk_42 (dk_at dksX4_likely_3 14 rfl rfl)
theorem dX4_likely_82 : decode cX4_likely 82 = .ok (.getfield 9, 3) := dk_180 0 9 (dk_at dksX4_likely_3 15 rfl rfl)
theorem dX4_likely_85 : decode cX4_likely 85 = .ok (.bipush 50, 2) := dk_16 50 (dk_at dksX4_likely_3 18 rfl rfl)
theorem dX4_likely_87 : decode cX4_likely 87 = .ok (.iload 9, 2) := dk_21 9 (dk_at dksX4_likely_3 20 rfl rfl)
theorem dX4_likely_89 : decode cX4_likely 89 = .ok (.iadd, 1) := dk_96 (dk_at dksX4_likely_3 22 rfl rfl)
theorem dX4_likely_90 : decode cX4_likely 90 = .ok (.iaload, 1) := dk_46 (dk_at dksX4_likely_3 23 rfl rfl)
theorem dX4_likely_91 : decode cX4_likely 91 = .ok (.invokevirtual 148, 3) := dk_182 0 148 (dk_at dksX4_likely_4 0 rfl rfl)
theorem dX4_likely_94 : decode cX4_likely 94 = .ok (.istore 10, 2) := dk_54 10 (dk_at dksX4_likely_4 3 rfl rfl)
theorem dX4_likely_96 : decode cX4_likely 96 = .ok (.lload 7, 2) := dk_22 7 (dk_at dksX4_likely_4 5 rfl rfl)
theorem dX4_likely_98 : decode cX4_likely 98 = .ok (.aload_n 0, 1) := dk_42 (dk_at dksX4_likely_4 7 rfl rfl)
theorem dX4_likely_99 : decode cX4_likely 99 = .ok (.getfield 9, 3) := dk_180 0 9 (dk_at dksX4_likely_4 8 rfl rfl)
theorem dX4_likely_102 : decode cX4_likely 102 = .ok (.bipush 58, 2) := dk_16 58 (dk_at dksX4_likely_4 11 rfl rfl)
theorem dX4_likely_104 : decode cX4_likely 104 = .ok (.iload 9, 2) := dk_21 9 (dk_at dksX4_likely_4 13 rfl rfl)
theorem dX4_likely_106 : decode cX4_likely 106 = .ok (.iadd, 1) := dk_96 (dk_at dksX4_likely_4 15 rfl rfl)
theorem dX4_likely_107 : decode cX4_likely 107 = .ok (.iaload, 1) := dk_46 (dk_at dksX4_likely_4 16 rfl rfl)
theorem dX4_likely_108 : decode cX4_likely 108 = .ok (.iconst 1, 1) := dk_4 (dk_at dksX4_likely_4 17 rfl rfl)
theorem dX4_likely_109 : decode cX4_likely 109 = .ok (.if_icmp .ne 9, 3) := dk_160 0 9 (dk_at dksX4_likely_4 18 rfl rfl)
theorem dX4_likely_112 : decode cX4_likely 112 = .ok (.iload 10, 2) := dk_21 10 (dk_at dksX4_likely_4 21 rfl rfl)
theorem dX4_likely_114 : decode cX4_likely 114 = .ok (.i2l, 1) := dk_133 (dk_at dksX4_likely_4 23 rfl rfl)
theorem dX4_likely_115 : decode cX4_likely 115 = .ok (.goto 9, 3) := dk_167 0 9 (dk_at dksX4_likely_5 0 rfl rfl)
theorem dX4_likely_118 : decode cX4_likely 118 = .ok (.bipush 10, 2) := dk_16 10 (dk_at dksX4_likely_5 3 rfl rfl)
theorem dX4_likely_120 : decode cX4_likely 120 = .ok (.iload 10, 2) := dk_21 10 (dk_at dksX4_likely_5 5 rfl rfl)
theorem dX4_likely_122 : decode cX4_likely 122 = .ok (.isub, 1) := dk_100 (dk_at dksX4_likely_5 7 rfl rfl)
theorem dX4_likely_123 : decode cX4_likely 123 = .ok (.i2l, 1) := dk_133 (dk_at dksX4_likely_5 8 rfl rfl)
theorem dX4_likely_124 : decode cX4_likely 124 = .ok (.lmul, 1) := dk_105 (dk_at dksX4_likely_5 9 rfl rfl)
theorem dX4_likely_125 : decode cX4_likely 125 = .ok (.lstore 7, 2) := dk_55 7 (dk_at dksX4_likely_5 10 rfl rfl)
theorem dX4_likely_127 : decode cX4_likely 127 = .ok (.aload_n 0, 1) := dk_42 (dk_at dksX4_likely_5 12 rfl rfl)
theorem dX4_likely_128 : decode cX4_likely 128 = .ok (.iload 9, 2) := dk_21 9 (dk_at dksX4_likely_5 13 rfl rfl)
theorem dX4_likely_130 : decode cX4_likely 130 = .ok (.invokevirtual 234, 3) := dk_182 0 234 (dk_at dksX4_likely_5 15 rfl rfl)
theorem dX4_likely_133 : decode cX4_likely 133 = .ok (.iinc 9 1, 3) := dk_132 9 1 (dk_at dksX4_likely_5 18 rfl rfl)
theorem dX4_likely_136 : decode cX4_likely 136 = .ok (.goto (-78), 3) := dk_167 255 178 (dk_at dksX4_likely_5 21 rfl rfl)
theorem dX4_likely_139 : decode cX4_likely 139 = .ok (.aload_n 0, 1) := dk_42 (dk_at dksX4_likely_6 0 rfl rfl)
theorem dX4_likely_140 : decode cX4_likely 140 = .ok (.invokevirtual 177, 3) := dk_182 0 177 (dk_at dksX4_likely_6 1 rfl rfl)
theorem dX4_likely_143 : decode cX4_likely 143 = .ok (.lload 7, 2) := dk_22 7 (dk_at dksX4_likely_6 4 rfl rfl)
theorem dX4_likely_145 : decode cX4_likely 145 = .ok (.lload 4, 2) := dk_22 4 (dk_at dksX4_likely_6 6 rfl rfl)
theorem dX4_likely_147 : decode cX4_likely 147 = .ok (.lcmp, 1) := dk_148 (dk_at dksX4_likely_6 8 rfl rfl)
theorem dX4_likely_148 : decode cX4_likely 148 = .ok (.ifCond .le 8, 3) := dk_158 0 8 (dk_at dksX4_likely_6 9 rfl rfl)
theorem dX4_likely_151 : decode cX4_likely 151 = .ok (.iload 6, 2) := dk_21 6 (dk_at dksX4_likely_6 12 rfl rfl)
theorem dX4_likely_153 : decode cX4_likely 153 = .ok (.goto 4, 3) := dk_167 0 4 (dk_at dksX4_likely_6 14 rfl rfl)
theorem dX4_likely_156 : decode cX4_likely 156 = .ok (.iload_n 3, 1) := dk_29 (dk_at dksX4_likely_6 17 rfl rfl)
theorem dX4_likely_157 : decode cX4_likely 157 = .ok (.istore_n 3, 1) := dk_62 (dk_at dksX4_likely_6 18 rfl rfl)
theorem dX4_likely_158 : decode cX4_likely 158 = .ok (.lload 7, 2) := dk_22 7 (dk_at dksX4_likely_6 19 rfl rfl)
theorem dX4_likely_160 : decode cX4_likely 160 = .ok (.lload 4, 2) := dk_22 4 (dk_at dksX4_likely_6 21 rfl rfl)
theorem dX4_likely_162 : decode cX4_likely 162 = .ok (.lcmp, 1) := dk_148 (dk_at dksX4_likely_6 23 rfl rfl)
theorem dX4_likely_163 : decode cX4_likely 163 = .ok (.ifCond .le 8, 3) := dk_158 0 8 (dk_at dksX4_likely_7 0 rfl rfl)
theorem dX4_likely_166 : decode cX4_likely 166 = .ok (.lload 7, 2) := dk_22 7 (dk_at dksX4_likely_7 3 rfl rfl)
theorem dX4_likely_168 : decode cX4_likely 168 = .ok (.goto 5, 3) := dk_167 0 5 (dk_at dksX4_likely_7 5 rfl rfl)
theorem dX4_likely_171 : decode cX4_likely 171 = .ok (.lload 4, 2) := dk_22 4 (dk_at dksX4_likely_7 8 rfl rfl)
theorem dX4_likely_173 : decode cX4_likely 173 = .ok (.lstore 4, 2) := dk_55 4 (dk_at dksX4_likely_7 10 rfl rfl)
theorem dX4_likely_175 : decode cX4_likely 175 = .ok (.iinc 6 1, 3) := dk_132 6 1 (dk_at dksX4_likely_7 12 rfl rfl)
theorem dX4_likely_178 : decode cX4_likely 178 = .ok (.goto (-148), 3) := dk_167 255 108 (dk_at dksX4_likely_7 15 rfl rfl)
theorem dX4_likely_181 : decode cX4_likely 181 = .ok (.aload_n 0, 1) := dk_42 (dk_at dksX4_likely_7 18 rfl rfl)
theorem dX4_likely_182 : decode cX4_likely 182 = .ok (.getfield 9, 3) := dk_180 0 9 (dk_at dksX4_likely_7 19 rfl rfl)
theorem dX4_likely_185 : decode cX4_likely 185 = .ok (.bipush 17, 2) := dk_16 17 (dk_at dksX4_likely_7 22 rfl rfl)
theorem dX4_likely_187 : decode cX4_likely 187 = .ok (.iload_n 1, 1) := dk_27 (dk_at dksX4_likely_8 0 rfl rfl)
theorem dX4_likely_188 : decode cX4_likely 188 = .ok (.iadd, 1) := dk_96 (dk_at dksX4_likely_8 1 rfl rfl)
theorem dX4_likely_189 : decode cX4_likely 189 = .ok (.iload_n 2, 1) := dk_28 (dk_at dksX4_likely_8 2 rfl rfl)
theorem dX4_likely_190 : decode cX4_likely 190 = .ok (.iastore, 1) := dk_79 (dk_at dksX4_likely_8 3 rfl rfl)
theorem dX4_likely_191 : decode cX4_likely 191 = .ok (.iload_n 3, 1) := dk_29 (dk_at dksX4_likely_8 4 rfl rfl)
theorem dX4_likely_192 : decode cX4_likely 192 = .ok (.ireturn, 1) := dk_172 (dk_at dksX4_likely_8 5 rfl rfl)
abbrev cX4_booksGame : ByteArray := prog_19_method_63_code
def yX4_booksGame : MethodName := ⟨RX4, "booksGame", "(I)V"⟩
def dkwX4_booksGame_2 : List UInt8 := [167, 0, 4, 29, 21, 4, 153, 0, 7, 29, 167, 0, 4, 28, 182, 0, 157, 177]
abbrev dktX4_booksGame_2 : List UInt8 := dkwX4_booksGame_2 ++ []
def dkwX4_booksGame_1 : List UInt8 := [16, 58, 27, 96, 46, 4, 160, 0, 7, 4, 167, 0, 4, 3, 54, 4, 42, 21, 4, 153, 0, 7, 28]
abbrev dktX4_booksGame_1 : List UInt8 := dkwX4_booksGame_1 ++ dktX4_booksGame_2
def dkwX4_booksGame_0 : List UInt8 := [42, 180, 0, 9, 16, 42, 27, 96, 46, 61, 42, 180, 0, 9, 16, 50, 27, 96, 46, 62, 42, 180, 0, 9]
abbrev dktX4_booksGame_0 : List UInt8 := dkwX4_booksGame_0 ++ dktX4_booksGame_1
theorem dksX4_booksGame_0 : cX4_booksGame.data.toList.drop 0 = dktX4_booksGame_0 := by decide +kernel
theorem dksX4_booksGame_1 : cX4_booksGame.data.toList.drop 24 = dktX4_booksGame_1 := dk_seg dksX4_booksGame_0 24 rfl rfl
theorem dksX4_booksGame_2 : cX4_booksGame.data.toList.drop 47 = dktX4_booksGame_2 := dk_seg dksX4_booksGame_1 23 rfl rfl
theorem dX4_booksGame_0 : decode cX4_booksGame 0 = .ok (.aload_n 0, 1) := dk_42 (dk_at dksX4_booksGame_0 0 rfl rfl)
theorem dX4_booksGame_1 : decode cX4_booksGame 1 = .ok (.getfield 9, 3) := dk_180 0 9 (dk_at dksX4_booksGame_0 1 rfl rfl)
theorem dX4_booksGame_4 : decode cX4_booksGame 4 = .ok (.bipush 42, 2) := dk_16 42 (dk_at dksX4_booksGame_0 4 rfl rfl)
theorem dX4_booksGame_6 : decode cX4_booksGame 6 = .ok (.iload_n 1, 1) := dk_27 (dk_at dksX4_booksGame_0 6 rfl rfl)
theorem dX4_booksGame_7 : decode cX4_booksGame 7 = .ok (.iadd, 1) := dk_96 (dk_at dksX4_booksGame_0 7 rfl rfl)
theorem dX4_booksGame_8 : decode cX4_booksGame 8 = .ok (.iaload, 1) := dk_46 (dk_at dksX4_booksGame_0 8 rfl rfl)
theorem dX4_booksGame_9 : decode cX4_booksGame 9 = .ok (.istore_n 2, 1) := dk_61 (dk_at dksX4_booksGame_0 9 rfl rfl)
theorem dX4_booksGame_10 : decode cX4_booksGame 10 = .ok (.aload_n 0, 1) := dk_42 (dk_at dksX4_booksGame_0 10 rfl rfl)
theorem dX4_booksGame_11 : decode cX4_booksGame 11 = .ok (.getfield 9, 3) := dk_180 0 9 (dk_at dksX4_booksGame_0 11 rfl rfl)
theorem dX4_booksGame_14 : decode cX4_booksGame 14 = .ok (.bipush 50, 2) := dk_16 50 (dk_at dksX4_booksGame_0 14 rfl rfl)
theorem dX4_booksGame_16 : decode cX4_booksGame 16 = .ok (.iload_n 1, 1) := dk_27 (dk_at dksX4_booksGame_0 16 rfl rfl)
theorem dX4_booksGame_17 : decode cX4_booksGame 17 = .ok (.iadd, 1) := dk_96 (dk_at dksX4_booksGame_0 17 rfl rfl)
theorem dX4_booksGame_18 : decode cX4_booksGame 18 = .ok (.iaload, 1) := dk_46 (dk_at dksX4_booksGame_0 18 rfl rfl)
theorem dX4_booksGame_19 : decode cX4_booksGame 19 = .ok (.istore_n 3, 1) := dk_62 (dk_at dksX4_booksGame_0 19 rfl rfl)
theorem dX4_booksGame_20 : decode cX4_booksGame 20 = .ok (.aload_n 0, 1) := dk_42 (dk_at dksX4_booksGame_0 20 rfl rfl)
theorem dX4_booksGame_21 : decode cX4_booksGame 21 = .ok (.getfield 9, 3) := dk_180 0 9 (dk_at dksX4_booksGame_0 21 rfl rfl)
theorem dX4_booksGame_24 : decode cX4_booksGame 24 = .ok (.bipush 58, 2) := dk_16 58 (dk_at dksX4_booksGame_1 0 rfl rfl)
theorem dX4_booksGame_26 : decode cX4_booksGame 26 = .ok (.iload_n 1, 1) := dk_27 (dk_at dksX4_booksGame_1 2 rfl rfl)
theorem dX4_booksGame_27 : decode cX4_booksGame 27 = .ok (.iadd, 1) := dk_96 (dk_at dksX4_booksGame_1 3 rfl rfl)
theorem dX4_booksGame_28 : decode cX4_booksGame 28 = .ok (.iaload, 1) := dk_46 (dk_at dksX4_booksGame_1 4 rfl rfl)
theorem dX4_booksGame_29 : decode cX4_booksGame 29 = .ok (.iconst 1, 1) := dk_4 (dk_at dksX4_booksGame_1 5 rfl rfl)
theorem dX4_booksGame_30 : decode cX4_booksGame 30 = .ok (.if_icmp .ne 7, 3) := dk_160 0 7 (dk_at dksX4_booksGame_1 6 rfl rfl)
theorem dX4_booksGame_33 : decode cX4_booksGame 33 = .ok (.iconst 1, 1) := dk_4 (dk_at dksX4_booksGame_1 9 rfl rfl)
theorem dX4_booksGame_34 : decode cX4_booksGame 34 = .ok (.goto 4, 3) := dk_167 0 4 (dk_at dksX4_booksGame_1 10 rfl rfl)
theorem dX4_booksGame_37 : decode cX4_booksGame 37 = .ok (.iconst 0, 1) := dk_3 (dk_at dksX4_booksGame_1 13 rfl rfl)
theorem dX4_booksGame_38 : decode cX4_booksGame 38 = .ok (.istore 4, 2) := dk_54 4 (dk_at dksX4_booksGame_1 14 rfl rfl)
theorem dX4_booksGame_40 : decode cX4_booksGame 40 = .ok (.aload_n 0, 1) := dk_42 (dk_at dksX4_booksGame_1 16 rfl rfl)
theorem dX4_booksGame_41 : decode cX4_booksGame 41 = .ok (.iload 4, 2) := dk_21 4 (dk_at dksX4_booksGame_1 17 rfl rfl)
theorem dX4_booksGame_43 : decode cX4_booksGame 43 = .ok (.ifCond .eq 7, 3) := dk_153 0 7 (dk_at dksX4_booksGame_1 19 rfl rfl)
theorem dX4_booksGame_46 : decode cX4_booksGame 46 = .ok (.iload_n 2, 1) := dk_28 (dk_at dksX4_booksGame_1 22 rfl rfl)
theorem dX4_booksGame_47 : decode cX4_booksGame 47 = .ok (.goto 4, 3) := dk_167 0 4 (dk_at dksX4_booksGame_2 0 rfl rfl)
theorem dX4_booksGame_50 : decode cX4_booksGame 50 = .ok (.iload_n 3, 1) := dk_29 (dk_at dksX4_booksGame_2 3 rfl rfl)
theorem dX4_booksGame_51 : decode cX4_booksGame 51 = .ok (.iload 4, 2) := dk_21 4 (dk_at dksX4_booksGame_2 4 rfl rfl)
theorem dX4_booksGame_53 : decode cX4_booksGame 53 = .ok (.ifCond .eq 7, 3) := dk_153 0 7 (dk_at dksX4_booksGame_2 6 rfl rfl)
theorem dX4_booksGame_56 : decode cX4_booksGame 56 = .ok (.iload_n 3, 1) := dk_29 (dk_at dksX4_booksGame_2 9 rfl rfl)
theorem dX4_booksGame_57 : decode cX4_booksGame 57 = .ok (.goto 4, 3) := dk_167 0 4 (dk_at dksX4_booksGame_2 10 rfl rfl)
theorem dX4_booksGame_60 : decode cX4_booksGame 60 = .ok (.iload_n 2, 1) := dk_28 (dk_at dksX4_booksGame_2 13 rfl rfl)
theorem dX4_booksGame_61 : decode cX4_booksGame 61 = .ok (.invokevirtual 157, 3) := dk_182 0 157 (dk_at dksX4_booksGame_2 14 rfl rfl)
theorem dX4_booksGame_64 : decode cX4_booksGame 64 = .ok (.return_, 1) := dk_177 (dk_at dksX4_booksGame_2 17 rfl rfl)
abbrev cX4_says : ByteArray := prog_19_method_65_code
def yX4_says : MethodName := ⟨RX4, "says", "(I)I"⟩
def dkwX4_says_2 : List UInt8 := [182, 0, 177, 28, 172]
abbrev dktX4_says_2 : List UInt8 := dkwX4_says_2 ++ []
def dkwX4_says_1 : List UInt8 := [162, 0, 14, 42, 28, 182, 0, 234, 132, 2, 1, 167, 255, 237, 42, 180, 0, 9, 4, 27, 96, 46, 61, 42]
abbrev dktX4_says_1 : List UInt8 := dkwX4_says_1 ++ dktX4_says_2
def dkwX4_says_0 : List UInt8 := [42, 27, 182, 0, 52, 154, 0, 5, 2, 172, 42, 182, 0, 167, 3, 61, 28, 42, 180, 0, 9, 16, 8, 46]
abbrev dktX4_says_0 : List UInt8 := dkwX4_says_0 ++ dktX4_says_1
theorem dksX4_says_0 : cX4_says.data.toList.drop 0 = dktX4_says_0 := by decide +kernel
theorem dksX4_says_1 : cX4_says.data.toList.drop 24 = dktX4_says_1 := dk_seg dksX4_says_0 24 rfl rfl
theorem dksX4_says_2 : cX4_says.data.toList.drop 48 = dktX4_says_2 := dk_seg dksX4_says_1 24 rfl rfl
theorem dX4_says_0 : decode cX4_says 0 = .ok (.aload_n 0, 1) := dk_42 (dk_at dksX4_says_0 0 rfl rfl)
theorem dX4_says_1 : decode cX4_says 1 = .ok (.iload_n 1, 1) := dk_27 (dk_at dksX4_says_0 1 rfl rfl)
theorem dX4_says_2 : decode cX4_says 2 = .ok (.invokevirtual 52, 3) := dk_182 0 52 (dk_at dksX4_says_0 2 rfl rfl)
theorem dX4_says_5 : decode cX4_says 5 = .ok (.ifCond .ne 5, 3) := dk_154 0 5 (dk_at dksX4_says_0 5 rfl rfl)
theorem dX4_says_8 : decode cX4_says 8 = .ok (.iconst (-1), 1) := dk_2 (dk_at dksX4_says_0 8 rfl rfl)
theorem dX4_says_9 : decode cX4_says 9 = .ok (.ireturn, 1) := dk_172 (dk_at dksX4_says_0 9 rfl rfl)
theorem dX4_says_10 : decode cX4_says 10 = .ok (.aload_n 0, 1) := dk_42 (dk_at dksX4_says_0 10 rfl rfl)
theorem dX4_says_11 : decode cX4_says 11 = .ok (.invokevirtual 167, 3) := dk_182 0 167 (dk_at dksX4_says_0 11 rfl rfl)
theorem dX4_says_14 : decode cX4_says 14 = .ok (.iconst 0, 1) := dk_3 (dk_at dksX4_says_0 14 rfl rfl)
theorem dX4_says_15 : decode cX4_says 15 = .ok (.istore_n 2, 1) := dk_61 (dk_at dksX4_says_0 15 rfl rfl)
theorem dX4_says_16 : decode cX4_says 16 = .ok (.iload_n 2, 1) := dk_28 (dk_at dksX4_says_0 16 rfl rfl)
theorem dX4_says_17 : decode cX4_says 17 = .ok (.aload_n 0, 1) := dk_42 (dk_at dksX4_says_0 17 rfl rfl)
theorem dX4_says_18 : decode cX4_says 18 = .ok (.getfield 9, 3) := dk_180 0 9 (dk_at dksX4_says_0 18 rfl rfl)
theorem dX4_says_21 : decode cX4_says 21 = .ok (.bipush 8, 2) := dk_16 8 (dk_at dksX4_says_0 21 rfl rfl)
theorem dX4_says_23 : decode cX4_says 23 = .ok (.iaload, 1) := dk_46 (dk_at dksX4_says_0 23 rfl rfl)
theorem dX4_says_24 : decode cX4_says 24 = .ok (.if_icmp .ge 14, 3) := dk_162 0 14 (dk_at dksX4_says_1 0 rfl rfl)
theorem dX4_says_27 : decode cX4_says 27 = .ok (.aload_n 0, 1) := dk_42 (dk_at dksX4_says_1 3 rfl rfl)
theorem dX4_says_28 : decode cX4_says 28 = .ok (.iload_n 2, 1) := dk_28 (dk_at dksX4_says_1 4 rfl rfl)
theorem dX4_says_29 : decode cX4_says 29 = .ok (.invokevirtual 234, 3) := dk_182 0 234 (dk_at dksX4_says_1 5 rfl rfl)
theorem dX4_says_32 : decode cX4_says 32 = .ok (.iinc 2 1, 3) := dk_132 2 1 (dk_at dksX4_says_1 8 rfl rfl)
theorem dX4_says_35 : decode cX4_says 35 = .ok (.goto (-19), 3) := dk_167 255 237 (dk_at dksX4_says_1 11 rfl rfl)
theorem dX4_says_38 : decode cX4_says 38 = .ok (.aload_n 0, 1) := dk_42 (dk_at dksX4_says_1 14 rfl rfl)
theorem dX4_says_39 : decode cX4_says 39 = .ok (.getfield 9, 3) := dk_180 0 9 (dk_at dksX4_says_1 15 rfl rfl)
theorem dX4_says_42 : decode cX4_says 42 = .ok (.iconst 1, 1) := dk_4 (dk_at dksX4_says_1 18 rfl rfl)
theorem dX4_says_43 : decode cX4_says 43 = .ok (.iload_n 1, 1) := dk_27 (dk_at dksX4_says_1 19 rfl rfl)
theorem dX4_says_44 : decode cX4_says 44 = .ok (.iadd, 1) := dk_96 (dk_at dksX4_says_1 20 rfl rfl)
theorem dX4_says_45 : decode cX4_says 45 = .ok (.iaload, 1) := dk_46 (dk_at dksX4_says_1 21 rfl rfl)
theorem dX4_says_46 : decode cX4_says 46 = .ok (.istore_n 2, 1) := dk_61 (dk_at dksX4_says_1 22 rfl rfl)
theorem dX4_says_47 : decode cX4_says 47 = .ok (.aload_n 0, 1) := dk_42 (dk_at dksX4_says_1 23 rfl rfl)
theorem dX4_says_48 : decode cX4_says 48 = .ok (.invokevirtual 177, 3) := dk_182 0 177 (dk_at dksX4_says_2 0 rfl rfl)
theorem dX4_says_51 : decode cX4_says 51 = .ok (.iload_n 2, 1) := dk_28 (dk_at dksX4_says_2 3 rfl rfl)
theorem dX4_says_52 : decode cX4_says 52 = .ok (.ireturn, 1) := dk_172 (dk_at dksX4_says_2 4 rfl rfl)
abbrev cX4_tale : ByteArray := prog_19_method_66_code
def yX4_tale : MethodName := ⟨RX4, "tale", "(I)I"⟩
def dkwX4_tale_3 : List UInt8 := [96, 79, 42, 180, 0, 9, 16, 9, 46, 172]
abbrev dktX4_tale_3 : List UInt8 := dkwX4_tale_3 ++ []
def dkwX4_tale_2 : List UInt8 := [180, 0, 9, 16, 66, 42, 180, 0, 9, 16, 9, 46, 96, 27, 79, 42, 180, 0, 9, 16, 9, 92, 46, 4]
abbrev dktX4_tale_2 : List UInt8 := dkwX4_tale_2 ++ dktX4_tale_3
def dkwX4_tale_1 : List UInt8 := [154, 0, 6, 16, 254, 172, 42, 180, 0, 9, 16, 9, 46, 16, 8, 160, 0, 6, 16, 252, 172, 42]
abbrev dktX4_tale_1 : List UInt8 := dkwX4_tale_1 ++ dktX4_tale_2
def dkwX4_tale_0 : List UInt8 := [27, 2, 160, 0, 13, 42, 180, 0, 9, 16, 9, 3, 79, 3, 172, 27, 4, 16, 20, 184, 0, 48]
abbrev dktX4_tale_0 : List UInt8 := dkwX4_tale_0 ++ dktX4_tale_1
theorem dksX4_tale_0 : cX4_tale.data.toList.drop 0 = dktX4_tale_0 := by decide +kernel
theorem dksX4_tale_1 : cX4_tale.data.toList.drop 22 = dktX4_tale_1 := dk_seg dksX4_tale_0 22 rfl rfl
theorem dksX4_tale_2 : cX4_tale.data.toList.drop 44 = dktX4_tale_2 := dk_seg dksX4_tale_1 22 rfl rfl
theorem dksX4_tale_3 : cX4_tale.data.toList.drop 68 = dktX4_tale_3 := dk_seg dksX4_tale_2 24 rfl rfl
theorem dX4_tale_0 : decode cX4_tale 0 = .ok (.iload_n 1, 1) := dk_27 (dk_at dksX4_tale_0 0 rfl rfl)
theorem dX4_tale_1 : decode cX4_tale 1 = .ok (.iconst (-1), 1) := dk_2 (dk_at dksX4_tale_0 1 rfl rfl)
theorem dX4_tale_2 : decode cX4_tale 2 = .ok (.if_icmp .ne 13, 3) := dk_160 0 13 (dk_at dksX4_tale_0 2 rfl rfl)
theorem dX4_tale_5 : decode cX4_tale 5 = .ok (.aload_n 0, 1) := dk_42 (dk_at dksX4_tale_0 5 rfl rfl)
theorem dX4_tale_6 : decode cX4_tale 6 = .ok (.getfield 9, 3) := dk_180 0 9 (dk_at dksX4_tale_0 6 rfl rfl)
theorem dX4_tale_9 : decode cX4_tale 9 = .ok (.bipush 9, 2) := dk_16 9 (dk_at dksX4_tale_0 9 rfl rfl)
theorem dX4_tale_11 : decode cX4_tale 11 = .ok (.iconst 0, 1) := dk_3 (dk_at dksX4_tale_0 11 rfl rfl)
theorem dX4_tale_12 : decode cX4_tale 12 = .ok (.iastore, 1) := dk_79 (dk_at dksX4_tale_0 12 rfl rfl)
theorem dX4_tale_13 : decode cX4_tale 13 = .ok (.iconst 0, 1) := dk_3 (dk_at dksX4_tale_0 13 rfl rfl)
theorem dX4_tale_14 : decode cX4_tale 14 = .ok (.ireturn, 1) := dk_172 (dk_at dksX4_tale_0 14 rfl rfl)
theorem dX4_tale_15 : decode cX4_tale 15 = .ok (.iload_n 1, 1) := dk_27 (dk_at dksX4_tale_0 15 rfl rfl)
theorem dX4_tale_16 : decode cX4_tale 16 = .ok (.iconst 1, 1) := dk_4 (dk_at dksX4_tale_0 16 rfl rfl)
theorem dX4_tale_17 : decode cX4_tale 17 = .ok (.bipush 20, 2) := dk_16 20 (dk_at dksX4_tale_0 17 rfl rfl)
theorem dX4_tale_19 : decode cX4_tale 19 = .ok (.invokestatic 48, 3) := dk_184 0 48 (dk_at dksX4_tale_0 19 rfl rfl)
theorem dX4_tale_22 : decode cX4_tale 22 = .ok (.ifCond .ne 6, 3) := dk_154 0 6 (dk_at dksX4_tale_1 0 rfl rfl)
theorem dX4_tale_25 : decode cX4_tale 25 = .ok (.bipush (-2), 2) := dk_16 254 (dk_at dksX4_tale_1 3 rfl rfl)
theorem dX4_tale_27 : decode cX4_tale 27 = .ok (.ireturn, 1) := dk_172 (dk_at dksX4_tale_1 5 rfl rfl)
theorem dX4_tale_28 : decode cX4_tale 28 = .ok (.aload_n 0, 1) := dk_42 (dk_at dksX4_tale_1 6 rfl rfl)
theorem dX4_tale_29 : decode cX4_tale 29 = .ok (.getfield 9, 3) := dk_180 0 9 (dk_at dksX4_tale_1 7 rfl rfl)
theorem dX4_tale_32 : decode cX4_tale 32 = .ok (.bipush 9, 2) := dk_16 9 (dk_at dksX4_tale_1 10 rfl rfl)
theorem dX4_tale_34 : decode cX4_tale 34 = .ok (.iaload, 1) := dk_46 (dk_at dksX4_tale_1 12 rfl rfl)
theorem dX4_tale_35 : decode cX4_tale 35 = .ok (.bipush 8, 2) := dk_16 8 (dk_at dksX4_tale_1 13 rfl rfl)
theorem dX4_tale_37 : decode cX4_tale 37 = .ok (.if_icmp .ne 6, 3) := dk_160 0 6 (dk_at dksX4_tale_1 15 rfl rfl)
theorem dX4_tale_40 : decode cX4_tale 40 = .ok (.bipush (-4), 2) := dk_16 252 (dk_at dksX4_tale_1 18 rfl rfl)
theorem dX4_tale_42 : decode cX4_tale 42 = .ok (.ireturn, 1) := dk_172 (dk_at dksX4_tale_1 20 rfl rfl)
theorem dX4_tale_43 : decode cX4_tale 43 = .ok (.aload_n 0, 1) := dk_42 (dk_at dksX4_tale_1 21 rfl rfl)
theorem dX4_tale_44 : decode cX4_tale 44 = .ok (.getfield 9, 3) := dk_180 0 9 (dk_at dksX4_tale_2 0 rfl rfl)
theorem dX4_tale_47 : decode cX4_tale 47 = .ok (.bipush 66, 2) := dk_16 66 (dk_at dksX4_tale_2 3 rfl rfl)
theorem dX4_tale_49 : decode cX4_tale 49 = .ok (.aload_n 0, 1) := dk_42 (dk_at dksX4_tale_2 5 rfl rfl)
theorem dX4_tale_50 : decode cX4_tale 50 = .ok (.getfield 9, 3) := dk_180 0 9 (dk_at dksX4_tale_2 6 rfl rfl)
theorem dX4_tale_53 : decode cX4_tale 53 = .ok (.bipush 9, 2) := dk_16 9 (dk_at dksX4_tale_2 9 rfl rfl)
theorem dX4_tale_55 : decode cX4_tale 55 = .ok (.iaload, 1) := dk_46 (dk_at dksX4_tale_2 11 rfl rfl)
theorem dX4_tale_56 : decode cX4_tale 56 = .ok (.iadd, 1) := dk_96 (dk_at dksX4_tale_2 12 rfl rfl)
theorem dX4_tale_57 : decode cX4_tale 57 = .ok (.iload_n 1, 1) := dk_27 (dk_at dksX4_tale_2 13 rfl rfl)
theorem dX4_tale_58 : decode cX4_tale 58 = .ok (.iastore, 1) := dk_79 (dk_at dksX4_tale_2 14 rfl rfl)
theorem dX4_tale_59 : decode cX4_tale 59 = .ok (.aload_n 0, 1) := dk_42 (dk_at dksX4_tale_2 15 rfl rfl)
theorem dX4_tale_60 : decode cX4_tale 60 = .ok (.getfield 9, 3) := dk_180 0 9 (dk_at dksX4_tale_2 16 rfl rfl)
theorem dX4_tale_63 : decode cX4_tale 63 = .ok (.bipush 9, 2) := dk_16 9 (dk_at dksX4_tale_2 19 rfl rfl)
theorem dX4_tale_65 : decode cX4_tale 65 = .ok (.dup2, 1) := dk_92 (dk_at dksX4_tale_2 21 rfl rfl)
theorem dX4_tale_66 : decode cX4_tale 66 = .ok (.iaload, 1) := dk_46 (dk_at dksX4_tale_2 22 rfl rfl)
theorem dX4_tale_67 : decode cX4_tale 67 = .ok (.iconst 1, 1) := dk_4 (dk_at dksX4_tale_2 23 rfl rfl)
theorem dX4_tale_68 : decode cX4_tale 68 = .ok (.iadd, 1) := dk_96 (dk_at dksX4_tale_3 0 rfl rfl)
theorem dX4_tale_69 : decode cX4_tale 69 = .ok (.iastore, 1) := dk_79 (dk_at dksX4_tale_3 1 rfl rfl)
theorem dX4_tale_70 : decode cX4_tale 70 = .ok (.aload_n 0, 1) := dk_42 (dk_at dksX4_tale_3 2 rfl rfl)
theorem dX4_tale_71 : decode cX4_tale 71 = .ok (.getfield 9, 3) := dk_180 0 9 (dk_at dksX4_tale_3 3 rfl rfl)
theorem dX4_tale_74 : decode cX4_tale 74 = .ok (.bipush 9, 2) := dk_16 9 (dk_at dksX4_tale_3 6 rfl rfl)
theorem dX4_tale_76 : decode cX4_tale 76 = .ok (.iaload, 1) := dk_46 (dk_at dksX4_tale_3 8 rfl rfl)
theorem dX4_tale_77 : decode cX4_tale 77 = .ok (.ireturn, 1) := dk_172 (dk_at dksX4_tale_3 9 rfl rfl)
abbrev cX4_looked : ByteArray := prog_19_method_67_code
def yX4_looked : MethodName := ⟨RX4, "looked", "()I"⟩
def dkwX4_looked_4 : List UInt8 := [167, 255, 185, 42, 182, 0, 177, 27, 172]
abbrev dktX4_looked_4 : List UInt8 := dkwX4_looked_4 ++ []
def dkwX4_looked_3 : List UInt8 := [46, 42, 180, 0, 9, 16, 66, 28, 96, 46, 159, 0, 7, 28, 167, 0, 4, 27, 60, 132, 2, 1]
abbrev dktX4_looked_3 : List UInt8 := dkwX4_looked_3 ++ dktX4_looked_4
def dkwX4_looked_2 : List UInt8 := [162, 0, 8, 42, 28, 182, 0, 234, 28, 42, 180, 0, 9, 16, 8, 46, 162, 0, 21, 42, 180, 0, 9, 4]
abbrev dktX4_looked_2 : List UInt8 := dkwX4_looked_2 ++ dktX4_looked_3
def dkwX4_looked_1 : List UInt8 := [180, 0, 9, 16, 9, 46, 162, 0, 66, 27, 16, 251, 160, 0, 60, 28, 42, 180, 0, 9, 16, 8, 46]
abbrev dktX4_looked_1 : List UInt8 := dkwX4_looked_1 ++ dktX4_looked_2
def dkwX4_looked_0 : List UInt8 := [42, 180, 0, 9, 16, 6, 46, 154, 0, 6, 16, 253, 172, 42, 182, 0, 167, 16, 251, 60, 3, 61, 28, 42]
abbrev dktX4_looked_0 : List UInt8 := dkwX4_looked_0 ++ dktX4_looked_1
theorem dksX4_looked_0 : cX4_looked.data.toList.drop 0 = dktX4_looked_0 := by decide +kernel
theorem dksX4_looked_1 : cX4_looked.data.toList.drop 24 = dktX4_looked_1 := dk_seg dksX4_looked_0 24 rfl rfl
theorem dksX4_looked_2 : cX4_looked.data.toList.drop 47 = dktX4_looked_2 := dk_seg dksX4_looked_1 23 rfl rfl
theorem dksX4_looked_3 : cX4_looked.data.toList.drop 71 = dktX4_looked_3 := dk_seg dksX4_looked_2 24 rfl rfl
theorem dksX4_looked_4 : cX4_looked.data.toList.drop 93 = dktX4_looked_4 := dk_seg dksX4_looked_3 22 rfl rfl
theorem dX4_looked_0 : decode cX4_looked 0 = .ok (.aload_n 0, 1) := dk_42 (dk_at dksX4_looked_0 0 rfl rfl)
theorem dX4_looked_1 : decode cX4_looked 1 = .ok (.getfield 9, 3) := dk_180 0 9 (dk_at dksX4_looked_0 1 rfl rfl)
theorem dX4_looked_4 : decode cX4_looked 4 = .ok (.bipush 6, 2) := dk_16 6 (dk_at dksX4_looked_0 4 rfl rfl)
theorem dX4_looked_6 : decode cX4_looked 6 = .ok (.iaload, 1) := dk_46 (dk_at dksX4_looked_0 6 rfl rfl)
theorem dX4_looked_7 : decode cX4_looked 7 = .ok (.ifCond .ne 6, 3) := dk_154 0 6 (dk_at dksX4_looked_0 7 rfl rfl)
theorem dX4_looked_10 : decode cX4_looked 10 = .ok (.bipush (-3), 2) := dk_16 253 (dk_at dksX4_looked_0 10 rfl rfl)
theorem dX4_looked_12 : decode cX4_looked 12 = .ok (.ireturn, 1) := dk_172 (dk_at dksX4_looked_0 12 rfl rfl)
theorem dX4_looked_13 : decode cX4_looked 13 = .ok (.aload_n 0, 1) := dk_42 (dk_at dksX4_looked_0 13 rfl rfl)
theorem dX4_looked_14 : decode cX4_looked 14 = .ok (.invokevirtual 167, 3) := dk_182 0 167 (dk_at dksX4_looked_0 14 rfl rfl)
theorem dX4_looked_17 : decode cX4_looked 17 = .ok (.bipush (-5), 2) := dk_16 251 (dk_at dksX4_looked_0 17 rfl rfl)
theorem dX4_looked_19 : decode cX4_looked 19 = .ok (.istore_n 1, 1) := dk_60 (dk_at dksX4_looked_0 19 rfl rfl)
theorem dX4_looked_20 : decode cX4_looked 20 = .ok (.iconst 0, 1) := dk_3 (dk_at dksX4_looked_0 20 rfl rfl)
theorem dX4_looked_21 : decode cX4_looked 21 = .ok (.istore_n 2, 1) := dk_61 (dk_at dksX4_looked_0 21 rfl rfl)
theorem dX4_looked_22 : decode cX4_looked 22 = .ok (.iload_n 2, 1) := dk_28 (dk_at dksX4_looked_0 22 rfl rfl)
theorem dX4_looked_23 : decode cX4_looked 23 = .ok (.aload_n 0, 1) := dk_42 (dk_at dksX4_looked_0 23 rfl rfl)
theorem dX4_looked_24 : decode cX4_looked 24 = .ok (.getfield 9, 3) := dk_180 0 9 (dk_at dksX4_looked_1 0 rfl rfl)
theorem dX4_looked_27 : decode cX4_looked 27 = .ok (.bipush 9, 2) := dk_16 9 (dk_at dksX4_looked_1 3 rfl rfl)
theorem dX4_looked_29 : decode cX4_looked 29 = .ok (.iaload, 1) := dk_46 (dk_at dksX4_looked_1 5 rfl rfl)
theorem dX4_looked_30 : decode cX4_looked 30 = .ok (.if_icmp .ge 66, 3) := dk_162 0 66 (dk_at dksX4_looked_1 6 rfl rfl)
theorem dX4_looked_33 : decode cX4_looked 33 = .ok (.iload_n 1, 1) := dk_27 (dk_at dksX4_looked_1 9 rfl rfl)
theorem dX4_looked_34 : decode cX4_looked 34 = .ok (.bipush (-5), 2) := dk_16 251 (dk_at dksX4_looked_1 10 rfl rfl)
theorem dX4_looked_36 : decode cX4_looked 36 = .ok (.if_icmp .ne 60, 3) := dk_160 0 60 (dk_at dksX4_looked_1 12 rfl rfl)
theorem dX4_looked_39 : decode cX4_looked 39 = .ok (.iload_n 2, 1) := dk_28 (dk_at dksX4_looked_1 15 rfl rfl)
theorem dX4_looked_40 : decode cX4_looked 40 = .ok (.aload_n 0, 1) := dk_42 (dk_at dksX4_looked_1 16 rfl rfl)
theorem dX4_looked_41 : decode cX4_looked 41 = .ok (.getfield 9, 3) := dk_180 0 9 (dk_at dksX4_looked_1 17 rfl rfl)
theorem dX4_looked_44 : decode cX4_looked 44 = .ok (.bipush 8, 2) := dk_16 8 (dk_at dksX4_looked_1 20 rfl rfl)
theorem dX4_looked_46 : decode cX4_looked 46 = .ok (.iaload, 1) := dk_46 (dk_at dksX4_looked_1 22 rfl rfl)
theorem dX4_looked_47 : decode cX4_looked 47 = .ok (.if_icmp .ge 8, 3) := dk_162 0 8 (dk_at dksX4_looked_2 0 rfl rfl)
theorem dX4_looked_50 : decode cX4_looked 50 = .ok (.aload_n 0, 1) := dk_42 (dk_at dksX4_looked_2 3 rfl rfl)
theorem dX4_looked_51 : decode cX4_looked 51 = .ok (.iload_n 2, 1) := dk_28 (dk_at dksX4_looked_2 4 rfl rfl)
theorem dX4_looked_52 : decode cX4_looked 52 = .ok (.invokevirtual 234, 3) := dk_182 0 234 (dk_at dksX4_looked_2 5 rfl rfl)
theorem dX4_looked_55 : decode cX4_looked 55 = .ok (.iload_n 2, 1) := dk_28 (dk_at dksX4_looked_2 8 rfl rfl)
theorem dX4_looked_56 : decode cX4_looked 56 = .ok (.aload_n 0, 1) := dk_42 (dk_at dksX4_looked_2 9 rfl rfl)
theorem dX4_looked_57 : decode cX4_looked 57 = .ok (.getfield 9, 3) := dk_180 0 9 (dk_at dksX4_looked_2 10 rfl rfl)
theorem dX4_looked_60 : decode cX4_looked 60 = .ok (.bipush 8, 2) := dk_16 8 (dk_at dksX4_looked_2 13 rfl rfl)
theorem dX4_looked_62 : decode cX4_looked 62 = .ok (.iaload, 1) := dk_46 (dk_at dksX4_looked_2 15 rfl rfl)
theorem dX4_looked_63 : decode cX4_looked 63 = .ok (.if_icmp .ge 21, 3) := dk_162 0 21 (dk_at dksX4_looked_2 16 rfl rfl)
theorem dX4_looked_66 : decode cX4_looked 66 = .ok (.aload_n 0, 1) := dk_42 (dk_at dksX4_looked_2 19 rfl rfl)
theorem dX4_looked_67 : decode cX4_looked 67 = .ok (.getfield 9, 3) := dk_180 0 9 (dk_at dksX4_looked_2 20 rfl rfl)
theorem dX4_looked_70 : decode cX4_looked 70 = .ok (.iconst 1, 1) := dk_4 (dk_at dksX4_looked_2 23 rfl rfl)
theorem dX4_looked_71 : decode cX4_looked 71 = .ok (.iaload, 1) := dk_46 (dk_at dksX4_looked_3 0 rfl rfl)
theorem dX4_looked_72 : decode cX4_looked 72 = .ok (.aload_n 0, 1) := dk_42 (dk_at dksX4_looked_3 1 rfl rfl)
theorem dX4_looked_73 : decode cX4_looked 73 = .ok (.getfield 9, 3) := dk_180 0 9 (dk_at dksX4_looked_3 2 rfl rfl)
theorem dX4_looked_76 : decode cX4_looked 76 = .ok (.bipush 66, 2) := dk_16 66 (dk_at dksX4_looked_3 5 rfl rfl)
theorem dX4_looked_78 : decode cX4_looked 78 = .ok (.iload_n 2, 1) := dk_28 (dk_at dksX4_looked_3 7 rfl rfl)
theorem dX4_looked_79 : decode cX4_looked 79 = .ok (.iadd, 1) := dk_96 (dk_at dksX4_looked_3 8 rfl rfl)
theorem dX4_looked_80 : decode cX4_looked 80 = .ok (.iaload, 1) := dk_46 (dk_at dksX4_looked_3 9 rfl rfl)
theorem dX4_looked_81 : decode cX4_looked 81 = .ok (.if_icmp .eq 7, 3) := dk_159 0 7 (dk_at dksX4_looked_3 10 rfl rfl)
theorem dX4_looked_84 : decode cX4_looked 84 = .ok (.iload_n 2, 1) := dk_28 (dk_at dksX4_looked_3 13 rfl rfl)
theorem dX4_looked_85 : decode cX4_looked 85 = .ok (.goto 4, 3) := dk_167 0 4 (dk_at dksX4_looked_3 14 rfl rfl)
theorem dX4_looked_88 : decode cX4_looked 88 = .ok (.iload_n 1, 1) := dk_27 (dk_at dksX4_looked_3 17 rfl rfl)
theorem dX4_looked_89 : decode cX4_looked 89 = .ok (.istore_n 1, 1) := dk_60 (dk_at dksX4_looked_3 18 rfl rfl)
theorem dX4_looked_90 : decode cX4_looked 90 = .ok (.iinc 2 1, 3) := dk_132 2 1 (dk_at dksX4_looked_3 19 rfl rfl)
theorem dX4_looked_93 : decode cX4_looked 93 = .ok (.goto (-71), 3) := dk_167 255 185 (dk_at dksX4_looked_4 0 rfl rfl)
theorem dX4_looked_96 : decode cX4_looked 96 = .ok (.aload_n 0, 1) := dk_42 (dk_at dksX4_looked_4 3 rfl rfl)
theorem dX4_looked_97 : decode cX4_looked 97 = .ok (.invokevirtual 177, 3) := dk_182 0 177 (dk_at dksX4_looked_4 4 rfl rfl)
theorem dX4_looked_100 : decode cX4_looked 100 = .ok (.iload_n 1, 1) := dk_27 (dk_at dksX4_looked_4 7 rfl rfl)
theorem dX4_looked_101 : decode cX4_looked 101 = .ok (.ireturn, 1) := dk_172 (dk_at dksX4_looked_4 8 rfl rfl)
abbrev cX4_act : ByteArray := prog_19_method_76_code
def yX4_act : MethodName := ⟨RX4, "act", "(III)I"⟩
def dkwX4_act_3 : List UInt8 := [160, 0, 11, 42, 29, 182, 1, 8, 167, 0, 8, 42, 29, 182, 1, 14, 172]
abbrev dktX4_act_3 : List UInt8 := dkwX4_act_3 ++ []
def dkwX4_act_2 : List UInt8 := [16, 17, 27, 96, 46, 181, 1, 2, 28, 154, 0, 11, 42, 29, 182, 0, 255, 167, 0, 21, 28, 4]
abbrev dktX4_act_2 : List UInt8 := dkwX4_act_2 ++ dktX4_act_3
def dkwX4_act_1 : List UInt8 := [42, 42, 180, 0, 9, 16, 12, 27, 96, 46, 181, 0, 246, 42, 27, 181, 0, 243, 42, 42, 180, 0, 9]
abbrev dktX4_act_1 : List UInt8 := dkwX4_act_1 ++ dktX4_act_2
def dkwX4_act_0 : List UInt8 := [42, 3, 181, 0, 237, 42, 27, 182, 0, 52, 153, 0, 12, 28, 3, 5, 184, 0, 48, 154, 0, 5, 3, 172]
abbrev dktX4_act_0 : List UInt8 := dkwX4_act_0 ++ dktX4_act_1
theorem dksX4_act_0 : cX4_act.data.toList.drop 0 = dktX4_act_0 := by decide +kernel
theorem dksX4_act_1 : cX4_act.data.toList.drop 24 = dktX4_act_1 := dk_seg dksX4_act_0 24 rfl rfl
theorem dksX4_act_2 : cX4_act.data.toList.drop 47 = dktX4_act_2 := dk_seg dksX4_act_1 23 rfl rfl
theorem dksX4_act_3 : cX4_act.data.toList.drop 69 = dktX4_act_3 := dk_seg dksX4_act_2 22 rfl rfl
theorem dX4_act_0 : decode cX4_act 0 = .ok (.aload_n 0, 1) := dk_42 (dk_at dksX4_act_0 0 rfl rfl)
theorem dX4_act_1 : decode cX4_act 1 = .ok (.iconst 0, 1) := dk_3 (dk_at dksX4_act_0 1 rfl rfl)
theorem dX4_act_2 : decode cX4_act 2 = .ok (.putfield 237, 3) := dk_181 0 237 (dk_at dksX4_act_0 2 rfl rfl)
theorem dX4_act_5 : decode cX4_act 5 = .ok (.aload_n 0, 1) := dk_42 (dk_at dksX4_act_0 5 rfl rfl)
theorem dX4_act_6 : decode cX4_act 6 = .ok (.iload_n 1, 1) := dk_27 (dk_at dksX4_act_0 6 rfl rfl)
theorem dX4_act_7 : decode cX4_act 7 = .ok (.invokevirtual 52, 3) := dk_182 0 52 (dk_at dksX4_act_0 7 rfl rfl)
theorem dX4_act_10 : decode cX4_act 10 = .ok (.ifCond .eq 12, 3) := dk_153 0 12 (dk_at dksX4_act_0 10 rfl rfl)
theorem dX4_act_13 : decode cX4_act 13 = .ok (.iload_n 2, 1) := dk_28 (dk_at dksX4_act_0 13 rfl rfl)
theorem dX4_act_14 : decode cX4_act 14 = .ok (.iconst 0, 1) := dk_3 (dk_at dksX4_act_0 14 rfl rfl)
theorem dX4_act_15 : decode cX4_act 15 = .ok (.iconst 2, 1) := dk_5 (dk_at dksX4_act_0 15 rfl rfl)
theorem dX4_act_16 : decode cX4_act 16 = .ok (.invokestatic 48, 3) := dk_184 0 48 (dk_at dksX4_act_0 16 rfl rfl)
theorem dX4_act_19 : decode cX4_act 19 = .ok (.ifCond .ne 5, 3) := dk_154 0 5 (dk_at dksX4_act_0 19 rfl rfl)
theorem dX4_act_22 : decode cX4_act 22 = .ok (.iconst 0, 1) := dk_3 (dk_at dksX4_act_0 22 rfl rfl)
theorem dX4_act_23 : decode cX4_act 23 = .ok (.ireturn, 1) := dk_172 (dk_at dksX4_act_0 23 rfl rfl)
theorem dX4_act_24 : decode cX4_act 24 = .ok (.aload_n 0, 1) := dk_42 (dk_at dksX4_act_1 0 rfl rfl)
theorem dX4_act_25 : decode cX4_act 25 = .ok (.aload_n 0, 1) := dk_42 (dk_at dksX4_act_1 1 rfl rfl)
theorem dX4_act_26 : decode cX4_act 26 = .ok (.getfield 9, 3) := dk_180 0 9 (dk_at dksX4_act_1 2 rfl rfl)
theorem dX4_act_29 : decode cX4_act 29 = .ok (.bipush 12, 2) := dk_16 12 (dk_at dksX4_act_1 5 rfl rfl)
theorem dX4_act_31 : decode cX4_act 31 = .ok (.iload_n 1, 1) := dk_27 (dk_at dksX4_act_1 7 rfl rfl)
theorem dX4_act_32 : decode cX4_act 32 = .ok (.iadd, 1) := dk_96 (dk_at dksX4_act_1 8 rfl rfl)
theorem dX4_act_33 : decode cX4_act 33 = .ok (.iaload, 1) := dk_46 (dk_at dksX4_act_1 9 rfl rfl)
theorem dX4_act_34 : decode cX4_act 34 = .ok (.putfield 246, 3) := dk_181 0 246 (dk_at dksX4_act_1 10 rfl rfl)
theorem dX4_act_37 : decode cX4_act 37 = .ok (.aload_n 0, 1) := dk_42 (dk_at dksX4_act_1 13 rfl rfl)
theorem dX4_act_38 : decode cX4_act 38 = .ok (.iload_n 1, 1) := dk_27 (dk_at dksX4_act_1 14 rfl rfl)
theorem dX4_act_39 : decode cX4_act 39 = .ok (.putfield 243, 3) := dk_181 0 243 (dk_at dksX4_act_1 15 rfl rfl)
theorem dX4_act_42 : decode cX4_act 42 = .ok (.aload_n 0, 1) := dk_42 (dk_at dksX4_act_1 18 rfl rfl)
theorem dX4_act_43 : decode cX4_act 43 = .ok (.aload_n 0, 1) := dk_42 (dk_at dksX4_act_1 19 rfl rfl)
theorem dX4_act_44 : decode cX4_act 44 = .ok (.getfield 9, 3) := dk_180 0 9 (dk_at dksX4_act_1 20 rfl rfl)
theorem dX4_act_47 : decode cX4_act 47 = .ok (.bipush 17, 2) := dk_16 17 (dk_at dksX4_act_2 0 rfl rfl)
theorem dX4_act_49 : decode cX4_act 49 = .ok (.iload_n 1, 1) := dk_27 (dk_at dksX4_act_2 2 rfl rfl)
theorem dX4_act_50 : decode cX4_act 50 = .ok (.iadd, 1) := dk_96 (dk_at dksX4_act_2 3 rfl rfl)
theorem dX4_act_51 : decode cX4_act 51 = .ok (.iaload, 1) := dk_46 (dk_at dksX4_act_2 4 rfl rfl)
theorem dX4_act_52 : decode cX4_act 52 = .ok (.putfield 258, 3) := dk_181 1 2 (dk_at dksX4_act_2 5 rfl rfl)
theorem dX4_act_55 : decode cX4_act 55 = .ok (.iload_n 2, 1) := dk_28 (dk_at dksX4_act_2 8 rfl rfl)
theorem dX4_act_56 : decode cX4_act 56 = .ok (.ifCond .ne 11, 3) := dk_154 0 11 (dk_at dksX4_act_2 9 rfl rfl)
theorem dX4_act_59 : decode cX4_act 59 = .ok (.aload_n 0, 1) := dk_42 (dk_at dksX4_act_2 12 rfl rfl)
theorem dX4_act_60 : decode cX4_act 60 = .ok (.iload_n 3, 1) := dk_29 (dk_at dksX4_act_2 13 rfl rfl)
theorem dX4_act_61 : decode cX4_act 61 = .ok (.invokevirtual 255, 3) := dk_182 0 255 (dk_at dksX4_act_2 14 rfl rfl)
theorem dX4_act_64 : decode cX4_act 64 = .ok (.goto 21, 3) := dk_167 0 21 (dk_at dksX4_act_2 17 rfl rfl)
theorem dX4_act_67 : decode cX4_act 67 = .ok (.iload_n 2, 1) := dk_28 (dk_at dksX4_act_2 20 rfl rfl)
theorem dX4_act_68 : decode cX4_act 68 = .ok (.iconst 1, 1) := dk_4 (dk_at dksX4_act_2 21 rfl rfl)
theorem dX4_act_69 : decode cX4_act 69 = .ok (.if_icmp .ne 11, 3) := dk_160 0 11 (dk_at dksX4_act_3 0 rfl rfl)
theorem dX4_act_72 : decode cX4_act 72 = .ok (.aload_n 0, 1) := dk_42 (dk_at dksX4_act_3 3 rfl rfl)
theorem dX4_act_73 : decode cX4_act 73 = .ok (.iload_n 3, 1) := dk_29 (dk_at dksX4_act_3 4 rfl rfl)
theorem dX4_act_74 : decode cX4_act 74 = .ok (.invokevirtual 264, 3) := dk_182 1 8 (dk_at dksX4_act_3 5 rfl rfl)
theorem dX4_act_77 : decode cX4_act 77 = .ok (.goto 8, 3) := dk_167 0 8 (dk_at dksX4_act_3 8 rfl rfl)
theorem dX4_act_80 : decode cX4_act 80 = .ok (.aload_n 0, 1) := dk_42 (dk_at dksX4_act_3 11 rfl rfl)
theorem dX4_act_81 : decode cX4_act 81 = .ok (.iload_n 3, 1) := dk_29 (dk_at dksX4_act_3 12 rfl rfl)
theorem dX4_act_82 : decode cX4_act 82 = .ok (.invokevirtual 270, 3) := dk_182 1 14 (dk_at dksX4_act_3 13 rfl rfl)
theorem dX4_act_85 : decode cX4_act 85 = .ok (.ireturn, 1) := dk_172 (dk_at dksX4_act_3 16 rfl rfl)
abbrev cX4_movesActs : ByteArray := prog_19_method_71_code
def yX4_movesActs : MethodName := ⟨RX4, "movesActs", "(I)I"⟩
def dkwX4_movesActs_2 : List UInt8 := [130, 172, 42, 27, 182, 0, 252, 172]
abbrev dktX4_movesActs_2 : List UInt8 := dkwX4_movesActs_2 ++ []
def dkwX4_movesActs_1 : List UInt8 := [172, 42, 180, 0, 246, 8, 160, 0, 20, 42, 16, 51, 182, 0, 240, 42, 27, 182, 0, 252, 42, 180, 0, 243]
abbrev dktX4_movesActs_1 : List UInt8 := dkwX4_movesActs_1 ++ dktX4_movesActs_2
def dkwX4_movesActs_0 : List UInt8 := [42, 180, 0, 246, 4, 184, 0, 249, 153, 0, 17, 42, 16, 11, 182, 0, 240, 42, 27, 6, 104, 182, 0, 252]
abbrev dktX4_movesActs_0 : List UInt8 := dkwX4_movesActs_0 ++ dktX4_movesActs_1
theorem dksX4_movesActs_0 : cX4_movesActs.data.toList.drop 0 = dktX4_movesActs_0 := by decide +kernel
theorem dksX4_movesActs_1 : cX4_movesActs.data.toList.drop 24 = dktX4_movesActs_1 := dk_seg dksX4_movesActs_0 24 rfl rfl
theorem dksX4_movesActs_2 : cX4_movesActs.data.toList.drop 48 = dktX4_movesActs_2 := dk_seg dksX4_movesActs_1 24 rfl rfl
theorem dX4_movesActs_0 : decode cX4_movesActs 0 = .ok (.aload_n 0, 1) := dk_42 (dk_at dksX4_movesActs_0 0 rfl rfl)
theorem dX4_movesActs_1 : decode cX4_movesActs 1 = .ok (.getfield 246, 3) := dk_180 0 246 (dk_at dksX4_movesActs_0 1 rfl rfl)
theorem dX4_movesActs_4 : decode cX4_movesActs 4 = .ok (.iconst 1, 1) := dk_4 (dk_at dksX4_movesActs_0 4 rfl rfl)
theorem dX4_movesActs_5 : decode cX4_movesActs 5 = .ok (.invokestatic 249, 3) := dk_184 0 249 (dk_at dksX4_movesActs_0 5 rfl rfl)
theorem dX4_movesActs_8 : decode cX4_movesActs 8 = .ok (.ifCond .eq 17, 3) := dk_153 0 17 (dk_at dksX4_movesActs_0 8 rfl rfl)
theorem dX4_movesActs_11 : decode cX4_movesActs 11 = .ok (.aload_n 0, 1) := dk_42 (dk_at dksX4_movesActs_0 11 rfl rfl)
theorem dX4_movesActs_12 : decode cX4_movesActs 12 = .ok (.bipush 11, 2) := dk_16 11 (dk_at dksX4_movesActs_0 12 rfl rfl)
theorem dX4_movesActs_14 : decode cX4_movesActs 14 = .ok (.invokevirtual 240, 3) := dk_182 0 240 (dk_at dksX4_movesActs_0 14 rfl rfl)
theorem dX4_movesActs_17 : decode cX4_movesActs 17 = .ok (.aload_n 0, 1) := dk_42 (dk_at dksX4_movesActs_0 17 rfl rfl)
theorem dX4_movesActs_18 : decode cX4_movesActs 18 = .ok (.iload_n 1, 1) := dk_27 (dk_at dksX4_movesActs_0 18 rfl rfl)
theorem dX4_movesActs_19 : decode cX4_movesActs 19 = .ok (.iconst 3, 1) := dk_6 (dk_at dksX4_movesActs_0 19 rfl rfl)
theorem dX4_movesActs_20 : decode cX4_movesActs 20 = .ok (.imul, 1) := dk_104 (dk_at dksX4_movesActs_0 20 rfl rfl)
theorem dX4_movesActs_21 : decode cX4_movesActs 21 = .ok (.invokevirtual 252, 3) := dk_182 0 252 (dk_at dksX4_movesActs_0 21 rfl rfl)
theorem dX4_movesActs_24 : decode cX4_movesActs 24 = .ok (.ireturn, 1) := dk_172 (dk_at dksX4_movesActs_1 0 rfl rfl)
theorem dX4_movesActs_25 : decode cX4_movesActs 25 = .ok (.aload_n 0, 1) := dk_42 (dk_at dksX4_movesActs_1 1 rfl rfl)
theorem dX4_movesActs_26 : decode cX4_movesActs 26 = .ok (.getfield 246, 3) := dk_180 0 246 (dk_at dksX4_movesActs_1 2 rfl rfl)
theorem dX4_movesActs_29 : decode cX4_movesActs 29 = .ok (.iconst 5, 1) := dk_8 (dk_at dksX4_movesActs_1 5 rfl rfl)
theorem dX4_movesActs_30 : decode cX4_movesActs 30 = .ok (.if_icmp .ne 20, 3) := dk_160 0 20 (dk_at dksX4_movesActs_1 6 rfl rfl)
theorem dX4_movesActs_33 : decode cX4_movesActs 33 = .ok (.aload_n 0, 1) := dk_42 (dk_at dksX4_movesActs_1 9 rfl rfl)
theorem dX4_movesActs_34 : decode cX4_movesActs 34 = .ok (.bipush 51, 2) := dk_16 51 (dk_at dksX4_movesActs_1 10 rfl rfl)
theorem dX4_movesActs_36 : decode cX4_movesActs 36 = .ok (.invokevirtual 240, 3) := dk_182 0 240 (dk_at dksX4_movesActs_1 12 rfl rfl)
theorem dX4_movesActs_39 : decode cX4_movesActs 39 = .ok (.aload_n 0, 1) := dk_42 (dk_at dksX4_movesActs_1 15 rfl rfl)
theorem dX4_movesActs_40 : decode cX4_movesActs 40 = .ok (.iload_n 1, 1) := dk_27 (dk_at dksX4_movesActs_1 16 rfl rfl)
theorem dX4_movesActs_41 : decode cX4_movesActs 41 = .ok (.invokevirtual 252, 3) := dk_182 0 252 (dk_at dksX4_movesActs_1 17 rfl rfl)
theorem dX4_movesActs_44 : decode cX4_movesActs 44 = .ok (.aload_n 0, 1) := dk_42 (dk_at dksX4_movesActs_1 20 rfl rfl)
theorem dX4_movesActs_45 : decode cX4_movesActs 45 = .ok (.getfield 243, 3) := dk_180 0 243 (dk_at dksX4_movesActs_1 21 rfl rfl)
theorem dX4_movesActs_48 : decode cX4_movesActs 48 = .ok (.ixor, 1) := dk_130 (dk_at dksX4_movesActs_2 0 rfl rfl)
theorem dX4_movesActs_49 : decode cX4_movesActs 49 = .ok (.ireturn, 1) := dk_172 (dk_at dksX4_movesActs_2 1 rfl rfl)
theorem dX4_movesActs_50 : decode cX4_movesActs 50 = .ok (.aload_n 0, 1) := dk_42 (dk_at dksX4_movesActs_2 2 rfl rfl)
theorem dX4_movesActs_51 : decode cX4_movesActs 51 = .ok (.iload_n 1, 1) := dk_27 (dk_at dksX4_movesActs_2 3 rfl rfl)
theorem dX4_movesActs_52 : decode cX4_movesActs 52 = .ok (.invokevirtual 252, 3) := dk_182 0 252 (dk_at dksX4_movesActs_2 4 rfl rfl)
theorem dX4_movesActs_55 : decode cX4_movesActs 55 = .ok (.ireturn, 1) := dk_172 (dk_at dksX4_movesActs_2 7 rfl rfl)
abbrev cX4_isUnder : ByteArray := prog_19_method_69_code
def yX4_isUnder : MethodName := ⟨RX4, "isUnder", "(II)Z"⟩
def dkwX4_isUnder_1 : List UInt8 := [160, 0, 7, 4, 167, 0, 4, 3, 172]
abbrev dktX4_isUnder_1 : List UInt8 := dkwX4_isUnder_1 ++ []
def dkwX4_isUnder_0 : List UInt8 := [27, 153, 0, 24, 27, 26, 159, 0, 19, 27, 158, 0, 19, 27, 7, 162, 0, 14, 26, 27, 6, 96]
abbrev dktX4_isUnder_0 : List UInt8 := dkwX4_isUnder_0 ++ dktX4_isUnder_1
theorem dksX4_isUnder_0 : cX4_isUnder.data.toList.drop 0 = dktX4_isUnder_0 := by decide +kernel
theorem dksX4_isUnder_1 : cX4_isUnder.data.toList.drop 22 = dktX4_isUnder_1 := dk_seg dksX4_isUnder_0 22 rfl rfl
theorem dX4_isUnder_0 : decode cX4_isUnder 0 = .ok (.iload_n 1, 1) := dk_27 (dk_at dksX4_isUnder_0 0 rfl rfl)
theorem dX4_isUnder_1 : decode cX4_isUnder 1 = .ok (.ifCond .eq 24, 3) := dk_153 0 24 (dk_at dksX4_isUnder_0 1 rfl rfl)
theorem dX4_isUnder_4 : decode cX4_isUnder 4 = .ok (.iload_n 1, 1) := dk_27 (dk_at dksX4_isUnder_0 4 rfl rfl)
theorem dX4_isUnder_5 : decode cX4_isUnder 5 = .ok (.iload_n 0, 1) := dk_26 (dk_at dksX4_isUnder_0 5 rfl rfl)
theorem dX4_isUnder_6 : decode cX4_isUnder 6 = .ok (.if_icmp .eq 19, 3) := dk_159 0 19 (dk_at dksX4_isUnder_0 6 rfl rfl)
theorem dX4_isUnder_9 : decode cX4_isUnder 9 = .ok (.iload_n 1, 1) := dk_27 (dk_at dksX4_isUnder_0 9 rfl rfl)
theorem dX4_isUnder_10 : decode cX4_isUnder 10 = .ok (.ifCond .le 19, 3) := dk_158 0 19 (dk_at dksX4_isUnder_0 10 rfl rfl)
theorem dX4_isUnder_13 : decode cX4_isUnder 13 = .ok (.iload_n 1, 1) := dk_27 (dk_at dksX4_isUnder_0 13 rfl rfl)
theorem dX4_isUnder_14 : decode cX4_isUnder 14 = .ok (.iconst 4, 1) := dk_7 (dk_at dksX4_isUnder_0 14 rfl rfl)
theorem dX4_isUnder_15 : decode cX4_isUnder 15 = .ok (.if_icmp .ge 14, 3) := dk_162 0 14 (dk_at dksX4_isUnder_0 15 rfl rfl)
theorem dX4_isUnder_18 : decode cX4_isUnder 18 = .ok (.iload_n 0, 1) := dk_26 (dk_at dksX4_isUnder_0 18 rfl rfl)
theorem dX4_isUnder_19 : decode cX4_isUnder 19 = .ok (.iload_n 1, 1) := dk_27 (dk_at dksX4_isUnder_0 19 rfl rfl)
theorem dX4_isUnder_20 : decode cX4_isUnder 20 = .ok (.iconst 3, 1) := dk_6 (dk_at dksX4_isUnder_0 20 rfl rfl)
theorem dX4_isUnder_21 : decode cX4_isUnder 21 = .ok (.iadd, 1) := dk_96 (dk_at dksX4_isUnder_0 21 rfl rfl)
theorem dX4_isUnder_22 : decode cX4_isUnder 22 = .ok (.if_icmp .ne 7, 3) := dk_160 0 7 (dk_at dksX4_isUnder_1 0 rfl rfl)
theorem dX4_isUnder_25 : decode cX4_isUnder 25 = .ok (.iconst 1, 1) := dk_4 (dk_at dksX4_isUnder_1 3 rfl rfl)
theorem dX4_isUnder_26 : decode cX4_isUnder 26 = .ok (.goto 4, 3) := dk_167 0 4 (dk_at dksX4_isUnder_1 4 rfl rfl)
theorem dX4_isUnder_29 : decode cX4_isUnder 29 = .ok (.iconst 0, 1) := dk_3 (dk_at dksX4_isUnder_1 7 rfl rfl)
theorem dX4_isUnder_30 : decode cX4_isUnder 30 = .ok (.ireturn, 1) := dk_172 (dk_at dksX4_isUnder_1 8 rfl rfl)
abbrev cX4_ranBody : ByteArray := prog_19_method_68_code
def yX4_ranBody : MethodName := ⟨RX4, "ranBody", "(I)V"⟩
def dkwX4_ranBody_1 : List UInt8 := [4, 96, 181, 0, 237, 177]
abbrev dktX4_ranBody_1 : List UInt8 := dkwX4_ranBody_1 ++ []
def dkwX4_ranBody_0 : List UInt8 := [42, 180, 0, 237, 16, 20, 162, 0, 13, 42, 180, 0, 41, 42, 180, 0, 237, 27, 79, 42, 89, 180, 0, 237]
abbrev dktX4_ranBody_0 : List UInt8 := dkwX4_ranBody_0 ++ dktX4_ranBody_1
theorem dksX4_ranBody_0 : cX4_ranBody.data.toList.drop 0 = dktX4_ranBody_0 := by decide +kernel
theorem dksX4_ranBody_1 : cX4_ranBody.data.toList.drop 24 = dktX4_ranBody_1 := dk_seg dksX4_ranBody_0 24 rfl rfl
theorem dX4_ranBody_0 : decode cX4_ranBody 0 = .ok (.aload_n 0, 1) := dk_42 (dk_at dksX4_ranBody_0 0 rfl rfl)
theorem dX4_ranBody_1 : decode cX4_ranBody 1 = .ok (.getfield 237, 3) := dk_180 0 237 (dk_at dksX4_ranBody_0 1 rfl rfl)
theorem dX4_ranBody_4 : decode cX4_ranBody 4 = .ok (.bipush 20, 2) := dk_16 20 (dk_at dksX4_ranBody_0 4 rfl rfl)
theorem dX4_ranBody_6 : decode cX4_ranBody 6 = .ok (.if_icmp .ge 13, 3) := dk_162 0 13 (dk_at dksX4_ranBody_0 6 rfl rfl)
theorem dX4_ranBody_9 : decode cX4_ranBody 9 = .ok (.aload_n 0, 1) := dk_42 (dk_at dksX4_ranBody_0 9 rfl rfl)
theorem dX4_ranBody_10 : decode cX4_ranBody 10 = .ok (.getfield 41, 3) := dk_180 0 41 (dk_at dksX4_ranBody_0 10 rfl rfl)
theorem dX4_ranBody_13 : decode cX4_ranBody 13 = .ok (.aload_n 0, 1) := dk_42 (dk_at dksX4_ranBody_0 13 rfl rfl)
theorem dX4_ranBody_14 : decode cX4_ranBody 14 = .ok (.getfield 237, 3) := dk_180 0 237 (dk_at dksX4_ranBody_0 14 rfl rfl)
theorem dX4_ranBody_17 : decode cX4_ranBody 17 = .ok (.iload_n 1, 1) := dk_27 (dk_at dksX4_ranBody_0 17 rfl rfl)
theorem dX4_ranBody_18 : decode cX4_ranBody 18 = .ok (.iastore, 1) := dk_79 (dk_at dksX4_ranBody_0 18 rfl rfl)
theorem dX4_ranBody_19 : decode cX4_ranBody 19 = .ok (.aload_n 0, 1) := dk_42 (dk_at dksX4_ranBody_0 19 rfl rfl)
theorem dX4_ranBody_20 : decode cX4_ranBody 20 = .ok (.dup, 1) := dk_89 (dk_at dksX4_ranBody_0 20 rfl rfl)
theorem dX4_ranBody_21 : decode cX4_ranBody 21 = .ok (.getfield 237, 3) := dk_180 0 237 (dk_at dksX4_ranBody_0 21 rfl rfl)
theorem dX4_ranBody_24 : decode cX4_ranBody 24 = .ok (.iconst 1, 1) := dk_4 (dk_at dksX4_ranBody_1 0 rfl rfl)
theorem dX4_ranBody_25 : decode cX4_ranBody 25 = .ok (.iadd, 1) := dk_96 (dk_at dksX4_ranBody_1 1 rfl rfl)
theorem dX4_ranBody_26 : decode cX4_ranBody 26 = .ok (.putfield 237, 3) := dk_181 0 237 (dk_at dksX4_ranBody_1 2 rfl rfl)
theorem dX4_ranBody_29 : decode cX4_ranBody 29 = .ok (.return_, 1) := dk_177 (dk_at dksX4_ranBody_1 5 rfl rfl)
abbrev cX4_plainMoves : ByteArray := prog_19_method_70_code
def yX4_plainMoves : MethodName := ⟨RX4, "plainMoves", "(I)I"⟩
def dkwX4_plainMoves_0 : List UInt8 := [42, 4, 182, 0, 240, 27, 42, 180, 0, 243, 96, 172]
abbrev dktX4_plainMoves_0 : List UInt8 := dkwX4_plainMoves_0 ++ []
theorem dksX4_plainMoves_0 : cX4_plainMoves.data.toList.drop 0 = dktX4_plainMoves_0 := by decide +kernel
theorem dX4_plainMoves_0 : decode cX4_plainMoves 0 = .ok (.aload_n 0, 1) := dk_42 (dk_at dksX4_plainMoves_0 0 rfl rfl)
theorem dX4_plainMoves_1 : decode cX4_plainMoves 1 = .ok (.iconst 1, 1) := dk_4 (dk_at dksX4_plainMoves_0 1 rfl rfl)
theorem dX4_plainMoves_2 : decode cX4_plainMoves 2 = .ok (.invokevirtual 240, 3) := dk_182 0 240 (dk_at dksX4_plainMoves_0 2 rfl rfl)
theorem dX4_plainMoves_5 : decode cX4_plainMoves 5 = .ok (.iload_n 1, 1) := dk_27 (dk_at dksX4_plainMoves_0 5 rfl rfl)
theorem dX4_plainMoves_6 : decode cX4_plainMoves 6 = .ok (.aload_n 0, 1) := dk_42 (dk_at dksX4_plainMoves_0 6 rfl rfl)
theorem dX4_plainMoves_7 : decode cX4_plainMoves 7 = .ok (.getfield 243, 3) := dk_180 0 243 (dk_at dksX4_plainMoves_0 7 rfl rfl)
theorem dX4_plainMoves_10 : decode cX4_plainMoves 10 = .ok (.iadd, 1) := dk_96 (dk_at dksX4_plainMoves_0 10 rfl rfl)
theorem dX4_plainMoves_11 : decode cX4_plainMoves 11 = .ok (.ireturn, 1) := dk_172 (dk_at dksX4_plainMoves_0 11 rfl rfl)
abbrev cX4_betsActs : ByteArray := prog_19_method_73_code
def yX4_betsActs : MethodName := ⟨RX4, "betsActs", "(I)I"⟩
def dkwX4_betsActs_2 : List UInt8 := [96, 172, 42, 27, 182, 1, 5, 172]
abbrev dktX4_betsActs_2 : List UInt8 := dkwX4_betsActs_2 ++ []
def dkwX4_betsActs_1 : List UInt8 := [42, 180, 0, 246, 16, 6, 160, 0, 20, 42, 16, 61, 182, 0, 240, 42, 27, 182, 1, 5, 42, 180, 1, 2]
abbrev dktX4_betsActs_1 : List UInt8 := dkwX4_betsActs_1 ++ dktX4_betsActs_2
def dkwX4_betsActs_0 : List UInt8 := [42, 180, 0, 246, 5, 184, 0, 249, 153, 0, 16, 42, 16, 21, 182, 0, 240, 42, 27, 182, 1, 5, 116, 172]
abbrev dktX4_betsActs_0 : List UInt8 := dkwX4_betsActs_0 ++ dktX4_betsActs_1
theorem dksX4_betsActs_0 : cX4_betsActs.data.toList.drop 0 = dktX4_betsActs_0 := by decide +kernel
theorem dksX4_betsActs_1 : cX4_betsActs.data.toList.drop 24 = dktX4_betsActs_1 := dk_seg dksX4_betsActs_0 24 rfl rfl
theorem dksX4_betsActs_2 : cX4_betsActs.data.toList.drop 48 = dktX4_betsActs_2 := dk_seg dksX4_betsActs_1 24 rfl rfl
theorem dX4_betsActs_0 : decode cX4_betsActs 0 = .ok (.aload_n 0, 1) := dk_42 (dk_at dksX4_betsActs_0 0 rfl rfl)
theorem dX4_betsActs_1 : decode cX4_betsActs 1 = .ok (.getfield 246, 3) := dk_180 0 246 (dk_at dksX4_betsActs_0 1 rfl rfl)
theorem dX4_betsActs_4 : decode cX4_betsActs 4 = .ok (.iconst 2, 1) := dk_5 (dk_at dksX4_betsActs_0 4 rfl rfl)
theorem dX4_betsActs_5 : decode cX4_betsActs 5 = .ok (.invokestatic 249, 3) := dk_184 0 249 (dk_at dksX4_betsActs_0 5 rfl rfl)
theorem dX4_betsActs_8 : decode cX4_betsActs 8 = .ok (.ifCond .eq 16, 3) := dk_153 0 16 (dk_at dksX4_betsActs_0 8 rfl rfl)
theorem dX4_betsActs_11 : decode cX4_betsActs 11 = .ok (.aload_n 0, 1) := dk_42 (dk_at dksX4_betsActs_0 11 rfl rfl)
theorem dX4_betsActs_12 : decode cX4_betsActs 12 = .ok (.bipush 21, 2) := dk_16 21 (dk_at dksX4_betsActs_0 12 rfl rfl)
theorem dX4_betsActs_14 : decode cX4_betsActs 14 = .ok (.invokevirtual 240, 3) := dk_182 0 240 (dk_at dksX4_betsActs_0 14 rfl rfl)
theorem dX4_betsActs_17 : decode cX4_betsActs 17 = .ok (.aload_n 0, 1) := dk_42 (dk_at dksX4_betsActs_0 17 rfl rfl)
theorem dX4_betsActs_18 : decode cX4_betsActs 18 = .ok (.iload_n 1, 1) := dk_27 (dk_at dksX4_betsActs_0 18 rfl rfl)
theorem dX4_betsActs_19 : decode cX4_betsActs 19 = .ok (.invokevirtual 261, 3) := dk_182 1 5 (dk_at dksX4_betsActs_0 19 rfl rfl)
theorem dX4_betsActs_22 : decode cX4_betsActs 22 = .ok (.ineg, 1) := dk_116 (dk_at dksX4_betsActs_0 22 rfl rfl)
theorem dX4_betsActs_23 : decode cX4_betsActs 23 = .ok (.ireturn, 1) := dk_172 (dk_at dksX4_betsActs_0 23 rfl rfl)
theorem dX4_betsActs_24 : decode cX4_betsActs 24 = .ok (.aload_n 0, 1) := dk_42 (dk_at dksX4_betsActs_1 0 rfl rfl)
theorem dX4_betsActs_25 : decode cX4_betsActs 25 = .ok (.getfield 246, 3) := dk_180 0 246 (dk_at dksX4_betsActs_1 1 rfl rfl)
theorem dX4_betsActs_28 : decode cX4_betsActs 28 = .ok (.bipush 6, 2) := dk_16 6 (dk_at dksX4_betsActs_1 4 rfl rfl)
theorem dX4_betsActs_30 : decode cX4_betsActs 30 = .ok (.if_icmp .ne 20, 3) := dk_160 0 20 (dk_at dksX4_betsActs_1 6 rfl rfl)
theorem dX4_betsActs_33 : decode cX4_betsActs 33 = .ok (.aload_n 0, 1) := dk_42 (dk_at dksX4_betsActs_1 9 rfl rfl)
theorem dX4_betsActs_34 : decode cX4_betsActs 34 = .ok (.bipush 61, 2) := dk_16 61 (dk_at dksX4_betsActs_1 10 rfl rfl)
theorem dX4_betsActs_36 : decode cX4_betsActs 36 = .ok (.invokevirtual 240, 3) := dk_182 0 240 (dk_at dksX4_betsActs_1 12 rfl rfl)
theorem dX4_betsActs_39 : decode cX4_betsActs 39 = .ok (.aload_n 0, 1) := dk_42 (dk_at dksX4_betsActs_1 15 rfl rfl)
theorem dX4_betsActs_40 : decode cX4_betsActs 40 = .ok (.iload_n 1, 1) := dk_27 (dk_at dksX4_betsActs_1 16 rfl rfl)
theorem dX4_betsActs_41 : decode cX4_betsActs 41 = .ok (.invokevirtual 261, 3) := dk_182 1 5 (dk_at dksX4_betsActs_1 17 rfl rfl)
theorem dX4_betsActs_44 : decode cX4_betsActs 44 = .ok (.aload_n 0, 1) := dk_42 (dk_at dksX4_betsActs_1 20 rfl rfl)
theorem dX4_betsActs_45 : decode cX4_betsActs 45 = .ok (.getfield 258, 3) := dk_180 1 2 (dk_at dksX4_betsActs_1 21 rfl rfl)
theorem dX4_betsActs_48 : decode cX4_betsActs 48 = .ok (.iadd, 1) := dk_96 (dk_at dksX4_betsActs_2 0 rfl rfl)
theorem dX4_betsActs_49 : decode cX4_betsActs 49 = .ok (.ireturn, 1) := dk_172 (dk_at dksX4_betsActs_2 1 rfl rfl)
theorem dX4_betsActs_50 : decode cX4_betsActs 50 = .ok (.aload_n 0, 1) := dk_42 (dk_at dksX4_betsActs_2 2 rfl rfl)
theorem dX4_betsActs_51 : decode cX4_betsActs 51 = .ok (.iload_n 1, 1) := dk_27 (dk_at dksX4_betsActs_2 3 rfl rfl)
theorem dX4_betsActs_52 : decode cX4_betsActs 52 = .ok (.invokevirtual 261, 3) := dk_182 1 5 (dk_at dksX4_betsActs_2 4 rfl rfl)
theorem dX4_betsActs_55 : decode cX4_betsActs 55 = .ok (.ireturn, 1) := dk_172 (dk_at dksX4_betsActs_2 7 rfl rfl)
abbrev cX4_plainBets : ByteArray := prog_19_method_72_code
def yX4_plainBets : MethodName := ⟨RX4, "plainBets", "(I)I"⟩
def dkwX4_plainBets_0 : List UInt8 := [42, 5, 182, 0, 240, 42, 27, 182, 0, 255, 42, 180, 1, 2, 100, 172]
abbrev dktX4_plainBets_0 : List UInt8 := dkwX4_plainBets_0 ++ []
theorem dksX4_plainBets_0 : cX4_plainBets.data.toList.drop 0 = dktX4_plainBets_0 := by decide +kernel
theorem dX4_plainBets_0 : decode cX4_plainBets 0 = .ok (.aload_n 0, 1) := dk_42 (dk_at dksX4_plainBets_0 0 rfl rfl)
theorem dX4_plainBets_1 : decode cX4_plainBets 1 = .ok (.iconst 2, 1) := dk_5 (dk_at dksX4_plainBets_0 1 rfl rfl)
theorem dX4_plainBets_2 : decode cX4_plainBets 2 = .ok (.invokevirtual 240, 3) := dk_182 0 240 (dk_at dksX4_plainBets_0 2 rfl rfl)
theorem dX4_plainBets_5 : decode cX4_plainBets 5 = .ok (.aload_n 0, 1) := dk_42 (dk_at dksX4_plainBets_0 5 rfl rfl)
theorem dX4_plainBets_6 : decode cX4_plainBets 6 = .ok (.iload_n 1, 1) := dk_27 (dk_at dksX4_plainBets_0 6 rfl rfl)
theorem dX4_plainBets_7 : decode cX4_plainBets 7 = .ok (.invokevirtual 255, 3) := dk_182 0 255 (dk_at dksX4_plainBets_0 7 rfl rfl)
theorem dX4_plainBets_10 : decode cX4_plainBets 10 = .ok (.aload_n 0, 1) := dk_42 (dk_at dksX4_plainBets_0 10 rfl rfl)
theorem dX4_plainBets_11 : decode cX4_plainBets 11 = .ok (.getfield 258, 3) := dk_180 1 2 (dk_at dksX4_plainBets_0 11 rfl rfl)
theorem dX4_plainBets_14 : decode cX4_plainBets 14 = .ok (.isub, 1) := dk_100 (dk_at dksX4_plainBets_0 14 rfl rfl)
theorem dX4_plainBets_15 : decode cX4_plainBets 15 = .ok (.ireturn, 1) := dk_172 (dk_at dksX4_plainBets_0 15 rfl rfl)
abbrev cX4_tellsActs : ByteArray := prog_19_method_75_code
def yX4_tellsActs : MethodName := ⟨RX4, "tellsActs", "(I)I"⟩
def dkwX4_tellsActs_2 : List UInt8 := [28, 42, 5, 182, 0, 255, 96, 172, 42, 27, 182, 1, 11, 172]
abbrev dktX4_tellsActs_2 : List UInt8 := dkwX4_tellsActs_2 ++ []
def dkwX4_tellsActs_1 : List UInt8 := [130, 172, 42, 180, 0, 246, 7, 160, 0, 25, 42, 16, 41, 182, 0, 240, 42, 27, 4, 100, 182, 1, 11, 61]
abbrev dktX4_tellsActs_1 : List UInt8 := dkwX4_tellsActs_1 ++ dktX4_tellsActs_2
def dkwX4_tellsActs_0 : List UInt8 := [42, 180, 0, 246, 6, 184, 0, 249, 153, 0, 18, 42, 16, 31, 182, 0, 240, 42, 27, 182, 1, 11, 16, 7]
abbrev dktX4_tellsActs_0 : List UInt8 := dkwX4_tellsActs_0 ++ dktX4_tellsActs_1
theorem dksX4_tellsActs_0 : cX4_tellsActs.data.toList.drop 0 = dktX4_tellsActs_0 := by decide +kernel
theorem dksX4_tellsActs_1 : cX4_tellsActs.data.toList.drop 24 = dktX4_tellsActs_1 := dk_seg dksX4_tellsActs_0 24 rfl rfl
theorem dksX4_tellsActs_2 : cX4_tellsActs.data.toList.drop 48 = dktX4_tellsActs_2 := dk_seg dksX4_tellsActs_1 24 rfl rfl
theorem dX4_tellsActs_0 : decode cX4_tellsActs 0 = .ok (.aload_n 0, 1) := dk_42 (dk_at dksX4_tellsActs_0 0 rfl rfl)
theorem dX4_tellsActs_1 : decode cX4_tellsActs 1 = .ok (.getfield 246, 3) := dk_180 0 246 (dk_at dksX4_tellsActs_0 1 rfl rfl)
theorem dX4_tellsActs_4 : decode cX4_tellsActs 4 = .ok (.iconst 3, 1) := dk_6 (dk_at dksX4_tellsActs_0 4 rfl rfl)
theorem dX4_tellsActs_5 : decode cX4_tellsActs 5 = .ok (.invokestatic 249, 3) := dk_184 0 249 (dk_at dksX4_tellsActs_0 5 rfl rfl)
theorem dX4_tellsActs_8 : decode cX4_tellsActs 8 = .ok (.ifCond .eq 18, 3) := dk_153 0 18 (dk_at dksX4_tellsActs_0 8 rfl rfl)
theorem dX4_tellsActs_11 : decode cX4_tellsActs 11 = .ok (.aload_n 0, 1) := dk_42 (dk_at dksX4_tellsActs_0 11 rfl rfl)
theorem dX4_tellsActs_12 : decode cX4_tellsActs 12 = .ok (.bipush 31, 2) := dk_16 31 (dk_at dksX4_tellsActs_0 12 rfl rfl)
theorem dX4_tellsActs_14 : decode cX4_tellsActs 14 = .ok (.invokevirtual 240, 3) := dk_182 0 240 (dk_at dksX4_tellsActs_0 14 rfl rfl)
theorem dX4_tellsActs_17 : decode cX4_tellsActs 17 = .ok (.aload_n 0, 1) := dk_42 (dk_at dksX4_tellsActs_0 17 rfl rfl)
theorem dX4_tellsActs_18 : decode cX4_tellsActs 18 = .ok (.iload_n 1, 1) := dk_27 (dk_at dksX4_tellsActs_0 18 rfl rfl)
theorem dX4_tellsActs_19 : decode cX4_tellsActs 19 = .ok (.invokevirtual 267, 3) := dk_182 1 11 (dk_at dksX4_tellsActs_0 19 rfl rfl)
theorem dX4_tellsActs_22 : decode cX4_tellsActs 22 = .ok (.bipush 7, 2) := dk_16 7 (dk_at dksX4_tellsActs_0 22 rfl rfl)
theorem dX4_tellsActs_24 : decode cX4_tellsActs 24 = .ok (.ixor, 1) := dk_130 (dk_at dksX4_tellsActs_1 0 rfl rfl)
theorem dX4_tellsActs_25 : decode cX4_tellsActs 25 = .ok (.ireturn, 1) := dk_172 (dk_at dksX4_tellsActs_1 1 rfl rfl)
theorem dX4_tellsActs_26 : decode cX4_tellsActs 26 = .ok (.aload_n 0, 1) := dk_42 (dk_at dksX4_tellsActs_1 2 rfl rfl)
theorem dX4_tellsActs_27 : decode cX4_tellsActs 27 = .ok (.getfield 246, 3) := dk_180 0 246 (dk_at dksX4_tellsActs_1 3 rfl rfl)
theorem dX4_tellsActs_30 : decode cX4_tellsActs 30 = .ok (.iconst 4, 1) := dk_7 (dk_at dksX4_tellsActs_1 6 rfl rfl)
theorem dX4_tellsActs_31 : decode cX4_tellsActs 31 = .ok (.if_icmp .ne 25, 3) := dk_160 0 25 (dk_at dksX4_tellsActs_1 7 rfl rfl)
theorem dX4_tellsActs_34 : decode cX4_tellsActs 34 = .ok (.aload_n 0, 1) := dk_42 (dk_at dksX4_tellsActs_1 10 rfl rfl)
theorem dX4_tellsActs_35 : decode cX4_tellsActs 35 = .ok (.bipush 41, 2) := dk_16 41 (dk_at dksX4_tellsActs_1 11 rfl rfl)
theorem dX4_tellsActs_37 : decode cX4_tellsActs 37 = .ok (.invokevirtual 240, 3) := dk_182 0 240 (dk_at dksX4_tellsActs_1 13 rfl rfl)
theorem dX4_tellsActs_40 : decode cX4_tellsActs 40 = .ok (.aload_n 0, 1) := dk_42 (dk_at dksX4_tellsActs_1 16 rfl rfl)
theorem dX4_tellsActs_41 : decode cX4_tellsActs 41 = .ok (.iload_n 1, 1) := dk_27 (dk_at dksX4_tellsActs_1 17 rfl rfl)
theorem dX4_tellsActs_42 : decode cX4_tellsActs 42 = .ok (.iconst 1, 1) := dk_4 (dk_at dksX4_tellsActs_1 18 rfl rfl)
theorem dX4_tellsActs_43 : decode cX4_tellsActs 43 = .ok (.isub, 1) := dk_100 (dk_at dksX4_tellsActs_1 19 rfl rfl)
theorem dX4_tellsActs_44 : decode cX4_tellsActs 44 = .ok (.invokevirtual 267, 3) := dk_182 1 11 (dk_at dksX4_tellsActs_1 20 rfl rfl)
theorem dX4_tellsActs_47 : decode cX4_tellsActs 47 = .ok (.istore_n 2, 1) := dk_61 (dk_at dksX4_tellsActs_1 23 rfl rfl)
theorem dX4_tellsActs_48 : decode cX4_tellsActs 48 = .ok (.iload_n 2, 1) := dk_28 (dk_at dksX4_tellsActs_2 0 rfl rfl)
theorem dX4_tellsActs_49 : decode cX4_tellsActs 49 = .ok (.aload_n 0, 1) := dk_42 (dk_at dksX4_tellsActs_2 1 rfl rfl)
theorem dX4_tellsActs_50 : decode cX4_tellsActs 50 = .ok (.iconst 2, 1) := dk_5 (dk_at dksX4_tellsActs_2 2 rfl rfl)
theorem dX4_tellsActs_51 : decode cX4_tellsActs 51 = .ok (.invokevirtual 255, 3) := dk_182 0 255 (dk_at dksX4_tellsActs_2 3 rfl rfl)
theorem dX4_tellsActs_54 : decode cX4_tellsActs 54 = .ok (.iadd, 1) := dk_96 (dk_at dksX4_tellsActs_2 6 rfl rfl)
theorem dX4_tellsActs_55 : decode cX4_tellsActs 55 = .ok (.ireturn, 1) := dk_172 (dk_at dksX4_tellsActs_2 7 rfl rfl)
theorem dX4_tellsActs_56 : decode cX4_tellsActs 56 = .ok (.aload_n 0, 1) := dk_42 (dk_at dksX4_tellsActs_2 8 rfl rfl)
theorem dX4_tellsActs_57 : decode cX4_tellsActs 57 = .ok (.iload_n 1, 1) := dk_27 (dk_at dksX4_tellsActs_2 9 rfl rfl)
theorem dX4_tellsActs_58 : decode cX4_tellsActs 58 = .ok (.invokevirtual 267, 3) := dk_182 1 11 (dk_at dksX4_tellsActs_2 10 rfl rfl)
theorem dX4_tellsActs_61 : decode cX4_tellsActs 61 = .ok (.ireturn, 1) := dk_172 (dk_at dksX4_tellsActs_2 13 rfl rfl)
abbrev cX4_plainTells : ByteArray := prog_19_method_74_code
def yX4_plainTells : MethodName := ⟨RX4, "plainTells", "(I)I"⟩
def dkwX4_plainTells_0 : List UInt8 := [42, 6, 182, 0, 240, 42, 27, 182, 1, 8, 5, 104, 172]
abbrev dktX4_plainTells_0 : List UInt8 := dkwX4_plainTells_0 ++ []
theorem dksX4_plainTells_0 : cX4_plainTells.data.toList.drop 0 = dktX4_plainTells_0 := by decide +kernel
theorem dX4_plainTells_0 : decode cX4_plainTells 0 = .ok (.aload_n 0, 1) := dk_42 (dk_at dksX4_plainTells_0 0 rfl rfl)
theorem dX4_plainTells_1 : decode cX4_plainTells 1 = .ok (.iconst 3, 1) := dk_6 (dk_at dksX4_plainTells_0 1 rfl rfl)
theorem dX4_plainTells_2 : decode cX4_plainTells 2 = .ok (.invokevirtual 240, 3) := dk_182 0 240 (dk_at dksX4_plainTells_0 2 rfl rfl)
theorem dX4_plainTells_5 : decode cX4_plainTells 5 = .ok (.aload_n 0, 1) := dk_42 (dk_at dksX4_plainTells_0 5 rfl rfl)
theorem dX4_plainTells_6 : decode cX4_plainTells 6 = .ok (.iload_n 1, 1) := dk_27 (dk_at dksX4_plainTells_0 6 rfl rfl)
theorem dX4_plainTells_7 : decode cX4_plainTells 7 = .ok (.invokevirtual 264, 3) := dk_182 1 8 (dk_at dksX4_plainTells_0 7 rfl rfl)
theorem dX4_plainTells_10 : decode cX4_plainTells 10 = .ok (.iconst 2, 1) := dk_5 (dk_at dksX4_plainTells_0 10 rfl rfl)
theorem dX4_plainTells_11 : decode cX4_plainTells 11 = .ok (.imul, 1) := dk_104 (dk_at dksX4_plainTells_0 11 rfl rfl)
theorem dX4_plainTells_12 : decode cX4_plainTells 12 = .ok (.ireturn, 1) := dk_172 (dk_at dksX4_plainTells_0 12 rfl rfl)
abbrev cX4_trace : ByteArray := prog_19_method_77_code
def yX4_trace : MethodName := ⟨RX4, "trace", "(I)I"⟩
def dkwX4_trace_1 : List UInt8 := [184, 0, 48, 153, 0, 12, 42, 180, 0, 41, 27, 46, 167, 0, 4, 2, 172]
abbrev dktX4_trace_1 : List UInt8 := dkwX4_trace_1 ++ []
def dkwX4_trace_0 : List UInt8 := [27, 3, 42, 180, 0, 237, 16, 20, 162, 0, 10, 42, 180, 0, 237, 167, 0, 5, 16, 20, 4, 100]
abbrev dktX4_trace_0 : List UInt8 := dkwX4_trace_0 ++ dktX4_trace_1
theorem dksX4_trace_0 : cX4_trace.data.toList.drop 0 = dktX4_trace_0 := by decide +kernel
theorem dksX4_trace_1 : cX4_trace.data.toList.drop 22 = dktX4_trace_1 := dk_seg dksX4_trace_0 22 rfl rfl
theorem dX4_trace_0 : decode cX4_trace 0 = .ok (.iload_n 1, 1) := dk_27 (dk_at dksX4_trace_0 0 rfl rfl)
theorem dX4_trace_1 : decode cX4_trace 1 = .ok (.iconst 0, 1) := dk_3 (dk_at dksX4_trace_0 1 rfl rfl)
theorem dX4_trace_2 : decode cX4_trace 2 = .ok (.aload_n 0, 1) := dk_42 (dk_at dksX4_trace_0 2 rfl rfl)
theorem dX4_trace_3 : decode cX4_trace 3 = .ok (.getfield 237, 3) := dk_180 0 237 (dk_at dksX4_trace_0 3 rfl rfl)
theorem dX4_trace_6 : decode cX4_trace 6 = .ok (.bipush 20, 2) := dk_16 20 (dk_at dksX4_trace_0 6 rfl rfl)
theorem dX4_trace_8 : decode cX4_trace 8 = .ok (.if_icmp .ge 10, 3) := dk_162 0 10 (dk_at dksX4_trace_0 8 rfl rfl)
theorem dX4_trace_11 : decode cX4_trace 11 = .ok (.aload_n 0, 1) := dk_42 (dk_at dksX4_trace_0 11 rfl rfl)
theorem dX4_trace_12 : decode cX4_trace 12 = .ok (.getfield 237, 3) := dk_180 0 237 (dk_at dksX4_trace_0 12 rfl rfl)
theorem dX4_trace_15 : decode cX4_trace 15 = .ok (.goto 5, 3) := dk_167 0 5 (dk_at dksX4_trace_0 15 rfl rfl)
theorem dX4_trace_18 : decode cX4_trace 18 = .ok (.bipush 20, 2) := dk_16 20 (dk_at dksX4_trace_0 18 rfl rfl)
theorem dX4_trace_20 : decode cX4_trace 20 = .ok (.iconst 1, 1) := dk_4 (dk_at dksX4_trace_0 20 rfl rfl)
theorem dX4_trace_21 : decode cX4_trace 21 = .ok (.isub, 1) := dk_100 (dk_at dksX4_trace_0 21 rfl rfl)
theorem dX4_trace_22 : decode cX4_trace 22 = .ok (.invokestatic 48, 3) := dk_184 0 48 (dk_at dksX4_trace_1 0 rfl rfl)
theorem dX4_trace_25 : decode cX4_trace 25 = .ok (.ifCond .eq 12, 3) := dk_153 0 12 (dk_at dksX4_trace_1 3 rfl rfl)
theorem dX4_trace_28 : decode cX4_trace 28 = .ok (.aload_n 0, 1) := dk_42 (dk_at dksX4_trace_1 6 rfl rfl)
theorem dX4_trace_29 : decode cX4_trace 29 = .ok (.getfield 41, 3) := dk_180 0 41 (dk_at dksX4_trace_1 7 rfl rfl)
theorem dX4_trace_32 : decode cX4_trace 32 = .ok (.iload_n 1, 1) := dk_27 (dk_at dksX4_trace_1 10 rfl rfl)
theorem dX4_trace_33 : decode cX4_trace 33 = .ok (.iaload, 1) := dk_46 (dk_at dksX4_trace_1 11 rfl rfl)
theorem dX4_trace_34 : decode cX4_trace 34 = .ok (.goto 4, 3) := dk_167 0 4 (dk_at dksX4_trace_1 12 rfl rfl)
theorem dX4_trace_37 : decode cX4_trace 37 = .ok (.iconst (-1), 1) := dk_2 (dk_at dksX4_trace_1 15 rfl rfl)
theorem dX4_trace_38 : decode cX4_trace 38 = .ok (.ireturn, 1) := dk_172 (dk_at dksX4_trace_1 16 rfl rfl)
abbrev cX4_as : ByteArray := prog_19_method_78_code
def yX4_as : MethodName := ⟨RX4, "as", "(II)I"⟩
def dkwX4_as_2 : List UInt8 := [16, 250, 172]
abbrev dktX4_as_2 : List UInt8 := dkwX4_as_2 ++ []
def dkwX4_as_1 : List UInt8 := [16, 12, 27, 96, 46, 28, 184, 0, 249, 153, 0, 15, 42, 180, 0, 9, 16, 17, 27, 96, 46, 167, 0, 5]
abbrev dktX4_as_1 : List UInt8 := dkwX4_as_1 ++ dktX4_as_2
def dkwX4_as_0 : List UInt8 := [42, 27, 182, 0, 52, 153, 0, 13, 28, 3, 16, 6, 184, 0, 48, 154, 0, 5, 2, 172, 42, 180, 0, 9]
abbrev dktX4_as_0 : List UInt8 := dkwX4_as_0 ++ dktX4_as_1
theorem dksX4_as_0 : cX4_as.data.toList.drop 0 = dktX4_as_0 := by decide +kernel
theorem dksX4_as_1 : cX4_as.data.toList.drop 24 = dktX4_as_1 := dk_seg dksX4_as_0 24 rfl rfl
theorem dksX4_as_2 : cX4_as.data.toList.drop 48 = dktX4_as_2 := dk_seg dksX4_as_1 24 rfl rfl
theorem dX4_as_0 : decode cX4_as 0 = .ok (.aload_n 0, 1) := dk_42 (dk_at dksX4_as_0 0 rfl rfl)
theorem dX4_as_1 : decode cX4_as 1 = .ok (.iload_n 1, 1) := dk_27 (dk_at dksX4_as_0 1 rfl rfl)
theorem dX4_as_2 : decode cX4_as 2 = .ok (.invokevirtual 52, 3) := dk_182 0 52 (dk_at dksX4_as_0 2 rfl rfl)
theorem dX4_as_5 : decode cX4_as 5 = .ok (.ifCond .eq 13, 3) := dk_153 0 13 (dk_at dksX4_as_0 5 rfl rfl)
theorem dX4_as_8 : decode cX4_as 8 = .ok (.iload_n 2, 1) := dk_28 (dk_at dksX4_as_0 8 rfl rfl)
theorem dX4_as_9 : decode cX4_as 9 = .ok (.iconst 0, 1) := dk_3 (dk_at dksX4_as_0 9 rfl rfl)
theorem dX4_as_10 : decode cX4_as 10 = .ok (.bipush 6, 2) := dk_16 6 (dk_at dksX4_as_0 10 rfl rfl)
theorem dX4_as_12 : decode cX4_as 12 = .ok (.invokestatic 48, 3) := dk_184 0 48 (dk_at dksX4_as_0 12 rfl rfl)
theorem dX4_as_15 : decode cX4_as 15 = .ok (.ifCond .ne 5, 3) := dk_154 0 5 (dk_at dksX4_as_0 15 rfl rfl)
theorem dX4_as_18 : decode cX4_as 18 = .ok (.iconst (-1), 1) := dk_2 (dk_at dksX4_as_0 18 rfl rfl)
theorem dX4_as_19 : decode cX4_as 19 = .ok (.ireturn, 1) := dk_172 (dk_at dksX4_as_0 19 rfl rfl)
theorem dX4_as_20 : decode cX4_as 20 = .ok (.aload_n 0, 1) := dk_42 (dk_at dksX4_as_0 20 rfl rfl)
theorem dX4_as_21 : decode cX4_as 21 = .ok (.getfield 9, 3) := dk_180 0 9 (dk_at dksX4_as_0 21 rfl rfl)
theorem dX4_as_24 : decode cX4_as 24 = .ok (.bipush 12, 2) := dk_16 12 (dk_at dksX4_as_1 0 rfl rfl)
theorem dX4_as_26 : decode cX4_as 26 = .ok (.iload_n 1, 1) := dk_27 (dk_at dksX4_as_1 2 rfl rfl)
theorem dX4_as_27 : decode cX4_as 27 = .ok (.iadd, 1) := dk_96 (dk_at dksX4_as_1 3 rfl rfl)
theorem dX4_as_28 : decode cX4_as 28 = .ok (.iaload, 1) := dk_46 (dk_at dksX4_as_1 4 rfl rfl)
theorem dX4_as_29 : decode cX4_as 29 = .ok (.iload_n 2, 1) := dk_28 (dk_at dksX4_as_1 5 rfl rfl)
theorem dX4_as_30 : decode cX4_as 30 = .ok (.invokestatic 249, 3) := dk_184 0 249 (dk_at dksX4_as_1 6 rfl rfl)
theorem dX4_as_33 : decode cX4_as 33 = .ok (.ifCond .eq 15, 3) := dk_153 0 15 (dk_at dksX4_as_1 9 rfl rfl)
theorem dX4_as_36 : decode cX4_as 36 = .ok (.aload_n 0, 1) := dk_42 (dk_at dksX4_as_1 12 rfl rfl)
theorem dX4_as_37 : decode cX4_as 37 = .ok (.getfield 9, 3) := dk_180 0 9 (dk_at dksX4_as_1 13 rfl rfl)
theorem dX4_as_40 : decode cX4_as 40 = .ok (.bipush 17, 2) := dk_16 17 (dk_at dksX4_as_1 16 rfl rfl)
theorem dX4_as_42 : decode cX4_as 42 = .ok (.iload_n 1, 1) := dk_27 (dk_at dksX4_as_1 18 rfl rfl)
theorem dX4_as_43 : decode cX4_as 43 = .ok (.iadd, 1) := dk_96 (dk_at dksX4_as_1 19 rfl rfl)
theorem dX4_as_44 : decode cX4_as 44 = .ok (.iaload, 1) := dk_46 (dk_at dksX4_as_1 20 rfl rfl)
theorem dX4_as_45 : decode cX4_as 45 = .ok (.goto 5, 3) := dk_167 0 5 (dk_at dksX4_as_1 21 rfl rfl)
theorem dX4_as_48 : decode cX4_as 48 = .ok (.bipush (-6), 2) := dk_16 250 (dk_at dksX4_as_2 0 rfl rfl)
theorem dX4_as_50 : decode cX4_as 50 = .ok (.ireturn, 1) := dk_172 (dk_at dksX4_as_2 2 rfl rfl)
abbrev cX4_image : ByteArray := prog_19_method_79_code
def yX4_image : MethodName := ⟨RX4, "image", "()I"⟩
def dkwX4_image_1 : List UInt8 := [167, 255, 234, 42, 4, 181, 1, 17, 42, 180, 0, 9, 16, 6, 46, 172]
abbrev dktX4_image_1 : List UInt8 := dkwX4_image_1 ++ []
def dkwX4_image_0 : List UInt8 := [3, 60, 27, 17, 3, 121, 162, 0, 21, 42, 180, 0, 15, 27, 42, 180, 0, 9, 27, 46, 79, 132, 1, 1]
abbrev dktX4_image_0 : List UInt8 := dkwX4_image_0 ++ dktX4_image_1
theorem dksX4_image_0 : cX4_image.data.toList.drop 0 = dktX4_image_0 := by decide +kernel
theorem dksX4_image_1 : cX4_image.data.toList.drop 24 = dktX4_image_1 := dk_seg dksX4_image_0 24 rfl rfl
theorem dX4_image_0 : decode cX4_image 0 = .ok (.iconst 0, 1) := dk_3 (dk_at dksX4_image_0 0 rfl rfl)
theorem dX4_image_1 : decode cX4_image 1 = .ok (.istore_n 1, 1) := dk_60 (dk_at dksX4_image_0 1 rfl rfl)
theorem dX4_image_2 : decode cX4_image 2 = .ok (.iload_n 1, 1) := dk_27 (dk_at dksX4_image_0 2 rfl rfl)
theorem dX4_image_3 : decode cX4_image 3 = .ok (.sipush 889, 3) := dk_17 3 121 (dk_at dksX4_image_0 3 rfl rfl)
theorem dX4_image_6 : decode cX4_image 6 = .ok (.if_icmp .ge 21, 3) := dk_162 0 21 (dk_at dksX4_image_0 6 rfl rfl)
theorem dX4_image_9 : decode cX4_image 9 = .ok (.aload_n 0, 1) := dk_42 (dk_at dksX4_image_0 9 rfl rfl)
theorem dX4_image_10 : decode cX4_image 10 = .ok (.getfield 15, 3) := dk_180 0 15 (dk_at dksX4_image_0 10 rfl rfl)
theorem dX4_image_13 : decode cX4_image 13 = .ok (.iload_n 1, 1) := dk_27 (dk_at dksX4_image_0 13 rfl rfl)
theorem dX4_image_14 : decode cX4_image 14 = .ok (.aload_n 0, 1) := dk_42 (dk_at dksX4_image_0 14 rfl rfl)
theorem dX4_image_15 : decode cX4_image 15 = .ok (.getfield 9, 3) := dk_180 0 9 (dk_at dksX4_image_0 15 rfl rfl)
theorem dX4_image_18 : decode cX4_image 18 = .ok (.iload_n 1, 1) := dk_27 (dk_at dksX4_image_0 18 rfl rfl)
theorem dX4_image_19 : decode cX4_image 19 = .ok (.iaload, 1) := dk_46 (dk_at dksX4_image_0 19 rfl rfl)
theorem dX4_image_20 : decode cX4_image 20 = .ok (.iastore, 1) := dk_79 (dk_at dksX4_image_0 20 rfl rfl)
theorem dX4_image_21 : decode cX4_image 21 = .ok (.iinc 1 1, 3) := dk_132 1 1 (dk_at dksX4_image_0 21 rfl rfl)
theorem dX4_image_24 : decode cX4_image 24 = .ok (.goto (-22), 3) := dk_167 255 234 (dk_at dksX4_image_1 0 rfl rfl)
theorem dX4_image_27 : decode cX4_image 27 = .ok (.aload_n 0, 1) := dk_42 (dk_at dksX4_image_1 3 rfl rfl)
theorem dX4_image_28 : decode cX4_image 28 = .ok (.iconst 1, 1) := dk_4 (dk_at dksX4_image_1 4 rfl rfl)
theorem dX4_image_29 : decode cX4_image 29 = .ok (.putfield 273, 3) := dk_181 1 17 (dk_at dksX4_image_1 5 rfl rfl)
theorem dX4_image_32 : decode cX4_image 32 = .ok (.aload_n 0, 1) := dk_42 (dk_at dksX4_image_1 8 rfl rfl)
theorem dX4_image_33 : decode cX4_image 33 = .ok (.getfield 9, 3) := dk_180 0 9 (dk_at dksX4_image_1 9 rfl rfl)
theorem dX4_image_36 : decode cX4_image 36 = .ok (.bipush 6, 2) := dk_16 6 (dk_at dksX4_image_1 12 rfl rfl)
theorem dX4_image_38 : decode cX4_image 38 = .ok (.iaload, 1) := dk_46 (dk_at dksX4_image_1 14 rfl rfl)
theorem dX4_image_39 : decode cX4_image 39 = .ok (.ireturn, 1) := dk_172 (dk_at dksX4_image_1 15 rfl rfl)
abbrev cX4_undo : ByteArray := prog_19_method_80_code
def yX4_undo : MethodName := ⟨RX4, "undo", "()I"⟩
def dkwX4_undo_1 : List UInt8 := [42, 180, 0, 15, 27, 46, 79, 132, 1, 1, 167, 255, 234, 42, 180, 0, 9, 16, 6, 46, 172]
abbrev dktX4_undo_1 : List UInt8 := dkwX4_undo_1 ++ []
def dkwX4_undo_0 : List UInt8 := [42, 180, 1, 17, 154, 0, 6, 16, 253, 172, 3, 60, 27, 17, 3, 121, 162, 0, 21, 42, 180, 0, 9, 27]
abbrev dktX4_undo_0 : List UInt8 := dkwX4_undo_0 ++ dktX4_undo_1
theorem dksX4_undo_0 : cX4_undo.data.toList.drop 0 = dktX4_undo_0 := by decide +kernel
theorem dksX4_undo_1 : cX4_undo.data.toList.drop 24 = dktX4_undo_1 := dk_seg dksX4_undo_0 24 rfl rfl
theorem dX4_undo_0 : decode cX4_undo 0 = .ok (.aload_n 0, 1) := dk_42 (dk_at dksX4_undo_0 0 rfl rfl)
theorem dX4_undo_1 : decode cX4_undo 1 = .ok (.getfield 273, 3) := dk_180 1 17 (dk_at dksX4_undo_0 1 rfl rfl)
theorem dX4_undo_4 : decode cX4_undo 4 = .ok (.ifCond .ne 6, 3) := dk_154 0 6 (dk_at dksX4_undo_0 4 rfl rfl)
theorem dX4_undo_7 : decode cX4_undo 7 = .ok (.bipush (-3), 2) := dk_16 253 (dk_at dksX4_undo_0 7 rfl rfl)
theorem dX4_undo_9 : decode cX4_undo 9 = .ok (.ireturn, 1) := dk_172 (dk_at dksX4_undo_0 9 rfl rfl)
theorem dX4_undo_10 : decode cX4_undo 10 = .ok (.iconst 0, 1) := dk_3 (dk_at dksX4_undo_0 10 rfl rfl)
theorem dX4_undo_11 : decode cX4_undo 11 = .ok (.istore_n 1, 1) := dk_60 (dk_at dksX4_undo_0 11 rfl rfl)
theorem dX4_undo_12 : decode cX4_undo 12 = .ok (.iload_n 1, 1) := dk_27 (dk_at dksX4_undo_0 12 rfl rfl)
theorem dX4_undo_13 : decode cX4_undo 13 = .ok (.sipush 889, 3) := dk_17 3 121 (dk_at dksX4_undo_0 13 rfl rfl)
theorem dX4_undo_16 : decode cX4_undo 16 = .ok (.if_icmp .ge 21, 3) := dk_162 0 21 (dk_at dksX4_undo_0 16 rfl rfl)
theorem dX4_undo_19 : decode cX4_undo 19 = .ok (.aload_n 0, 1) := dk_42 (dk_at dksX4_undo_0 19 rfl rfl)
theorem dX4_undo_20 : decode cX4_undo 20 = .ok (.getfield 9, 3) := dk_180 0 9 (dk_at dksX4_undo_0 20 rfl rfl)
theorem dX4_undo_23 : decode cX4_undo 23 = .ok (.iload_n 1, 1) := dk_27 (dk_at dksX4_undo_0 23 rfl rfl)
theorem dX4_undo_24 : decode cX4_undo 24 = .ok (.aload_n 0, 1) := dk_42 (dk_at dksX4_undo_1 0 rfl rfl)
theorem dX4_undo_25 : decode cX4_undo 25 = .ok (.getfield 15, 3) := dk_180 0 15 (dk_at dksX4_undo_1 1 rfl rfl)
theorem dX4_undo_28 : decode cX4_undo 28 = .ok (.iload_n 1, 1) := dk_27 (dk_at dksX4_undo_1 4 rfl rfl)
theorem dX4_undo_29 : decode cX4_undo 29 = .ok (.iaload, 1) := dk_46 (dk_at dksX4_undo_1 5 rfl rfl)
theorem dX4_undo_30 : decode cX4_undo 30 = .ok (.iastore, 1) := dk_79 (dk_at dksX4_undo_1 6 rfl rfl)
theorem dX4_undo_31 : decode cX4_undo 31 = .ok (.iinc 1 1, 3) := dk_132 1 1 (dk_at dksX4_undo_1 7 rfl rfl)
theorem dX4_undo_34 : decode cX4_undo 34 = .ok (.goto (-22), 3) := dk_167 255 234 (dk_at dksX4_undo_1 10 rfl rfl)
theorem dX4_undo_37 : decode cX4_undo 37 = .ok (.aload_n 0, 1) := dk_42 (dk_at dksX4_undo_1 13 rfl rfl)
theorem dX4_undo_38 : decode cX4_undo 38 = .ok (.getfield 9, 3) := dk_180 0 9 (dk_at dksX4_undo_1 14 rfl rfl)
theorem dX4_undo_41 : decode cX4_undo 41 = .ok (.bipush 6, 2) := dk_16 6 (dk_at dksX4_undo_1 17 rfl rfl)
theorem dX4_undo_43 : decode cX4_undo 43 = .ok (.iaload, 1) := dk_46 (dk_at dksX4_undo_1 19 rfl rfl)
theorem dX4_undo_44 : decode cX4_undo 44 = .ok (.ireturn, 1) := dk_172 (dk_at dksX4_undo_1 20 rfl rfl)
abbrev cX4_count : ByteArray := prog_19_method_81_code
def yX4_count : MethodName := ⟨RX4, "count", "(I)I"⟩
def dkwX4_count_1 : List UInt8 := [180, 0, 9, 16, 6, 27, 96, 46, 167, 0, 4, 2, 172]
abbrev dktX4_count_1 : List UInt8 := dkwX4_count_1 ++ []
def dkwX4_count_0 : List UInt8 := [27, 8, 160, 0, 10, 42, 180, 0, 237, 167, 0, 25, 27, 3, 7, 184, 0, 48, 153, 0, 15, 42]
abbrev dktX4_count_0 : List UInt8 := dkwX4_count_0 ++ dktX4_count_1
theorem dksX4_count_0 : cX4_count.data.toList.drop 0 = dktX4_count_0 := by decide +kernel
theorem dksX4_count_1 : cX4_count.data.toList.drop 22 = dktX4_count_1 := dk_seg dksX4_count_0 22 rfl rfl
theorem dX4_count_0 : decode cX4_count 0 = .ok (.iload_n 1, 1) := dk_27 (dk_at dksX4_count_0 0 rfl rfl)
theorem dX4_count_1 : decode cX4_count 1 = .ok (.iconst 5, 1) := dk_8 (dk_at dksX4_count_0 1 rfl rfl)
theorem dX4_count_2 : decode cX4_count 2 = .ok (.if_icmp .ne 10, 3) := dk_160 0 10 (dk_at dksX4_count_0 2 rfl rfl)
theorem dX4_count_5 : decode cX4_count 5 = .ok (.aload_n 0, 1) := dk_42 (dk_at dksX4_count_0 5 rfl rfl)
theorem dX4_count_6 : decode cX4_count 6 = .ok (.getfield 237, 3) := dk_180 0 237 (dk_at dksX4_count_0 6 rfl rfl)
theorem dX4_count_9 : decode cX4_count 9 = .ok (.goto 25, 3) := dk_167 0 25 (dk_at dksX4_count_0 9 rfl rfl)
theorem dX4_count_12 : decode cX4_count 12 = .ok (.iload_n 1, 1) := dk_27 (dk_at dksX4_count_0 12 rfl rfl)
theorem dX4_count_13 : decode cX4_count 13 = .ok (.iconst 0, 1) := dk_3 (dk_at dksX4_count_0 13 rfl rfl)
theorem dX4_count_14 : decode cX4_count 14 = .ok (.iconst 4, 1) := dk_7 (dk_at dksX4_count_0 14 rfl rfl)
theorem dX4_count_15 : decode cX4_count 15 = .ok (.invokestatic 48, 3) := dk_184 0 48 (dk_at dksX4_count_0 15 rfl rfl)
theorem dX4_count_18 : decode cX4_count 18 = .ok (.ifCond .eq 15, 3) := dk_153 0 15 (dk_at dksX4_count_0 18 rfl rfl)
theorem dX4_count_21 : decode cX4_count 21 = .ok (.aload_n 0, 1) := dk_42 (dk_at dksX4_count_0 21 rfl rfl)
theorem dX4_count_22 : decode cX4_count 22 = .ok (.getfield 9, 3) := dk_180 0 9 (dk_at dksX4_count_1 0 rfl rfl)
theorem dX4_count_25 : decode cX4_count 25 = .ok (.bipush 6, 2) := dk_16 6 (dk_at dksX4_count_1 3 rfl rfl)
theorem dX4_count_27 : decode cX4_count 27 = .ok (.iload_n 1, 1) := dk_27 (dk_at dksX4_count_1 5 rfl rfl)
theorem dX4_count_28 : decode cX4_count 28 = .ok (.iadd, 1) := dk_96 (dk_at dksX4_count_1 6 rfl rfl)
theorem dX4_count_29 : decode cX4_count 29 = .ok (.iaload, 1) := dk_46 (dk_at dksX4_count_1 7 rfl rfl)
theorem dX4_count_30 : decode cX4_count 30 = .ok (.goto 4, 3) := dk_167 0 4 (dk_at dksX4_count_1 8 rfl rfl)
theorem dX4_count_33 : decode cX4_count 33 = .ok (.iconst (-1), 1) := dk_2 (dk_at dksX4_count_1 11 rfl rfl)
theorem dX4_count_34 : decode cX4_count 34 = .ok (.ireturn, 1) := dk_172 (dk_at dksX4_count_1 12 rfl rfl)
theorem q88 : (Jvm.Cond.initialized "FewerManModel") ∈ lw_all := lw_g (lw_at lw_m1 8 rfl) rfl
theorem q546 : (Jvm.Cond.selects "FewerManModel" ({ cls := "java/lang/Object", name := "getClass", desc := "()Ljava/lang/Class;" } : Jvm.MethodName) ({ cls := "java/lang/Object", name := "getClass", desc := "()Ljava/lang/Class;" } : Jvm.MethodName)) ∈ lw_all := lw_g (lw_at lw_m2 226 rfl) rfl
theorem q1238 : (Jvm.Cond.instantiable "FewerManModel" (24 : Nat)) ∈ lw_all := lw_g (lw_at lw_m5 198 rfl) rfl
theorem q1240 : (Jvm.Cond.instanceMethod ({ cls := "FewerManModel", name := "<init>", desc := "()V" } : Jvm.MethodName)) ∈ lw_all := lw_g (lw_at lw_m5 200 rfl) rfl
theorem q1241 : (Jvm.Cond.code ({ cls := "FewerManModel", name := "<init>", desc := "()V" } : Jvm.MethodName) prog_19_method_1_code (1 : Nat) (Option.none : Option Jvm.ClassFile.FieldType)) ∈ lw_all := lw_g (lw_at lw_m5 201 rfl) rfl
theorem q1242 : (Jvm.Cond.methodLink "FewerManModel" (3 : Nat) ({ cls := "java/lang/Object", name := "<init>", desc := "()V" } : Jvm.MethodName)) ∈ lw_all := lw_g (lw_at lw_m5 202 rfl) rfl
theorem q1243 : (Jvm.Cond.fieldLink "FewerManModel" (9 : Nat) "FewerManModel" "s" "[I") ∈ lw_all := lw_g (lw_at lw_m5 203 rfl) rfl
theorem q1244 : (Jvm.Cond.fieldLink "FewerManModel" (15 : Nat) "FewerManModel" "image" "[I") ∈ lw_all := lw_g (lw_at lw_m5 204 rfl) rfl
theorem q1245 : (Jvm.Cond.fieldLink "FewerManModel" (18 : Nat) "FewerManModel" "frame" "[I") ∈ lw_all := lw_g (lw_at lw_m5 205 rfl) rfl
theorem q1246 : (Jvm.Cond.fieldLink "FewerManModel" (273 : Nat) "FewerManModel" "hasImage" "Z") ∈ lw_all := lw_g (lw_at lw_m5 206 rfl) rfl
theorem q1247 : (Jvm.Cond.fieldLink "FewerManModel" (83 : Nat) "FewerManModel" "act" "I") ∈ lw_all := lw_g (lw_at lw_m5 207 rfl) rfl
theorem q1248 : (Jvm.Cond.fieldLink "FewerManModel" (56 : Nat) "FewerManModel" "spot" "I") ∈ lw_all := lw_g (lw_at lw_m5 208 rfl) rfl
theorem q1249 : (Jvm.Cond.fieldLink "FewerManModel" (59 : Nat) "FewerManModel" "end" "I") ∈ lw_all := lw_g (lw_at lw_m5 209 rfl) rfl
theorem q1250 : (Jvm.Cond.fieldLink "FewerManModel" (62 : Nat) "FewerManModel" "isWrong" "Z") ∈ lw_all := lw_g (lw_at lw_m5 210 rfl) rfl
theorem q1251 : (Jvm.Cond.fieldLink "FewerManModel" (86 : Nat) "FewerManModel" "open" "I") ∈ lw_all := lw_g (lw_at lw_m5 211 rfl) rfl
theorem q1252 : (Jvm.Cond.fieldLink "FewerManModel" (21 : Nat) "FewerManModel" "by" "[I") ∈ lw_all := lw_g (lw_at lw_m5 212 rfl) rfl
theorem q1253 : (Jvm.Cond.fieldLink "FewerManModel" (24 : Nat) "FewerManModel" "truths" "[Z") ∈ lw_all := lw_g (lw_at lw_m5 213 rfl) rfl
theorem q1254 : (Jvm.Cond.fieldLink "FewerManModel" (28 : Nat) "FewerManModel" "often" "[J") ∈ lw_all := lw_g (lw_at lw_m5 214 rfl) rfl
theorem q1255 : (Jvm.Cond.fieldLink "FewerManModel" (32 : Nat) "FewerManModel" "then" "[J") ∈ lw_all := lw_g (lw_at lw_m5 215 rfl) rfl
theorem q1256 : (Jvm.Cond.fieldLink "FewerManModel" (163 : Nat) "FewerManModel" "paid" "J") ∈ lw_all := lw_g (lw_at lw_m5 216 rfl) rfl
theorem q1257 : (Jvm.Cond.fieldLink "FewerManModel" (202 : Nat) "FewerManModel" "isLost" "Z") ∈ lw_all := lw_g (lw_at lw_m5 217 rfl) rfl
theorem q1258 : (Jvm.Cond.fieldLink "FewerManModel" (35 : Nat) "FewerManModel" "order" "[I") ∈ lw_all := lw_g (lw_at lw_m5 218 rfl) rfl
theorem q1259 : (Jvm.Cond.fieldLink "FewerManModel" (38 : Nat) "FewerManModel" "bestOrder" "[I") ∈ lw_all := lw_g (lw_at lw_m5 219 rfl) rfl
theorem q1260 : (Jvm.Cond.fieldLink "FewerManModel" (212 : Nat) "FewerManModel" "bestWon" "J") ∈ lw_all := lw_g (lw_at lw_m5 220 rfl) rfl
theorem q1261 : (Jvm.Cond.fieldLink "FewerManModel" (41 : Nat) "FewerManModel" "bodies" "[I") ∈ lw_all := lw_g (lw_at lw_m5 221 rfl) rfl
theorem q1262 : (Jvm.Cond.fieldLink "FewerManModel" (237 : Nat) "FewerManModel" "ran" "I") ∈ lw_all := lw_g (lw_at lw_m5 222 rfl) rfl
theorem q1263 : (Jvm.Cond.fieldLink "FewerManModel" (246 : Nat) "FewerManModel" "kind" "I") ∈ lw_all := lw_g (lw_at lw_m5 223 rfl) rfl
theorem q1264 : (Jvm.Cond.fieldLink "FewerManModel" (243 : Nat) "FewerManModel" "number" "I") ∈ lw_all := lw_g (lw_at lw_m5 224 rfl) rfl
theorem q1265 : (Jvm.Cond.fieldLink "FewerManModel" (258 : Nat) "FewerManModel" "tellsV" "I") ∈ lw_all := lw_g (lw_at lw_m5 225 rfl) rfl
theorem q1266 : (Jvm.Cond.lays "FewerManModel" "FewerManModel" "thrown" "I") ∈ lw_all := lw_g (lw_at lw_m5 226 rfl) rfl
theorem q1267 : (Jvm.Cond.soleField "FewerManModel" "thrown") ∈ lw_all := lw_g (lw_at lw_m5 227 rfl) rfl
theorem q1268 : (Jvm.Cond.laysFinal "FewerManModel" "FewerManModel" "s" "[I") ∈ lw_all := lw_g (lw_at lw_m5 228 rfl) rfl
theorem q1269 : (Jvm.Cond.soleField "FewerManModel" "s") ∈ lw_all := lw_g (lw_at lw_m5 229 rfl) rfl
theorem q1270 : (Jvm.Cond.laysFinal "FewerManModel" "FewerManModel" "image" "[I") ∈ lw_all := lw_g (lw_at lw_m5 230 rfl) rfl
theorem q1271 : (Jvm.Cond.soleField "FewerManModel" "image") ∈ lw_all := lw_g (lw_at lw_m5 231 rfl) rfl
theorem q1272 : (Jvm.Cond.laysFinal "FewerManModel" "FewerManModel" "frame" "[I") ∈ lw_all := lw_g (lw_at lw_m5 232 rfl) rfl
theorem q1273 : (Jvm.Cond.soleField "FewerManModel" "frame") ∈ lw_all := lw_g (lw_at lw_m5 233 rfl) rfl
theorem q1274 : (Jvm.Cond.lays "FewerManModel" "FewerManModel" "hasImage" "Z") ∈ lw_all := lw_g (lw_at lw_m5 234 rfl) rfl
theorem q1275 : (Jvm.Cond.soleField "FewerManModel" "hasImage") ∈ lw_all := lw_g (lw_at lw_m5 235 rfl) rfl
theorem q1276 : (Jvm.Cond.lays "FewerManModel" "FewerManModel" "act" "I") ∈ lw_all := lw_g (lw_at lw_m5 236 rfl) rfl
theorem q1277 : (Jvm.Cond.soleField "FewerManModel" "act") ∈ lw_all := lw_g (lw_at lw_m5 237 rfl) rfl
theorem q1278 : (Jvm.Cond.lays "FewerManModel" "FewerManModel" "spot" "I") ∈ lw_all := lw_g (lw_at lw_m5 238 rfl) rfl
theorem q1279 : (Jvm.Cond.soleField "FewerManModel" "spot") ∈ lw_all := lw_g (lw_at lw_m5 239 rfl) rfl
theorem q1280 : (Jvm.Cond.lays "FewerManModel" "FewerManModel" "end" "I") ∈ lw_all := lw_g (lw_at lw_m6 0 rfl) rfl
theorem q1281 : (Jvm.Cond.soleField "FewerManModel" "end") ∈ lw_all := lw_g (lw_at lw_m6 1 rfl) rfl
theorem q1282 : (Jvm.Cond.lays "FewerManModel" "FewerManModel" "isWrong" "Z") ∈ lw_all := lw_g (lw_at lw_m6 2 rfl) rfl
theorem q1283 : (Jvm.Cond.soleField "FewerManModel" "isWrong") ∈ lw_all := lw_g (lw_at lw_m6 3 rfl) rfl
theorem q1284 : (Jvm.Cond.lays "FewerManModel" "FewerManModel" "open" "I") ∈ lw_all := lw_g (lw_at lw_m6 4 rfl) rfl
theorem q1285 : (Jvm.Cond.soleField "FewerManModel" "open") ∈ lw_all := lw_g (lw_at lw_m6 5 rfl) rfl
theorem q1286 : (Jvm.Cond.laysFinal "FewerManModel" "FewerManModel" "by" "[I") ∈ lw_all := lw_g (lw_at lw_m6 6 rfl) rfl
theorem q1287 : (Jvm.Cond.soleField "FewerManModel" "by") ∈ lw_all := lw_g (lw_at lw_m6 7 rfl) rfl
theorem q1288 : (Jvm.Cond.laysFinal "FewerManModel" "FewerManModel" "truths" "[Z") ∈ lw_all := lw_g (lw_at lw_m6 8 rfl) rfl
theorem q1289 : (Jvm.Cond.soleField "FewerManModel" "truths") ∈ lw_all := lw_g (lw_at lw_m6 9 rfl) rfl
theorem q1290 : (Jvm.Cond.lays "FewerManModel" "FewerManModel" "often" "[J") ∈ lw_all := lw_g (lw_at lw_m6 10 rfl) rfl
theorem q1291 : (Jvm.Cond.soleField "FewerManModel" "often") ∈ lw_all := lw_g (lw_at lw_m6 11 rfl) rfl
theorem q1292 : (Jvm.Cond.lays "FewerManModel" "FewerManModel" "then" "[J") ∈ lw_all := lw_g (lw_at lw_m6 12 rfl) rfl
theorem q1293 : (Jvm.Cond.soleField "FewerManModel" "then") ∈ lw_all := lw_g (lw_at lw_m6 13 rfl) rfl
theorem q1294 : (Jvm.Cond.lays "FewerManModel" "FewerManModel" "paid" "J") ∈ lw_all := lw_g (lw_at lw_m6 14 rfl) rfl
theorem q1295 : (Jvm.Cond.soleField "FewerManModel" "paid") ∈ lw_all := lw_g (lw_at lw_m6 15 rfl) rfl
theorem q1296 : (Jvm.Cond.lays "FewerManModel" "FewerManModel" "isLost" "Z") ∈ lw_all := lw_g (lw_at lw_m6 16 rfl) rfl
theorem q1297 : (Jvm.Cond.soleField "FewerManModel" "isLost") ∈ lw_all := lw_g (lw_at lw_m6 17 rfl) rfl
theorem q1298 : (Jvm.Cond.laysFinal "FewerManModel" "FewerManModel" "order" "[I") ∈ lw_all := lw_g (lw_at lw_m6 18 rfl) rfl
theorem q1299 : (Jvm.Cond.soleField "FewerManModel" "order") ∈ lw_all := lw_g (lw_at lw_m6 19 rfl) rfl
theorem q1300 : (Jvm.Cond.laysFinal "FewerManModel" "FewerManModel" "bestOrder" "[I") ∈ lw_all := lw_g (lw_at lw_m6 20 rfl) rfl
theorem q1301 : (Jvm.Cond.soleField "FewerManModel" "bestOrder") ∈ lw_all := lw_g (lw_at lw_m6 21 rfl) rfl
theorem q1302 : (Jvm.Cond.lays "FewerManModel" "FewerManModel" "bestWon" "J") ∈ lw_all := lw_g (lw_at lw_m6 22 rfl) rfl
theorem q1303 : (Jvm.Cond.soleField "FewerManModel" "bestWon") ∈ lw_all := lw_g (lw_at lw_m6 23 rfl) rfl
theorem q1304 : (Jvm.Cond.laysFinal "FewerManModel" "FewerManModel" "bodies" "[I") ∈ lw_all := lw_g (lw_at lw_m6 24 rfl) rfl
theorem q1305 : (Jvm.Cond.soleField "FewerManModel" "bodies") ∈ lw_all := lw_g (lw_at lw_m6 25 rfl) rfl
theorem q1306 : (Jvm.Cond.lays "FewerManModel" "FewerManModel" "ran" "I") ∈ lw_all := lw_g (lw_at lw_m6 26 rfl) rfl
theorem q1307 : (Jvm.Cond.soleField "FewerManModel" "ran") ∈ lw_all := lw_g (lw_at lw_m6 27 rfl) rfl
theorem q1308 : (Jvm.Cond.lays "FewerManModel" "FewerManModel" "kind" "I") ∈ lw_all := lw_g (lw_at lw_m6 28 rfl) rfl
theorem q1309 : (Jvm.Cond.soleField "FewerManModel" "kind") ∈ lw_all := lw_g (lw_at lw_m6 29 rfl) rfl
theorem q1310 : (Jvm.Cond.lays "FewerManModel" "FewerManModel" "number" "I") ∈ lw_all := lw_g (lw_at lw_m6 30 rfl) rfl
theorem q1311 : (Jvm.Cond.soleField "FewerManModel" "number") ∈ lw_all := lw_g (lw_at lw_m6 31 rfl) rfl
theorem q1312 : (Jvm.Cond.lays "FewerManModel" "FewerManModel" "tellsV" "I") ∈ lw_all := lw_g (lw_at lw_m6 32 rfl) rfl
theorem q1313 : (Jvm.Cond.soleField "FewerManModel" "tellsV") ∈ lw_all := lw_g (lw_at lw_m6 33 rfl) rfl
theorem q1314 : (Jvm.Cond.superclass "FewerManModel" "java/lang/Object") ∈ lw_all := lw_g (lw_at lw_m6 34 rfl) rfl
theorem q1316 : (Jvm.Cond.instanceMethod ({ cls := "FewerManModel", name := "feed", desc := "(I)I" } : Jvm.MethodName)) ∈ lw_all := lw_g (lw_at lw_m6 36 rfl) rfl
theorem q1317 : (Jvm.Cond.selects "FewerManModel" ({ cls := "FewerManModel", name := "feed", desc := "(I)I" } : Jvm.MethodName) ({ cls := "FewerManModel", name := "feed", desc := "(I)I" } : Jvm.MethodName)) ∈ lw_all := lw_g (lw_at lw_m6 37 rfl) rfl
theorem q1318 : (Jvm.Cond.code ({ cls := "FewerManModel", name := "feed", desc := "(I)I" } : Jvm.MethodName) prog_19_method_8_code (2 : Nat) (Option.some Jvm.ClassFile.FieldType.int)) ∈ lw_all := lw_g (lw_at lw_m6 38 rfl) rfl
theorem q1319 : (Jvm.Cond.methodLink "FewerManModel" (48 : Nat) ({ cls := "FewerManModel", name := "in", desc := "(III)Z" } : Jvm.MethodName)) ∈ lw_all := lw_g (lw_at lw_m6 39 rfl) rfl
theorem q1320 : (Jvm.Cond.static ({ cls := "FewerManModel", name := "in", desc := "(III)Z" } : Jvm.MethodName)) ∈ lw_all := lw_g (lw_at lw_m6 40 rfl) rfl
theorem q1321 : (Jvm.Cond.code ({ cls := "FewerManModel", name := "in", desc := "(III)Z" } : Jvm.MethodName) prog_19_method_3_code (3 : Nat) (Option.some Jvm.ClassFile.FieldType.boolean)) ∈ lw_all := lw_g (lw_at lw_m6 41 rfl) rfl
theorem q1323 : (Jvm.Cond.instanceMethod ({ cls := "FewerManModel", name := "inn", desc := "()I" } : Jvm.MethodName)) ∈ lw_all := lw_g (lw_at lw_m6 43 rfl) rfl
theorem q1324 : (Jvm.Cond.selects "FewerManModel" ({ cls := "FewerManModel", name := "inn", desc := "()I" } : Jvm.MethodName) ({ cls := "FewerManModel", name := "inn", desc := "()I" } : Jvm.MethodName)) ∈ lw_all := lw_g (lw_at lw_m6 44 rfl) rfl
theorem q1325 : (Jvm.Cond.code ({ cls := "FewerManModel", name := "inn", desc := "()I" } : Jvm.MethodName) prog_19_method_22_code (2 : Nat) (Option.some Jvm.ClassFile.FieldType.int)) ∈ lw_all := lw_g (lw_at lw_m6 45 rfl) rfl
theorem q1326 : (Jvm.Cond.methodLink "FewerManModel" (134 : Nat) ({ cls := "FewerManModel", name := "clauseHere", desc := "()V" } : Jvm.MethodName)) ∈ lw_all := lw_g (lw_at lw_m6 46 rfl) rfl
theorem q1327 : (Jvm.Cond.privateMethod ({ cls := "FewerManModel", name := "clauseHere", desc := "()V" } : Jvm.MethodName)) ∈ lw_tbl := lw_at lw_m6 47 rfl
theorem q1328 : (Jvm.Cond.instanceMethod ({ cls := "FewerManModel", name := "clauseHere", desc := "()V" } : Jvm.MethodName)) ∈ lw_all := lw_g (lw_at lw_m6 48 rfl) rfl
theorem q1329 : (Jvm.Cond.code ({ cls := "FewerManModel", name := "clauseHere", desc := "()V" } : Jvm.MethodName) prog_19_method_21_code (1 : Nat) (Option.none : Option Jvm.ClassFile.FieldType)) ∈ lw_all := lw_g (lw_at lw_m6 49 rfl) rfl
theorem q1330 : (Jvm.Cond.methodLink "FewerManModel" (66 : Nat) ({ cls := "FewerManModel", name := "here", desc := "()I" } : Jvm.MethodName)) ∈ lw_all := lw_g (lw_at lw_m6 50 rfl) rfl
theorem q1331 : (Jvm.Cond.privateMethod ({ cls := "FewerManModel", name := "here", desc := "()I" } : Jvm.MethodName)) ∈ lw_tbl := lw_at lw_m6 51 rfl
theorem q1332 : (Jvm.Cond.instanceMethod ({ cls := "FewerManModel", name := "here", desc := "()I" } : Jvm.MethodName)) ∈ lw_all := lw_g (lw_at lw_m6 52 rfl) rfl
theorem q1333 : (Jvm.Cond.code ({ cls := "FewerManModel", name := "here", desc := "()I" } : Jvm.MethodName) prog_19_method_9_code (1 : Nat) (Option.some Jvm.ClassFile.FieldType.int)) ∈ lw_all := lw_g (lw_at lw_m6 53 rfl) rfl
theorem q1334 : (Jvm.Cond.methodLink "FewerManModel" (127 : Nat) ({ cls := "FewerManModel", name := "clauseOfL", desc := "()V" } : Jvm.MethodName)) ∈ lw_all := lw_g (lw_at lw_m6 54 rfl) rfl
theorem q1335 : (Jvm.Cond.privateMethod ({ cls := "FewerManModel", name := "clauseOfL", desc := "()V" } : Jvm.MethodName)) ∈ lw_tbl := lw_at lw_m6 55 rfl
theorem q1336 : (Jvm.Cond.instanceMethod ({ cls := "FewerManModel", name := "clauseOfL", desc := "()V" } : Jvm.MethodName)) ∈ lw_all := lw_g (lw_at lw_m6 56 rfl) rfl
theorem q1337 : (Jvm.Cond.code ({ cls := "FewerManModel", name := "clauseOfL", desc := "()V" } : Jvm.MethodName) prog_19_method_20_code (1 : Nat) (Option.none : Option Jvm.ClassFile.FieldType)) ∈ lw_all := lw_g (lw_at lw_m6 57 rfl) rfl
theorem q1338 : (Jvm.Cond.methodLink "FewerManModel" (79 : Nat) ({ cls := "FewerManModel", name := "must", desc := "(I)V" } : Jvm.MethodName)) ∈ lw_all := lw_g (lw_at lw_m6 58 rfl) rfl
theorem q1339 : (Jvm.Cond.privateMethod ({ cls := "FewerManModel", name := "must", desc := "(I)V" } : Jvm.MethodName)) ∈ lw_tbl := lw_at lw_m6 59 rfl
theorem q1340 : (Jvm.Cond.instanceMethod ({ cls := "FewerManModel", name := "must", desc := "(I)V" } : Jvm.MethodName)) ∈ lw_all := lw_g (lw_at lw_m6 60 rfl) rfl
theorem q1341 : (Jvm.Cond.code ({ cls := "FewerManModel", name := "must", desc := "(I)V" } : Jvm.MethodName) prog_19_method_10_code (2 : Nat) (Option.none : Option Jvm.ClassFile.FieldType)) ∈ lw_all := lw_g (lw_at lw_m6 61 rfl) rfl
theorem q1342 : (Jvm.Cond.stringRef "FewerManModel" (116 : Nat) "ift ") ∈ lw_tbl := lw_at lw_m6 62 rfl
theorem q1343 : (Jvm.Cond.methodLink "FewerManModel" (118 : Nat) ({ cls := "FewerManModel", name := "much", desc := "(ILjava/lang/String;)V" } : Jvm.MethodName)) ∈ lw_all := lw_g (lw_at lw_m6 63 rfl) rfl
theorem q1344 : (Jvm.Cond.privateMethod ({ cls := "FewerManModel", name := "much", desc := "(ILjava/lang/String;)V" } : Jvm.MethodName)) ∈ lw_tbl := lw_at lw_m6 64 rfl
theorem q1345 : (Jvm.Cond.instanceMethod ({ cls := "FewerManModel", name := "much", desc := "(ILjava/lang/String;)V" } : Jvm.MethodName)) ∈ lw_all := lw_g (lw_at lw_m6 65 rfl) rfl
theorem q1346 : (Jvm.Cond.code ({ cls := "FewerManModel", name := "much", desc := "(ILjava/lang/String;)V" } : Jvm.MethodName) prog_19_method_18_code (4 : Nat) (Option.none : Option Jvm.ClassFile.FieldType)) ∈ lw_all := lw_g (lw_at lw_m6 66 rfl) rfl
theorem q1347 : (Jvm.Cond.methodLink "FewerManModel" (112 : Nat) ({ cls := "FewerManModel", name := "spells", desc := "(Ljava/lang/String;)V" } : Jvm.MethodName)) ∈ lw_all := lw_g (lw_at lw_m6 67 rfl) rfl
theorem q1348 : (Jvm.Cond.privateMethod ({ cls := "FewerManModel", name := "spells", desc := "(Ljava/lang/String;)V" } : Jvm.MethodName)) ∈ lw_tbl := lw_at lw_m6 68 rfl
theorem q1349 : (Jvm.Cond.instanceMethod ({ cls := "FewerManModel", name := "spells", desc := "(Ljava/lang/String;)V" } : Jvm.MethodName)) ∈ lw_all := lw_g (lw_at lw_m6 69 rfl) rfl
theorem q1350 : (Jvm.Cond.code ({ cls := "FewerManModel", name := "spells", desc := "(Ljava/lang/String;)V" } : Jvm.MethodName) prog_19_method_11_code (3 : Nat) (Option.none : Option Jvm.ClassFile.FieldType)) ∈ lw_all := lw_g (lw_at lw_m6 70 rfl) rfl
theorem q1351 : (Jvm.Cond.methodLink "FewerManModel" (70 : Nat) ({ cls := "java/lang/String", name := "length", desc := "()I" } : Jvm.MethodName)) ∈ lw_all := lw_g (lw_at lw_m6 71 rfl) rfl
theorem q1361 : (Jvm.Cond.methodLink "FewerManModel" (75 : Nat) ({ cls := "java/lang/String", name := "charAt", desc := "(I)C" } : Jvm.MethodName)) ∈ lw_all := lw_g (lw_at lw_m6 81 rfl) rfl
theorem q1397 : (Jvm.Cond.methodLink "FewerManModel" (106 : Nat) ({ cls := "FewerManModel", name := "figures", desc := "()I" } : Jvm.MethodName)) ∈ lw_all := lw_g (lw_at lw_m6 117 rfl) rfl
theorem q1398 : (Jvm.Cond.privateMethod ({ cls := "FewerManModel", name := "figures", desc := "()I" } : Jvm.MethodName)) ∈ lw_tbl := lw_at lw_m6 118 rfl
theorem q1399 : (Jvm.Cond.instanceMethod ({ cls := "FewerManModel", name := "figures", desc := "()I" } : Jvm.MethodName)) ∈ lw_all := lw_g (lw_at lw_m6 119 rfl) rfl
theorem q1400 : (Jvm.Cond.code ({ cls := "FewerManModel", name := "figures", desc := "()I" } : Jvm.MethodName) prog_19_method_12_code (3 : Nat) (Option.some Jvm.ClassFile.FieldType.int)) ∈ lw_all := lw_g (lw_at lw_m6 120 rfl) rfl
theorem q1401 : (Jvm.Cond.methodLink "FewerManModel" (95 : Nat) ({ cls := "FewerManModel", name := "some", desc := "()V" } : Jvm.MethodName)) ∈ lw_all := lw_g (lw_at lw_m6 121 rfl) rfl
theorem q1402 : (Jvm.Cond.privateMethod ({ cls := "FewerManModel", name := "some", desc := "()V" } : Jvm.MethodName)) ∈ lw_tbl := lw_at lw_m6 122 rfl
theorem q1403 : (Jvm.Cond.instanceMethod ({ cls := "FewerManModel", name := "some", desc := "()V" } : Jvm.MethodName)) ∈ lw_all := lw_g (lw_at lw_m6 123 rfl) rfl
theorem q1404 : (Jvm.Cond.code ({ cls := "FewerManModel", name := "some", desc := "()V" } : Jvm.MethodName) prog_19_method_17_code (1 : Nat) (Option.none : Option Jvm.ClassFile.FieldType)) ∈ lw_all := lw_g (lw_at lw_m6 124 rfl) rfl
theorem q1405 : (Jvm.Cond.methodLink "FewerManModel" (109 : Nat) ({ cls := "FewerManModel", name := "every", desc := "()V" } : Jvm.MethodName)) ∈ lw_all := lw_g (lw_at lw_m6 125 rfl) rfl
theorem q1406 : (Jvm.Cond.privateMethod ({ cls := "FewerManModel", name := "every", desc := "()V" } : Jvm.MethodName)) ∈ lw_tbl := lw_at lw_m6 126 rfl
theorem q1407 : (Jvm.Cond.instanceMethod ({ cls := "FewerManModel", name := "every", desc := "()V" } : Jvm.MethodName)) ∈ lw_all := lw_g (lw_at lw_m6 127 rfl) rfl
theorem q1408 : (Jvm.Cond.code ({ cls := "FewerManModel", name := "every", desc := "()V" } : Jvm.MethodName) prog_19_method_16_code (1 : Nat) (Option.none : Option Jvm.ClassFile.FieldType)) ∈ lw_all := lw_g (lw_at lw_m6 128 rfl) rfl
theorem q1409 : (Jvm.Cond.methodLink "FewerManModel" (89 : Nat) ({ cls := "FewerManModel", name := "factor", desc := "()V" } : Jvm.MethodName)) ∈ lw_all := lw_g (lw_at lw_m6 129 rfl) rfl
theorem q1410 : (Jvm.Cond.privateMethod ({ cls := "FewerManModel", name := "factor", desc := "()V" } : Jvm.MethodName)) ∈ lw_tbl := lw_at lw_m6 130 rfl
theorem q1411 : (Jvm.Cond.instanceMethod ({ cls := "FewerManModel", name := "factor", desc := "()V" } : Jvm.MethodName)) ∈ lw_all := lw_g (lw_at lw_m6 131 rfl) rfl
theorem q1412 : (Jvm.Cond.code ({ cls := "FewerManModel", name := "factor", desc := "()V" } : Jvm.MethodName) prog_19_method_15_code (5 : Nat) (Option.none : Option Jvm.ClassFile.FieldType)) ∈ lw_all := lw_g (lw_at lw_m6 132 rfl) rfl
theorem q1413 : (Jvm.Cond.methodLink "FewerManModel" (92 : Nat) ({ cls := "FewerManModel", name := "emits", desc := "(I)V" } : Jvm.MethodName)) ∈ lw_all := lw_g (lw_at lw_m6 133 rfl) rfl
theorem q1414 : (Jvm.Cond.privateMethod ({ cls := "FewerManModel", name := "emits", desc := "(I)V" } : Jvm.MethodName)) ∈ lw_tbl := lw_at lw_m6 134 rfl
theorem q1415 : (Jvm.Cond.instanceMethod ({ cls := "FewerManModel", name := "emits", desc := "(I)V" } : Jvm.MethodName)) ∈ lw_all := lw_g (lw_at lw_m6 135 rfl) rfl
theorem q1416 : (Jvm.Cond.code ({ cls := "FewerManModel", name := "emits", desc := "(I)V" } : Jvm.MethodName) prog_19_method_14_code (2 : Nat) (Option.none : Option Jvm.ClassFile.FieldType)) ∈ lw_all := lw_g (lw_at lw_m6 136 rfl) rfl
theorem q1417 : (Jvm.Cond.stringRef "FewerManModel" (98 : Nat) "pkmog") ∈ lw_tbl := lw_at lw_m6 137 rfl
theorem q1418 : (Jvm.Cond.methodLink "FewerManModel" (100 : Nat) ({ cls := "FewerManModel", name := "among", desc := "(Ljava/lang/String;)I" } : Jvm.MethodName)) ∈ lw_all := lw_g (lw_at lw_m6 138 rfl) rfl
theorem q1419 : (Jvm.Cond.privateMethod ({ cls := "FewerManModel", name := "among", desc := "(Ljava/lang/String;)I" } : Jvm.MethodName)) ∈ lw_tbl := lw_at lw_m6 139 rfl
theorem q1420 : (Jvm.Cond.instanceMethod ({ cls := "FewerManModel", name := "among", desc := "(Ljava/lang/String;)I" } : Jvm.MethodName)) ∈ lw_all := lw_g (lw_at lw_m6 140 rfl) rfl
theorem q1421 : (Jvm.Cond.code ({ cls := "FewerManModel", name := "among", desc := "(Ljava/lang/String;)I" } : Jvm.MethodName) prog_19_method_13_code (3 : Nat) (Option.some Jvm.ClassFile.FieldType.int)) ∈ lw_all := lw_g (lw_at lw_m6 141 rfl) rfl
theorem q1422 : (Jvm.Cond.stringRef "FewerManModel" (104 : Nat) "<=>") ∈ lw_tbl := lw_at lw_m6 142 rfl
theorem q1423 : (Jvm.Cond.stringRef "FewerManModel" (122 : Nat) "ess ") ∈ lw_tbl := lw_at lw_m6 143 rfl
theorem q1424 : (Jvm.Cond.methodLink "FewerManModel" (124 : Nat) ({ cls := "FewerManModel", name := "tellsHere", desc := "(ILjava/lang/String;)V" } : Jvm.MethodName)) ∈ lw_all := lw_g (lw_at lw_m6 144 rfl) rfl
theorem q1425 : (Jvm.Cond.privateMethod ({ cls := "FewerManModel", name := "tellsHere", desc := "(ILjava/lang/String;)V" } : Jvm.MethodName)) ∈ lw_tbl := lw_at lw_m6 145 rfl
theorem q1426 : (Jvm.Cond.instanceMethod ({ cls := "FewerManModel", name := "tellsHere", desc := "(ILjava/lang/String;)V" } : Jvm.MethodName)) ∈ lw_all := lw_g (lw_at lw_m6 146 rfl) rfl
theorem q1427 : (Jvm.Cond.code ({ cls := "FewerManModel", name := "tellsHere", desc := "(ILjava/lang/String;)V" } : Jvm.MethodName) prog_19_method_19_code (4 : Nat) (Option.none : Option Jvm.ClassFile.FieldType)) ∈ lw_all := lw_g (lw_at lw_m6 147 rfl) rfl
theorem q1428 : (Jvm.Cond.stringRef "FewerManModel" (130 : Nat) "duck ") ∈ lw_tbl := lw_at lw_m6 148 rfl
theorem q1429 : (Jvm.Cond.stringRef "FewerManModel" (132 : Nat) "more ") ∈ lw_tbl := lw_at lw_m6 149 rfl
theorem q1431 : (Jvm.Cond.instanceMethod ({ cls := "FewerManModel", name := "player", desc := "(II)I" } : Jvm.MethodName)) ∈ lw_all := lw_g (lw_at lw_m6 151 rfl) rfl
theorem q1432 : (Jvm.Cond.selects "FewerManModel" ({ cls := "FewerManModel", name := "player", desc := "(II)I" } : Jvm.MethodName) ({ cls := "FewerManModel", name := "player", desc := "(II)I" } : Jvm.MethodName)) ∈ lw_all := lw_g (lw_at lw_m6 152 rfl) rfl
theorem q1433 : (Jvm.Cond.code ({ cls := "FewerManModel", name := "player", desc := "(II)I" } : Jvm.MethodName) prog_19_method_24_code (5 : Nat) (Option.some Jvm.ClassFile.FieldType.int)) ∈ lw_all := lw_g (lw_at lw_m6 153 rfl) rfl
theorem q1435 : (Jvm.Cond.instanceMethod ({ cls := "FewerManModel", name := "of", desc := "(II)I" } : Jvm.MethodName)) ∈ lw_all := lw_g (lw_at lw_m6 155 rfl) rfl
theorem q1436 : (Jvm.Cond.selects "FewerManModel" ({ cls := "FewerManModel", name := "of", desc := "(II)I" } : Jvm.MethodName) ({ cls := "FewerManModel", name := "of", desc := "(II)I" } : Jvm.MethodName)) ∈ lw_all := lw_g (lw_at lw_m6 156 rfl) rfl
theorem q1437 : (Jvm.Cond.code ({ cls := "FewerManModel", name := "of", desc := "(II)I" } : Jvm.MethodName) prog_19_method_25_code (3 : Nat) (Option.some Jvm.ClassFile.FieldType.int)) ∈ lw_all := lw_g (lw_at lw_m6 157 rfl) rfl
theorem q1438 : (Jvm.Cond.methodLink "FewerManModel" (52 : Nat) ({ cls := "FewerManModel", name := "isPlayer", desc := "(I)Z" } : Jvm.MethodName)) ∈ lw_all := lw_g (lw_at lw_m6 158 rfl) rfl
theorem q1439 : (Jvm.Cond.privateMethod ({ cls := "FewerManModel", name := "isPlayer", desc := "(I)Z" } : Jvm.MethodName)) ∈ lw_tbl := lw_at lw_m6 159 rfl
theorem q1440 : (Jvm.Cond.instanceMethod ({ cls := "FewerManModel", name := "isPlayer", desc := "(I)Z" } : Jvm.MethodName)) ∈ lw_all := lw_g (lw_at lw_m6 160 rfl) rfl
theorem q1441 : (Jvm.Cond.code ({ cls := "FewerManModel", name := "isPlayer", desc := "(I)Z" } : Jvm.MethodName) prog_19_method_4_code (2 : Nat) (Option.some Jvm.ClassFile.FieldType.boolean)) ∈ lw_all := lw_g (lw_at lw_m6 161 rfl) rfl
theorem q1443 : (Jvm.Cond.instanceMethod ({ cls := "FewerManModel", name := "men", desc := "(II)I" } : Jvm.MethodName)) ∈ lw_all := lw_g (lw_at lw_m6 163 rfl) rfl
theorem q1444 : (Jvm.Cond.selects "FewerManModel" ({ cls := "FewerManModel", name := "men", desc := "(II)I" } : Jvm.MethodName) ({ cls := "FewerManModel", name := "men", desc := "(II)I" } : Jvm.MethodName)) ∈ lw_all := lw_g (lw_at lw_m6 164 rfl) rfl
theorem q1445 : (Jvm.Cond.code ({ cls := "FewerManModel", name := "men", desc := "(II)I" } : Jvm.MethodName) prog_19_method_26_code (4 : Nat) (Option.some Jvm.ClassFile.FieldType.int)) ∈ lw_all := lw_g (lw_at lw_m6 165 rfl) rfl
theorem q1447 : (Jvm.Cond.instanceMethod ({ cls := "FewerManModel", name := "row", desc := "(III)I" } : Jvm.MethodName)) ∈ lw_all := lw_g (lw_at lw_m6 167 rfl) rfl
theorem q1448 : (Jvm.Cond.selects "FewerManModel" ({ cls := "FewerManModel", name := "row", desc := "(III)I" } : Jvm.MethodName) ({ cls := "FewerManModel", name := "row", desc := "(III)I" } : Jvm.MethodName)) ∈ lw_all := lw_g (lw_at lw_m6 168 rfl) rfl
theorem q1449 : (Jvm.Cond.code ({ cls := "FewerManModel", name := "row", desc := "(III)I" } : Jvm.MethodName) prog_19_method_27_code (5 : Nat) (Option.some Jvm.ClassFile.FieldType.int)) ∈ lw_all := lw_g (lw_at lw_m6 169 rfl) rfl
theorem q1451 : (Jvm.Cond.instanceMethod ({ cls := "FewerManModel", name := "told", desc := "(I)I" } : Jvm.MethodName)) ∈ lw_all := lw_g (lw_at lw_m6 171 rfl) rfl
theorem q1452 : (Jvm.Cond.selects "FewerManModel" ({ cls := "FewerManModel", name := "told", desc := "(I)I" } : Jvm.MethodName) ({ cls := "FewerManModel", name := "told", desc := "(I)I" } : Jvm.MethodName)) ∈ lw_all := lw_g (lw_at lw_m6 172 rfl) rfl
theorem q1453 : (Jvm.Cond.code ({ cls := "FewerManModel", name := "told", desc := "(I)I" } : Jvm.MethodName) prog_19_method_28_code (2 : Nat) (Option.some Jvm.ClassFile.FieldType.int)) ∈ lw_all := lw_g (lw_at lw_m6 173 rfl) rfl
theorem q1454 : (Jvm.Cond.methodLink "FewerManModel" (137 : Nat) ({ cls := "FewerManModel", name := "tellsOf", desc := "(I)I" } : Jvm.MethodName)) ∈ lw_all := lw_g (lw_at lw_m6 174 rfl) rfl
theorem q1455 : (Jvm.Cond.privateMethod ({ cls := "FewerManModel", name := "tellsOf", desc := "(I)I" } : Jvm.MethodName)) ∈ lw_tbl := lw_at lw_m6 175 rfl
theorem q1456 : (Jvm.Cond.instanceMethod ({ cls := "FewerManModel", name := "tellsOf", desc := "(I)I" } : Jvm.MethodName)) ∈ lw_all := lw_g (lw_at lw_m6 176 rfl) rfl
theorem q1457 : (Jvm.Cond.code ({ cls := "FewerManModel", name := "tellsOf", desc := "(I)I" } : Jvm.MethodName) prog_19_method_23_code (2 : Nat) (Option.some Jvm.ClassFile.FieldType.int)) ∈ lw_all := lw_g (lw_at lw_m6 177 rfl) rfl
theorem q1459 : (Jvm.Cond.instanceMethod ({ cls := "FewerManModel", name := "push", desc := "(II)I" } : Jvm.MethodName)) ∈ lw_all := lw_g (lw_at lw_m6 179 rfl) rfl
theorem q1460 : (Jvm.Cond.selects "FewerManModel" ({ cls := "FewerManModel", name := "push", desc := "(II)I" } : Jvm.MethodName) ({ cls := "FewerManModel", name := "push", desc := "(II)I" } : Jvm.MethodName)) ∈ lw_all := lw_g (lw_at lw_m6 180 rfl) rfl
theorem q1461 : (Jvm.Cond.code ({ cls := "FewerManModel", name := "push", desc := "(II)I" } : Jvm.MethodName) prog_19_method_32_code (3 : Nat) (Option.some Jvm.ClassFile.FieldType.int)) ∈ lw_all := lw_g (lw_at lw_m6 181 rfl) rfl
theorem q1462 : (Jvm.Cond.methodLink "FewerManModel" (145 : Nat) ({ cls := "FewerManModel", name := "pushOf", desc := "(II)I" } : Jvm.MethodName)) ∈ lw_all := lw_g (lw_at lw_m6 182 rfl) rfl
theorem q1463 : (Jvm.Cond.privateMethod ({ cls := "FewerManModel", name := "pushOf", desc := "(II)I" } : Jvm.MethodName)) ∈ lw_tbl := lw_at lw_m6 183 rfl
theorem q1464 : (Jvm.Cond.instanceMethod ({ cls := "FewerManModel", name := "pushOf", desc := "(II)I" } : Jvm.MethodName)) ∈ lw_all := lw_g (lw_at lw_m6 184 rfl) rfl
theorem q1465 : (Jvm.Cond.code ({ cls := "FewerManModel", name := "pushOf", desc := "(II)I" } : Jvm.MethodName) prog_19_method_30_code (8 : Nat) (Option.some Jvm.ClassFile.FieldType.int)) ∈ lw_all := lw_g (lw_at lw_m6 185 rfl) rfl
theorem q1466 : (Jvm.Cond.methodLink "FewerManModel" (141 : Nat) ({ cls := "FewerManModel", name := "lifted", desc := "(II)I" } : Jvm.MethodName)) ∈ lw_all := lw_g (lw_at lw_m6 186 rfl) rfl
theorem q1467 : (Jvm.Cond.privateMethod ({ cls := "FewerManModel", name := "lifted", desc := "(II)I" } : Jvm.MethodName)) ∈ lw_tbl := lw_at lw_m6 187 rfl
theorem q1468 : (Jvm.Cond.instanceMethod ({ cls := "FewerManModel", name := "lifted", desc := "(II)I" } : Jvm.MethodName)) ∈ lw_all := lw_g (lw_at lw_m6 188 rfl) rfl
theorem q1469 : (Jvm.Cond.code ({ cls := "FewerManModel", name := "lifted", desc := "(II)I" } : Jvm.MethodName) prog_19_method_29_code (12 : Nat) (Option.some Jvm.ClassFile.FieldType.int)) ∈ lw_all := lw_g (lw_at lw_m6 189 rfl) rfl
theorem q1471 : (Jvm.Cond.instanceMethod ({ cls := "FewerManModel", name := "odds", desc := "(II)I" } : Jvm.MethodName)) ∈ lw_all := lw_g (lw_at lw_m6 191 rfl) rfl
theorem q1472 : (Jvm.Cond.selects "FewerManModel" ({ cls := "FewerManModel", name := "odds", desc := "(II)I" } : Jvm.MethodName) ({ cls := "FewerManModel", name := "odds", desc := "(II)I" } : Jvm.MethodName)) ∈ lw_all := lw_g (lw_at lw_m6 192 rfl) rfl
theorem q1473 : (Jvm.Cond.code ({ cls := "FewerManModel", name := "odds", desc := "(II)I" } : Jvm.MethodName) prog_19_method_33_code (3 : Nat) (Option.some Jvm.ClassFile.FieldType.int)) ∈ lw_all := lw_g (lw_at lw_m6 193 rfl) rfl
theorem q1474 : (Jvm.Cond.methodLink "FewerManModel" (148 : Nat) ({ cls := "FewerManModel", name := "oddsOf", desc := "(II)I" } : Jvm.MethodName)) ∈ lw_all := lw_g (lw_at lw_m6 194 rfl) rfl
theorem q1475 : (Jvm.Cond.privateMethod ({ cls := "FewerManModel", name := "oddsOf", desc := "(II)I" } : Jvm.MethodName)) ∈ lw_tbl := lw_at lw_m6 195 rfl
theorem q1476 : (Jvm.Cond.instanceMethod ({ cls := "FewerManModel", name := "oddsOf", desc := "(II)I" } : Jvm.MethodName)) ∈ lw_all := lw_g (lw_at lw_m6 196 rfl) rfl
theorem q1477 : (Jvm.Cond.code ({ cls := "FewerManModel", name := "oddsOf", desc := "(II)I" } : Jvm.MethodName) prog_19_method_31_code (4 : Nat) (Option.some Jvm.ClassFile.FieldType.int)) ∈ lw_all := lw_g (lw_at lw_m6 197 rfl) rfl
theorem q1479 : (Jvm.Cond.instanceMethod ({ cls := "FewerManModel", name := "play", desc := "(IIZ)I" } : Jvm.MethodName)) ∈ lw_all := lw_g (lw_at lw_m6 199 rfl) rfl
theorem q1480 : (Jvm.Cond.selects "FewerManModel" ({ cls := "FewerManModel", name := "play", desc := "(IIZ)I" } : Jvm.MethodName) ({ cls := "FewerManModel", name := "play", desc := "(IIZ)I" } : Jvm.MethodName)) ∈ lw_all := lw_g (lw_at lw_m6 200 rfl) rfl
theorem q1481 : (Jvm.Cond.code ({ cls := "FewerManModel", name := "play", desc := "(IIZ)I" } : Jvm.MethodName) prog_19_method_37_code (4 : Nat) (Option.some Jvm.ClassFile.FieldType.int)) ∈ lw_all := lw_g (lw_at lw_m6 201 rfl) rfl
theorem q1482 : (Jvm.Cond.methodLink "FewerManModel" (157 : Nat) ({ cls := "FewerManModel", name := "plays", desc := "(II)V" } : Jvm.MethodName)) ∈ lw_all := lw_g (lw_at lw_m6 202 rfl) rfl
theorem q1483 : (Jvm.Cond.privateMethod ({ cls := "FewerManModel", name := "plays", desc := "(II)V" } : Jvm.MethodName)) ∈ lw_tbl := lw_at lw_m6 203 rfl
theorem q1484 : (Jvm.Cond.instanceMethod ({ cls := "FewerManModel", name := "plays", desc := "(II)V" } : Jvm.MethodName)) ∈ lw_all := lw_g (lw_at lw_m6 204 rfl) rfl
theorem q1485 : (Jvm.Cond.code ({ cls := "FewerManModel", name := "plays", desc := "(II)V" } : Jvm.MethodName) prog_19_method_36_code (3 : Nat) (Option.none : Option Jvm.ClassFile.FieldType)) ∈ lw_all := lw_g (lw_at lw_m6 205 rfl) rfl
theorem q1486 : (Jvm.Cond.methodLink "FewerManModel" (151 : Nat) ({ cls := "FewerManModel", name := "fewer", desc := "(I)I" } : Jvm.MethodName)) ∈ lw_all := lw_g (lw_at lw_m6 206 rfl) rfl
theorem q1487 : (Jvm.Cond.privateMethod ({ cls := "FewerManModel", name := "fewer", desc := "(I)I" } : Jvm.MethodName)) ∈ lw_tbl := lw_at lw_m6 207 rfl
theorem q1488 : (Jvm.Cond.instanceMethod ({ cls := "FewerManModel", name := "fewer", desc := "(I)I" } : Jvm.MethodName)) ∈ lw_all := lw_g (lw_at lw_m6 208 rfl) rfl
theorem q1489 : (Jvm.Cond.code ({ cls := "FewerManModel", name := "fewer", desc := "(I)I" } : Jvm.MethodName) prog_19_method_34_code (3 : Nat) (Option.some Jvm.ClassFile.FieldType.int)) ∈ lw_all := lw_g (lw_at lw_m6 209 rfl) rfl
theorem q1490 : (Jvm.Cond.methodLink "FewerManModel" (154 : Nat) ({ cls := "FewerManModel", name := "moreOf", desc := "(I)I" } : Jvm.MethodName)) ∈ lw_all := lw_g (lw_at lw_m6 210 rfl) rfl
theorem q1491 : (Jvm.Cond.privateMethod ({ cls := "FewerManModel", name := "moreOf", desc := "(I)I" } : Jvm.MethodName)) ∈ lw_tbl := lw_at lw_m6 211 rfl
theorem q1492 : (Jvm.Cond.instanceMethod ({ cls := "FewerManModel", name := "moreOf", desc := "(I)I" } : Jvm.MethodName)) ∈ lw_all := lw_g (lw_at lw_m6 212 rfl) rfl
theorem q1493 : (Jvm.Cond.code ({ cls := "FewerManModel", name := "moreOf", desc := "(I)I" } : Jvm.MethodName) prog_19_method_35_code (3 : Nat) (Option.some Jvm.ClassFile.FieldType.int)) ∈ lw_all := lw_g (lw_at lw_m6 213 rfl) rfl
theorem q1495 : (Jvm.Cond.instanceMethod ({ cls := "FewerManModel", name := "wins", desc := "(IIIII)J" } : Jvm.MethodName)) ∈ lw_all := lw_g (lw_at lw_m6 215 rfl) rfl
theorem q1496 : (Jvm.Cond.selects "FewerManModel" ({ cls := "FewerManModel", name := "wins", desc := "(IIIII)J" } : Jvm.MethodName) ({ cls := "FewerManModel", name := "wins", desc := "(IIIII)J" } : Jvm.MethodName)) ∈ lw_all := lw_g (lw_at lw_m6 216 rfl) rfl
theorem q1497 : (Jvm.Cond.code ({ cls := "FewerManModel", name := "wins", desc := "(IIIII)J" } : Jvm.MethodName) prog_19_method_43_code (9 : Nat) (Option.some Jvm.ClassFile.FieldType.long)) ∈ lw_all := lw_g (lw_at lw_m6 217 rfl) rfl
theorem q1498 : (Jvm.Cond.methodLink "FewerManModel" (180 : Nat) ({ cls := "FewerManModel", name := "areTwo", desc := "(II)Z" } : Jvm.MethodName)) ∈ lw_all := lw_g (lw_at lw_m6 218 rfl) rfl
theorem q1499 : (Jvm.Cond.privateMethod ({ cls := "FewerManModel", name := "areTwo", desc := "(II)Z" } : Jvm.MethodName)) ∈ lw_tbl := lw_at lw_m6 219 rfl
theorem q1500 : (Jvm.Cond.instanceMethod ({ cls := "FewerManModel", name := "areTwo", desc := "(II)Z" } : Jvm.MethodName)) ∈ lw_all := lw_g (lw_at lw_m6 220 rfl) rfl
theorem q1501 : (Jvm.Cond.code ({ cls := "FewerManModel", name := "areTwo", desc := "(II)Z" } : Jvm.MethodName) prog_19_method_5_code (3 : Nat) (Option.some Jvm.ClassFile.FieldType.boolean)) ∈ lw_all := lw_g (lw_at lw_m6 221 rfl) rfl
theorem q1502 : (Jvm.Cond.constantLong "FewerManModel" (184 : Nat) (-9223372036854775808 : Int64)) ∈ lw_all := lw_g (lw_at lw_m6 222 rfl) rfl
theorem q1503 : (Jvm.Cond.methodLink "FewerManModel" (186 : Nat) ({ cls := "FewerManModel", name := "gamesOn", desc := "(IIIZ)V" } : Jvm.MethodName)) ∈ lw_all := lw_g (lw_at lw_m6 223 rfl) rfl
theorem q1504 : (Jvm.Cond.privateMethod ({ cls := "FewerManModel", name := "gamesOn", desc := "(IIIZ)V" } : Jvm.MethodName)) ∈ lw_tbl := lw_at lw_m6 224 rfl
theorem q1505 : (Jvm.Cond.instanceMethod ({ cls := "FewerManModel", name := "gamesOn", desc := "(IIIZ)V" } : Jvm.MethodName)) ∈ lw_all := lw_g (lw_at lw_m6 225 rfl) rfl
theorem q1506 : (Jvm.Cond.code ({ cls := "FewerManModel", name := "gamesOn", desc := "(IIIZ)V" } : Jvm.MethodName) prog_19_method_41_code (6 : Nat) (Option.none : Option Jvm.ClassFile.FieldType)) ∈ lw_all := lw_g (lw_at lw_m6 226 rfl) rfl
theorem q1507 : (Jvm.Cond.methodLink "FewerManModel" (167 : Nat) ({ cls := "FewerManModel", name := "keeps", desc := "()V" } : Jvm.MethodName)) ∈ lw_all := lw_g (lw_at lw_m6 227 rfl) rfl
theorem q1508 : (Jvm.Cond.privateMethod ({ cls := "FewerManModel", name := "keeps", desc := "()V" } : Jvm.MethodName)) ∈ lw_tbl := lw_at lw_m6 228 rfl
theorem q1509 : (Jvm.Cond.instanceMethod ({ cls := "FewerManModel", name := "keeps", desc := "()V" } : Jvm.MethodName)) ∈ lw_all := lw_g (lw_at lw_m6 229 rfl) rfl
theorem q1510 : (Jvm.Cond.code ({ cls := "FewerManModel", name := "keeps", desc := "()V" } : Jvm.MethodName) prog_19_method_6_code (2 : Nat) (Option.none : Option Jvm.ClassFile.FieldType)) ∈ lw_all := lw_g (lw_at lw_m6 230 rfl) rfl
theorem q1511 : (Jvm.Cond.methodLink "FewerManModel" (170 : Nat) ({ cls := "FewerManModel", name := "beginsTwo", desc := "(II)V" } : Jvm.MethodName)) ∈ lw_all := lw_g (lw_at lw_m6 231 rfl) rfl
theorem q1512 : (Jvm.Cond.privateMethod ({ cls := "FewerManModel", name := "beginsTwo", desc := "(II)V" } : Jvm.MethodName)) ∈ lw_tbl := lw_at lw_m6 232 rfl
theorem q1513 : (Jvm.Cond.instanceMethod ({ cls := "FewerManModel", name := "beginsTwo", desc := "(II)V" } : Jvm.MethodName)) ∈ lw_all := lw_g (lw_at lw_m6 233 rfl) rfl
theorem q1514 : (Jvm.Cond.code ({ cls := "FewerManModel", name := "beginsTwo", desc := "(II)V" } : Jvm.MethodName) prog_19_method_39_code (4 : Nat) (Option.none : Option Jvm.ClassFile.FieldType)) ∈ lw_all := lw_g (lw_at lw_m6 234 rfl) rfl
theorem q1515 : (Jvm.Cond.methodLink "FewerManModel" (173 : Nat) ({ cls := "FewerManModel", name := "gameOn", desc := "(IIZ)V" } : Jvm.MethodName)) ∈ lw_all := lw_g (lw_at lw_m6 235 rfl) rfl
theorem q1516 : (Jvm.Cond.privateMethod ({ cls := "FewerManModel", name := "gameOn", desc := "(IIZ)V" } : Jvm.MethodName)) ∈ lw_tbl := lw_at lw_m6 236 rfl
theorem q1517 : (Jvm.Cond.instanceMethod ({ cls := "FewerManModel", name := "gameOn", desc := "(IIZ)V" } : Jvm.MethodName)) ∈ lw_all := lw_g (lw_at lw_m6 237 rfl) rfl
theorem q1518 : (Jvm.Cond.code ({ cls := "FewerManModel", name := "gameOn", desc := "(IIZ)V" } : Jvm.MethodName) prog_19_method_40_code (7 : Nat) (Option.none : Option Jvm.ClassFile.FieldType)) ∈ lw_all := lw_g (lw_at lw_m6 238 rfl) rfl
theorem q1519 : (Jvm.Cond.constantLong "FewerManModel" (161 : Nat) (10 : Int64)) ∈ lw_all := lw_g (lw_at lw_m6 239 rfl) rfl
theorem q1520 : (Jvm.Cond.methodLink "FewerManModel" (177 : Nat) ({ cls := "FewerManModel", name := "goesBack", desc := "()V" } : Jvm.MethodName)) ∈ lw_all := lw_g (lw_at lw_m7 0 rfl) rfl
theorem q1521 : (Jvm.Cond.privateMethod ({ cls := "FewerManModel", name := "goesBack", desc := "()V" } : Jvm.MethodName)) ∈ lw_tbl := lw_at lw_m7 1 rfl
theorem q1522 : (Jvm.Cond.instanceMethod ({ cls := "FewerManModel", name := "goesBack", desc := "()V" } : Jvm.MethodName)) ∈ lw_all := lw_g (lw_at lw_m7 2 rfl) rfl
theorem q1523 : (Jvm.Cond.code ({ cls := "FewerManModel", name := "goesBack", desc := "()V" } : Jvm.MethodName) prog_19_method_7_code (2 : Nat) (Option.none : Option Jvm.ClassFile.FieldType)) ∈ lw_all := lw_g (lw_at lw_m7 3 rfl) rfl
theorem q1524 : (Jvm.Cond.methodLink "FewerManModel" (190 : Nat) ({ cls := "FewerManModel", name := "tens", desc := "(I)J" } : Jvm.MethodName)) ∈ lw_all := lw_g (lw_at lw_m7 4 rfl) rfl
theorem q1525 : (Jvm.Cond.static ({ cls := "FewerManModel", name := "tens", desc := "(I)J" } : Jvm.MethodName)) ∈ lw_all := lw_g (lw_at lw_m7 5 rfl) rfl
theorem q1526 : (Jvm.Cond.code ({ cls := "FewerManModel", name := "tens", desc := "(I)J" } : Jvm.MethodName) prog_19_method_38_code (4 : Nat) (Option.some Jvm.ClassFile.FieldType.long)) ∈ lw_all := lw_g (lw_at lw_m7 6 rfl) rfl
theorem q1527 : (Jvm.Cond.methodLink "FewerManModel" (194 : Nat) ({ cls := "FewerManModel", name := "lowest", desc := "(JJI)J" } : Jvm.MethodName)) ∈ lw_all := lw_g (lw_at lw_m7 7 rfl) rfl
theorem q1528 : (Jvm.Cond.static ({ cls := "FewerManModel", name := "lowest", desc := "(JJI)J" } : Jvm.MethodName)) ∈ lw_all := lw_g (lw_at lw_m7 8 rfl) rfl
theorem q1529 : (Jvm.Cond.code ({ cls := "FewerManModel", name := "lowest", desc := "(JJI)J" } : Jvm.MethodName) prog_19_method_42_code (11 : Nat) (Option.some Jvm.ClassFile.FieldType.long)) ∈ lw_all := lw_g (lw_at lw_m7 9 rfl) rfl
theorem q1531 : (Jvm.Cond.instanceMethod ({ cls := "FewerManModel", name := "mean", desc := "(IIII)J" } : Jvm.MethodName)) ∈ lw_all := lw_g (lw_at lw_m7 11 rfl) rfl
theorem q1532 : (Jvm.Cond.selects "FewerManModel" ({ cls := "FewerManModel", name := "mean", desc := "(IIII)J" } : Jvm.MethodName) ({ cls := "FewerManModel", name := "mean", desc := "(IIII)J" } : Jvm.MethodName)) ∈ lw_all := lw_g (lw_at lw_m7 12 rfl) rfl
theorem q1533 : (Jvm.Cond.code ({ cls := "FewerManModel", name := "mean", desc := "(IIII)J" } : Jvm.MethodName) prog_19_method_44_code (8 : Nat) (Option.some Jvm.ClassFile.FieldType.long)) ∈ lw_all := lw_g (lw_at lw_m7 13 rfl) rfl
theorem q1535 : (Jvm.Cond.instanceMethod ({ cls := "FewerManModel", name := "series", desc := "(IIII)J" } : Jvm.MethodName)) ∈ lw_all := lw_g (lw_at lw_m7 15 rfl) rfl
theorem q1536 : (Jvm.Cond.selects "FewerManModel" ({ cls := "FewerManModel", name := "series", desc := "(IIII)J" } : Jvm.MethodName) ({ cls := "FewerManModel", name := "series", desc := "(IIII)J" } : Jvm.MethodName)) ∈ lw_all := lw_g (lw_at lw_m7 16 rfl) rfl
theorem q1537 : (Jvm.Cond.code ({ cls := "FewerManModel", name := "series", desc := "(IIII)J" } : Jvm.MethodName) prog_19_method_46_code (5 : Nat) (Option.some Jvm.ClassFile.FieldType.long)) ∈ lw_all := lw_g (lw_at lw_m7 17 rfl) rfl
theorem q1538 : (Jvm.Cond.methodLink "FewerManModel" (198 : Nat) ({ cls := "FewerManModel", name := "firsts", desc := "(IIIII)J" } : Jvm.MethodName)) ∈ lw_all := lw_g (lw_at lw_m7 18 rfl) rfl
theorem q1539 : (Jvm.Cond.privateMethod ({ cls := "FewerManModel", name := "firsts", desc := "(IIIII)J" } : Jvm.MethodName)) ∈ lw_tbl := lw_at lw_m7 19 rfl
theorem q1540 : (Jvm.Cond.instanceMethod ({ cls := "FewerManModel", name := "firsts", desc := "(IIIII)J" } : Jvm.MethodName)) ∈ lw_all := lw_g (lw_at lw_m7 20 rfl) rfl
theorem q1541 : (Jvm.Cond.code ({ cls := "FewerManModel", name := "firsts", desc := "(IIIII)J" } : Jvm.MethodName) prog_19_method_45_code (12 : Nat) (Option.some Jvm.ClassFile.FieldType.long)) ∈ lw_all := lw_g (lw_at lw_m7 21 rfl) rfl
theorem q1543 : (Jvm.Cond.instanceMethod ({ cls := "FewerManModel", name := "ends", desc := "(IIII)J" } : Jvm.MethodName)) ∈ lw_all := lw_g (lw_at lw_m7 23 rfl) rfl
theorem q1544 : (Jvm.Cond.selects "FewerManModel" ({ cls := "FewerManModel", name := "ends", desc := "(IIII)J" } : Jvm.MethodName) ({ cls := "FewerManModel", name := "ends", desc := "(IIII)J" } : Jvm.MethodName)) ∈ lw_all := lw_g (lw_at lw_m7 24 rfl) rfl
theorem q1545 : (Jvm.Cond.code ({ cls := "FewerManModel", name := "ends", desc := "(IIII)J" } : Jvm.MethodName) prog_19_method_47_code (8 : Nat) (Option.some Jvm.ClassFile.FieldType.long)) ∈ lw_all := lw_g (lw_at lw_m7 25 rfl) rfl
theorem q1547 : (Jvm.Cond.instanceMethod ({ cls := "FewerManModel", name := "stakes", desc := "(IIII)J" } : Jvm.MethodName)) ∈ lw_all := lw_g (lw_at lw_m7 27 rfl) rfl
theorem q1548 : (Jvm.Cond.selects "FewerManModel" ({ cls := "FewerManModel", name := "stakes", desc := "(IIII)J" } : Jvm.MethodName) ({ cls := "FewerManModel", name := "stakes", desc := "(IIII)J" } : Jvm.MethodName)) ∈ lw_all := lw_g (lw_at lw_m7 28 rfl) rfl
theorem q1549 : (Jvm.Cond.code ({ cls := "FewerManModel", name := "stakes", desc := "(IIII)J" } : Jvm.MethodName) prog_19_method_48_code (5 : Nat) (Option.some Jvm.ClassFile.FieldType.long)) ∈ lw_all := lw_g (lw_at lw_m7 29 rfl) rfl
theorem q1551 : (Jvm.Cond.instanceMethod ({ cls := "FewerManModel", name := "even", desc := "(II)I" } : Jvm.MethodName)) ∈ lw_all := lw_g (lw_at lw_m7 31 rfl) rfl
theorem q1552 : (Jvm.Cond.selects "FewerManModel" ({ cls := "FewerManModel", name := "even", desc := "(II)I" } : Jvm.MethodName) ({ cls := "FewerManModel", name := "even", desc := "(II)I" } : Jvm.MethodName)) ∈ lw_all := lw_g (lw_at lw_m7 32 rfl) rfl
theorem q1553 : (Jvm.Cond.code ({ cls := "FewerManModel", name := "even", desc := "(II)I" } : Jvm.MethodName) prog_19_method_49_code (8 : Nat) (Option.some Jvm.ClassFile.FieldType.int)) ∈ lw_all := lw_g (lw_at lw_m7 33 rfl) rfl
theorem q1555 : (Jvm.Cond.instanceMethod ({ cls := "FewerManModel", name := "purpose", desc := "(IIII)J" } : Jvm.MethodName)) ∈ lw_all := lw_g (lw_at lw_m7 35 rfl) rfl
theorem q1556 : (Jvm.Cond.selects "FewerManModel" ({ cls := "FewerManModel", name := "purpose", desc := "(IIII)J" } : Jvm.MethodName) ({ cls := "FewerManModel", name := "purpose", desc := "(IIII)J" } : Jvm.MethodName)) ∈ lw_all := lw_g (lw_at lw_m7 36 rfl) rfl
theorem q1557 : (Jvm.Cond.code ({ cls := "FewerManModel", name := "purpose", desc := "(IIII)J" } : Jvm.MethodName) prog_19_method_51_code (5 : Nat) (Option.some Jvm.ClassFile.FieldType.long)) ∈ lw_all := lw_g (lw_at lw_m7 37 rfl) rfl
theorem q1558 : (Jvm.Cond.methodLink "FewerManModel" (205 : Nat) ({ cls := "FewerManModel", name := "bestFor", desc := "(III)J" } : Jvm.MethodName)) ∈ lw_all := lw_g (lw_at lw_m7 38 rfl) rfl
theorem q1559 : (Jvm.Cond.privateMethod ({ cls := "FewerManModel", name := "bestFor", desc := "(III)J" } : Jvm.MethodName)) ∈ lw_tbl := lw_at lw_m7 39 rfl
theorem q1560 : (Jvm.Cond.instanceMethod ({ cls := "FewerManModel", name := "bestFor", desc := "(III)J" } : Jvm.MethodName)) ∈ lw_all := lw_g (lw_at lw_m7 40 rfl) rfl
theorem q1561 : (Jvm.Cond.code ({ cls := "FewerManModel", name := "bestFor", desc := "(III)J" } : Jvm.MethodName) prog_19_method_50_code (13 : Nat) (Option.some Jvm.ClassFile.FieldType.long)) ∈ lw_all := lw_g (lw_at lw_m7 41 rfl) rfl
theorem q1563 : (Jvm.Cond.instanceMethod ({ cls := "FewerManModel", name := "loses", desc := "(III)I" } : Jvm.MethodName)) ∈ lw_all := lw_g (lw_at lw_m7 43 rfl) rfl
theorem q1564 : (Jvm.Cond.selects "FewerManModel" ({ cls := "FewerManModel", name := "loses", desc := "(III)I" } : Jvm.MethodName) ({ cls := "FewerManModel", name := "loses", desc := "(III)I" } : Jvm.MethodName)) ∈ lw_all := lw_g (lw_at lw_m7 44 rfl) rfl
theorem q1565 : (Jvm.Cond.code ({ cls := "FewerManModel", name := "loses", desc := "(III)I" } : Jvm.MethodName) prog_19_method_52_code (4 : Nat) (Option.some Jvm.ClassFile.FieldType.int)) ∈ lw_all := lw_g (lw_at lw_m7 45 rfl) rfl
theorem q1567 : (Jvm.Cond.instanceMethod ({ cls := "FewerManModel", name := "order", desc := "(III)I" } : Jvm.MethodName)) ∈ lw_all := lw_g (lw_at lw_m7 47 rfl) rfl
theorem q1568 : (Jvm.Cond.selects "FewerManModel" ({ cls := "FewerManModel", name := "order", desc := "(III)I" } : Jvm.MethodName) ({ cls := "FewerManModel", name := "order", desc := "(III)I" } : Jvm.MethodName)) ∈ lw_all := lw_g (lw_at lw_m7 48 rfl) rfl
theorem q1569 : (Jvm.Cond.code ({ cls := "FewerManModel", name := "order", desc := "(III)I" } : Jvm.MethodName) prog_19_method_57_code (4 : Nat) (Option.some Jvm.ClassFile.FieldType.int)) ∈ lw_all := lw_g (lw_at lw_m7 49 rfl) rfl
theorem q1570 : (Jvm.Cond.methodLink "FewerManModel" (221 : Nat) ({ cls := "FewerManModel", name := "isSet", desc := "(II)Z" } : Jvm.MethodName)) ∈ lw_all := lw_g (lw_at lw_m7 50 rfl) rfl
theorem q1571 : (Jvm.Cond.privateMethod ({ cls := "FewerManModel", name := "isSet", desc := "(II)Z" } : Jvm.MethodName)) ∈ lw_tbl := lw_at lw_m7 51 rfl
theorem q1572 : (Jvm.Cond.instanceMethod ({ cls := "FewerManModel", name := "isSet", desc := "(II)Z" } : Jvm.MethodName)) ∈ lw_all := lw_g (lw_at lw_m7 52 rfl) rfl
theorem q1573 : (Jvm.Cond.code ({ cls := "FewerManModel", name := "isSet", desc := "(II)Z" } : Jvm.MethodName) prog_19_method_55_code (3 : Nat) (Option.some Jvm.ClassFile.FieldType.boolean)) ∈ lw_all := lw_g (lw_at lw_m7 53 rfl) rfl
theorem q1574 : (Jvm.Cond.methodLink "FewerManModel" (224 : Nat) ({ cls := "FewerManModel", name := "looksForOrder", desc := "(II)V" } : Jvm.MethodName)) ∈ lw_all := lw_g (lw_at lw_m7 54 rfl) rfl
theorem q1575 : (Jvm.Cond.privateMethod ({ cls := "FewerManModel", name := "looksForOrder", desc := "(II)V" } : Jvm.MethodName)) ∈ lw_tbl := lw_at lw_m7 55 rfl
theorem q1576 : (Jvm.Cond.instanceMethod ({ cls := "FewerManModel", name := "looksForOrder", desc := "(II)V" } : Jvm.MethodName)) ∈ lw_all := lw_g (lw_at lw_m7 56 rfl) rfl
theorem q1577 : (Jvm.Cond.code ({ cls := "FewerManModel", name := "looksForOrder", desc := "(II)V" } : Jvm.MethodName) prog_19_method_56_code (3 : Nat) (Option.none : Option Jvm.ClassFile.FieldType)) ∈ lw_all := lw_g (lw_at lw_m7 57 rfl) rfl
theorem q1578 : (Jvm.Cond.constantLong "FewerManModel" (219 : Nat) (-1 : Int64)) ∈ lw_all := lw_g (lw_at lw_m7 58 rfl) rfl
theorem q1579 : (Jvm.Cond.methodLink "FewerManModel" (215 : Nat) ({ cls := "FewerManModel", name := "ordersFrom", desc := "(III)V" } : Jvm.MethodName)) ∈ lw_all := lw_g (lw_at lw_m7 59 rfl) rfl
theorem q1580 : (Jvm.Cond.privateMethod ({ cls := "FewerManModel", name := "ordersFrom", desc := "(III)V" } : Jvm.MethodName)) ∈ lw_tbl := lw_at lw_m7 60 rfl
theorem q1581 : (Jvm.Cond.instanceMethod ({ cls := "FewerManModel", name := "ordersFrom", desc := "(III)V" } : Jvm.MethodName)) ∈ lw_all := lw_g (lw_at lw_m7 61 rfl) rfl
theorem q1582 : (Jvm.Cond.code ({ cls := "FewerManModel", name := "ordersFrom", desc := "(III)V" } : Jvm.MethodName) prog_19_method_54_code (7 : Nat) (Option.none : Option Jvm.ClassFile.FieldType)) ∈ lw_all := lw_g (lw_at lw_m7 62 rfl) rfl
theorem q1583 : (Jvm.Cond.methodLink "FewerManModel" (209 : Nat) ({ cls := "FewerManModel", name := "wonBy", desc := "(III)J" } : Jvm.MethodName)) ∈ lw_all := lw_g (lw_at lw_m7 63 rfl) rfl
theorem q1584 : (Jvm.Cond.privateMethod ({ cls := "FewerManModel", name := "wonBy", desc := "(III)J" } : Jvm.MethodName)) ∈ lw_tbl := lw_at lw_m7 64 rfl
theorem q1585 : (Jvm.Cond.instanceMethod ({ cls := "FewerManModel", name := "wonBy", desc := "(III)J" } : Jvm.MethodName)) ∈ lw_all := lw_g (lw_at lw_m7 65 rfl) rfl
theorem q1586 : (Jvm.Cond.code ({ cls := "FewerManModel", name := "wonBy", desc := "(III)J" } : Jvm.MethodName) prog_19_method_53_code (9 : Nat) (Option.some Jvm.ClassFile.FieldType.long)) ∈ lw_all := lw_g (lw_at lw_m7 66 rfl) rfl
theorem q1588 : (Jvm.Cond.instanceMethod ({ cls := "FewerManModel", name := "orderMean", desc := "(III)J" } : Jvm.MethodName)) ∈ lw_all := lw_g (lw_at lw_m7 68 rfl) rfl
theorem q1589 : (Jvm.Cond.selects "FewerManModel" ({ cls := "FewerManModel", name := "orderMean", desc := "(III)J" } : Jvm.MethodName) ({ cls := "FewerManModel", name := "orderMean", desc := "(III)J" } : Jvm.MethodName)) ∈ lw_all := lw_g (lw_at lw_m7 69 rfl) rfl
theorem q1590 : (Jvm.Cond.code ({ cls := "FewerManModel", name := "orderMean", desc := "(III)J" } : Jvm.MethodName) prog_19_method_58_code (6 : Nat) (Option.some Jvm.ClassFile.FieldType.long)) ∈ lw_all := lw_g (lw_at lw_m7 70 rfl) rfl
theorem q1592 : (Jvm.Cond.instanceMethod ({ cls := "FewerManModel", name := "table", desc := "(III)J" } : Jvm.MethodName)) ∈ lw_all := lw_g (lw_at lw_m7 72 rfl) rfl
theorem q1593 : (Jvm.Cond.selects "FewerManModel" ({ cls := "FewerManModel", name := "table", desc := "(III)J" } : Jvm.MethodName) ({ cls := "FewerManModel", name := "table", desc := "(III)J" } : Jvm.MethodName)) ∈ lw_all := lw_g (lw_at lw_m7 73 rfl) rfl
theorem q1594 : (Jvm.Cond.code ({ cls := "FewerManModel", name := "table", desc := "(III)J" } : Jvm.MethodName) prog_19_method_61_code (6 : Nat) (Option.some Jvm.ClassFile.FieldType.long)) ∈ lw_all := lw_g (lw_at lw_m7 74 rfl) rfl
theorem q1595 : (Jvm.Cond.methodLink "FewerManModel" (231 : Nat) ({ cls := "FewerManModel", name := "tables", desc := "(IIIIII)J" } : Jvm.MethodName)) ∈ lw_all := lw_g (lw_at lw_m7 75 rfl) rfl
theorem q1596 : (Jvm.Cond.privateMethod ({ cls := "FewerManModel", name := "tables", desc := "(IIIIII)J" } : Jvm.MethodName)) ∈ lw_tbl := lw_at lw_m7 76 rfl
theorem q1597 : (Jvm.Cond.instanceMethod ({ cls := "FewerManModel", name := "tables", desc := "(IIIIII)J" } : Jvm.MethodName)) ∈ lw_all := lw_g (lw_at lw_m7 77 rfl) rfl
theorem q1598 : (Jvm.Cond.code ({ cls := "FewerManModel", name := "tables", desc := "(IIIIII)J" } : Jvm.MethodName) prog_19_method_59_code (12 : Nat) (Option.some Jvm.ClassFile.FieldType.long)) ∈ lw_all := lw_g (lw_at lw_m7 78 rfl) rfl
theorem q1599 : (Jvm.Cond.methodLink "FewerManModel" (227 : Nat) ({ cls := "FewerManModel", name := "nextTable", desc := "(IIIIII)J" } : Jvm.MethodName)) ∈ lw_all := lw_g (lw_at lw_m7 79 rfl) rfl
theorem q1600 : (Jvm.Cond.privateMethod ({ cls := "FewerManModel", name := "nextTable", desc := "(IIIIII)J" } : Jvm.MethodName)) ∈ lw_tbl := lw_at lw_m7 80 rfl
theorem q1601 : (Jvm.Cond.instanceMethod ({ cls := "FewerManModel", name := "nextTable", desc := "(IIIIII)J" } : Jvm.MethodName)) ∈ lw_all := lw_g (lw_at lw_m7 81 rfl) rfl
theorem q1602 : (Jvm.Cond.code ({ cls := "FewerManModel", name := "nextTable", desc := "(IIIIII)J" } : Jvm.MethodName) prog_19_method_60_code (9 : Nat) (Option.some Jvm.ClassFile.FieldType.long)) ∈ lw_all := lw_g (lw_at lw_m7 82 rfl) rfl
theorem q1604 : (Jvm.Cond.instanceMethod ({ cls := "FewerManModel", name := "book", desc := "(IIZ)I" } : Jvm.MethodName)) ∈ lw_all := lw_g (lw_at lw_m7 84 rfl) rfl
theorem q1605 : (Jvm.Cond.selects "FewerManModel" ({ cls := "FewerManModel", name := "book", desc := "(IIZ)I" } : Jvm.MethodName) ({ cls := "FewerManModel", name := "book", desc := "(IIZ)I" } : Jvm.MethodName)) ∈ lw_all := lw_g (lw_at lw_m7 85 rfl) rfl
theorem q1606 : (Jvm.Cond.code ({ cls := "FewerManModel", name := "book", desc := "(IIZ)I" } : Jvm.MethodName) prog_19_method_62_code (4 : Nat) (Option.some Jvm.ClassFile.FieldType.int)) ∈ lw_all := lw_g (lw_at lw_m7 86 rfl) rfl
theorem q1608 : (Jvm.Cond.instanceMethod ({ cls := "FewerManModel", name := "likely", desc := "(I)I" } : Jvm.MethodName)) ∈ lw_all := lw_g (lw_at lw_m7 88 rfl) rfl
theorem q1609 : (Jvm.Cond.selects "FewerManModel" ({ cls := "FewerManModel", name := "likely", desc := "(I)I" } : Jvm.MethodName) ({ cls := "FewerManModel", name := "likely", desc := "(I)I" } : Jvm.MethodName)) ∈ lw_all := lw_g (lw_at lw_m7 89 rfl) rfl
theorem q1610 : (Jvm.Cond.code ({ cls := "FewerManModel", name := "likely", desc := "(I)I" } : Jvm.MethodName) prog_19_method_64_code (11 : Nat) (Option.some Jvm.ClassFile.FieldType.int)) ∈ lw_all := lw_g (lw_at lw_m7 90 rfl) rfl
theorem q1611 : (Jvm.Cond.methodLink "FewerManModel" (234 : Nat) ({ cls := "FewerManModel", name := "booksGame", desc := "(I)V" } : Jvm.MethodName)) ∈ lw_all := lw_g (lw_at lw_m7 91 rfl) rfl
theorem q1612 : (Jvm.Cond.privateMethod ({ cls := "FewerManModel", name := "booksGame", desc := "(I)V" } : Jvm.MethodName)) ∈ lw_tbl := lw_at lw_m7 92 rfl
theorem q1613 : (Jvm.Cond.instanceMethod ({ cls := "FewerManModel", name := "booksGame", desc := "(I)V" } : Jvm.MethodName)) ∈ lw_all := lw_g (lw_at lw_m7 93 rfl) rfl
theorem q1614 : (Jvm.Cond.code ({ cls := "FewerManModel", name := "booksGame", desc := "(I)V" } : Jvm.MethodName) prog_19_method_63_code (5 : Nat) (Option.none : Option Jvm.ClassFile.FieldType)) ∈ lw_all := lw_g (lw_at lw_m7 94 rfl) rfl
theorem q1616 : (Jvm.Cond.instanceMethod ({ cls := "FewerManModel", name := "says", desc := "(I)I" } : Jvm.MethodName)) ∈ lw_all := lw_g (lw_at lw_m7 96 rfl) rfl
theorem q1617 : (Jvm.Cond.selects "FewerManModel" ({ cls := "FewerManModel", name := "says", desc := "(I)I" } : Jvm.MethodName) ({ cls := "FewerManModel", name := "says", desc := "(I)I" } : Jvm.MethodName)) ∈ lw_all := lw_g (lw_at lw_m7 97 rfl) rfl
theorem q1618 : (Jvm.Cond.code ({ cls := "FewerManModel", name := "says", desc := "(I)I" } : Jvm.MethodName) prog_19_method_65_code (3 : Nat) (Option.some Jvm.ClassFile.FieldType.int)) ∈ lw_all := lw_g (lw_at lw_m7 98 rfl) rfl
theorem q1620 : (Jvm.Cond.instanceMethod ({ cls := "FewerManModel", name := "tale", desc := "(I)I" } : Jvm.MethodName)) ∈ lw_all := lw_g (lw_at lw_m7 100 rfl) rfl
theorem q1621 : (Jvm.Cond.selects "FewerManModel" ({ cls := "FewerManModel", name := "tale", desc := "(I)I" } : Jvm.MethodName) ({ cls := "FewerManModel", name := "tale", desc := "(I)I" } : Jvm.MethodName)) ∈ lw_all := lw_g (lw_at lw_m7 101 rfl) rfl
theorem q1622 : (Jvm.Cond.code ({ cls := "FewerManModel", name := "tale", desc := "(I)I" } : Jvm.MethodName) prog_19_method_66_code (2 : Nat) (Option.some Jvm.ClassFile.FieldType.int)) ∈ lw_all := lw_g (lw_at lw_m7 102 rfl) rfl
theorem q1624 : (Jvm.Cond.instanceMethod ({ cls := "FewerManModel", name := "looked", desc := "()I" } : Jvm.MethodName)) ∈ lw_all := lw_g (lw_at lw_m7 104 rfl) rfl
theorem q1625 : (Jvm.Cond.selects "FewerManModel" ({ cls := "FewerManModel", name := "looked", desc := "()I" } : Jvm.MethodName) ({ cls := "FewerManModel", name := "looked", desc := "()I" } : Jvm.MethodName)) ∈ lw_all := lw_g (lw_at lw_m7 105 rfl) rfl
theorem q1626 : (Jvm.Cond.code ({ cls := "FewerManModel", name := "looked", desc := "()I" } : Jvm.MethodName) prog_19_method_67_code (3 : Nat) (Option.some Jvm.ClassFile.FieldType.int)) ∈ lw_all := lw_g (lw_at lw_m7 106 rfl) rfl
theorem q1628 : (Jvm.Cond.instanceMethod ({ cls := "FewerManModel", name := "act", desc := "(III)I" } : Jvm.MethodName)) ∈ lw_all := lw_g (lw_at lw_m7 108 rfl) rfl
theorem q1629 : (Jvm.Cond.selects "FewerManModel" ({ cls := "FewerManModel", name := "act", desc := "(III)I" } : Jvm.MethodName) ({ cls := "FewerManModel", name := "act", desc := "(III)I" } : Jvm.MethodName)) ∈ lw_all := lw_g (lw_at lw_m7 109 rfl) rfl
theorem q1630 : (Jvm.Cond.code ({ cls := "FewerManModel", name := "act", desc := "(III)I" } : Jvm.MethodName) prog_19_method_76_code (4 : Nat) (Option.some Jvm.ClassFile.FieldType.int)) ∈ lw_all := lw_g (lw_at lw_m7 110 rfl) rfl
theorem q1631 : (Jvm.Cond.methodLink "FewerManModel" (255 : Nat) ({ cls := "FewerManModel", name := "movesActs", desc := "(I)I" } : Jvm.MethodName)) ∈ lw_all := lw_g (lw_at lw_m7 111 rfl) rfl
theorem q1632 : (Jvm.Cond.privateMethod ({ cls := "FewerManModel", name := "movesActs", desc := "(I)I" } : Jvm.MethodName)) ∈ lw_tbl := lw_at lw_m7 112 rfl
theorem q1633 : (Jvm.Cond.instanceMethod ({ cls := "FewerManModel", name := "movesActs", desc := "(I)I" } : Jvm.MethodName)) ∈ lw_all := lw_g (lw_at lw_m7 113 rfl) rfl
theorem q1634 : (Jvm.Cond.code ({ cls := "FewerManModel", name := "movesActs", desc := "(I)I" } : Jvm.MethodName) prog_19_method_71_code (2 : Nat) (Option.some Jvm.ClassFile.FieldType.int)) ∈ lw_all := lw_g (lw_at lw_m7 114 rfl) rfl
theorem q1635 : (Jvm.Cond.methodLink "FewerManModel" (249 : Nat) ({ cls := "FewerManModel", name := "isUnder", desc := "(II)Z" } : Jvm.MethodName)) ∈ lw_all := lw_g (lw_at lw_m7 115 rfl) rfl
theorem q1636 : (Jvm.Cond.static ({ cls := "FewerManModel", name := "isUnder", desc := "(II)Z" } : Jvm.MethodName)) ∈ lw_all := lw_g (lw_at lw_m7 116 rfl) rfl
theorem q1637 : (Jvm.Cond.code ({ cls := "FewerManModel", name := "isUnder", desc := "(II)Z" } : Jvm.MethodName) prog_19_method_69_code (2 : Nat) (Option.some Jvm.ClassFile.FieldType.boolean)) ∈ lw_all := lw_g (lw_at lw_m7 117 rfl) rfl
theorem q1638 : (Jvm.Cond.methodLink "FewerManModel" (240 : Nat) ({ cls := "FewerManModel", name := "ranBody", desc := "(I)V" } : Jvm.MethodName)) ∈ lw_all := lw_g (lw_at lw_m7 118 rfl) rfl
theorem q1639 : (Jvm.Cond.privateMethod ({ cls := "FewerManModel", name := "ranBody", desc := "(I)V" } : Jvm.MethodName)) ∈ lw_tbl := lw_at lw_m7 119 rfl
theorem q1640 : (Jvm.Cond.instanceMethod ({ cls := "FewerManModel", name := "ranBody", desc := "(I)V" } : Jvm.MethodName)) ∈ lw_all := lw_g (lw_at lw_m7 120 rfl) rfl
theorem q1641 : (Jvm.Cond.code ({ cls := "FewerManModel", name := "ranBody", desc := "(I)V" } : Jvm.MethodName) prog_19_method_68_code (2 : Nat) (Option.none : Option Jvm.ClassFile.FieldType)) ∈ lw_all := lw_g (lw_at lw_m7 121 rfl) rfl
theorem q1642 : (Jvm.Cond.methodLink "FewerManModel" (252 : Nat) ({ cls := "FewerManModel", name := "plainMoves", desc := "(I)I" } : Jvm.MethodName)) ∈ lw_all := lw_g (lw_at lw_m7 122 rfl) rfl
theorem q1643 : (Jvm.Cond.privateMethod ({ cls := "FewerManModel", name := "plainMoves", desc := "(I)I" } : Jvm.MethodName)) ∈ lw_tbl := lw_at lw_m7 123 rfl
theorem q1644 : (Jvm.Cond.instanceMethod ({ cls := "FewerManModel", name := "plainMoves", desc := "(I)I" } : Jvm.MethodName)) ∈ lw_all := lw_g (lw_at lw_m7 124 rfl) rfl
theorem q1645 : (Jvm.Cond.code ({ cls := "FewerManModel", name := "plainMoves", desc := "(I)I" } : Jvm.MethodName) prog_19_method_70_code (2 : Nat) (Option.some Jvm.ClassFile.FieldType.int)) ∈ lw_all := lw_g (lw_at lw_m7 125 rfl) rfl
theorem q1646 : (Jvm.Cond.methodLink "FewerManModel" (264 : Nat) ({ cls := "FewerManModel", name := "betsActs", desc := "(I)I" } : Jvm.MethodName)) ∈ lw_all := lw_g (lw_at lw_m7 126 rfl) rfl
theorem q1647 : (Jvm.Cond.privateMethod ({ cls := "FewerManModel", name := "betsActs", desc := "(I)I" } : Jvm.MethodName)) ∈ lw_tbl := lw_at lw_m7 127 rfl
theorem q1648 : (Jvm.Cond.instanceMethod ({ cls := "FewerManModel", name := "betsActs", desc := "(I)I" } : Jvm.MethodName)) ∈ lw_all := lw_g (lw_at lw_m7 128 rfl) rfl
theorem q1649 : (Jvm.Cond.code ({ cls := "FewerManModel", name := "betsActs", desc := "(I)I" } : Jvm.MethodName) prog_19_method_73_code (2 : Nat) (Option.some Jvm.ClassFile.FieldType.int)) ∈ lw_all := lw_g (lw_at lw_m7 129 rfl) rfl
theorem q1650 : (Jvm.Cond.methodLink "FewerManModel" (261 : Nat) ({ cls := "FewerManModel", name := "plainBets", desc := "(I)I" } : Jvm.MethodName)) ∈ lw_all := lw_g (lw_at lw_m7 130 rfl) rfl
theorem q1651 : (Jvm.Cond.privateMethod ({ cls := "FewerManModel", name := "plainBets", desc := "(I)I" } : Jvm.MethodName)) ∈ lw_tbl := lw_at lw_m7 131 rfl
theorem q1652 : (Jvm.Cond.instanceMethod ({ cls := "FewerManModel", name := "plainBets", desc := "(I)I" } : Jvm.MethodName)) ∈ lw_all := lw_g (lw_at lw_m7 132 rfl) rfl
theorem q1653 : (Jvm.Cond.code ({ cls := "FewerManModel", name := "plainBets", desc := "(I)I" } : Jvm.MethodName) prog_19_method_72_code (2 : Nat) (Option.some Jvm.ClassFile.FieldType.int)) ∈ lw_all := lw_g (lw_at lw_m7 133 rfl) rfl
theorem q1654 : (Jvm.Cond.methodLink "FewerManModel" (270 : Nat) ({ cls := "FewerManModel", name := "tellsActs", desc := "(I)I" } : Jvm.MethodName)) ∈ lw_all := lw_g (lw_at lw_m7 134 rfl) rfl
theorem q1655 : (Jvm.Cond.privateMethod ({ cls := "FewerManModel", name := "tellsActs", desc := "(I)I" } : Jvm.MethodName)) ∈ lw_tbl := lw_at lw_m7 135 rfl
theorem q1656 : (Jvm.Cond.instanceMethod ({ cls := "FewerManModel", name := "tellsActs", desc := "(I)I" } : Jvm.MethodName)) ∈ lw_all := lw_g (lw_at lw_m7 136 rfl) rfl
theorem q1657 : (Jvm.Cond.code ({ cls := "FewerManModel", name := "tellsActs", desc := "(I)I" } : Jvm.MethodName) prog_19_method_75_code (3 : Nat) (Option.some Jvm.ClassFile.FieldType.int)) ∈ lw_all := lw_g (lw_at lw_m7 137 rfl) rfl
theorem q1658 : (Jvm.Cond.methodLink "FewerManModel" (267 : Nat) ({ cls := "FewerManModel", name := "plainTells", desc := "(I)I" } : Jvm.MethodName)) ∈ lw_all := lw_g (lw_at lw_m7 138 rfl) rfl
theorem q1659 : (Jvm.Cond.privateMethod ({ cls := "FewerManModel", name := "plainTells", desc := "(I)I" } : Jvm.MethodName)) ∈ lw_tbl := lw_at lw_m7 139 rfl
theorem q1660 : (Jvm.Cond.instanceMethod ({ cls := "FewerManModel", name := "plainTells", desc := "(I)I" } : Jvm.MethodName)) ∈ lw_all := lw_g (lw_at lw_m7 140 rfl) rfl
theorem q1661 : (Jvm.Cond.code ({ cls := "FewerManModel", name := "plainTells", desc := "(I)I" } : Jvm.MethodName) prog_19_method_74_code (2 : Nat) (Option.some Jvm.ClassFile.FieldType.int)) ∈ lw_all := lw_g (lw_at lw_m7 141 rfl) rfl
theorem q1663 : (Jvm.Cond.instanceMethod ({ cls := "FewerManModel", name := "trace", desc := "(I)I" } : Jvm.MethodName)) ∈ lw_all := lw_g (lw_at lw_m7 143 rfl) rfl
theorem q1664 : (Jvm.Cond.selects "FewerManModel" ({ cls := "FewerManModel", name := "trace", desc := "(I)I" } : Jvm.MethodName) ({ cls := "FewerManModel", name := "trace", desc := "(I)I" } : Jvm.MethodName)) ∈ lw_all := lw_g (lw_at lw_m7 144 rfl) rfl
theorem q1665 : (Jvm.Cond.code ({ cls := "FewerManModel", name := "trace", desc := "(I)I" } : Jvm.MethodName) prog_19_method_77_code (2 : Nat) (Option.some Jvm.ClassFile.FieldType.int)) ∈ lw_all := lw_g (lw_at lw_m7 145 rfl) rfl
theorem q1667 : (Jvm.Cond.instanceMethod ({ cls := "FewerManModel", name := "as", desc := "(II)I" } : Jvm.MethodName)) ∈ lw_all := lw_g (lw_at lw_m7 147 rfl) rfl
theorem q1668 : (Jvm.Cond.selects "FewerManModel" ({ cls := "FewerManModel", name := "as", desc := "(II)I" } : Jvm.MethodName) ({ cls := "FewerManModel", name := "as", desc := "(II)I" } : Jvm.MethodName)) ∈ lw_all := lw_g (lw_at lw_m7 148 rfl) rfl
theorem q1669 : (Jvm.Cond.code ({ cls := "FewerManModel", name := "as", desc := "(II)I" } : Jvm.MethodName) prog_19_method_78_code (3 : Nat) (Option.some Jvm.ClassFile.FieldType.int)) ∈ lw_all := lw_g (lw_at lw_m7 149 rfl) rfl
theorem q1671 : (Jvm.Cond.instanceMethod ({ cls := "FewerManModel", name := "image", desc := "()I" } : Jvm.MethodName)) ∈ lw_all := lw_g (lw_at lw_m7 151 rfl) rfl
theorem q1672 : (Jvm.Cond.selects "FewerManModel" ({ cls := "FewerManModel", name := "image", desc := "()I" } : Jvm.MethodName) ({ cls := "FewerManModel", name := "image", desc := "()I" } : Jvm.MethodName)) ∈ lw_all := lw_g (lw_at lw_m7 152 rfl) rfl
theorem q1673 : (Jvm.Cond.code ({ cls := "FewerManModel", name := "image", desc := "()I" } : Jvm.MethodName) prog_19_method_79_code (2 : Nat) (Option.some Jvm.ClassFile.FieldType.int)) ∈ lw_all := lw_g (lw_at lw_m7 153 rfl) rfl
theorem q1675 : (Jvm.Cond.instanceMethod ({ cls := "FewerManModel", name := "undo", desc := "()I" } : Jvm.MethodName)) ∈ lw_all := lw_g (lw_at lw_m7 155 rfl) rfl
theorem q1676 : (Jvm.Cond.selects "FewerManModel" ({ cls := "FewerManModel", name := "undo", desc := "()I" } : Jvm.MethodName) ({ cls := "FewerManModel", name := "undo", desc := "()I" } : Jvm.MethodName)) ∈ lw_all := lw_g (lw_at lw_m7 156 rfl) rfl
theorem q1677 : (Jvm.Cond.code ({ cls := "FewerManModel", name := "undo", desc := "()I" } : Jvm.MethodName) prog_19_method_80_code (2 : Nat) (Option.some Jvm.ClassFile.FieldType.int)) ∈ lw_all := lw_g (lw_at lw_m7 157 rfl) rfl
theorem q1679 : (Jvm.Cond.instanceMethod ({ cls := "FewerManModel", name := "count", desc := "(I)I" } : Jvm.MethodName)) ∈ lw_all := lw_g (lw_at lw_m7 159 rfl) rfl
theorem q1680 : (Jvm.Cond.selects "FewerManModel" ({ cls := "FewerManModel", name := "count", desc := "(I)I" } : Jvm.MethodName) ({ cls := "FewerManModel", name := "count", desc := "(I)I" } : Jvm.MethodName)) ∈ lw_all := lw_g (lw_at lw_m7 160 rfl) rfl
theorem q1681 : (Jvm.Cond.code ({ cls := "FewerManModel", name := "count", desc := "(I)I" } : Jvm.MethodName) prog_19_method_81_code (2 : Nat) (Option.some Jvm.ClassFile.FieldType.int)) ∈ lw_all := lw_g (lw_at lw_m7 161 rfl) rfl
theorem q1701 : (Jvm.Cond.castable "FewerManModel" "java/lang/Object") ∈ lw_tbl := lw_at lw_m7 181 rfl
theorem in_X4 : ∀ w ∈ wsX40, w ∈ lw_all := lw_in wsX40 [1266, 1268, 1270, 1272, 1274, 1276, 1278, 1280, 1282, 1284, 1286, 1288, 1290, 1292, 1294, 1296, 1298, 1300, 1302, 1304, 1306, 1308, 1310, 1312] (by decide +kernel) (by decide +kernel)
