/-! FewerMan -/
set_option maxRecDepth 100000
def RX0 : String := "FewerMan"
def TX0 : u_T := fun k => match k with
  | 0 => ("FewerMan", "tape", "[B", true)
  | 1 => ("FewerMan", "taped", "I", false)
  | 2 => ("FewerMan", "inns", "I", false)
  | 3 => ("FewerMan", "game", "I", false)
  | 4 => ("FewerMan", "inn", "LFewerMan$Inn;", false)
  | 5 => ("FewerMan", "reader", "LFewerMan$Reader;", true)
  | 6 => ("FewerMan", "moment", "LFewerMan$Moment;", true)
  | 7 => ("FewerMan", "ran", "I", false)
  | 8 => ("FewerMan", "bodies", "[I", true)
  | 9 => ("FewerMan", "players", "Ljava/util/ArrayList;", true)
  | 10 => ("FewerMan", "wonOf", "[J", true)
  | 11 => ("FewerMan", "menSum", "J", false)
  | 12 => ("FewerMan", "ended", "J", false)
  | 13 => ("FewerMan", "isLost", "Z", false)
  | 14 => ("FewerMan", "tried", "[I", true)
  | 15 => ("FewerMan", "best", "[I", true)
  | 16 => ("FewerMan", "bestWins", "J", false)
  | 17 => ("FewerMan", "queue", "[I", true)
  | 18 => ("FewerMan", "bookOne", "[I", true)
  | 19 => ("FewerMan", "bookOther", "[I", true)
  | 20 => ("FewerMan", "keptMen", "[I", true)
  | 21 => ("FewerMan", "tales", "[I", true)
  | 22 => ("FewerMan", "bookWon", "[Z", true)
  | 23 => ("FewerMan", "books", "I", false)
  | 24 => ("FewerMan", "taleMany", "I", false)
  | 25 => ("FewerMan", "keptGame", "I", false)
  | _ => ("FewerMan", "image", "LFewerMan$Image;", false)
def tyX0 : Nat → FieldType := fun k => match k with
  | 0 => .array .byte
  | 1 => .int
  | 2 => .int
  | 3 => .int
  | 4 => .object "FewerMan$Inn"
  | 5 => .object "FewerMan$Reader"
  | 6 => .object "FewerMan$Moment"
  | 7 => .int
  | 8 => .array .int
  | 9 => .object "java/util/ArrayList"
  | 10 => .array .long
  | 11 => .long
  | 12 => .long
  | 13 => .boolean
  | 14 => .array .int
  | 15 => .array .int
  | 16 => .long
  | 17 => .array .int
  | 18 => .array .int
  | 19 => .array .int
  | 20 => .array .int
  | 21 => .array .int
  | 22 => .array .boolean
  | 23 => .int
  | 24 => .int
  | 25 => .int
  | _ => .object "FewerMan$Image"
abbrev wsX00 : List Cond := u_ws RX0 TX0 27
set_option maxRecDepth 100000 in
theorem nmX0 : ∀ a, a < 27 → ∀ b, b < 27 → a ≠ b → (TX0 a).2.1 ≠ (TX0 b).2.1 := by decide +kernel
set_option maxRecDepth 100000 in
theorem tyX0_ok : ∀ k, k < 27 → parseFieldDescriptor (TX0 k).2.2.1 = some (tyX0 k) := by decide +kernel
abbrev cX0_init : ByteArray := prog_1_method_3_code
def yX0_init : MethodName := ⟨RX0, "<init>", "()V"⟩
def dkwX0_init_5 : List UInt8 := [16, 8, 188, 10, 181, 0, 71, 42, 16, 8, 188, 4, 181, 0, 74, 177]
abbrev dktX0_init_5 : List UInt8 := dkwX0_init_5 ++ []
def dkwX0_init_4 : List UInt8 := [42, 16, 8, 188, 10, 181, 0, 62, 42, 16, 8, 188, 10, 181, 0, 65, 42, 8, 188, 10, 181, 0, 68, 42]
abbrev dktX0_init_4 : List UInt8 := dkwX0_init_4 ++ dktX0_init_5
def dkwX0_init_3 : List UInt8 := [181, 0, 49, 42, 7, 188, 10, 181, 0, 53, 42, 7, 188, 10, 181, 0, 56, 42, 8, 188, 10, 181, 0, 59]
abbrev dktX0_init_3 : List UInt8 := dkwX0_init_3 ++ dktX0_init_4
def dkwX0_init_2 : List UInt8 := [16, 20, 188, 10, 181, 0, 38, 42, 187, 0, 42, 89, 183, 0, 44, 181, 0, 45, 42, 16, 13, 188, 11]
abbrev dktX0_init_2 : List UInt8 := dkwX0_init_2 ++ dktX0_init_3
def dkwX0_init_1 : List UInt8 := [187, 0, 22, 89, 42, 183, 0, 24, 181, 0, 27, 42, 187, 0, 31, 89, 183, 0, 33, 181, 0, 34, 42]
abbrev dktX0_init_1 : List UInt8 := dkwX0_init_1 ++ dktX0_init_2
def dkwX0_init_0 : List UInt8 := [42, 183, 0, 3, 42, 16, 100, 188, 8, 181, 0, 11, 42, 187, 0, 15, 89, 183, 0, 17, 181, 0, 18, 42]
abbrev dktX0_init_0 : List UInt8 := dkwX0_init_0 ++ dktX0_init_1
theorem dksX0_init_0 : cX0_init.data.toList.drop 0 = dktX0_init_0 := by decide +kernel
theorem dksX0_init_1 : cX0_init.data.toList.drop 24 = dktX0_init_1 := dk_seg dksX0_init_0 24 rfl rfl
theorem dksX0_init_2 : cX0_init.data.toList.drop 47 = dktX0_init_2 := dk_seg dksX0_init_1 23 rfl rfl
theorem dksX0_init_3 : cX0_init.data.toList.drop 70 = dktX0_init_3 := dk_seg dksX0_init_2 23 rfl rfl
theorem dksX0_init_4 : cX0_init.data.toList.drop 94 = dktX0_init_4 := dk_seg dksX0_init_3 24 rfl rfl
theorem dksX0_init_5 : cX0_init.data.toList.drop 118 = dktX0_init_5 := dk_seg dksX0_init_4 24 rfl rfl
theorem dX0_init_0 : decode cX0_init 0 = .ok (.aload_n 0, 1) := dk_42 (dk_at dksX0_init_0 0 rfl rfl)
theorem dX0_init_1 : decode cX0_init 1 = .ok (.invokespecial 3, 3) := dk_183 0 3 (dk_at dksX0_init_0 1 rfl rfl)
theorem dX0_init_4 : decode cX0_init 4 = .ok (.aload_n 0, 1) := dk_42 (dk_at dksX0_init_0 4 rfl rfl)
theorem dX0_init_5 : decode cX0_init 5 = .ok (.bipush 100, 2) := dk_16 100 (dk_at dksX0_init_0 5 rfl rfl)
theorem dX0_init_7 : decode cX0_init 7 = .ok (.newarray .byte, 2) := dk_188_8 (dk_at dksX0_init_0 7 rfl rfl)
theorem dX0_init_9 : decode cX0_init 9 = .ok (.putfield 11, 3) := dk_181 0 11 (dk_at dksX0_init_0 9 rfl rfl)
theorem dX0_init_12 : decode cX0_init 12 = .ok (.aload_n 0, 1) := dk_42 (dk_at dksX0_init_0 12 rfl rfl)
theorem dX0_init_13 : decode cX0_init 13 = .ok (.new 15, 3) := dk_187 0 15 (dk_at dksX0_init_0 13 rfl rfl)
theorem dX0_init_16 : decode cX0_init 16 = .ok (.dup, 1) := dk_89 (dk_at dksX0_init_0 16 rfl rfl)
theorem dX0_init_17 : decode cX0_init 17 = .ok (.invokespecial 17, 3) := dk_183 0 17 (dk_at dksX0_init_0 17 rfl rfl)
theorem dX0_init_20 : decode cX0_init 20 = .ok (.putfield 18, 3) := dk_181 0 18 (dk_at dksX0_init_0 20 rfl rfl)
theorem dX0_init_23 : decode cX0_init 23 = .ok (.aload_n 0, 1) := dk_42 (dk_at dksX0_init_0 23 rfl rfl)
theorem dX0_init_24 : decode cX0_init 24 = .ok (.new 22, 3) := dk_187 0 22 (dk_at dksX0_init_1 0 rfl rfl)
theorem dX0_init_27 : decode cX0_init 27 = .ok (.dup, 1) := dk_89 (dk_at dksX0_init_1 3 rfl rfl)
theorem dX0_init_28 : decode cX0_init 28 = .ok (.aload_n 0, 1) := dk_42 (dk_at dksX0_init_1 4 rfl rfl)
theorem dX0_init_29 : decode cX0_init 29 = .ok (.invokespecial 24, 3) := dk_183 0 24 (dk_at dksX0_init_1 5 rfl rfl)
theorem dX0_init_32 : decode cX0_init 32 = .ok (.putfield 27, 3) := dk_181 0 27 (dk_at dksX0_init_1 8 rfl rfl)
theorem dX0_init_35 : decode cX0_init 35 = .ok (.aload_n 0, 1) := dk_42 (dk_at dksX0_init_1 11 rfl rfl)
theorem dX0_init_36 : decode cX0_init 36 = .ok (.new 31, 3) := dk_187 0 31 (dk_at dksX0_init_1 12 rfl rfl)
theorem dX0_init_39 : decode cX0_init 39 = .ok (.dup, 1) := dk_89 (dk_at dksX0_init_1 15 rfl rfl)
theorem dX0_init_40 : decode cX0_init 40 = .ok (.invokespecial 33, 3) := dk_183 0 33 (dk_at dksX0_init_1 16 rfl rfl)
theorem dX0_init_43 : decode cX0_init 43 = .ok (.putfield 34, 3) := dk_181 0 34 (dk_at dksX0_init_1 19 rfl rfl)
theorem dX0_init_46 : decode cX0_init 46 = .ok (.aload_n 0, 1) := dk_42 (dk_at dksX0_init_1 22 rfl rfl)
theorem dX0_init_47 : decode cX0_init 47 = .ok (.bipush 20, 2) := dk_16 20 (dk_at dksX0_init_2 0 rfl rfl)
theorem dX0_init_49 : decode cX0_init 49 = .ok (.newarray .int, 2) := dk_188_10 (dk_at dksX0_init_2 2 rfl rfl)
theorem dX0_init_51 : decode cX0_init 51 = .ok (.putfield 38, 3) := dk_181 0 38 (dk_at dksX0_init_2 4 rfl rfl)
theorem dX0_init_54 : decode cX0_init 54 = .ok (.aload_n 0, 1) := dk_42 (dk_at dksX0_init_2 7 rfl rfl)
theorem dX0_init_55 : decode cX0_init 55 = .ok (.new 42, 3) := dk_187 0 42 (dk_at dksX0_init_2 8 rfl rfl)
theorem dX0_init_58 : decode cX0_init 58 = .ok (.dup, 1) := dk_89 (dk_at dksX0_init_2 11 rfl rfl)
theorem dX0_init_59 : decode cX0_init 59 = .ok (.invokespecial 44, 3) := dk_183 0 44 (dk_at dksX0_init_2 12 rfl rfl)
theorem dX0_init_62 : decode cX0_init 62 = .ok (.putfield 45, 3) := dk_181 0 45 (dk_at dksX0_init_2 15 rfl rfl)
theorem dX0_init_65 : decode cX0_init 65 = .ok (.aload_n 0, 1) := dk_42 (dk_at dksX0_init_2 18 rfl rfl)
theorem dX0_init_66 : decode cX0_init 66 = .ok (.bipush 13, 2) := dk_16 13 (dk_at dksX0_init_2 19 rfl rfl)
theorem dX0_init_68 : decode cX0_init 68 = .ok (.newarray .long, 2) := dk_188_11 (dk_at dksX0_init_2 21 rfl rfl)
theorem dX0_init_70 : decode cX0_init 70 = .ok (.putfield 49, 3) := dk_181 0 49 (dk_at dksX0_init_3 0 rfl rfl)
theorem dX0_init_73 : decode cX0_init 73 = .ok (.aload_n 0, 1) := dk_42 (dk_at dksX0_init_3 3 rfl rfl)
theorem dX0_init_74 : decode cX0_init 74 = .ok (.iconst 4, 1) := dk_7 (dk_at dksX0_init_3 4 rfl rfl)
theorem dX0_init_75 : decode cX0_init 75 = .ok (.newarray .int, 2) := dk_188_10 (dk_at dksX0_init_3 5 rfl rfl)
theorem dX0_init_77 : decode cX0_init 77 = .ok (.putfield 53, 3) := dk_181 0 53 (dk_at dksX0_init_3 7 rfl rfl)
theorem dX0_init_80 : decode cX0_init 80 = .ok (.aload_n 0, 1) := dk_42 (dk_at dksX0_init_3 10 rfl rfl)
theorem dX0_init_81 : decode cX0_init 81 = .ok (.iconst 4, 1) := dk_7 (dk_at dksX0_init_3 11 rfl rfl)
theorem dX0_init_82 : decode cX0_init 82 = .ok (.newarray .int, 2) := dk_188_10 (dk_at dksX0_init_3 12 rfl rfl)
theorem dX0_init_84 : decode cX0_init 84 = .ok (.putfield 56, 3) := dk_181 0 56 (dk_at dksX0_init_3 14 rfl rfl)
theorem dX0_init_87 : decode cX0_init 87 = .ok (.aload_n 0, 1) := dk_42 (dk_at dksX0_init_3 17 rfl rfl)
theorem dX0_init_88 : decode cX0_init 88 = .ok (.iconst 5, 1) := dk_8 (dk_at dksX0_init_3 18 rfl rfl)
theorem dX0_init_89 : decode cX0_init 89 = .ok (.newarray .int, 2) := dk_188_10 (dk_at dksX0_init_3 19 rfl rfl)
theorem dX0_init_91 : decode cX0_init 91 = .ok (.putfield 59, 3) := dk_181 0 59 (dk_at dksX0_init_3 21 rfl rfl)
theorem dX0_init_94 : decode cX0_init 94 = .ok (.aload_n 0, 1) := dk_42 (dk_at dksX0_init_4 0 rfl rfl)
theorem dX0_init_95 : decode cX0_init 95 = .ok (.bipush 8, 2) := dk_16 8 (dk_at dksX0_init_4 1 rfl rfl)
theorem dX0_init_97 : decode cX0_init 97 = .ok (.newarray .int, 2) := dk_188_10 (dk_at dksX0_init_4 3 rfl rfl)
theorem dX0_init_99 : decode cX0_init 99 = .ok (.putfield 62, 3) := dk_181 0 62 (dk_at dksX0_init_4 5 rfl rfl)
theorem dX0_init_102 : decode cX0_init 102 = .ok (.aload_n 0, 1) := dk_42 (dk_at dksX0_init_4 8 rfl rfl)
theorem dX0_init_103 : decode cX0_init 103 = .ok (.bipush 8, 2) := dk_16 8 (dk_at dksX0_init_4 9 rfl rfl)
theorem dX0_init_105 : decode cX0_init 105 = .ok (.newarray .int, 2) := dk_188_10 (dk_at dksX0_init_4 11 rfl rfl)
theorem dX0_init_107 : decode cX0_init 107 = .ok (.putfield 65, 3) := dk_181 0 65 (dk_at dksX0_init_4 13 rfl rfl)
theorem dX0_init_110 : decode cX0_init 110 = .ok (.aload_n 0, 1) := dk_42 (dk_at dksX0_init_4 16 rfl rfl)
theorem dX0_init_111 : decode cX0_init 111 = .ok (.iconst 5, 1) := dk_8 (dk_at dksX0_init_4 17 rfl rfl)
theorem dX0_init_112 : decode cX0_init 112 = .ok (.newarray .int, 2) := dk_188_10 (dk_at dksX0_init_4 18 rfl rfl)
theorem dX0_init_114 : decode cX0_init 114 = .ok (.putfield 68, 3) := dk_181 0 68 (dk_at dksX0_init_4 20 rfl rfl)
theorem dX0_init_117 : decode cX0_init 117 = .ok (.aload_n 0, 1) := dk_42 (dk_at dksX0_init_4 23 rfl rfl)
theorem dX0_init_118 : decode cX0_init 118 = .ok (.bipush 8, 2) := dk_16 8 (dk_at dksX0_init_5 0 rfl rfl)
theorem dX0_init_120 : decode cX0_init 120 = .ok (.newarray .int, 2) := dk_188_10 (dk_at dksX0_init_5 2 rfl rfl)
theorem dX0_init_122 : decode cX0_init 122 = .ok (.putfield 71, 3) := dk_181 0 71 (dk_at dksX0_init_5 4 rfl rfl)
theorem dX0_init_125 : decode cX0_init 125 = .ok (.aload_n 0, 1) := dk_42 (dk_at dksX0_init_5 7 rfl rfl)
theorem dX0_init_126 : decode cX0_init 126 = .ok (.bipush 8, 2) := dk_16 8 (dk_at dksX0_init_5 8 rfl rfl)
theorem dX0_init_128 : decode cX0_init 128 = .ok (.newarray .boolean, 2) := dk_188_4 (dk_at dksX0_init_5 10 rfl rfl)
theorem dX0_init_130 : decode cX0_init 130 = .ok (.putfield 74, 3) := dk_181 0 74 (dk_at dksX0_init_5 12 rfl rfl)
theorem dX0_init_133 : decode cX0_init 133 = .ok (.return_, 1) := dk_177 (dk_at dksX0_init_5 15 rfl rfl)
abbrev cX0_feed : ByteArray := prog_1_method_4_code
def yX0_feed : MethodName := ⟨RX0, "feed", "(I)I"⟩
def dkwX0_feed_1 : List UInt8 := [172, 42, 180, 0, 11, 42, 89, 180, 0, 82, 90, 4, 96, 181, 0, 82, 27, 145, 84, 42, 180, 0, 82, 172]
abbrev dktX0_feed_1 : List UInt8 := dkwX0_feed_1 ++ []
def dkwX0_feed_0 : List UInt8 := [27, 3, 16, 127, 184, 0, 78, 154, 0, 6, 16, 254, 172, 42, 180, 0, 82, 16, 100, 160, 0, 6, 16, 252]
abbrev dktX0_feed_0 : List UInt8 := dkwX0_feed_0 ++ dktX0_feed_1
theorem dksX0_feed_0 : cX0_feed.data.toList.drop 0 = dktX0_feed_0 := by decide +kernel
theorem dksX0_feed_1 : cX0_feed.data.toList.drop 24 = dktX0_feed_1 := dk_seg dksX0_feed_0 24 rfl rfl
theorem dX0_feed_0 : decode cX0_feed 0 = .ok (.iload_n 1, 1) := dk_27 (dk_at dksX0_feed_0 0 rfl rfl)
theorem dX0_feed_1 : decode cX0_feed 1 = .ok (.iconst 0, 1) := dk_3 (dk_at dksX0_feed_0 1 rfl rfl)
theorem dX0_feed_2 : decode cX0_feed 2 = .ok (.bipush 127, 2) := dk_16 127 (dk_at dksX0_feed_0 2 rfl rfl)
theorem dX0_feed_4 : decode cX0_feed 4 = .ok (.invokestatic 78, 3) := dk_184 0 78 (dk_at dksX0_feed_0 4 rfl rfl)
theorem dX0_feed_7 : decode cX0_feed 7 = .ok (.ifCond .ne 6, 3) := dk_154 0 6 (dk_at dksX0_feed_0 7 rfl rfl)
theorem dX0_feed_10 : decode cX0_feed 10 = .ok (.bipush (-2), 2) := dk_16 254 (dk_at dksX0_feed_0 10 rfl rfl)
theorem dX0_feed_12 : decode cX0_feed 12 = .ok (.ireturn, 1) := dk_172 (dk_at dksX0_feed_0 12 rfl rfl)
theorem dX0_feed_13 : decode cX0_feed 13 = .ok (.aload_n 0, 1) := dk_42 (dk_at dksX0_feed_0 13 rfl rfl)
theorem dX0_feed_14 : decode cX0_feed 14 = .ok (.getfield 82, 3) := dk_180 0 82 (dk_at dksX0_feed_0 14 rfl rfl)
theorem dX0_feed_17 : decode cX0_feed 17 = .ok (.bipush 100, 2) := dk_16 100 (dk_at dksX0_feed_0 17 rfl rfl)
theorem dX0_feed_19 : decode cX0_feed 19 = .ok (.if_icmp .ne 6, 3) := dk_160 0 6 (dk_at dksX0_feed_0 19 rfl rfl)
theorem dX0_feed_22 : decode cX0_feed 22 = .ok (.bipush (-4), 2) := dk_16 252 (dk_at dksX0_feed_0 22 rfl rfl)
theorem dX0_feed_24 : decode cX0_feed 24 = .ok (.ireturn, 1) := dk_172 (dk_at dksX0_feed_1 0 rfl rfl)
theorem dX0_feed_25 : decode cX0_feed 25 = .ok (.aload_n 0, 1) := dk_42 (dk_at dksX0_feed_1 1 rfl rfl)
theorem dX0_feed_26 : decode cX0_feed 26 = .ok (.getfield 11, 3) := dk_180 0 11 (dk_at dksX0_feed_1 2 rfl rfl)
theorem dX0_feed_29 : decode cX0_feed 29 = .ok (.aload_n 0, 1) := dk_42 (dk_at dksX0_feed_1 5 rfl rfl)
theorem dX0_feed_30 : decode cX0_feed 30 = .ok (.dup, 1) := dk_89 (dk_at dksX0_feed_1 6 rfl rfl)
theorem dX0_feed_31 : decode cX0_feed 31 = .ok (.getfield 82, 3) := dk_180 0 82 (dk_at dksX0_feed_1 7 rfl rfl)
theorem dX0_feed_34 : decode cX0_feed 34 = .ok (.dup_x1, 1) := dk_90 (dk_at dksX0_feed_1 10 rfl rfl)
theorem dX0_feed_35 : decode cX0_feed 35 = .ok (.iconst 1, 1) := dk_4 (dk_at dksX0_feed_1 11 rfl rfl)
theorem dX0_feed_36 : decode cX0_feed 36 = .ok (.iadd, 1) := dk_96 (dk_at dksX0_feed_1 12 rfl rfl)
theorem dX0_feed_37 : decode cX0_feed 37 = .ok (.putfield 82, 3) := dk_181 0 82 (dk_at dksX0_feed_1 13 rfl rfl)
theorem dX0_feed_40 : decode cX0_feed 40 = .ok (.iload_n 1, 1) := dk_27 (dk_at dksX0_feed_1 16 rfl rfl)
theorem dX0_feed_41 : decode cX0_feed 41 = .ok (.i2b, 1) := dk_145 (dk_at dksX0_feed_1 17 rfl rfl)
theorem dX0_feed_42 : decode cX0_feed 42 = .ok (.bastore, 1) := dk_84 (dk_at dksX0_feed_1 18 rfl rfl)
theorem dX0_feed_43 : decode cX0_feed 43 = .ok (.aload_n 0, 1) := dk_42 (dk_at dksX0_feed_1 19 rfl rfl)
theorem dX0_feed_44 : decode cX0_feed 44 = .ok (.getfield 82, 3) := dk_180 0 82 (dk_at dksX0_feed_1 20 rfl rfl)
theorem dX0_feed_47 : decode cX0_feed 47 = .ok (.ireturn, 1) := dk_172 (dk_at dksX0_feed_1 23 rfl rfl)
abbrev cX0_in : ByteArray := prog_1_method_1_code
def yX0_in : MethodName := ⟨RX0, "in", "(III)Z"⟩
def dkwX0_in_0 : List UInt8 := [26, 27, 161, 0, 12, 26, 28, 163, 0, 7, 4, 167, 0, 4, 3, 172]
abbrev dktX0_in_0 : List UInt8 := dkwX0_in_0 ++ []
theorem dksX0_in_0 : cX0_in.data.toList.drop 0 = dktX0_in_0 := by decide +kernel
theorem dX0_in_0 : decode cX0_in 0 = .ok (.iload_n 0, 1) := dk_26 (dk_at dksX0_in_0 0 rfl rfl)
theorem dX0_in_1 : decode cX0_in 1 = .ok (.iload_n 1, 1) := dk_27 (dk_at dksX0_in_0 1 rfl rfl)
theorem dX0_in_2 : decode cX0_in 2 = .ok (.if_icmp .lt 12, 3) := dk_161 0 12 (dk_at dksX0_in_0 2 rfl rfl)
theorem dX0_in_5 : decode cX0_in 5 = .ok (.iload_n 0, 1) := dk_26 (dk_at dksX0_in_0 5 rfl rfl)
theorem dX0_in_6 : decode cX0_in 6 = .ok (.iload_n 2, 1) := dk_28 (dk_at dksX0_in_0 6 rfl rfl)
theorem dX0_in_7 : decode cX0_in 7 = .ok (.if_icmp .gt 7, 3) := dk_163 0 7 (dk_at dksX0_in_0 7 rfl rfl)
theorem dX0_in_10 : decode cX0_in 10 = .ok (.iconst 1, 1) := dk_4 (dk_at dksX0_in_0 10 rfl rfl)
theorem dX0_in_11 : decode cX0_in 11 = .ok (.goto 4, 3) := dk_167 0 4 (dk_at dksX0_in_0 11 rfl rfl)
theorem dX0_in_14 : decode cX0_in 14 = .ok (.iconst 0, 1) := dk_3 (dk_at dksX0_in_0 14 rfl rfl)
theorem dX0_in_15 : decode cX0_in 15 = .ok (.ireturn, 1) := dk_172 (dk_at dksX0_in_0 15 rfl rfl)
abbrev cX0_inn : ByteArray := prog_1_method_5_code
def yX0_inn : MethodName := ⟨RX0, "inn", "()I"⟩
def dkwX0_inn_2 : List UInt8 := [16, 246, 43, 180, 0, 95, 100, 61, 42, 3, 181, 0, 82, 28, 172, 78, 42, 3, 181, 0, 82, 45, 191]
abbrev dktX0_inn_2 : List UInt8 := dkwX0_inn_2 ++ []
def dkwX0_inn_1 : List UInt8 := [180, 0, 86, 4, 96, 181, 0, 86, 42, 180, 0, 86, 4, 100, 60, 42, 3, 181, 0, 82, 27, 172, 76]
abbrev dktX0_inn_1 : List UInt8 := dkwX0_inn_1 ++ dktX0_inn_2
def dkwX0_inn_0 : List UInt8 := [42, 180, 0, 86, 8, 160, 0, 6, 16, 252, 172, 42, 42, 180, 0, 27, 182, 0, 89, 181, 0, 18, 42, 89]
abbrev dktX0_inn_0 : List UInt8 := dkwX0_inn_0 ++ dktX0_inn_1
theorem dksX0_inn_0 : cX0_inn.data.toList.drop 0 = dktX0_inn_0 := by decide +kernel
theorem dksX0_inn_1 : cX0_inn.data.toList.drop 24 = dktX0_inn_1 := dk_seg dksX0_inn_0 24 rfl rfl
theorem dksX0_inn_2 : cX0_inn.data.toList.drop 47 = dktX0_inn_2 := dk_seg dksX0_inn_1 23 rfl rfl
theorem dX0_inn_0 : decode cX0_inn 0 = .ok (.aload_n 0, 1) := dk_42 (dk_at dksX0_inn_0 0 rfl rfl)
theorem dX0_inn_1 : decode cX0_inn 1 = .ok (.getfield 86, 3) := dk_180 0 86 (dk_at dksX0_inn_0 1 rfl rfl)
theorem dX0_inn_4 : decode cX0_inn 4 = .ok (.iconst 5, 1) := dk_8 (dk_at dksX0_inn_0 4 rfl rfl)
theorem dX0_inn_5 : decode cX0_inn 5 = .ok (.if_icmp .ne 6, 3) := dk_160 0 6 (dk_at dksX0_inn_0 5 rfl rfl)
theorem dX0_inn_8 : decode cX0_inn 8 = .ok (.bipush (-4), 2) := dk_16 252 (dk_at dksX0_inn_0 8 rfl rfl)
theorem dX0_inn_10 : decode cX0_inn 10 = .ok (.ireturn, 1) := dk_172 (dk_at dksX0_inn_0 10 rfl rfl)
theorem dX0_inn_11 : decode cX0_inn 11 = .ok (.aload_n 0, 1) := dk_42 (dk_at dksX0_inn_0 11 rfl rfl)
theorem dX0_inn_12 : decode cX0_inn 12 = .ok (.aload_n 0, 1) := dk_42 (dk_at dksX0_inn_0 12 rfl rfl)
theorem dX0_inn_13 : decode cX0_inn 13 = .ok (.getfield 27, 3) := dk_180 0 27 (dk_at dksX0_inn_0 13 rfl rfl)
theorem dX0_inn_16 : decode cX0_inn 16 = .ok (.invokevirtual 89, 3) := dk_182 0 89 (dk_at dksX0_inn_0 16 rfl rfl)
theorem dX0_inn_19 : decode cX0_inn 19 = .ok (.putfield 18, 3) := dk_181 0 18 (dk_at dksX0_inn_0 19 rfl rfl)
theorem dX0_inn_22 : decode cX0_inn 22 = .ok (.aload_n 0, 1) := dk_42 (dk_at dksX0_inn_0 22 rfl rfl)
theorem dX0_inn_23 : decode cX0_inn 23 = .ok (.dup, 1) := dk_89 (dk_at dksX0_inn_0 23 rfl rfl)
theorem dX0_inn_24 : decode cX0_inn 24 = .ok (.getfield 86, 3) := dk_180 0 86 (dk_at dksX0_inn_1 0 rfl rfl)
theorem dX0_inn_27 : decode cX0_inn 27 = .ok (.iconst 1, 1) := dk_4 (dk_at dksX0_inn_1 3 rfl rfl)
theorem dX0_inn_28 : decode cX0_inn 28 = .ok (.iadd, 1) := dk_96 (dk_at dksX0_inn_1 4 rfl rfl)
theorem dX0_inn_29 : decode cX0_inn 29 = .ok (.putfield 86, 3) := dk_181 0 86 (dk_at dksX0_inn_1 5 rfl rfl)
theorem dX0_inn_32 : decode cX0_inn 32 = .ok (.aload_n 0, 1) := dk_42 (dk_at dksX0_inn_1 8 rfl rfl)
theorem dX0_inn_33 : decode cX0_inn 33 = .ok (.getfield 86, 3) := dk_180 0 86 (dk_at dksX0_inn_1 9 rfl rfl)
theorem dX0_inn_36 : decode cX0_inn 36 = .ok (.iconst 1, 1) := dk_4 (dk_at dksX0_inn_1 12 rfl rfl)
theorem dX0_inn_37 : decode cX0_inn 37 = .ok (.isub, 1) := dk_100 (dk_at dksX0_inn_1 13 rfl rfl)
theorem dX0_inn_38 : decode cX0_inn 38 = .ok (.istore_n 1, 1) := dk_60 (dk_at dksX0_inn_1 14 rfl rfl)
theorem dX0_inn_39 : decode cX0_inn 39 = .ok (.aload_n 0, 1) := dk_42 (dk_at dksX0_inn_1 15 rfl rfl)
theorem dX0_inn_40 : decode cX0_inn 40 = .ok (.iconst 0, 1) := dk_3 (dk_at dksX0_inn_1 16 rfl rfl)
theorem dX0_inn_41 : decode cX0_inn 41 = .ok (.putfield 82, 3) := dk_181 0 82 (dk_at dksX0_inn_1 17 rfl rfl)
theorem dX0_inn_44 : decode cX0_inn 44 = .ok (.iload_n 1, 1) := dk_27 (dk_at dksX0_inn_1 20 rfl rfl)
theorem dX0_inn_45 : decode cX0_inn 45 = .ok (.ireturn, 1) := dk_172 (dk_at dksX0_inn_1 21 rfl rfl)
theorem dX0_inn_46 : decode cX0_inn 46 = .ok (.astore_n 1, 1) := dk_76 (dk_at dksX0_inn_1 22 rfl rfl)
theorem dX0_inn_47 : decode cX0_inn 47 = .ok (.bipush (-10), 2) := dk_16 246 (dk_at dksX0_inn_2 0 rfl rfl)
theorem dX0_inn_49 : decode cX0_inn 49 = .ok (.aload_n 1, 1) := dk_43 (dk_at dksX0_inn_2 2 rfl rfl)
theorem dX0_inn_50 : decode cX0_inn 50 = .ok (.getfield 95, 3) := dk_180 0 95 (dk_at dksX0_inn_2 3 rfl rfl)
theorem dX0_inn_53 : decode cX0_inn 53 = .ok (.isub, 1) := dk_100 (dk_at dksX0_inn_2 6 rfl rfl)
theorem dX0_inn_54 : decode cX0_inn 54 = .ok (.istore_n 2, 1) := dk_61 (dk_at dksX0_inn_2 7 rfl rfl)
theorem dX0_inn_55 : decode cX0_inn 55 = .ok (.aload_n 0, 1) := dk_42 (dk_at dksX0_inn_2 8 rfl rfl)
theorem dX0_inn_56 : decode cX0_inn 56 = .ok (.iconst 0, 1) := dk_3 (dk_at dksX0_inn_2 9 rfl rfl)
theorem dX0_inn_57 : decode cX0_inn 57 = .ok (.putfield 82, 3) := dk_181 0 82 (dk_at dksX0_inn_2 10 rfl rfl)
theorem dX0_inn_60 : decode cX0_inn 60 = .ok (.iload_n 2, 1) := dk_28 (dk_at dksX0_inn_2 13 rfl rfl)
theorem dX0_inn_61 : decode cX0_inn 61 = .ok (.ireturn, 1) := dk_172 (dk_at dksX0_inn_2 14 rfl rfl)
theorem dX0_inn_62 : decode cX0_inn 62 = .ok (.astore_n 3, 1) := dk_78 (dk_at dksX0_inn_2 15 rfl rfl)
theorem dX0_inn_63 : decode cX0_inn 63 = .ok (.aload_n 0, 1) := dk_42 (dk_at dksX0_inn_2 16 rfl rfl)
theorem dX0_inn_64 : decode cX0_inn 64 = .ok (.iconst 0, 1) := dk_3 (dk_at dksX0_inn_2 17 rfl rfl)
theorem dX0_inn_65 : decode cX0_inn 65 = .ok (.putfield 82, 3) := dk_181 0 82 (dk_at dksX0_inn_2 18 rfl rfl)
theorem dX0_inn_68 : decode cX0_inn 68 = .ok (.aload_n 3, 1) := dk_45 (dk_at dksX0_inn_2 21 rfl rfl)
theorem dX0_inn_69 : decode cX0_inn 69 = .ok (.athrow, 1) := dk_191 (dk_at dksX0_inn_2 22 rfl rfl)
abbrev cX0_told : ByteArray := prog_1_method_6_code
def yX0_told : MethodName := ⟨RX0, "told", "(I)I"⟩
def dkwX0_told_1 : List UInt8 := [180, 0, 18, 180, 0, 101, 27, 4, 100, 46, 167, 0, 4, 2, 172]
abbrev dktX0_told_1 : List UInt8 := dkwX0_told_1 ++ []
def dkwX0_told_0 : List UInt8 := [27, 154, 0, 10, 42, 180, 0, 98, 167, 0, 28, 27, 4, 159, 0, 8, 27, 5, 160, 0, 17, 42]
abbrev dktX0_told_0 : List UInt8 := dkwX0_told_0 ++ dktX0_told_1
theorem dksX0_told_0 : cX0_told.data.toList.drop 0 = dktX0_told_0 := by decide +kernel
theorem dksX0_told_1 : cX0_told.data.toList.drop 22 = dktX0_told_1 := dk_seg dksX0_told_0 22 rfl rfl
theorem dX0_told_0 : decode cX0_told 0 = .ok (.iload_n 1, 1) := dk_27 (dk_at dksX0_told_0 0 rfl rfl)
theorem dX0_told_1 : decode cX0_told 1 = .ok (.ifCond .ne 10, 3) := dk_154 0 10 (dk_at dksX0_told_0 1 rfl rfl)
theorem dX0_told_4 : decode cX0_told 4 = .ok (.aload_n 0, 1) := dk_42 (dk_at dksX0_told_0 4 rfl rfl)
theorem dX0_told_5 : decode cX0_told 5 = .ok (.getfield 98, 3) := dk_180 0 98 (dk_at dksX0_told_0 5 rfl rfl)
theorem dX0_told_8 : decode cX0_told 8 = .ok (.goto 28, 3) := dk_167 0 28 (dk_at dksX0_told_0 8 rfl rfl)
theorem dX0_told_11 : decode cX0_told 11 = .ok (.iload_n 1, 1) := dk_27 (dk_at dksX0_told_0 11 rfl rfl)
theorem dX0_told_12 : decode cX0_told 12 = .ok (.iconst 1, 1) := dk_4 (dk_at dksX0_told_0 12 rfl rfl)
theorem dX0_told_13 : decode cX0_told 13 = .ok (.if_icmp .eq 8, 3) := dk_159 0 8 (dk_at dksX0_told_0 13 rfl rfl)
theorem dX0_told_16 : decode cX0_told 16 = .ok (.iload_n 1, 1) := dk_27 (dk_at dksX0_told_0 16 rfl rfl)
theorem dX0_told_17 : decode cX0_told 17 = .ok (.iconst 2, 1) := dk_5 (dk_at dksX0_told_0 17 rfl rfl)
theorem dX0_told_18 : decode cX0_told 18 = .ok (.if_icmp .ne 17, 3) := dk_160 0 17 (dk_at dksX0_told_0 18 rfl rfl)
theorem dX0_told_21 : decode cX0_told 21 = .ok (.aload_n 0, 1) := dk_42 (dk_at dksX0_told_0 21 rfl rfl)
theorem dX0_told_22 : decode cX0_told 22 = .ok (.getfield 18, 3) := dk_180 0 18 (dk_at dksX0_told_1 0 rfl rfl)
theorem dX0_told_25 : decode cX0_told 25 = .ok (.getfield 101, 3) := dk_180 0 101 (dk_at dksX0_told_1 3 rfl rfl)
theorem dX0_told_28 : decode cX0_told 28 = .ok (.iload_n 1, 1) := dk_27 (dk_at dksX0_told_1 6 rfl rfl)
theorem dX0_told_29 : decode cX0_told 29 = .ok (.iconst 1, 1) := dk_4 (dk_at dksX0_told_1 7 rfl rfl)
theorem dX0_told_30 : decode cX0_told 30 = .ok (.isub, 1) := dk_100 (dk_at dksX0_told_1 8 rfl rfl)
theorem dX0_told_31 : decode cX0_told 31 = .ok (.iaload, 1) := dk_46 (dk_at dksX0_told_1 9 rfl rfl)
theorem dX0_told_32 : decode cX0_told 32 = .ok (.goto 4, 3) := dk_167 0 4 (dk_at dksX0_told_1 10 rfl rfl)
theorem dX0_told_35 : decode cX0_told 35 = .ok (.iconst (-1), 1) := dk_2 (dk_at dksX0_told_1 13 rfl rfl)
theorem dX0_told_36 : decode cX0_told 36 = .ok (.ireturn, 1) := dk_172 (dk_at dksX0_told_1 14 rfl rfl)
abbrev cX0_player : ByteArray := prog_1_method_10_code
def yX0_player : MethodName := ⟨RX0, "player", "(II)I"⟩
def dkwX0_player_2 : List UInt8 := [180, 0, 45, 182, 0, 107, 28, 182, 0, 138, 182, 0, 142, 87, 42, 180, 0, 45, 182, 0, 107, 4, 100, 172]
abbrev dktX0_player_2 : List UInt8 := dkwX0_player_2 ++ []
def dkwX0_player_1 : List UInt8 := [172, 42, 180, 0, 45, 182, 0, 107, 8, 160, 0, 6, 16, 252, 172, 42, 180, 0, 45, 42, 27, 42]
abbrev dktX0_player_1 : List UInt8 := dkwX0_player_1 ++ dktX0_player_2
def dkwX0_player_0 : List UInt8 := [27, 3, 16, 6, 184, 0, 78, 154, 0, 5, 2, 172, 28, 3, 16, 9, 184, 0, 78, 154, 0, 6, 16, 254]
abbrev dktX0_player_0 : List UInt8 := dkwX0_player_0 ++ dktX0_player_1
theorem dksX0_player_0 : cX0_player.data.toList.drop 0 = dktX0_player_0 := by decide +kernel
theorem dksX0_player_1 : cX0_player.data.toList.drop 24 = dktX0_player_1 := dk_seg dksX0_player_0 24 rfl rfl
theorem dksX0_player_2 : cX0_player.data.toList.drop 46 = dktX0_player_2 := dk_seg dksX0_player_1 22 rfl rfl
theorem dX0_player_0 : decode cX0_player 0 = .ok (.iload_n 1, 1) := dk_27 (dk_at dksX0_player_0 0 rfl rfl)
theorem dX0_player_1 : decode cX0_player 1 = .ok (.iconst 0, 1) := dk_3 (dk_at dksX0_player_0 1 rfl rfl)
theorem dX0_player_2 : decode cX0_player 2 = .ok (.bipush 6, 2) := dk_16 6 (dk_at dksX0_player_0 2 rfl rfl)
theorem dX0_player_4 : decode cX0_player 4 = .ok (.invokestatic 78, 3) := dk_184 0 78 (dk_at dksX0_player_0 4 rfl rfl)
theorem dX0_player_7 : decode cX0_player 7 = .ok (.ifCond .ne 5, 3) := dk_154 0 5 (dk_at dksX0_player_0 7 rfl rfl)
theorem dX0_player_10 : decode cX0_player 10 = .ok (.iconst (-1), 1) := dk_2 (dk_at dksX0_player_0 10 rfl rfl)
theorem dX0_player_11 : decode cX0_player 11 = .ok (.ireturn, 1) := dk_172 (dk_at dksX0_player_0 11 rfl rfl)
theorem dX0_player_12 : decode cX0_player 12 = .ok (.iload_n 2, 1) := dk_28 (dk_at dksX0_player_0 12 rfl rfl)
theorem dX0_player_13 : decode cX0_player 13 = .ok (.iconst 0, 1) := dk_3 (dk_at dksX0_player_0 13 rfl rfl)
theorem dX0_player_14 : decode cX0_player 14 = .ok (.bipush 9, 2) := dk_16 9 (dk_at dksX0_player_0 14 rfl rfl)
theorem dX0_player_16 : decode cX0_player 16 = .ok (.invokestatic 78, 3) := dk_184 0 78 (dk_at dksX0_player_0 16 rfl rfl)
theorem dX0_player_19 : decode cX0_player 19 = .ok (.ifCond .ne 6, 3) := dk_154 0 6 (dk_at dksX0_player_0 19 rfl rfl)
theorem dX0_player_22 : decode cX0_player 22 = .ok (.bipush (-2), 2) := dk_16 254 (dk_at dksX0_player_0 22 rfl rfl)
theorem dX0_player_24 : decode cX0_player 24 = .ok (.ireturn, 1) := dk_172 (dk_at dksX0_player_1 0 rfl rfl)
theorem dX0_player_25 : decode cX0_player 25 = .ok (.aload_n 0, 1) := dk_42 (dk_at dksX0_player_1 1 rfl rfl)
theorem dX0_player_26 : decode cX0_player 26 = .ok (.getfield 45, 3) := dk_180 0 45 (dk_at dksX0_player_1 2 rfl rfl)
theorem dX0_player_29 : decode cX0_player 29 = .ok (.invokevirtual 107, 3) := dk_182 0 107 (dk_at dksX0_player_1 5 rfl rfl)
theorem dX0_player_32 : decode cX0_player 32 = .ok (.iconst 5, 1) := dk_8 (dk_at dksX0_player_1 8 rfl rfl)
theorem dX0_player_33 : decode cX0_player 33 = .ok (.if_icmp .ne 6, 3) := dk_160 0 6 (dk_at dksX0_player_1 9 rfl rfl)
theorem dX0_player_36 : decode cX0_player 36 = .ok (.bipush (-4), 2) := dk_16 252 (dk_at dksX0_player_1 12 rfl rfl)
theorem dX0_player_38 : decode cX0_player 38 = .ok (.ireturn, 1) := dk_172 (dk_at dksX0_player_1 14 rfl rfl)
theorem dX0_player_39 : decode cX0_player 39 = .ok (.aload_n 0, 1) := dk_42 (dk_at dksX0_player_1 15 rfl rfl)
theorem dX0_player_40 : decode cX0_player 40 = .ok (.getfield 45, 3) := dk_180 0 45 (dk_at dksX0_player_1 16 rfl rfl)
theorem dX0_player_43 : decode cX0_player 43 = .ok (.aload_n 0, 1) := dk_42 (dk_at dksX0_player_1 19 rfl rfl)
theorem dX0_player_44 : decode cX0_player 44 = .ok (.iload_n 1, 1) := dk_27 (dk_at dksX0_player_1 20 rfl rfl)
theorem dX0_player_45 : decode cX0_player 45 = .ok (.aload_n 0, 1) := dk_42 (dk_at dksX0_player_1 21 rfl rfl)
theorem dX0_player_46 : decode cX0_player 46 = .ok (.getfield 45, 3) := dk_180 0 45 (dk_at dksX0_player_2 0 rfl rfl)
theorem dX0_player_49 : decode cX0_player 49 = .ok (.invokevirtual 107, 3) := dk_182 0 107 (dk_at dksX0_player_2 3 rfl rfl)
theorem dX0_player_52 : decode cX0_player 52 = .ok (.iload_n 2, 1) := dk_28 (dk_at dksX0_player_2 6 rfl rfl)
theorem dX0_player_53 : decode cX0_player 53 = .ok (.invokevirtual 138, 3) := dk_182 0 138 (dk_at dksX0_player_2 7 rfl rfl)
theorem dX0_player_56 : decode cX0_player 56 = .ok (.invokevirtual 142, 3) := dk_182 0 142 (dk_at dksX0_player_2 10 rfl rfl)
theorem dX0_player_59 : decode cX0_player 59 = .ok (.pop, 1) := dk_87 (dk_at dksX0_player_2 13 rfl rfl)
theorem dX0_player_60 : decode cX0_player 60 = .ok (.aload_n 0, 1) := dk_42 (dk_at dksX0_player_2 14 rfl rfl)
theorem dX0_player_61 : decode cX0_player 61 = .ok (.getfield 45, 3) := dk_180 0 45 (dk_at dksX0_player_2 15 rfl rfl)
theorem dX0_player_64 : decode cX0_player 64 = .ok (.invokevirtual 107, 3) := dk_182 0 107 (dk_at dksX0_player_2 18 rfl rfl)
theorem dX0_player_67 : decode cX0_player 67 = .ok (.iconst 1, 1) := dk_4 (dk_at dksX0_player_2 21 rfl rfl)
theorem dX0_player_68 : decode cX0_player 68 = .ok (.isub, 1) := dk_100 (dk_at dksX0_player_2 22 rfl rfl)
theorem dX0_player_69 : decode cX0_player 69 = .ok (.ireturn, 1) := dk_172 (dk_at dksX0_player_2 23 rfl rfl)
abbrev cX0_make : ByteArray := prog_1_method_9_code
def yX0_make : MethodName := ⟨RX0, "make", "(III)LFewerMan$Player;"⟩
def dkwX0_make_5 : List UInt8 := [187, 0, 135, 89, 42, 28, 29, 183, 0, 137, 176]
abbrev dktX0_make_5 : List UInt8 := dkwX0_make_5 ++ []
def dkwX0_make_4 : List UInt8 := [187, 0, 129, 89, 42, 28, 29, 183, 0, 131, 176, 187, 0, 132, 89, 42, 28, 29, 183, 0, 134, 176]
abbrev dktX0_make_4 : List UInt8 := dkwX0_make_4 ++ dktX0_make_5
def dkwX0_make_3 : List UInt8 := [187, 0, 123, 89, 42, 28, 29, 183, 0, 125, 176, 187, 0, 126, 89, 42, 28, 29, 183, 0, 128, 176]
abbrev dktX0_make_3 : List UInt8 := dkwX0_make_3 ++ dktX0_make_4
def dkwX0_make_2 : List UInt8 := [187, 0, 115, 89, 42, 28, 29, 183, 0, 117, 176, 187, 0, 120, 89, 42, 28, 29, 183, 0, 122, 176]
abbrev dktX0_make_2 : List UInt8 := dkwX0_make_2 ++ dktX0_make_3
def dkwX0_make_1 : List UInt8 := [170, 0, 0, 0, 0, 0, 105, 0, 0, 0, 0, 0, 0, 0, 5, 0, 0, 0, 39, 0, 0, 0, 50, 0, 0, 0, 61, 0, 0, 0, 72, 0, 0, 0, 83, 0, 0, 0, 94]
abbrev dktX0_make_1 : List UInt8 := dkwX0_make_1 ++ dktX0_make_2
def dkwX0_make_0 : List UInt8 := [27]
abbrev dktX0_make_0 : List UInt8 := dkwX0_make_0 ++ dktX0_make_1
theorem dksX0_make_0 : cX0_make.data.toList.drop 0 = dktX0_make_0 := by decide +kernel
theorem dksX0_make_1 : cX0_make.data.toList.drop 1 = dktX0_make_1 := dk_seg dksX0_make_0 1 rfl rfl
theorem dksX0_make_2 : cX0_make.data.toList.drop 40 = dktX0_make_2 := dk_seg dksX0_make_1 39 rfl rfl
theorem dksX0_make_3 : cX0_make.data.toList.drop 62 = dktX0_make_3 := dk_seg dksX0_make_2 22 rfl rfl
theorem dksX0_make_4 : cX0_make.data.toList.drop 84 = dktX0_make_4 := dk_seg dksX0_make_3 22 rfl rfl
theorem dksX0_make_5 : cX0_make.data.toList.drop 106 = dktX0_make_5 := dk_seg dksX0_make_4 22 rfl rfl
theorem dX0_make_0 : decode cX0_make 0 = .ok (.iload_n 1, 1) := dk_27 (dk_at dksX0_make_0 0 rfl rfl)
theorem dX0_make_1 : decode cX0_make 1 = .ok (.tableswitch 105 0 5 #[39, 50, 61, 72, 83, 94], 39) := by decide +kernel
theorem dX0_make_40 : decode cX0_make 40 = .ok (.new 115, 3) := dk_187 0 115 (dk_at dksX0_make_2 0 rfl rfl)
theorem dX0_make_43 : decode cX0_make 43 = .ok (.dup, 1) := dk_89 (dk_at dksX0_make_2 3 rfl rfl)
theorem dX0_make_44 : decode cX0_make 44 = .ok (.aload_n 0, 1) := dk_42 (dk_at dksX0_make_2 4 rfl rfl)
theorem dX0_make_45 : decode cX0_make 45 = .ok (.iload_n 2, 1) := dk_28 (dk_at dksX0_make_2 5 rfl rfl)
theorem dX0_make_46 : decode cX0_make 46 = .ok (.iload_n 3, 1) := dk_29 (dk_at dksX0_make_2 6 rfl rfl)
theorem dX0_make_47 : decode cX0_make 47 = .ok (.invokespecial 117, 3) := dk_183 0 117 (dk_at dksX0_make_2 7 rfl rfl)
theorem dX0_make_50 : decode cX0_make 50 = .ok (.areturn, 1) := dk_176 (dk_at dksX0_make_2 10 rfl rfl)
theorem dX0_make_51 : decode cX0_make 51 = .ok (.new 120, 3) := dk_187 0 120 (dk_at dksX0_make_2 11 rfl rfl)
theorem dX0_make_54 : decode cX0_make 54 = .ok (.dup, 1) := dk_89 (dk_at dksX0_make_2 14 rfl rfl)
theorem dX0_make_55 : decode cX0_make 55 = .ok (.aload_n 0, 1) := dk_42 (dk_at dksX0_make_2 15 rfl rfl)
theorem dX0_make_56 : decode cX0_make 56 = .ok (.iload_n 2, 1) := dk_28 (dk_at dksX0_make_2 16 rfl rfl)
theorem dX0_make_57 : decode cX0_make 57 = .ok (.iload_n 3, 1) := dk_29 (dk_at dksX0_make_2 17 rfl rfl)
theorem dX0_make_58 : decode cX0_make 58 = .ok (.invokespecial 122, 3) := dk_183 0 122 (dk_at dksX0_make_2 18 rfl rfl)
theorem dX0_make_61 : decode cX0_make 61 = .ok (.areturn, 1) := dk_176 (dk_at dksX0_make_2 21 rfl rfl)
theorem dX0_make_62 : decode cX0_make 62 = .ok (.new 123, 3) := dk_187 0 123 (dk_at dksX0_make_3 0 rfl rfl)
theorem dX0_make_65 : decode cX0_make 65 = .ok (.dup, 1) := dk_89 (dk_at dksX0_make_3 3 rfl rfl)
theorem dX0_make_66 : decode cX0_make 66 = .ok (.aload_n 0, 1) := dk_42 (dk_at dksX0_make_3 4 rfl rfl)
theorem dX0_make_67 : decode cX0_make 67 = .ok (.iload_n 2, 1) := dk_28 (dk_at dksX0_make_3 5 rfl rfl)
theorem dX0_make_68 : decode cX0_make 68 = .ok (.iload_n 3, 1) := dk_29 (dk_at dksX0_make_3 6 rfl rfl)
theorem dX0_make_69 : decode cX0_make 69 = .ok (.invokespecial 125, 3) := dk_183 0 125 (dk_at dksX0_make_3 7 rfl rfl)
theorem dX0_make_72 : decode cX0_make 72 = .ok (.areturn, 1) := dk_176 (dk_at dksX0_make_3 10 rfl rfl)
theorem dX0_make_73 : decode cX0_make 73 = .ok (.new 126, 3) := dk_187 0 126 (dk_at dksX0_make_3 11 rfl rfl)
theorem dX0_make_76 : decode cX0_make 76 = .ok (.dup, 1) := dk_89 (dk_at dksX0_make_3 14 rfl rfl)
theorem dX0_make_77 : decode cX0_make 77 = .ok (.aload_n 0, 1) := dk_42 (dk_at dksX0_make_3 15 rfl rfl)
theorem dX0_make_78 : decode cX0_make 78 = .ok (.iload_n 2, 1) := dk_28 (dk_at dksX0_make_3 16 rfl rfl)
theorem dX0_make_79 : decode cX0_make 79 = .ok (.iload_n 3, 1) := dk_29 (dk_at dksX0_make_3 17 rfl rfl)
theorem dX0_make_80 : decode cX0_make 80 = .ok (.invokespecial 128, 3) := dk_183 0 128 (dk_at dksX0_make_3 18 rfl rfl)
theorem dX0_make_83 : decode cX0_make 83 = .ok (.areturn, 1) := dk_176 (dk_at dksX0_make_3 21 rfl rfl)
theorem dX0_make_84 : decode cX0_make 84 = .ok (.new 129, 3) := dk_187 0 129 (dk_at dksX0_make_4 0 rfl rfl)
theorem dX0_make_87 : decode cX0_make 87 = .ok (.dup, 1) := dk_89 (dk_at dksX0_make_4 3 rfl rfl)
theorem dX0_make_88 : decode cX0_make 88 = .ok (.aload_n 0, 1) := dk_42 (dk_at dksX0_make_4 4 rfl rfl)
theorem dX0_make_89 : decode cX0_make 89 = .ok (.iload_n 2, 1) := dk_28 (dk_at dksX0_make_4 5 rfl rfl)
theorem dX0_make_90 : decode cX0_make 90 = .ok (.iload_n 3, 1) := dk_29 (dk_at dksX0_make_4 6 rfl rfl)
theorem dX0_make_91 : decode cX0_make 91 = .ok (.invokespecial 131, 3) := dk_183 0 131 (dk_at dksX0_make_4 7 rfl rfl)
theorem dX0_make_94 : decode cX0_make 94 = .ok (.areturn, 1) := dk_176 (dk_at dksX0_make_4 10 rfl rfl)
theorem dX0_make_95 : decode cX0_make 95 = .ok (.new 132, 3) := dk_187 0 132 (dk_at dksX0_make_4 11 rfl rfl)
theorem dX0_make_98 : decode cX0_make 98 = .ok (.dup, 1) := dk_89 (dk_at dksX0_make_4 14 rfl rfl)
theorem dX0_make_99 : decode cX0_make 99 = .ok (.aload_n 0, 1) := dk_42 (dk_at dksX0_make_4 15 rfl rfl)
theorem dX0_make_100 : decode cX0_make 100 = .ok (.iload_n 2, 1) := dk_28 (dk_at dksX0_make_4 16 rfl rfl)
theorem dX0_make_101 : decode cX0_make 101 = .ok (.iload_n 3, 1) := dk_29 (dk_at dksX0_make_4 17 rfl rfl)
theorem dX0_make_102 : decode cX0_make 102 = .ok (.invokespecial 134, 3) := dk_183 0 134 (dk_at dksX0_make_4 18 rfl rfl)
theorem dX0_make_105 : decode cX0_make 105 = .ok (.areturn, 1) := dk_176 (dk_at dksX0_make_4 21 rfl rfl)
theorem dX0_make_106 : decode cX0_make 106 = .ok (.new 135, 3) := dk_187 0 135 (dk_at dksX0_make_5 0 rfl rfl)
theorem dX0_make_109 : decode cX0_make 109 = .ok (.dup, 1) := dk_89 (dk_at dksX0_make_5 3 rfl rfl)
theorem dX0_make_110 : decode cX0_make 110 = .ok (.aload_n 0, 1) := dk_42 (dk_at dksX0_make_5 4 rfl rfl)
theorem dX0_make_111 : decode cX0_make 111 = .ok (.iload_n 2, 1) := dk_28 (dk_at dksX0_make_5 5 rfl rfl)
theorem dX0_make_112 : decode cX0_make 112 = .ok (.iload_n 3, 1) := dk_29 (dk_at dksX0_make_5 6 rfl rfl)
theorem dX0_make_113 : decode cX0_make 113 = .ok (.invokespecial 137, 3) := dk_183 0 137 (dk_at dksX0_make_5 7 rfl rfl)
theorem dX0_make_116 : decode cX0_make 116 = .ok (.areturn, 1) := dk_176 (dk_at dksX0_make_5 10 rfl rfl)
abbrev cX0_of : ByteArray := prog_1_method_11_code
def yX0_of : MethodName := ⟨RX0, "of", "(II)I"⟩
def dkwX0_of_2 : List UInt8 := [172]
abbrev dktX0_of_2 : List UInt8 := dkwX0_of_2 ++ []
def dkwX0_of_1 : List UInt8 := [4, 160, 0, 10, 45, 180, 0, 153, 167, 0, 16, 28, 5, 160, 0, 10, 45, 180, 0, 156, 167, 0, 4, 2]
abbrev dktX0_of_1 : List UInt8 := dkwX0_of_1 ++ dktX0_of_2
def dkwX0_of_0 : List UInt8 := [42, 27, 182, 0, 146, 78, 45, 199, 0, 5, 2, 172, 28, 154, 0, 10, 45, 182, 0, 150, 167, 0, 28, 28]
abbrev dktX0_of_0 : List UInt8 := dkwX0_of_0 ++ dktX0_of_1
theorem dksX0_of_0 : cX0_of.data.toList.drop 0 = dktX0_of_0 := by decide +kernel
theorem dksX0_of_1 : cX0_of.data.toList.drop 24 = dktX0_of_1 := dk_seg dksX0_of_0 24 rfl rfl
theorem dksX0_of_2 : cX0_of.data.toList.drop 48 = dktX0_of_2 := dk_seg dksX0_of_1 24 rfl rfl
theorem dX0_of_0 : decode cX0_of 0 = .ok (.aload_n 0, 1) := dk_42 (dk_at dksX0_of_0 0 rfl rfl)
theorem dX0_of_1 : decode cX0_of 1 = .ok (.iload_n 1, 1) := dk_27 (dk_at dksX0_of_0 1 rfl rfl)
theorem dX0_of_2 : decode cX0_of 2 = .ok (.invokevirtual 146, 3) := dk_182 0 146 (dk_at dksX0_of_0 2 rfl rfl)
theorem dX0_of_5 : decode cX0_of 5 = .ok (.astore_n 3, 1) := dk_78 (dk_at dksX0_of_0 5 rfl rfl)
theorem dX0_of_6 : decode cX0_of 6 = .ok (.aload_n 3, 1) := dk_45 (dk_at dksX0_of_0 6 rfl rfl)
theorem dX0_of_7 : decode cX0_of 7 = .ok (.ifnonnull 5, 3) := dk_199 0 5 (dk_at dksX0_of_0 7 rfl rfl)
theorem dX0_of_10 : decode cX0_of 10 = .ok (.iconst (-1), 1) := dk_2 (dk_at dksX0_of_0 10 rfl rfl)
theorem dX0_of_11 : decode cX0_of 11 = .ok (.ireturn, 1) := dk_172 (dk_at dksX0_of_0 11 rfl rfl)
theorem dX0_of_12 : decode cX0_of 12 = .ok (.iload_n 2, 1) := dk_28 (dk_at dksX0_of_0 12 rfl rfl)
theorem dX0_of_13 : decode cX0_of 13 = .ok (.ifCond .ne 10, 3) := dk_154 0 10 (dk_at dksX0_of_0 13 rfl rfl)
theorem dX0_of_16 : decode cX0_of 16 = .ok (.aload_n 3, 1) := dk_45 (dk_at dksX0_of_0 16 rfl rfl)
theorem dX0_of_17 : decode cX0_of 17 = .ok (.invokevirtual 150, 3) := dk_182 0 150 (dk_at dksX0_of_0 17 rfl rfl)
theorem dX0_of_20 : decode cX0_of 20 = .ok (.goto 28, 3) := dk_167 0 28 (dk_at dksX0_of_0 20 rfl rfl)
theorem dX0_of_23 : decode cX0_of 23 = .ok (.iload_n 2, 1) := dk_28 (dk_at dksX0_of_0 23 rfl rfl)
theorem dX0_of_24 : decode cX0_of 24 = .ok (.iconst 1, 1) := dk_4 (dk_at dksX0_of_1 0 rfl rfl)
theorem dX0_of_25 : decode cX0_of 25 = .ok (.if_icmp .ne 10, 3) := dk_160 0 10 (dk_at dksX0_of_1 1 rfl rfl)
theorem dX0_of_28 : decode cX0_of 28 = .ok (.aload_n 3, 1) := dk_45 (dk_at dksX0_of_1 4 rfl rfl)
theorem dX0_of_29 : decode cX0_of 29 = .ok (.getfield 153, 3) := dk_180 0 153 (dk_at dksX0_of_1 5 rfl rfl)
theorem dX0_of_32 : decode cX0_of 32 = .ok (.goto 16, 3) := dk_167 0 16 (dk_at dksX0_of_1 8 rfl rfl)
theorem dX0_of_35 : decode cX0_of 35 = .ok (.iload_n 2, 1) := dk_28 (dk_at dksX0_of_1 11 rfl rfl)
theorem dX0_of_36 : decode cX0_of 36 = .ok (.iconst 2, 1) := dk_5 (dk_at dksX0_of_1 12 rfl rfl)
theorem dX0_of_37 : decode cX0_of 37 = .ok (.if_icmp .ne 10, 3) := dk_160 0 10 (dk_at dksX0_of_1 13 rfl rfl)
theorem dX0_of_40 : decode cX0_of 40 = .ok (.aload_n 3, 1) := dk_45 (dk_at dksX0_of_1 16 rfl rfl)
theorem dX0_of_41 : decode cX0_of 41 = .ok (.getfield 156, 3) := dk_180 0 156 (dk_at dksX0_of_1 17 rfl rfl)
theorem dX0_of_44 : decode cX0_of 44 = .ok (.goto 4, 3) := dk_167 0 4 (dk_at dksX0_of_1 20 rfl rfl)
theorem dX0_of_47 : decode cX0_of 47 = .ok (.iconst (-1), 1) := dk_2 (dk_at dksX0_of_1 23 rfl rfl)
theorem dX0_of_48 : decode cX0_of 48 = .ok (.ireturn, 1) := dk_172 (dk_at dksX0_of_2 0 rfl rfl)
abbrev cX0_playerAt : ByteArray := prog_1_method_8_code
def yX0_playerAt : MethodName := ⟨RX0, "playerAt", "(I)LFewerMan$Player;"⟩
def dkwX0_playerAt_1 : List UInt8 := [182, 0, 111, 192, 0, 115, 176]
abbrev dktX0_playerAt_1 : List UInt8 := dkwX0_playerAt_1 ++ []
def dkwX0_playerAt_0 : List UInt8 := [27, 155, 0, 14, 27, 42, 180, 0, 45, 182, 0, 107, 161, 0, 7, 1, 167, 0, 14, 42, 180, 0, 45, 27]
abbrev dktX0_playerAt_0 : List UInt8 := dkwX0_playerAt_0 ++ dktX0_playerAt_1
theorem dksX0_playerAt_0 : cX0_playerAt.data.toList.drop 0 = dktX0_playerAt_0 := by decide +kernel
theorem dksX0_playerAt_1 : cX0_playerAt.data.toList.drop 24 = dktX0_playerAt_1 := dk_seg dksX0_playerAt_0 24 rfl rfl
theorem dX0_playerAt_0 : decode cX0_playerAt 0 = .ok (.iload_n 1, 1) := dk_27 (dk_at dksX0_playerAt_0 0 rfl rfl)
theorem dX0_playerAt_1 : decode cX0_playerAt 1 = .ok (.ifCond .lt 14, 3) := dk_155 0 14 (dk_at dksX0_playerAt_0 1 rfl rfl)
theorem dX0_playerAt_4 : decode cX0_playerAt 4 = .ok (.iload_n 1, 1) := dk_27 (dk_at dksX0_playerAt_0 4 rfl rfl)
theorem dX0_playerAt_5 : decode cX0_playerAt 5 = .ok (.aload_n 0, 1) := dk_42 (dk_at dksX0_playerAt_0 5 rfl rfl)
theorem dX0_playerAt_6 : decode cX0_playerAt 6 = .ok (.getfield 45, 3) := dk_180 0 45 (dk_at dksX0_playerAt_0 6 rfl rfl)
theorem dX0_playerAt_9 : decode cX0_playerAt 9 = .ok (.invokevirtual 107, 3) := dk_182 0 107 (dk_at dksX0_playerAt_0 9 rfl rfl)
theorem dX0_playerAt_12 : decode cX0_playerAt 12 = .ok (.if_icmp .lt 7, 3) := dk_161 0 7 (dk_at dksX0_playerAt_0 12 rfl rfl)
theorem dX0_playerAt_15 : decode cX0_playerAt 15 = .ok (.aconst_null, 1) := dk_1 (dk_at dksX0_playerAt_0 15 rfl rfl)
theorem dX0_playerAt_16 : decode cX0_playerAt 16 = .ok (.goto 14, 3) := dk_167 0 14 (dk_at dksX0_playerAt_0 16 rfl rfl)
theorem dX0_playerAt_19 : decode cX0_playerAt 19 = .ok (.aload_n 0, 1) := dk_42 (dk_at dksX0_playerAt_0 19 rfl rfl)
theorem dX0_playerAt_20 : decode cX0_playerAt 20 = .ok (.getfield 45, 3) := dk_180 0 45 (dk_at dksX0_playerAt_0 20 rfl rfl)
theorem dX0_playerAt_23 : decode cX0_playerAt 23 = .ok (.iload_n 1, 1) := dk_27 (dk_at dksX0_playerAt_0 23 rfl rfl)
theorem dX0_playerAt_24 : decode cX0_playerAt 24 = .ok (.invokevirtual 111, 3) := dk_182 0 111 (dk_at dksX0_playerAt_1 0 rfl rfl)
theorem dX0_playerAt_27 : decode cX0_playerAt 27 = .ok (.checkcast 115, 3) := dk_192 0 115 (dk_at dksX0_playerAt_1 3 rfl rfl)
theorem dX0_playerAt_30 : decode cX0_playerAt 30 = .ok (.areturn, 1) := dk_176 (dk_at dksX0_playerAt_1 6 rfl rfl)
abbrev cX0_men : ByteArray := prog_1_method_12_code
def yX0_men : MethodName := ⟨RX0, "men", "(II)I"⟩
def dkwX0_men_1 : List UInt8 := [172, 45, 180, 0, 156, 54, 4, 45, 28, 181, 0, 156, 21, 4, 172]
abbrev dktX0_men_1 : List UInt8 := dkwX0_men_1 ++ []
def dkwX0_men_0 : List UInt8 := [42, 27, 182, 0, 146, 78, 45, 199, 0, 5, 2, 172, 28, 4, 16, 20, 184, 0, 78, 154, 0, 6, 16, 254]
abbrev dktX0_men_0 : List UInt8 := dkwX0_men_0 ++ dktX0_men_1
theorem dksX0_men_0 : cX0_men.data.toList.drop 0 = dktX0_men_0 := by decide +kernel
theorem dksX0_men_1 : cX0_men.data.toList.drop 24 = dktX0_men_1 := dk_seg dksX0_men_0 24 rfl rfl
theorem dX0_men_0 : decode cX0_men 0 = .ok (.aload_n 0, 1) := dk_42 (dk_at dksX0_men_0 0 rfl rfl)
theorem dX0_men_1 : decode cX0_men 1 = .ok (.iload_n 1, 1) := dk_27 (dk_at dksX0_men_0 1 rfl rfl)
theorem dX0_men_2 : decode cX0_men 2 = .ok (.invokevirtual 146, 3) := dk_182 0 146 (dk_at dksX0_men_0 2 rfl rfl)
theorem dX0_men_5 : decode cX0_men 5 = .ok (.astore_n 3, 1) := dk_78 (dk_at dksX0_men_0 5 rfl rfl)
theorem dX0_men_6 : decode cX0_men 6 = .ok (.aload_n 3, 1) := dk_45 (dk_at dksX0_men_0 6 rfl rfl)
theorem dX0_men_7 : decode cX0_men 7 = .ok (.ifnonnull 5, 3) := dk_199 0 5 (dk_at dksX0_men_0 7 rfl rfl)
theorem dX0_men_10 : decode cX0_men 10 = .ok (.iconst (-1), 1) := dk_2 (dk_at dksX0_men_0 10 rfl rfl)
theorem dX0_men_11 : decode cX0_men 11 = .ok (.ireturn, 1) := dk_172 (dk_at dksX0_men_0 11 rfl rfl)
theorem dX0_men_12 : decode cX0_men 12 = .ok (.iload_n 2, 1) := dk_28 (dk_at dksX0_men_0 12 rfl rfl)
theorem dX0_men_13 : decode cX0_men 13 = .ok (.iconst 1, 1) := dk_4 (dk_at dksX0_men_0 13 rfl rfl)
theorem dX0_men_14 : decode cX0_men 14 = .ok (.bipush 20, 2) := dk_16 20 (dk_at dksX0_men_0 14 rfl rfl)
theorem dX0_men_16 : decode cX0_men 16 = .ok (.invokestatic 78, 3) := dk_184 0 78 (dk_at dksX0_men_0 16 rfl rfl)
theorem dX0_men_19 : decode cX0_men 19 = .ok (.ifCond .ne 6, 3) := dk_154 0 6 (dk_at dksX0_men_0 19 rfl rfl)
theorem dX0_men_22 : decode cX0_men 22 = .ok (.bipush (-2), 2) := dk_16 254 (dk_at dksX0_men_0 22 rfl rfl)
theorem dX0_men_24 : decode cX0_men 24 = .ok (.ireturn, 1) := dk_172 (dk_at dksX0_men_1 0 rfl rfl)
theorem dX0_men_25 : decode cX0_men 25 = .ok (.aload_n 3, 1) := dk_45 (dk_at dksX0_men_1 1 rfl rfl)
theorem dX0_men_26 : decode cX0_men 26 = .ok (.getfield 156, 3) := dk_180 0 156 (dk_at dksX0_men_1 2 rfl rfl)
theorem dX0_men_29 : decode cX0_men 29 = .ok (.istore 4, 2) := dk_54 4 (dk_at dksX0_men_1 5 rfl rfl)
theorem dX0_men_31 : decode cX0_men 31 = .ok (.aload_n 3, 1) := dk_45 (dk_at dksX0_men_1 7 rfl rfl)
theorem dX0_men_32 : decode cX0_men 32 = .ok (.iload_n 2, 1) := dk_28 (dk_at dksX0_men_1 8 rfl rfl)
theorem dX0_men_33 : decode cX0_men 33 = .ok (.putfield 156, 3) := dk_181 0 156 (dk_at dksX0_men_1 9 rfl rfl)
theorem dX0_men_36 : decode cX0_men 36 = .ok (.iload 4, 2) := dk_21 4 (dk_at dksX0_men_1 12 rfl rfl)
theorem dX0_men_38 : decode cX0_men 38 = .ok (.ireturn, 1) := dk_172 (dk_at dksX0_men_1 14 rfl rfl)
abbrev cX0_row : ByteArray := prog_1_method_13_code
def yX0_row : MethodName := ⟨RX0, "row", "(III)I"⟩
def dkwX0_row_3 : List UInt8 := [21, 5, 172]
abbrev dktX0_row_3 : List UInt8 := dkwX0_row_3 ++ []
def dkwX0_row_2 : List UInt8 := [25, 4, 192, 0, 135, 180, 0, 159, 28, 46, 54, 5, 25, 4, 192, 0, 135, 180, 0, 159, 28, 29, 79]
abbrev dktX0_row_2 : List UInt8 := dkwX0_row_2 ++ dktX0_row_3
def dkwX0_row_1 : List UInt8 := [3, 16, 9, 184, 0, 78, 154, 0, 6, 16, 254, 172, 25, 4, 193, 0, 135, 154, 0, 6, 16, 253, 172]
abbrev dktX0_row_1 : List UInt8 := dkwX0_row_1 ++ dktX0_row_2
def dkwX0_row_0 : List UInt8 := [42, 27, 182, 0, 146, 58, 4, 25, 4, 198, 0, 12, 28, 3, 6, 184, 0, 78, 154, 0, 5, 2, 172, 29]
abbrev dktX0_row_0 : List UInt8 := dkwX0_row_0 ++ dktX0_row_1
theorem dksX0_row_0 : cX0_row.data.toList.drop 0 = dktX0_row_0 := by decide +kernel
theorem dksX0_row_1 : cX0_row.data.toList.drop 24 = dktX0_row_1 := dk_seg dksX0_row_0 24 rfl rfl
theorem dksX0_row_2 : cX0_row.data.toList.drop 47 = dktX0_row_2 := dk_seg dksX0_row_1 23 rfl rfl
theorem dksX0_row_3 : cX0_row.data.toList.drop 70 = dktX0_row_3 := dk_seg dksX0_row_2 23 rfl rfl
theorem dX0_row_0 : decode cX0_row 0 = .ok (.aload_n 0, 1) := dk_42 (dk_at dksX0_row_0 0 rfl rfl)
theorem dX0_row_1 : decode cX0_row 1 = .ok (.iload_n 1, 1) := dk_27 (dk_at dksX0_row_0 1 rfl rfl)
theorem dX0_row_2 : decode cX0_row 2 = .ok (.invokevirtual 146, 3) := dk_182 0 146 (dk_at dksX0_row_0 2 rfl rfl)
theorem dX0_row_5 : decode cX0_row 5 = .ok (.astore 4, 2) := dk_58 4 (dk_at dksX0_row_0 5 rfl rfl)
theorem dX0_row_7 : decode cX0_row 7 = .ok (.aload 4, 2) := dk_25 4 (dk_at dksX0_row_0 7 rfl rfl)
theorem dX0_row_9 : decode cX0_row 9 = .ok (.ifnull 12, 3) := dk_198 0 12 (dk_at dksX0_row_0 9 rfl rfl)
theorem dX0_row_12 : decode cX0_row 12 = .ok (.iload_n 2, 1) := dk_28 (dk_at dksX0_row_0 12 rfl rfl)
theorem dX0_row_13 : decode cX0_row 13 = .ok (.iconst 0, 1) := dk_3 (dk_at dksX0_row_0 13 rfl rfl)
theorem dX0_row_14 : decode cX0_row 14 = .ok (.iconst 3, 1) := dk_6 (dk_at dksX0_row_0 14 rfl rfl)
theorem dX0_row_15 : decode cX0_row 15 = .ok (.invokestatic 78, 3) := dk_184 0 78 (dk_at dksX0_row_0 15 rfl rfl)
theorem dX0_row_18 : decode cX0_row 18 = .ok (.ifCond .ne 5, 3) := dk_154 0 5 (dk_at dksX0_row_0 18 rfl rfl)
theorem dX0_row_21 : decode cX0_row 21 = .ok (.iconst (-1), 1) := dk_2 (dk_at dksX0_row_0 21 rfl rfl)
theorem dX0_row_22 : decode cX0_row 22 = .ok (.ireturn, 1) := dk_172 (dk_at dksX0_row_0 22 rfl rfl)
theorem dX0_row_23 : decode cX0_row 23 = .ok (.iload_n 3, 1) := dk_29 (dk_at dksX0_row_0 23 rfl rfl)
theorem dX0_row_24 : decode cX0_row 24 = .ok (.iconst 0, 1) := dk_3 (dk_at dksX0_row_1 0 rfl rfl)
theorem dX0_row_25 : decode cX0_row 25 = .ok (.bipush 9, 2) := dk_16 9 (dk_at dksX0_row_1 1 rfl rfl)
theorem dX0_row_27 : decode cX0_row 27 = .ok (.invokestatic 78, 3) := dk_184 0 78 (dk_at dksX0_row_1 3 rfl rfl)
theorem dX0_row_30 : decode cX0_row 30 = .ok (.ifCond .ne 6, 3) := dk_154 0 6 (dk_at dksX0_row_1 6 rfl rfl)
theorem dX0_row_33 : decode cX0_row 33 = .ok (.bipush (-2), 2) := dk_16 254 (dk_at dksX0_row_1 9 rfl rfl)
theorem dX0_row_35 : decode cX0_row 35 = .ok (.ireturn, 1) := dk_172 (dk_at dksX0_row_1 11 rfl rfl)
theorem dX0_row_36 : decode cX0_row 36 = .ok (.aload 4, 2) := dk_25 4 (dk_at dksX0_row_1 12 rfl rfl)
theorem dX0_row_38 : decode cX0_row 38 = .ok (.instanceof 135, 3) := dk_193 0 135 (dk_at dksX0_row_1 14 rfl rfl)
theorem dX0_row_41 : decode cX0_row 41 = .ok (.ifCond .ne 6, 3) := dk_154 0 6 (dk_at dksX0_row_1 17 rfl rfl)
theorem dX0_row_44 : decode cX0_row 44 = .ok (.bipush (-3), 2) := dk_16 253 (dk_at dksX0_row_1 20 rfl rfl)
theorem dX0_row_46 : decode cX0_row 46 = .ok (.ireturn, 1) := dk_172 (dk_at dksX0_row_1 22 rfl rfl)
theorem dX0_row_47 : decode cX0_row 47 = .ok (.aload 4, 2) := dk_25 4 (dk_at dksX0_row_2 0 rfl rfl)
theorem dX0_row_49 : decode cX0_row 49 = .ok (.checkcast 135, 3) := dk_192 0 135 (dk_at dksX0_row_2 2 rfl rfl)
theorem dX0_row_52 : decode cX0_row 52 = .ok (.getfield 159, 3) := dk_180 0 159 (dk_at dksX0_row_2 5 rfl rfl)
theorem dX0_row_55 : decode cX0_row 55 = .ok (.iload_n 2, 1) := dk_28 (dk_at dksX0_row_2 8 rfl rfl)
theorem dX0_row_56 : decode cX0_row 56 = .ok (.iaload, 1) := dk_46 (dk_at dksX0_row_2 9 rfl rfl)
theorem dX0_row_57 : decode cX0_row 57 = .ok (.istore 5, 2) := dk_54 5 (dk_at dksX0_row_2 10 rfl rfl)
theorem dX0_row_59 : decode cX0_row 59 = .ok (.aload 4, 2) := dk_25 4 (dk_at dksX0_row_2 12 rfl rfl)
theorem dX0_row_61 : decode cX0_row 61 = .ok (.checkcast 135, 3) := dk_192 0 135 (dk_at dksX0_row_2 14 rfl rfl)
theorem dX0_row_64 : decode cX0_row 64 = .ok (.getfield 159, 3) := dk_180 0 159 (dk_at dksX0_row_2 17 rfl rfl)
theorem dX0_row_67 : decode cX0_row 67 = .ok (.iload_n 2, 1) := dk_28 (dk_at dksX0_row_2 20 rfl rfl)
theorem dX0_row_68 : decode cX0_row 68 = .ok (.iload_n 3, 1) := dk_29 (dk_at dksX0_row_2 21 rfl rfl)
theorem dX0_row_69 : decode cX0_row 69 = .ok (.iastore, 1) := dk_79 (dk_at dksX0_row_2 22 rfl rfl)
theorem dX0_row_70 : decode cX0_row 70 = .ok (.iload 5, 2) := dk_21 5 (dk_at dksX0_row_3 0 rfl rfl)
theorem dX0_row_72 : decode cX0_row 72 = .ok (.ireturn, 1) := dk_172 (dk_at dksX0_row_3 2 rfl rfl)
abbrev cX0_push : ByteArray := prog_1_method_15_code
def yX0_push : MethodName := ⟨RX0, "push", "(II)I"⟩
def dkwX0_push_2 : List UInt8 := [182, 0, 166, 172]
abbrev dktX0_push_2 : List UInt8 := dkwX0_push_2 ++ []
def dkwX0_push_1 : List UInt8 := [42, 180, 0, 45, 27, 182, 0, 111, 192, 0, 115, 42, 180, 0, 45, 28, 182, 0, 111, 192, 0, 115]
abbrev dktX0_push_1 : List UInt8 := dkwX0_push_1 ++ dktX0_push_2
def dkwX0_push_0 : List UInt8 := [42, 27, 28, 182, 0, 162, 154, 0, 7, 17, 216, 239, 172, 27, 28, 160, 0, 9, 17, 216, 238, 167, 0, 28]
abbrev dktX0_push_0 : List UInt8 := dkwX0_push_0 ++ dktX0_push_1
theorem dksX0_push_0 : cX0_push.data.toList.drop 0 = dktX0_push_0 := by decide +kernel
theorem dksX0_push_1 : cX0_push.data.toList.drop 24 = dktX0_push_1 := dk_seg dksX0_push_0 24 rfl rfl
theorem dksX0_push_2 : cX0_push.data.toList.drop 46 = dktX0_push_2 := dk_seg dksX0_push_1 22 rfl rfl
theorem dX0_push_0 : decode cX0_push 0 = .ok (.aload_n 0, 1) := dk_42 (dk_at dksX0_push_0 0 rfl rfl)
theorem dX0_push_1 : decode cX0_push 1 = .ok (.iload_n 1, 1) := dk_27 (dk_at dksX0_push_0 1 rfl rfl)
theorem dX0_push_2 : decode cX0_push 2 = .ok (.iload_n 2, 1) := dk_28 (dk_at dksX0_push_0 2 rfl rfl)
theorem dX0_push_3 : decode cX0_push 3 = .ok (.invokevirtual 162, 3) := dk_182 0 162 (dk_at dksX0_push_0 3 rfl rfl)
theorem dX0_push_6 : decode cX0_push 6 = .ok (.ifCond .ne 7, 3) := dk_154 0 7 (dk_at dksX0_push_0 6 rfl rfl)
theorem dX0_push_9 : decode cX0_push 9 = .ok (.sipush (-10001), 3) := dk_17 216 239 (dk_at dksX0_push_0 9 rfl rfl)
theorem dX0_push_12 : decode cX0_push 12 = .ok (.ireturn, 1) := dk_172 (dk_at dksX0_push_0 12 rfl rfl)
theorem dX0_push_13 : decode cX0_push 13 = .ok (.iload_n 1, 1) := dk_27 (dk_at dksX0_push_0 13 rfl rfl)
theorem dX0_push_14 : decode cX0_push 14 = .ok (.iload_n 2, 1) := dk_28 (dk_at dksX0_push_0 14 rfl rfl)
theorem dX0_push_15 : decode cX0_push 15 = .ok (.if_icmp .ne 9, 3) := dk_160 0 9 (dk_at dksX0_push_0 15 rfl rfl)
theorem dX0_push_18 : decode cX0_push 18 = .ok (.sipush (-10002), 3) := dk_17 216 238 (dk_at dksX0_push_0 18 rfl rfl)
theorem dX0_push_21 : decode cX0_push 21 = .ok (.goto 28, 3) := dk_167 0 28 (dk_at dksX0_push_0 21 rfl rfl)
theorem dX0_push_24 : decode cX0_push 24 = .ok (.aload_n 0, 1) := dk_42 (dk_at dksX0_push_1 0 rfl rfl)
theorem dX0_push_25 : decode cX0_push 25 = .ok (.getfield 45, 3) := dk_180 0 45 (dk_at dksX0_push_1 1 rfl rfl)
theorem dX0_push_28 : decode cX0_push 28 = .ok (.iload_n 1, 1) := dk_27 (dk_at dksX0_push_1 4 rfl rfl)
theorem dX0_push_29 : decode cX0_push 29 = .ok (.invokevirtual 111, 3) := dk_182 0 111 (dk_at dksX0_push_1 5 rfl rfl)
theorem dX0_push_32 : decode cX0_push 32 = .ok (.checkcast 115, 3) := dk_192 0 115 (dk_at dksX0_push_1 8 rfl rfl)
theorem dX0_push_35 : decode cX0_push 35 = .ok (.aload_n 0, 1) := dk_42 (dk_at dksX0_push_1 11 rfl rfl)
theorem dX0_push_36 : decode cX0_push 36 = .ok (.getfield 45, 3) := dk_180 0 45 (dk_at dksX0_push_1 12 rfl rfl)
theorem dX0_push_39 : decode cX0_push 39 = .ok (.iload_n 2, 1) := dk_28 (dk_at dksX0_push_1 15 rfl rfl)
theorem dX0_push_40 : decode cX0_push 40 = .ok (.invokevirtual 111, 3) := dk_182 0 111 (dk_at dksX0_push_1 16 rfl rfl)
theorem dX0_push_43 : decode cX0_push 43 = .ok (.checkcast 115, 3) := dk_192 0 115 (dk_at dksX0_push_1 19 rfl rfl)
theorem dX0_push_46 : decode cX0_push 46 = .ok (.invokevirtual 166, 3) := dk_182 0 166 (dk_at dksX0_push_2 0 rfl rfl)
theorem dX0_push_49 : decode cX0_push 49 = .ok (.ireturn, 1) := dk_172 (dk_at dksX0_push_2 3 rfl rfl)
abbrev cX0_arePlayers : ByteArray := prog_1_method_14_code
def yX0_arePlayers : MethodName := ⟨RX0, "arePlayers", "(II)Z"⟩
def dkwX0_arePlayers_0 : List UInt8 := [42, 27, 182, 0, 146, 198, 0, 15, 42, 28, 182, 0, 146, 198, 0, 7, 4, 167, 0, 4, 3, 172]
abbrev dktX0_arePlayers_0 : List UInt8 := dkwX0_arePlayers_0 ++ []
theorem dksX0_arePlayers_0 : cX0_arePlayers.data.toList.drop 0 = dktX0_arePlayers_0 := by decide +kernel
theorem dX0_arePlayers_0 : decode cX0_arePlayers 0 = .ok (.aload_n 0, 1) := dk_42 (dk_at dksX0_arePlayers_0 0 rfl rfl)
theorem dX0_arePlayers_1 : decode cX0_arePlayers 1 = .ok (.iload_n 1, 1) := dk_27 (dk_at dksX0_arePlayers_0 1 rfl rfl)
theorem dX0_arePlayers_2 : decode cX0_arePlayers 2 = .ok (.invokevirtual 146, 3) := dk_182 0 146 (dk_at dksX0_arePlayers_0 2 rfl rfl)
theorem dX0_arePlayers_5 : decode cX0_arePlayers 5 = .ok (.ifnull 15, 3) := dk_198 0 15 (dk_at dksX0_arePlayers_0 5 rfl rfl)
theorem dX0_arePlayers_8 : decode cX0_arePlayers 8 = .ok (.aload_n 0, 1) := dk_42 (dk_at dksX0_arePlayers_0 8 rfl rfl)
theorem dX0_arePlayers_9 : decode cX0_arePlayers 9 = .ok (.iload_n 2, 1) := dk_28 (dk_at dksX0_arePlayers_0 9 rfl rfl)
theorem dX0_arePlayers_10 : decode cX0_arePlayers 10 = .ok (.invokevirtual 146, 3) := dk_182 0 146 (dk_at dksX0_arePlayers_0 10 rfl rfl)
theorem dX0_arePlayers_13 : decode cX0_arePlayers 13 = .ok (.ifnull 7, 3) := dk_198 0 7 (dk_at dksX0_arePlayers_0 13 rfl rfl)
theorem dX0_arePlayers_16 : decode cX0_arePlayers 16 = .ok (.iconst 1, 1) := dk_4 (dk_at dksX0_arePlayers_0 16 rfl rfl)
theorem dX0_arePlayers_17 : decode cX0_arePlayers 17 = .ok (.goto 4, 3) := dk_167 0 4 (dk_at dksX0_arePlayers_0 17 rfl rfl)
theorem dX0_arePlayers_20 : decode cX0_arePlayers 20 = .ok (.iconst 0, 1) := dk_3 (dk_at dksX0_arePlayers_0 20 rfl rfl)
theorem dX0_arePlayers_21 : decode cX0_arePlayers 21 = .ok (.ireturn, 1) := dk_172 (dk_at dksX0_arePlayers_0 21 rfl rfl)
abbrev cX0_odds : ByteArray := prog_1_method_16_code
def yX0_odds : MethodName := ⟨RX0, "odds", "(II)I"⟩
def dkwX0_odds_2 : List UInt8 := [172]
abbrev dktX0_odds_2 : List UInt8 := dkwX0_odds_2 ++ []
def dkwX0_odds_1 : List UInt8 := [180, 0, 45, 27, 182, 0, 111, 192, 0, 115, 42, 180, 0, 45, 28, 182, 0, 111, 192, 0, 115, 182, 0, 170]
abbrev dktX0_odds_1 : List UInt8 := dkwX0_odds_1 ++ dktX0_odds_2
def dkwX0_odds_0 : List UInt8 := [42, 27, 28, 182, 0, 162, 154, 0, 5, 2, 172, 27, 28, 160, 0, 8, 16, 254, 167, 0, 28, 42]
abbrev dktX0_odds_0 : List UInt8 := dkwX0_odds_0 ++ dktX0_odds_1
theorem dksX0_odds_0 : cX0_odds.data.toList.drop 0 = dktX0_odds_0 := by decide +kernel
theorem dksX0_odds_1 : cX0_odds.data.toList.drop 22 = dktX0_odds_1 := dk_seg dksX0_odds_0 22 rfl rfl
theorem dksX0_odds_2 : cX0_odds.data.toList.drop 46 = dktX0_odds_2 := dk_seg dksX0_odds_1 24 rfl rfl
theorem dX0_odds_0 : decode cX0_odds 0 = .ok (.aload_n 0, 1) := dk_42 (dk_at dksX0_odds_0 0 rfl rfl)
theorem dX0_odds_1 : decode cX0_odds 1 = .ok (.iload_n 1, 1) := dk_27 (dk_at dksX0_odds_0 1 rfl rfl)
theorem dX0_odds_2 : decode cX0_odds 2 = .ok (.iload_n 2, 1) := dk_28 (dk_at dksX0_odds_0 2 rfl rfl)
theorem dX0_odds_3 : decode cX0_odds 3 = .ok (.invokevirtual 162, 3) := dk_182 0 162 (dk_at dksX0_odds_0 3 rfl rfl)
theorem dX0_odds_6 : decode cX0_odds 6 = .ok (.ifCond .ne 5, 3) := dk_154 0 5 (dk_at dksX0_odds_0 6 rfl rfl)
theorem dX0_odds_9 : decode cX0_odds 9 = .ok (.iconst (-1), 1) := dk_2 (dk_at dksX0_odds_0 9 rfl rfl)
theorem dX0_odds_10 : decode cX0_odds 10 = .ok (.ireturn, 1) := dk_172 (dk_at dksX0_odds_0 10 rfl rfl)
theorem dX0_odds_11 : decode cX0_odds 11 = .ok (.iload_n 1, 1) := dk_27 (dk_at dksX0_odds_0 11 rfl rfl)
theorem dX0_odds_12 : decode cX0_odds 12 = .ok (.iload_n 2, 1) := dk_28 (dk_at dksX0_odds_0 12 rfl rfl)
theorem dX0_odds_13 : decode cX0_odds 13 = .ok (.if_icmp .ne 8, 3) := dk_160 0 8 (dk_at dksX0_odds_0 13 rfl rfl)
theorem dX0_odds_16 : decode cX0_odds 16 = .ok (.bipush (-2), 2) := dk_16 254 (dk_at dksX0_odds_0 16 rfl rfl)
theorem dX0_odds_18 : decode cX0_odds 18 = .ok (.goto 28, 3) := dk_167 0 28 (dk_at dksX0_odds_0 18 rfl rfl)
theorem dX0_odds_21 : decode cX0_odds 21 = .ok (.aload_n 0, 1) := dk_42 (dk_at dksX0_odds_0 21 rfl rfl)
theorem dX0_odds_22 : decode cX0_odds 22 = .ok (.getfield 45, 3) := dk_180 0 45 (dk_at dksX0_odds_1 0 rfl rfl)
theorem dX0_odds_25 : decode cX0_odds 25 = .ok (.iload_n 1, 1) := dk_27 (dk_at dksX0_odds_1 3 rfl rfl)
theorem dX0_odds_26 : decode cX0_odds 26 = .ok (.invokevirtual 111, 3) := dk_182 0 111 (dk_at dksX0_odds_1 4 rfl rfl)
theorem dX0_odds_29 : decode cX0_odds 29 = .ok (.checkcast 115, 3) := dk_192 0 115 (dk_at dksX0_odds_1 7 rfl rfl)
theorem dX0_odds_32 : decode cX0_odds 32 = .ok (.aload_n 0, 1) := dk_42 (dk_at dksX0_odds_1 10 rfl rfl)
theorem dX0_odds_33 : decode cX0_odds 33 = .ok (.getfield 45, 3) := dk_180 0 45 (dk_at dksX0_odds_1 11 rfl rfl)
theorem dX0_odds_36 : decode cX0_odds 36 = .ok (.iload_n 2, 1) := dk_28 (dk_at dksX0_odds_1 14 rfl rfl)
theorem dX0_odds_37 : decode cX0_odds 37 = .ok (.invokevirtual 111, 3) := dk_182 0 111 (dk_at dksX0_odds_1 15 rfl rfl)
theorem dX0_odds_40 : decode cX0_odds 40 = .ok (.checkcast 115, 3) := dk_192 0 115 (dk_at dksX0_odds_1 18 rfl rfl)
theorem dX0_odds_43 : decode cX0_odds 43 = .ok (.invokevirtual 170, 3) := dk_182 0 170 (dk_at dksX0_odds_1 21 rfl rfl)
theorem dX0_odds_46 : decode cX0_odds 46 = .ok (.ireturn, 1) := dk_172 (dk_at dksX0_odds_2 0 rfl rfl)
abbrev cX0_play : ByteArray := prog_1_method_18_code
def yX0_play : MethodName := ⟨RX0, "play", "(IIZ)I"⟩
def dkwX0_play_3 : List UInt8 := [29, 153, 0, 8, 25, 5, 167, 0, 5, 25, 4, 182, 0, 182, 25, 4, 180, 0, 156, 172]
abbrev dktX0_play_3 : List UInt8 := dkwX0_play_3 ++ []
def dkwX0_play_2 : List UInt8 := [180, 0, 45, 28, 182, 0, 111, 192, 0, 115, 58, 5, 42, 29, 153, 0, 8, 25, 4, 167, 0, 5, 25, 5]
abbrev dktX0_play_2 : List UInt8 := dkwX0_play_2 ++ dktX0_play_3
def dkwX0_play_1 : List UInt8 := [17, 39, 15, 160, 0, 6, 16, 253, 172, 42, 180, 0, 45, 27, 182, 0, 111, 192, 0, 115, 58, 4, 42]
abbrev dktX0_play_1 : List UInt8 := dkwX0_play_1 ++ dktX0_play_2
def dkwX0_play_0 : List UInt8 := [42, 27, 28, 182, 0, 162, 154, 0, 5, 2, 172, 27, 28, 160, 0, 6, 16, 254, 172, 42, 180, 0, 98]
abbrev dktX0_play_0 : List UInt8 := dkwX0_play_0 ++ dktX0_play_1
theorem dksX0_play_0 : cX0_play.data.toList.drop 0 = dktX0_play_0 := by decide +kernel
theorem dksX0_play_1 : cX0_play.data.toList.drop 23 = dktX0_play_1 := dk_seg dksX0_play_0 23 rfl rfl
theorem dksX0_play_2 : cX0_play.data.toList.drop 46 = dktX0_play_2 := dk_seg dksX0_play_1 23 rfl rfl
theorem dksX0_play_3 : cX0_play.data.toList.drop 70 = dktX0_play_3 := dk_seg dksX0_play_2 24 rfl rfl
theorem dX0_play_0 : decode cX0_play 0 = .ok (.aload_n 0, 1) := dk_42 (dk_at dksX0_play_0 0 rfl rfl)
theorem dX0_play_1 : decode cX0_play 1 = .ok (.iload_n 1, 1) := dk_27 (dk_at dksX0_play_0 1 rfl rfl)
theorem dX0_play_2 : decode cX0_play 2 = .ok (.iload_n 2, 1) := dk_28 (dk_at dksX0_play_0 2 rfl rfl)
theorem dX0_play_3 : decode cX0_play 3 = .ok (.invokevirtual 162, 3) := dk_182 0 162 (dk_at dksX0_play_0 3 rfl rfl)
theorem dX0_play_6 : decode cX0_play 6 = .ok (.ifCond .ne 5, 3) := dk_154 0 5 (dk_at dksX0_play_0 6 rfl rfl)
theorem dX0_play_9 : decode cX0_play 9 = .ok (.iconst (-1), 1) := dk_2 (dk_at dksX0_play_0 9 rfl rfl)
theorem dX0_play_10 : decode cX0_play 10 = .ok (.ireturn, 1) := dk_172 (dk_at dksX0_play_0 10 rfl rfl)
theorem dX0_play_11 : decode cX0_play 11 = .ok (.iload_n 1, 1) := dk_27 (dk_at dksX0_play_0 11 rfl rfl)
theorem dX0_play_12 : decode cX0_play 12 = .ok (.iload_n 2, 1) := dk_28 (dk_at dksX0_play_0 12 rfl rfl)
theorem dX0_play_13 : decode cX0_play 13 = .ok (.if_icmp .ne 6, 3) := dk_160 0 6 (dk_at dksX0_play_0 13 rfl rfl)
theorem dX0_play_16 : decode cX0_play 16 = .ok (.bipush (-2), 2) := dk_16 254 (dk_at dksX0_play_0 16 rfl rfl)
theorem dX0_play_18 : decode cX0_play 18 = .ok (.ireturn, 1) := dk_172 (dk_at dksX0_play_0 18 rfl rfl)
theorem dX0_play_19 : decode cX0_play 19 = .ok (.aload_n 0, 1) := dk_42 (dk_at dksX0_play_0 19 rfl rfl)
theorem dX0_play_20 : decode cX0_play 20 = .ok (.getfield 98, 3) := dk_180 0 98 (dk_at dksX0_play_0 20 rfl rfl)
theorem dX0_play_23 : decode cX0_play 23 = .ok (.sipush 9999, 3) := dk_17 39 15 (dk_at dksX0_play_1 0 rfl rfl)
theorem dX0_play_26 : decode cX0_play 26 = .ok (.if_icmp .ne 6, 3) := dk_160 0 6 (dk_at dksX0_play_1 3 rfl rfl)
theorem dX0_play_29 : decode cX0_play 29 = .ok (.bipush (-3), 2) := dk_16 253 (dk_at dksX0_play_1 6 rfl rfl)
theorem dX0_play_31 : decode cX0_play 31 = .ok (.ireturn, 1) := dk_172 (dk_at dksX0_play_1 8 rfl rfl)
theorem dX0_play_32 : decode cX0_play 32 = .ok (.aload_n 0, 1) := dk_42 (dk_at dksX0_play_1 9 rfl rfl)
theorem dX0_play_33 : decode cX0_play 33 = .ok (.getfield 45, 3) := dk_180 0 45 (dk_at dksX0_play_1 10 rfl rfl)
theorem dX0_play_36 : decode cX0_play 36 = .ok (.iload_n 1, 1) := dk_27 (dk_at dksX0_play_1 13 rfl rfl)
theorem dX0_play_37 : decode cX0_play 37 = .ok (.invokevirtual 111, 3) := dk_182 0 111 (dk_at dksX0_play_1 14 rfl rfl)
theorem dX0_play_40 : decode cX0_play 40 = .ok (.checkcast 115, 3) := dk_192 0 115 (dk_at dksX0_play_1 17 rfl rfl)
theorem dX0_play_43 : decode cX0_play 43 = .ok (.astore 4, 2) := dk_58 4 (dk_at dksX0_play_1 20 rfl rfl)
theorem dX0_play_45 : decode cX0_play 45 = .ok (.aload_n 0, 1) := dk_42 (dk_at dksX0_play_1 22 rfl rfl)
theorem dX0_play_46 : decode cX0_play 46 = .ok (.getfield 45, 3) := dk_180 0 45 (dk_at dksX0_play_2 0 rfl rfl)
theorem dX0_play_49 : decode cX0_play 49 = .ok (.iload_n 2, 1) := dk_28 (dk_at dksX0_play_2 3 rfl rfl)
theorem dX0_play_50 : decode cX0_play 50 = .ok (.invokevirtual 111, 3) := dk_182 0 111 (dk_at dksX0_play_2 4 rfl rfl)
theorem dX0_play_53 : decode cX0_play 53 = .ok (.checkcast 115, 3) := dk_192 0 115 (dk_at dksX0_play_2 7 rfl rfl)
theorem dX0_play_56 : decode cX0_play 56 = .ok (.astore 5, 2) := dk_58 5 (dk_at dksX0_play_2 10 rfl rfl)
theorem dX0_play_58 : decode cX0_play 58 = .ok (.aload_n 0, 1) := dk_42 (dk_at dksX0_play_2 12 rfl rfl)
theorem dX0_play_59 : decode cX0_play 59 = .ok (.iload_n 3, 1) := dk_29 (dk_at dksX0_play_2 13 rfl rfl)
theorem dX0_play_60 : decode cX0_play 60 = .ok (.ifCond .eq 8, 3) := dk_153 0 8 (dk_at dksX0_play_2 14 rfl rfl)
theorem dX0_play_63 : decode cX0_play 63 = .ok (.aload 4, 2) := dk_25 4 (dk_at dksX0_play_2 17 rfl rfl)
theorem dX0_play_65 : decode cX0_play 65 = .ok (.goto 5, 3) := dk_167 0 5 (dk_at dksX0_play_2 19 rfl rfl)
theorem dX0_play_68 : decode cX0_play 68 = .ok (.aload 5, 2) := dk_25 5 (dk_at dksX0_play_2 22 rfl rfl)
theorem dX0_play_70 : decode cX0_play 70 = .ok (.iload_n 3, 1) := dk_29 (dk_at dksX0_play_3 0 rfl rfl)
theorem dX0_play_71 : decode cX0_play 71 = .ok (.ifCond .eq 8, 3) := dk_153 0 8 (dk_at dksX0_play_3 1 rfl rfl)
theorem dX0_play_74 : decode cX0_play 74 = .ok (.aload 5, 2) := dk_25 5 (dk_at dksX0_play_3 4 rfl rfl)
theorem dX0_play_76 : decode cX0_play 76 = .ok (.goto 5, 3) := dk_167 0 5 (dk_at dksX0_play_3 6 rfl rfl)
theorem dX0_play_79 : decode cX0_play 79 = .ok (.aload 4, 2) := dk_25 4 (dk_at dksX0_play_3 9 rfl rfl)
theorem dX0_play_81 : decode cX0_play 81 = .ok (.invokevirtual 182, 3) := dk_182 0 182 (dk_at dksX0_play_3 11 rfl rfl)
theorem dX0_play_84 : decode cX0_play 84 = .ok (.aload 4, 2) := dk_25 4 (dk_at dksX0_play_3 14 rfl rfl)
theorem dX0_play_86 : decode cX0_play 86 = .ok (.getfield 156, 3) := dk_180 0 156 (dk_at dksX0_play_3 16 rfl rfl)
theorem dX0_play_89 : decode cX0_play 89 = .ok (.ireturn, 1) := dk_172 (dk_at dksX0_play_3 19 rfl rfl)
abbrev cX0_go : ByteArray := prog_1_method_17_code
def yX0_go : MethodName := ⟨RX0, "go", "(LFewerMan$Player;LFewerMan$Player;)V"⟩
def dkwX0_go_2 : List UInt8 := [180, 0, 98, 4, 96, 181, 0, 98, 177]
abbrev dktX0_go_2 : List UInt8 := dkwX0_go_2 ++ []
def dkwX0_go_1 : List UInt8 := [16, 20, 44, 180, 0, 156, 42, 180, 0, 18, 180, 0, 101, 4, 46, 96, 184, 0, 179, 181, 0, 156, 42, 89]
abbrev dktX0_go_1 : List UInt8 := dkwX0_go_1 ++ dktX0_go_2
def dkwX0_go_0 : List UInt8 := [43, 4, 43, 180, 0, 156, 42, 180, 0, 18, 180, 0, 101, 3, 46, 100, 184, 0, 173, 181, 0, 156, 44]
abbrev dktX0_go_0 : List UInt8 := dkwX0_go_0 ++ dktX0_go_1
theorem dksX0_go_0 : cX0_go.data.toList.drop 0 = dktX0_go_0 := by decide +kernel
theorem dksX0_go_1 : cX0_go.data.toList.drop 23 = dktX0_go_1 := dk_seg dksX0_go_0 23 rfl rfl
theorem dksX0_go_2 : cX0_go.data.toList.drop 47 = dktX0_go_2 := dk_seg dksX0_go_1 24 rfl rfl
theorem dX0_go_0 : decode cX0_go 0 = .ok (.aload_n 1, 1) := dk_43 (dk_at dksX0_go_0 0 rfl rfl)
theorem dX0_go_1 : decode cX0_go 1 = .ok (.iconst 1, 1) := dk_4 (dk_at dksX0_go_0 1 rfl rfl)
theorem dX0_go_2 : decode cX0_go 2 = .ok (.aload_n 1, 1) := dk_43 (dk_at dksX0_go_0 2 rfl rfl)
theorem dX0_go_3 : decode cX0_go 3 = .ok (.getfield 156, 3) := dk_180 0 156 (dk_at dksX0_go_0 3 rfl rfl)
theorem dX0_go_6 : decode cX0_go 6 = .ok (.aload_n 0, 1) := dk_42 (dk_at dksX0_go_0 6 rfl rfl)
theorem dX0_go_7 : decode cX0_go 7 = .ok (.getfield 18, 3) := dk_180 0 18 (dk_at dksX0_go_0 7 rfl rfl)
theorem dX0_go_10 : decode cX0_go 10 = .ok (.getfield 101, 3) := dk_180 0 101 (dk_at dksX0_go_0 10 rfl rfl)
theorem dX0_go_13 : decode cX0_go 13 = .ok (.iconst 0, 1) := dk_3 (dk_at dksX0_go_0 13 rfl rfl)
theorem dX0_go_14 : decode cX0_go 14 = .ok (.iaload, 1) := dk_46 (dk_at dksX0_go_0 14 rfl rfl)
theorem dX0_go_15 : decode cX0_go 15 = .ok (.isub, 1) := dk_100 (dk_at dksX0_go_0 15 rfl rfl)
theorem dX0_go_16 : decode cX0_go 16 = .ok (.invokestatic 173, 3) := dk_184 0 173 (dk_at dksX0_go_0 16 rfl rfl)
theorem dX0_go_19 : decode cX0_go 19 = .ok (.putfield 156, 3) := dk_181 0 156 (dk_at dksX0_go_0 19 rfl rfl)
theorem dX0_go_22 : decode cX0_go 22 = .ok (.aload_n 2, 1) := dk_44 (dk_at dksX0_go_0 22 rfl rfl)
theorem dX0_go_23 : decode cX0_go 23 = .ok (.bipush 20, 2) := dk_16 20 (dk_at dksX0_go_1 0 rfl rfl)
theorem dX0_go_25 : decode cX0_go 25 = .ok (.aload_n 2, 1) := dk_44 (dk_at dksX0_go_1 2 rfl rfl)
theorem dX0_go_26 : decode cX0_go 26 = .ok (.getfield 156, 3) := dk_180 0 156 (dk_at dksX0_go_1 3 rfl rfl)
theorem dX0_go_29 : decode cX0_go 29 = .ok (.aload_n 0, 1) := dk_42 (dk_at dksX0_go_1 6 rfl rfl)
theorem dX0_go_30 : decode cX0_go 30 = .ok (.getfield 18, 3) := dk_180 0 18 (dk_at dksX0_go_1 7 rfl rfl)
theorem dX0_go_33 : decode cX0_go 33 = .ok (.getfield 101, 3) := dk_180 0 101 (dk_at dksX0_go_1 10 rfl rfl)
theorem dX0_go_36 : decode cX0_go 36 = .ok (.iconst 1, 1) := dk_4 (dk_at dksX0_go_1 13 rfl rfl)
theorem dX0_go_37 : decode cX0_go 37 = .ok (.iaload, 1) := dk_46 (dk_at dksX0_go_1 14 rfl rfl)
theorem dX0_go_38 : decode cX0_go 38 = .ok (.iadd, 1) := dk_96 (dk_at dksX0_go_1 15 rfl rfl)
theorem dX0_go_39 : decode cX0_go 39 = .ok (.invokestatic 179, 3) := dk_184 0 179 (dk_at dksX0_go_1 16 rfl rfl)
theorem dX0_go_42 : decode cX0_go 42 = .ok (.putfield 156, 3) := dk_181 0 156 (dk_at dksX0_go_1 19 rfl rfl)
theorem dX0_go_45 : decode cX0_go 45 = .ok (.aload_n 0, 1) := dk_42 (dk_at dksX0_go_1 22 rfl rfl)
theorem dX0_go_46 : decode cX0_go 46 = .ok (.dup, 1) := dk_89 (dk_at dksX0_go_1 23 rfl rfl)
theorem dX0_go_47 : decode cX0_go 47 = .ok (.getfield 98, 3) := dk_180 0 98 (dk_at dksX0_go_2 0 rfl rfl)
theorem dX0_go_50 : decode cX0_go 50 = .ok (.iconst 1, 1) := dk_4 (dk_at dksX0_go_2 3 rfl rfl)
theorem dX0_go_51 : decode cX0_go 51 = .ok (.iadd, 1) := dk_96 (dk_at dksX0_go_2 4 rfl rfl)
theorem dX0_go_52 : decode cX0_go 52 = .ok (.putfield 98, 3) := dk_181 0 98 (dk_at dksX0_go_2 5 rfl rfl)
theorem dX0_go_55 : decode cX0_go 55 = .ok (.return_, 1) := dk_177 (dk_at dksX0_go_2 8 rfl rfl)
abbrev cX0_wins : ByteArray := prog_1_method_24_code
def yX0_wins : MethodName := ⟨RX0, "wins", "(IIIII)J"⟩
def dkwX0_wins_2 : List UInt8 := [47, 29, 184, 0, 212, 21, 5, 184, 0, 216, 173]
abbrev dktX0_wins_2 : List UInt8 := dkwX0_wins_2 ++ []
def dkwX0_wins_1 : List UInt8 := [29, 184, 0, 78, 154, 0, 7, 20, 0, 206, 173, 42, 27, 28, 29, 182, 0, 208, 42, 180, 0, 49, 21, 4]
abbrev dktX0_wins_1 : List UInt8 := dkwX0_wins_1 ++ dktX0_wins_2
def dkwX0_wins_0 : List UInt8 := [42, 27, 28, 21, 5, 182, 0, 203, 153, 0, 23, 29, 3, 16, 12, 184, 0, 78, 153, 0, 13, 21, 4, 3]
abbrev dktX0_wins_0 : List UInt8 := dkwX0_wins_0 ++ dktX0_wins_1
theorem dksX0_wins_0 : cX0_wins.data.toList.drop 0 = dktX0_wins_0 := by decide +kernel
theorem dksX0_wins_1 : cX0_wins.data.toList.drop 24 = dktX0_wins_1 := dk_seg dksX0_wins_0 24 rfl rfl
theorem dksX0_wins_2 : cX0_wins.data.toList.drop 48 = dktX0_wins_2 := dk_seg dksX0_wins_1 24 rfl rfl
theorem dX0_wins_0 : decode cX0_wins 0 = .ok (.aload_n 0, 1) := dk_42 (dk_at dksX0_wins_0 0 rfl rfl)
theorem dX0_wins_1 : decode cX0_wins 1 = .ok (.iload_n 1, 1) := dk_27 (dk_at dksX0_wins_0 1 rfl rfl)
theorem dX0_wins_2 : decode cX0_wins 2 = .ok (.iload_n 2, 1) := dk_28 (dk_at dksX0_wins_0 2 rfl rfl)
theorem dX0_wins_3 : decode cX0_wins 3 = .ok (.iload 5, 2) := dk_21 5 (dk_at dksX0_wins_0 3 rfl rfl)
theorem dX0_wins_5 : decode cX0_wins 5 = .ok (.invokevirtual 203, 3) := dk_182 0 203 (dk_at dksX0_wins_0 5 rfl rfl)
theorem dX0_wins_8 : decode cX0_wins 8 = .ok (.ifCond .eq 23, 3) := dk_153 0 23 (dk_at dksX0_wins_0 8 rfl rfl)
theorem dX0_wins_11 : decode cX0_wins 11 = .ok (.iload_n 3, 1) := dk_29 (dk_at dksX0_wins_0 11 rfl rfl)
theorem dX0_wins_12 : decode cX0_wins 12 = .ok (.iconst 0, 1) := dk_3 (dk_at dksX0_wins_0 12 rfl rfl)
theorem dX0_wins_13 : decode cX0_wins 13 = .ok (.bipush 12, 2) := dk_16 12 (dk_at dksX0_wins_0 13 rfl rfl)
theorem dX0_wins_15 : decode cX0_wins 15 = .ok (.invokestatic 78, 3) := dk_184 0 78 (dk_at dksX0_wins_0 15 rfl rfl)
theorem dX0_wins_18 : decode cX0_wins 18 = .ok (.ifCond .eq 13, 3) := dk_153 0 13 (dk_at dksX0_wins_0 18 rfl rfl)
theorem dX0_wins_21 : decode cX0_wins 21 = .ok (.iload 4, 2) := dk_21 4 (dk_at dksX0_wins_0 21 rfl rfl)
theorem dX0_wins_23 : decode cX0_wins 23 = .ok (.iconst 0, 1) := dk_3 (dk_at dksX0_wins_0 23 rfl rfl)
theorem dX0_wins_24 : decode cX0_wins 24 = .ok (.iload_n 3, 1) := dk_29 (dk_at dksX0_wins_1 0 rfl rfl)
theorem dX0_wins_25 : decode cX0_wins 25 = .ok (.invokestatic 78, 3) := dk_184 0 78 (dk_at dksX0_wins_1 1 rfl rfl)
theorem dX0_wins_28 : decode cX0_wins 28 = .ok (.ifCond .ne 7, 3) := dk_154 0 7 (dk_at dksX0_wins_1 4 rfl rfl)
theorem dX0_wins_31 : decode cX0_wins 31 = .ok (.ldc2_w 206, 3) := dk_20 0 206 (dk_at dksX0_wins_1 7 rfl rfl)
theorem dX0_wins_34 : decode cX0_wins 34 = .ok (.lreturn, 1) := dk_173 (dk_at dksX0_wins_1 10 rfl rfl)
theorem dX0_wins_35 : decode cX0_wins 35 = .ok (.aload_n 0, 1) := dk_42 (dk_at dksX0_wins_1 11 rfl rfl)
theorem dX0_wins_36 : decode cX0_wins 36 = .ok (.iload_n 1, 1) := dk_27 (dk_at dksX0_wins_1 12 rfl rfl)
theorem dX0_wins_37 : decode cX0_wins 37 = .ok (.iload_n 2, 1) := dk_28 (dk_at dksX0_wins_1 13 rfl rfl)
theorem dX0_wins_38 : decode cX0_wins 38 = .ok (.iload_n 3, 1) := dk_29 (dk_at dksX0_wins_1 14 rfl rfl)
theorem dX0_wins_39 : decode cX0_wins 39 = .ok (.invokevirtual 208, 3) := dk_182 0 208 (dk_at dksX0_wins_1 15 rfl rfl)
theorem dX0_wins_42 : decode cX0_wins 42 = .ok (.aload_n 0, 1) := dk_42 (dk_at dksX0_wins_1 18 rfl rfl)
theorem dX0_wins_43 : decode cX0_wins 43 = .ok (.getfield 49, 3) := dk_180 0 49 (dk_at dksX0_wins_1 19 rfl rfl)
theorem dX0_wins_46 : decode cX0_wins 46 = .ok (.iload 4, 2) := dk_21 4 (dk_at dksX0_wins_1 22 rfl rfl)
theorem dX0_wins_48 : decode cX0_wins 48 = .ok (.laload, 1) := dk_47 (dk_at dksX0_wins_2 0 rfl rfl)
theorem dX0_wins_49 : decode cX0_wins 49 = .ok (.iload_n 3, 1) := dk_29 (dk_at dksX0_wins_2 1 rfl rfl)
theorem dX0_wins_50 : decode cX0_wins 50 = .ok (.invokestatic 212, 3) := dk_184 0 212 (dk_at dksX0_wins_2 2 rfl rfl)
theorem dX0_wins_53 : decode cX0_wins 53 = .ok (.iload 5, 2) := dk_21 5 (dk_at dksX0_wins_2 5 rfl rfl)
theorem dX0_wins_55 : decode cX0_wins 55 = .ok (.invokestatic 216, 3) := dk_184 0 216 (dk_at dksX0_wins_2 7 rfl rfl)
theorem dX0_wins_58 : decode cX0_wins 58 = .ok (.lreturn, 1) := dk_173 (dk_at dksX0_wins_2 10 rfl rfl)
abbrev cX0_arePair : ByteArray := prog_1_method_21_code
def yX0_arePair : MethodName := ⟨RX0, "arePair", "(III)Z"⟩
def dkwX0_arePair_1 : List UInt8 := [167, 0, 4, 3, 172]
abbrev dktX0_arePair_1 : List UInt8 := dkwX0_arePair_1 ++ []
def dkwX0_arePair_0 : List UInt8 := [42, 27, 28, 182, 0, 162, 153, 0, 21, 27, 28, 159, 0, 16, 29, 3, 4, 184, 0, 78, 153, 0, 7, 4]
abbrev dktX0_arePair_0 : List UInt8 := dkwX0_arePair_0 ++ dktX0_arePair_1
theorem dksX0_arePair_0 : cX0_arePair.data.toList.drop 0 = dktX0_arePair_0 := by decide +kernel
theorem dksX0_arePair_1 : cX0_arePair.data.toList.drop 24 = dktX0_arePair_1 := dk_seg dksX0_arePair_0 24 rfl rfl
theorem dX0_arePair_0 : decode cX0_arePair 0 = .ok (.aload_n 0, 1) := dk_42 (dk_at dksX0_arePair_0 0 rfl rfl)
theorem dX0_arePair_1 : decode cX0_arePair 1 = .ok (.iload_n 1, 1) := dk_27 (dk_at dksX0_arePair_0 1 rfl rfl)
theorem dX0_arePair_2 : decode cX0_arePair 2 = .ok (.iload_n 2, 1) := dk_28 (dk_at dksX0_arePair_0 2 rfl rfl)
theorem dX0_arePair_3 : decode cX0_arePair 3 = .ok (.invokevirtual 162, 3) := dk_182 0 162 (dk_at dksX0_arePair_0 3 rfl rfl)
theorem dX0_arePair_6 : decode cX0_arePair 6 = .ok (.ifCond .eq 21, 3) := dk_153 0 21 (dk_at dksX0_arePair_0 6 rfl rfl)
theorem dX0_arePair_9 : decode cX0_arePair 9 = .ok (.iload_n 1, 1) := dk_27 (dk_at dksX0_arePair_0 9 rfl rfl)
theorem dX0_arePair_10 : decode cX0_arePair 10 = .ok (.iload_n 2, 1) := dk_28 (dk_at dksX0_arePair_0 10 rfl rfl)
theorem dX0_arePair_11 : decode cX0_arePair 11 = .ok (.if_icmp .eq 16, 3) := dk_159 0 16 (dk_at dksX0_arePair_0 11 rfl rfl)
theorem dX0_arePair_14 : decode cX0_arePair 14 = .ok (.iload_n 3, 1) := dk_29 (dk_at dksX0_arePair_0 14 rfl rfl)
theorem dX0_arePair_15 : decode cX0_arePair 15 = .ok (.iconst 0, 1) := dk_3 (dk_at dksX0_arePair_0 15 rfl rfl)
theorem dX0_arePair_16 : decode cX0_arePair 16 = .ok (.iconst 1, 1) := dk_4 (dk_at dksX0_arePair_0 16 rfl rfl)
theorem dX0_arePair_17 : decode cX0_arePair 17 = .ok (.invokestatic 78, 3) := dk_184 0 78 (dk_at dksX0_arePair_0 17 rfl rfl)
theorem dX0_arePair_20 : decode cX0_arePair 20 = .ok (.ifCond .eq 7, 3) := dk_153 0 7 (dk_at dksX0_arePair_0 20 rfl rfl)
theorem dX0_arePair_23 : decode cX0_arePair 23 = .ok (.iconst 1, 1) := dk_4 (dk_at dksX0_arePair_0 23 rfl rfl)
theorem dX0_arePair_24 : decode cX0_arePair 24 = .ok (.goto 4, 3) := dk_167 0 4 (dk_at dksX0_arePair_1 0 rfl rfl)
theorem dX0_arePair_27 : decode cX0_arePair 27 = .ok (.iconst 0, 1) := dk_3 (dk_at dksX0_arePair_1 3 rfl rfl)
theorem dX0_arePair_28 : decode cX0_arePair 28 = .ok (.ireturn, 1) := dk_172 (dk_at dksX0_arePair_1 4 rfl rfl)
abbrev cX0_layWays : ByteArray := prog_1_method_23_code
def yX0_layWays : MethodName := ⟨RX0, "layWays", "(III)V"⟩
def dkwX0_layWays_2 : List UInt8 := [180, 0, 45, 28, 182, 0, 111, 192, 0, 115, 29, 3, 3, 10, 182, 0, 199, 177]
abbrev dktX0_layWays_2 : List UInt8 := dkwX0_layWays_2 ++ []
def dkwX0_layWays_1 : List UInt8 := [42, 9, 181, 0, 192, 42, 9, 181, 0, 196, 42, 42, 180, 0, 45, 27, 182, 0, 111, 192, 0, 115, 42]
abbrev dktX0_layWays_1 : List UInt8 := dkwX0_layWays_1 ++ dktX0_layWays_2
def dkwX0_layWays_0 : List UInt8 := [3, 54, 4, 21, 4, 16, 12, 163, 0, 17, 42, 180, 0, 49, 21, 4, 9, 80, 132, 4, 1, 167, 255, 238]
abbrev dktX0_layWays_0 : List UInt8 := dkwX0_layWays_0 ++ dktX0_layWays_1
theorem dksX0_layWays_0 : cX0_layWays.data.toList.drop 0 = dktX0_layWays_0 := by decide +kernel
theorem dksX0_layWays_1 : cX0_layWays.data.toList.drop 24 = dktX0_layWays_1 := dk_seg dksX0_layWays_0 24 rfl rfl
theorem dksX0_layWays_2 : cX0_layWays.data.toList.drop 47 = dktX0_layWays_2 := dk_seg dksX0_layWays_1 23 rfl rfl
theorem dX0_layWays_0 : decode cX0_layWays 0 = .ok (.iconst 0, 1) := dk_3 (dk_at dksX0_layWays_0 0 rfl rfl)
theorem dX0_layWays_1 : decode cX0_layWays 1 = .ok (.istore 4, 2) := dk_54 4 (dk_at dksX0_layWays_0 1 rfl rfl)
theorem dX0_layWays_3 : decode cX0_layWays 3 = .ok (.iload 4, 2) := dk_21 4 (dk_at dksX0_layWays_0 3 rfl rfl)
theorem dX0_layWays_5 : decode cX0_layWays 5 = .ok (.bipush 12, 2) := dk_16 12 (dk_at dksX0_layWays_0 5 rfl rfl)
theorem dX0_layWays_7 : decode cX0_layWays 7 = .ok (.if_icmp .gt 17, 3) := dk_163 0 17 (dk_at dksX0_layWays_0 7 rfl rfl)
theorem dX0_layWays_10 : decode cX0_layWays 10 = .ok (.aload_n 0, 1) := dk_42 (dk_at dksX0_layWays_0 10 rfl rfl)
theorem dX0_layWays_11 : decode cX0_layWays 11 = .ok (.getfield 49, 3) := dk_180 0 49 (dk_at dksX0_layWays_0 11 rfl rfl)
theorem dX0_layWays_14 : decode cX0_layWays 14 = .ok (.iload 4, 2) := dk_21 4 (dk_at dksX0_layWays_0 14 rfl rfl)
theorem dX0_layWays_16 : decode cX0_layWays 16 = .ok (.lconst 0, 1) := dk_9 (dk_at dksX0_layWays_0 16 rfl rfl)
theorem dX0_layWays_17 : decode cX0_layWays 17 = .ok (.lastore, 1) := dk_80 (dk_at dksX0_layWays_0 17 rfl rfl)
theorem dX0_layWays_18 : decode cX0_layWays 18 = .ok (.iinc 4 1, 3) := dk_132 4 1 (dk_at dksX0_layWays_0 18 rfl rfl)
theorem dX0_layWays_21 : decode cX0_layWays 21 = .ok (.goto (-18), 3) := dk_167 255 238 (dk_at dksX0_layWays_0 21 rfl rfl)
theorem dX0_layWays_24 : decode cX0_layWays 24 = .ok (.aload_n 0, 1) := dk_42 (dk_at dksX0_layWays_1 0 rfl rfl)
theorem dX0_layWays_25 : decode cX0_layWays 25 = .ok (.lconst 0, 1) := dk_9 (dk_at dksX0_layWays_1 1 rfl rfl)
theorem dX0_layWays_26 : decode cX0_layWays 26 = .ok (.putfield 192, 3) := dk_181 0 192 (dk_at dksX0_layWays_1 2 rfl rfl)
theorem dX0_layWays_29 : decode cX0_layWays 29 = .ok (.aload_n 0, 1) := dk_42 (dk_at dksX0_layWays_1 5 rfl rfl)
theorem dX0_layWays_30 : decode cX0_layWays 30 = .ok (.lconst 0, 1) := dk_9 (dk_at dksX0_layWays_1 6 rfl rfl)
theorem dX0_layWays_31 : decode cX0_layWays 31 = .ok (.putfield 196, 3) := dk_181 0 196 (dk_at dksX0_layWays_1 7 rfl rfl)
theorem dX0_layWays_34 : decode cX0_layWays 34 = .ok (.aload_n 0, 1) := dk_42 (dk_at dksX0_layWays_1 10 rfl rfl)
theorem dX0_layWays_35 : decode cX0_layWays 35 = .ok (.aload_n 0, 1) := dk_42 (dk_at dksX0_layWays_1 11 rfl rfl)
theorem dX0_layWays_36 : decode cX0_layWays 36 = .ok (.getfield 45, 3) := dk_180 0 45 (dk_at dksX0_layWays_1 12 rfl rfl)
theorem dX0_layWays_39 : decode cX0_layWays 39 = .ok (.iload_n 1, 1) := dk_27 (dk_at dksX0_layWays_1 15 rfl rfl)
theorem dX0_layWays_40 : decode cX0_layWays 40 = .ok (.invokevirtual 111, 3) := dk_182 0 111 (dk_at dksX0_layWays_1 16 rfl rfl)
theorem dX0_layWays_43 : decode cX0_layWays 43 = .ok (.checkcast 115, 3) := dk_192 0 115 (dk_at dksX0_layWays_1 19 rfl rfl)
theorem dX0_layWays_46 : decode cX0_layWays 46 = .ok (.aload_n 0, 1) := dk_42 (dk_at dksX0_layWays_1 22 rfl rfl)
theorem dX0_layWays_47 : decode cX0_layWays 47 = .ok (.getfield 45, 3) := dk_180 0 45 (dk_at dksX0_layWays_2 0 rfl rfl)
theorem dX0_layWays_50 : decode cX0_layWays 50 = .ok (.iload_n 2, 1) := dk_28 (dk_at dksX0_layWays_2 3 rfl rfl)
theorem dX0_layWays_51 : decode cX0_layWays 51 = .ok (.invokevirtual 111, 3) := dk_182 0 111 (dk_at dksX0_layWays_2 4 rfl rfl)
theorem dX0_layWays_54 : decode cX0_layWays 54 = .ok (.checkcast 115, 3) := dk_192 0 115 (dk_at dksX0_layWays_2 7 rfl rfl)
theorem dX0_layWays_57 : decode cX0_layWays 57 = .ok (.iload_n 3, 1) := dk_29 (dk_at dksX0_layWays_2 10 rfl rfl)
theorem dX0_layWays_58 : decode cX0_layWays 58 = .ok (.iconst 0, 1) := dk_3 (dk_at dksX0_layWays_2 11 rfl rfl)
theorem dX0_layWays_59 : decode cX0_layWays 59 = .ok (.iconst 0, 1) := dk_3 (dk_at dksX0_layWays_2 12 rfl rfl)
theorem dX0_layWays_60 : decode cX0_layWays 60 = .ok (.lconst 1, 1) := dk_10 (dk_at dksX0_layWays_2 13 rfl rfl)
theorem dX0_layWays_61 : decode cX0_layWays 61 = .ok (.invokevirtual 199, 3) := dk_182 0 199 (dk_at dksX0_layWays_2 14 rfl rfl)
theorem dX0_layWays_64 : decode cX0_layWays 64 = .ok (.return_, 1) := dk_177 (dk_at dksX0_layWays_2 17 rfl rfl)
abbrev cX0_goWays : ByteArray := prog_1_method_22_code
def yX0_goWays : MethodName := ⟨RX0, "goWays", "(LFewerMan$Player;LFewerMan$Player;IIZJ)V"⟩
def dkwX0_goWays_8 : List UInt8 := [4, 100, 181, 0, 98, 177]
abbrev dktX0_goWays_8 : List UInt8 := dkwX0_goWays_8 ++ []
def dkwX0_goWays_7 : List UInt8 := [133, 22, 6, 105, 182, 0, 199, 43, 21, 10, 181, 0, 156, 44, 21, 11, 181, 0, 156, 42, 89, 180, 0, 98]
abbrev dktX0_goWays_7 : List UInt8 := dkwX0_goWays_7 ++ dktX0_goWays_8
def dkwX0_goWays_6 : List UInt8 := [181, 0, 98, 42, 44, 43, 182, 0, 182, 42, 43, 44, 29, 4, 100, 21, 4, 21, 8, 16, 10, 21, 9, 100]
abbrev dktX0_goWays_6 : List UInt8 := dkwX0_goWays_6 ++ dktX0_goWays_7
def dkwX0_goWays_5 : List UInt8 := [182, 0, 199, 43, 21, 10, 181, 0, 156, 44, 21, 11, 181, 0, 156, 42, 89, 180, 0, 98, 4, 100]
abbrev dktX0_goWays_5 : List UInt8 := dkwX0_goWays_5 ++ dktX0_goWays_6
def dkwX0_goWays_4 : List UInt8 := [43, 44, 182, 0, 182, 42, 43, 44, 29, 4, 100, 21, 4, 4, 96, 21, 8, 21, 9, 133, 22, 6, 105]
abbrev dktX0_goWays_4 : List UInt8 := dkwX0_goWays_4 ++ dktX0_goWays_5
def dkwX0_goWays_3 : List UInt8 := [181, 0, 196, 177, 43, 44, 182, 0, 170, 54, 9, 43, 180, 0, 156, 54, 10, 44, 180, 0, 156, 54, 11, 42]
abbrev dktX0_goWays_3 : List UInt8 := dkwX0_goWays_3 ++ dktX0_goWays_4
def dkwX0_goWays_2 : List UInt8 := [105, 97, 181, 0, 192, 42, 89, 180, 0, 196, 21, 8, 153, 0, 8, 22, 6, 167, 0, 4, 9, 97]
abbrev dktX0_goWays_2 : List UInt8 := dkwX0_goWays_2 ++ dktX0_goWays_3
def dkwX0_goWays_1 : List UInt8 := [42, 180, 0, 49, 21, 4, 92, 47, 22, 6, 97, 80, 42, 89, 180, 0, 192, 43, 180, 0, 156, 133, 22, 6]
abbrev dktX0_goWays_1 : List UInt8 := dkwX0_goWays_1 ++ dktX0_goWays_2
def dkwX0_goWays_0 : List UInt8 := [21, 5, 154, 0, 11, 43, 180, 0, 156, 4, 160, 0, 7, 4, 167, 0, 4, 3, 54, 8, 29, 154, 0, 53]
abbrev dktX0_goWays_0 : List UInt8 := dkwX0_goWays_0 ++ dktX0_goWays_1
theorem dksX0_goWays_0 : cX0_goWays.data.toList.drop 0 = dktX0_goWays_0 := by decide +kernel
theorem dksX0_goWays_1 : cX0_goWays.data.toList.drop 24 = dktX0_goWays_1 := dk_seg dksX0_goWays_0 24 rfl rfl
theorem dksX0_goWays_2 : cX0_goWays.data.toList.drop 48 = dktX0_goWays_2 := dk_seg dksX0_goWays_1 24 rfl rfl
theorem dksX0_goWays_3 : cX0_goWays.data.toList.drop 70 = dktX0_goWays_3 := dk_seg dksX0_goWays_2 22 rfl rfl
theorem dksX0_goWays_4 : cX0_goWays.data.toList.drop 94 = dktX0_goWays_4 := dk_seg dksX0_goWays_3 24 rfl rfl
theorem dksX0_goWays_5 : cX0_goWays.data.toList.drop 117 = dktX0_goWays_5 := dk_seg dksX0_goWays_4 23 rfl rfl
theorem dksX0_goWays_6 : cX0_goWays.data.toList.drop 139 = dktX0_goWays_6 := dk_seg dksX0_goWays_5 22 rfl rfl
theorem dksX0_goWays_7 : cX0_goWays.data.toList.drop 163 = dktX0_goWays_7 := dk_seg dksX0_goWays_6 24 rfl rfl
theorem dksX0_goWays_8 : cX0_goWays.data.toList.drop 187 = dktX0_goWays_8 := dk_seg dksX0_goWays_7 24 rfl rfl
theorem dX0_goWays_0 : decode cX0_goWays 0 = .ok (.iload 5, 2) := dk_21 5 (dk_at dksX0_goWays_0 0 rfl rfl)
theorem dX0_goWays_2 : decode cX0_goWays 2 = .ok (.ifCond .ne 11, 3) := dk_154 0 11 (dk_at dksX0_goWays_0 2 rfl rfl)
theorem dX0_goWays_5 : decode cX0_goWays 5 = .ok (.aload_n 1, 1) := dk_43 (dk_at dksX0_goWays_0 5 rfl rfl)
theorem dX0_goWays_6 : decode cX0_goWays 6 = .ok (.getfield 156, 3) := dk_180 0 156 (dk_at dksX0_goWays_0 6 rfl rfl)
theorem dX0_goWays_9 : decode cX0_goWays 9 = .ok (.iconst 1, 1) := dk_4 (dk_at dksX0_goWays_0 9 rfl rfl)
theorem dX0_goWays_10 : decode cX0_goWays 10 = .ok (.if_icmp .ne 7, 3) := dk_160 0 7 (dk_at dksX0_goWays_0 10 rfl rfl)
theorem dX0_goWays_13 : decode cX0_goWays 13 = .ok (.iconst 1, 1) := dk_4 (dk_at dksX0_goWays_0 13 rfl rfl)
theorem dX0_goWays_14 : decode cX0_goWays 14 = .ok (.goto 4, 3) := dk_167 0 4 (dk_at dksX0_goWays_0 14 rfl rfl)
theorem dX0_goWays_17 : decode cX0_goWays 17 = .ok (.iconst 0, 1) := dk_3 (dk_at dksX0_goWays_0 17 rfl rfl)
theorem dX0_goWays_18 : decode cX0_goWays 18 = .ok (.istore 8, 2) := dk_54 8 (dk_at dksX0_goWays_0 18 rfl rfl)
theorem dX0_goWays_20 : decode cX0_goWays 20 = .ok (.iload_n 3, 1) := dk_29 (dk_at dksX0_goWays_0 20 rfl rfl)
theorem dX0_goWays_21 : decode cX0_goWays 21 = .ok (.ifCond .ne 53, 3) := dk_154 0 53 (dk_at dksX0_goWays_0 21 rfl rfl)
theorem dX0_goWays_24 : decode cX0_goWays 24 = .ok (.aload_n 0, 1) := dk_42 (dk_at dksX0_goWays_1 0 rfl rfl)
theorem dX0_goWays_25 : decode cX0_goWays 25 = .ok (.getfield 49, 3) := dk_180 0 49 (dk_at dksX0_goWays_1 1 rfl rfl)
theorem dX0_goWays_28 : decode cX0_goWays 28 = .ok (.iload 4, 2) := dk_21 4 (dk_at dksX0_goWays_1 4 rfl rfl)
theorem dX0_goWays_30 : decode cX0_goWays 30 = .ok (.dup2, 1) := dk_92 (dk_at dksX0_goWays_1 6 rfl rfl)
theorem dX0_goWays_31 : decode cX0_goWays 31 = .ok (.laload, 1) := dk_47 (dk_at dksX0_goWays_1 7 rfl rfl)
theorem dX0_goWays_32 : decode cX0_goWays 32 = .ok (.lload 6, 2) := dk_22 6 (dk_at dksX0_goWays_1 8 rfl rfl)
theorem dX0_goWays_34 : decode cX0_goWays 34 = .ok (.ladd, 1) := dk_97 (dk_at dksX0_goWays_1 10 rfl rfl)
theorem dX0_goWays_35 : decode cX0_goWays 35 = .ok (.lastore, 1) := dk_80 (dk_at dksX0_goWays_1 11 rfl rfl)
theorem dX0_goWays_36 : decode cX0_goWays 36 = .ok (.aload_n 0, 1) := dk_42 (dk_at dksX0_goWays_1 12 rfl rfl)
theorem dX0_goWays_37 : decode cX0_goWays 37 = .ok (.dup, 1) := dk_89 (dk_at dksX0_goWays_1 13 rfl rfl)
theorem dX0_goWays_38 : decode cX0_goWays 38 = .ok (.getfield 192, 3) := dk_180 0 192 (dk_at dksX0_goWays_1 14 rfl rfl)
theorem dX0_goWays_41 : decode cX0_goWays 41 = .ok (.aload_n 1, 1) := dk_43 (dk_at dksX0_goWays_1 17 rfl rfl)
theorem dX0_goWays_42 : decode cX0_goWays 42 = .ok (.getfield 156, 3) := dk_180 0 156 (dk_at dksX0_goWays_1 18 rfl rfl)
theorem dX0_goWays_45 : decode cX0_goWays 45 = .ok (.i2l, 1) := dk_133 (dk_at dksX0_goWays_1 21 rfl rfl)
theorem dX0_goWays_46 : decode cX0_goWays 46 = .ok (.lload 6, 2) := dk_22 6 (dk_at dksX0_goWays_1 22 rfl rfl)
theorem dX0_goWays_48 : decode cX0_goWays 48 = .ok (.lmul, 1) := dk_105 (dk_at dksX0_goWays_2 0 rfl rfl)
theorem dX0_goWays_49 : decode cX0_goWays 49 = .ok (.ladd, 1) := dk_97 (dk_at dksX0_goWays_2 1 rfl rfl)
theorem dX0_goWays_50 : decode cX0_goWays 50 = .ok (.putfield 192, 3) := dk_181 0 192 (dk_at dksX0_goWays_2 2 rfl rfl)
theorem dX0_goWays_53 : decode cX0_goWays 53 = .ok (.aload_n 0, 1) := dk_42 (dk_at dksX0_goWays_2 5 rfl rfl)
theorem dX0_goWays_54 : decode cX0_goWays 54 = .ok (.dup, 1) := dk_89 (dk_at dksX0_goWays_2 6 rfl rfl)
theorem dX0_goWays_55 : decode cX0_goWays 55 = .ok (.getfield 196, 3) := dk_180 0 196 (dk_at dksX0_goWays_2 7 rfl rfl)
theorem dX0_goWays_58 : decode cX0_goWays 58 = .ok (.iload 8, 2) := dk_21 8 (dk_at dksX0_goWays_2 10 rfl rfl)
theorem dX0_goWays_60 : decode cX0_goWays 60 = .ok (.ifCond .eq 8, 3) := dk_153 0 8 (dk_at dksX0_goWays_2 12 rfl rfl)
theorem dX0_goWays_63 : decode cX0_goWays 63 = .ok (.lload 6, 2) := dk_22 6 (dk_at dksX0_goWays_2 15 rfl rfl)
theorem dX0_goWays_65 : decode cX0_goWays 65 = .ok (.goto 4, 3) := dk_167 0 4 (dk_at dksX0_goWays_2 17 rfl rfl)
theorem dX0_goWays_68 : decode cX0_goWays 68 = .ok (.lconst 0, 1) := dk_9 (dk_at dksX0_goWays_2 20 rfl rfl)
theorem dX0_goWays_69 : decode cX0_goWays 69 = .ok (.ladd, 1) := dk_97 (dk_at dksX0_goWays_2 21 rfl rfl)
theorem dX0_goWays_70 : decode cX0_goWays 70 = .ok (.putfield 196, 3) := dk_181 0 196 (dk_at dksX0_goWays_3 0 rfl rfl)
theorem dX0_goWays_73 : decode cX0_goWays 73 = .ok (.return_, 1) := dk_177 (dk_at dksX0_goWays_3 3 rfl rfl)
theorem dX0_goWays_74 : decode cX0_goWays 74 = .ok (.aload_n 1, 1) := dk_43 (dk_at dksX0_goWays_3 4 rfl rfl)
theorem dX0_goWays_75 : decode cX0_goWays 75 = .ok (.aload_n 2, 1) := dk_44 (dk_at dksX0_goWays_3 5 rfl rfl)
theorem dX0_goWays_76 : decode cX0_goWays 76 = .ok (.invokevirtual 170, 3) := dk_182 0 170 (dk_at dksX0_goWays_3 6 rfl rfl)
theorem dX0_goWays_79 : decode cX0_goWays 79 = .ok (.istore 9, 2) := dk_54 9 (dk_at dksX0_goWays_3 9 rfl rfl)
theorem dX0_goWays_81 : decode cX0_goWays 81 = .ok (.aload_n 1, 1) := dk_43 (dk_at dksX0_goWays_3 11 rfl rfl)
theorem dX0_goWays_82 : decode cX0_goWays 82 = .ok (.getfield 156, 3) := dk_180 0 156 (dk_at dksX0_goWays_3 12 rfl rfl)
theorem dX0_goWays_85 : decode cX0_goWays 85 = .ok (.istore 10, 2) := dk_54 10 (dk_at dksX0_goWays_3 15 rfl rfl)
theorem dX0_goWays_87 : decode cX0_goWays 87 = .ok (.aload_n 2, 1) := dk_44 (dk_at dksX0_goWays_3 17 rfl rfl)
theorem dX0_goWays_88 : decode cX0_goWays 88 = .ok (.getfield 156, 3) := dk_180 0 156 (dk_at dksX0_goWays_3 18 rfl rfl)
theorem dX0_goWays_91 : decode cX0_goWays 91 = .ok (.istore 11, 2) := dk_54 11 (dk_at dksX0_goWays_3 21 rfl rfl)
theorem dX0_goWays_93 : decode cX0_goWays 93 = .ok (.aload_n 0, 1) := dk_42 (dk_at dksX0_goWays_3 23 rfl rfl)
theorem dX0_goWays_94 : decode cX0_goWays 94 = .ok (.aload_n 1, 1) := dk_43 (dk_at dksX0_goWays_4 0 rfl rfl)
theorem dX0_goWays_95 : decode cX0_goWays 95 = .ok (.aload_n 2, 1) := dk_44 (dk_at dksX0_goWays_4 1 rfl rfl)
theorem dX0_goWays_96 : decode cX0_goWays 96 = .ok (.invokevirtual 182, 3) := dk_182 0 182 (dk_at dksX0_goWays_4 2 rfl rfl)
theorem dX0_goWays_99 : decode cX0_goWays 99 = .ok (.aload_n 0, 1) := dk_42 (dk_at dksX0_goWays_4 5 rfl rfl)
theorem dX0_goWays_100 : decode cX0_goWays 100 = .ok (.aload_n 1, 1) := dk_43 (dk_at dksX0_goWays_4 6 rfl rfl)
theorem dX0_goWays_101 : decode cX0_goWays 101 = .ok (.aload_n 2, 1) := dk_44 (dk_at dksX0_goWays_4 7 rfl rfl)
theorem dX0_goWays_102 : decode cX0_goWays 102 = .ok (.iload_n 3, 1) := dk_29 (dk_at dksX0_goWays_4 8 rfl rfl)
theorem dX0_goWays_103 : decode cX0_goWays 103 = .ok (.iconst 1, 1) := dk_4 (dk_at dksX0_goWays_4 9 rfl rfl)
theorem dX0_goWays_104 : decode cX0_goWays 104 = .ok (.isub, 1) := dk_100 (dk_at dksX0_goWays_4 10 rfl rfl)
theorem dX0_goWays_105 : decode cX0_goWays 105 = .ok (.iload 4, 2) := dk_21 4 (dk_at dksX0_goWays_4 11 rfl rfl)
theorem dX0_goWays_107 : decode cX0_goWays 107 = .ok (.iconst 1, 1) := dk_4 (dk_at dksX0_goWays_4 13 rfl rfl)
theorem dX0_goWays_108 : decode cX0_goWays 108 = .ok (.iadd, 1) := dk_96 (dk_at dksX0_goWays_4 14 rfl rfl)
theorem dX0_goWays_109 : decode cX0_goWays 109 = .ok (.iload 8, 2) := dk_21 8 (dk_at dksX0_goWays_4 15 rfl rfl)
theorem dX0_goWays_111 : decode cX0_goWays 111 = .ok (.iload 9, 2) := dk_21 9 (dk_at dksX0_goWays_4 17 rfl rfl)
theorem dX0_goWays_113 : decode cX0_goWays 113 = .ok (.i2l, 1) := dk_133 (dk_at dksX0_goWays_4 19 rfl rfl)
theorem dX0_goWays_114 : decode cX0_goWays 114 = .ok (.lload 6, 2) := dk_22 6 (dk_at dksX0_goWays_4 20 rfl rfl)
theorem dX0_goWays_116 : decode cX0_goWays 116 = .ok (.lmul, 1) := dk_105 (dk_at dksX0_goWays_4 22 rfl rfl)
theorem dX0_goWays_117 : decode cX0_goWays 117 = .ok (.invokevirtual 199, 3) := dk_182 0 199 (dk_at dksX0_goWays_5 0 rfl rfl)
theorem dX0_goWays_120 : decode cX0_goWays 120 = .ok (.aload_n 1, 1) := dk_43 (dk_at dksX0_goWays_5 3 rfl rfl)
theorem dX0_goWays_121 : decode cX0_goWays 121 = .ok (.iload 10, 2) := dk_21 10 (dk_at dksX0_goWays_5 4 rfl rfl)
theorem dX0_goWays_123 : decode cX0_goWays 123 = .ok (.putfield 156, 3) := dk_181 0 156 (dk_at dksX0_goWays_5 6 rfl rfl)
theorem dX0_goWays_126 : decode cX0_goWays 126 = .ok (.aload_n 2, 1) := dk_44 (dk_at dksX0_goWays_5 9 rfl rfl)
theorem dX0_goWays_127 : decode cX0_goWays 127 = .ok (.iload 11, 2) := dk_21 11 (dk_at dksX0_goWays_5 10 rfl rfl)
theorem dX0_goWays_129 : decode cX0_goWays 129 = .ok (.putfield 156, 3) := dk_181 0 156 (dk_at dksX0_goWays_5 12 rfl rfl)
theorem dX0_goWays_132 : decode cX0_goWays 132 = .ok (.aload_n 0, 1) := dk_42 (dk_at dksX0_goWays_5 15 rfl rfl)
theorem dX0_goWays_133 : decode cX0_goWays 133 = .ok (.dup, 1) := dk_89 (dk_at dksX0_goWays_5 16 rfl rfl)
theorem dX0_goWays_134 : decode cX0_goWays 134 = .ok (.getfield 98, 3) := dk_180 0 98 (dk_at dksX0_goWays_5 17 rfl rfl)
theorem dX0_goWays_137 : decode cX0_goWays 137 = .ok (.iconst 1, 1) := dk_4 (dk_at dksX0_goWays_5 20 rfl rfl)
theorem dX0_goWays_138 : decode cX0_goWays 138 = .ok (.isub, 1) := dk_100 (dk_at dksX0_goWays_5 21 rfl rfl)
theorem dX0_goWays_139 : decode cX0_goWays 139 = .ok (.putfield 98, 3) := dk_181 0 98 (dk_at dksX0_goWays_6 0 rfl rfl)
theorem dX0_goWays_142 : decode cX0_goWays 142 = .ok (.aload_n 0, 1) := dk_42 (dk_at dksX0_goWays_6 3 rfl rfl)
theorem dX0_goWays_143 : decode cX0_goWays 143 = .ok (.aload_n 2, 1) := dk_44 (dk_at dksX0_goWays_6 4 rfl rfl)
theorem dX0_goWays_144 : decode cX0_goWays 144 = .ok (.aload_n 1, 1) := dk_43 (dk_at dksX0_goWays_6 5 rfl rfl)
theorem dX0_goWays_145 : decode cX0_goWays 145 = .ok (.invokevirtual 182, 3) := dk_182 0 182 (dk_at dksX0_goWays_6 6 rfl rfl)
theorem dX0_goWays_148 : decode cX0_goWays 148 = .ok (.aload_n 0, 1) := dk_42 (dk_at dksX0_goWays_6 9 rfl rfl)
theorem dX0_goWays_149 : decode cX0_goWays 149 = .ok (.aload_n 1, 1) := dk_43 (dk_at dksX0_goWays_6 10 rfl rfl)
theorem dX0_goWays_150 : decode cX0_goWays 150 = .ok (.aload_n 2, 1) := dk_44 (dk_at dksX0_goWays_6 11 rfl rfl)
theorem dX0_goWays_151 : decode cX0_goWays 151 = .ok (.iload_n 3, 1) := dk_29 (dk_at dksX0_goWays_6 12 rfl rfl)
theorem dX0_goWays_152 : decode cX0_goWays 152 = .ok (.iconst 1, 1) := dk_4 (dk_at dksX0_goWays_6 13 rfl rfl)
theorem dX0_goWays_153 : decode cX0_goWays 153 = .ok (.isub, 1) := dk_100 (dk_at dksX0_goWays_6 14 rfl rfl)
theorem dX0_goWays_154 : decode cX0_goWays 154 = .ok (.iload 4, 2) := dk_21 4 (dk_at dksX0_goWays_6 15 rfl rfl)
theorem dX0_goWays_156 : decode cX0_goWays 156 = .ok (.iload 8, 2) := dk_21 8 (dk_at dksX0_goWays_6 17 rfl rfl)
theorem dX0_goWays_158 : decode cX0_goWays 158 = .ok (.bipush 10, 2) := dk_16 10 (dk_at dksX0_goWays_6 19 rfl rfl)
theorem dX0_goWays_160 : decode cX0_goWays 160 = .ok (.iload 9, 2) := dk_21 9 (dk_at dksX0_goWays_6 21 rfl rfl)
theorem dX0_goWays_162 : decode cX0_goWays 162 = .ok (.isub, 1) := dk_100 (dk_at dksX0_goWays_6 23 rfl rfl)
theorem dX0_goWays_163 : decode cX0_goWays 163 = .ok (.i2l, 1) := dk_133 (dk_at dksX0_goWays_7 0 rfl rfl)
theorem dX0_goWays_164 : decode cX0_goWays 164 = .ok (.lload 6, 2) := dk_22 6 (dk_at dksX0_goWays_7 1 rfl rfl)
theorem dX0_goWays_166 : decode cX0_goWays 166 = .ok (.lmul, 1) := dk_105 (dk_at dksX0_goWays_7 3 rfl rfl)
theorem dX0_goWays_167 : decode cX0_goWays 167 = .ok (.invokevirtual 199, 3) := dk_182 0 199 (dk_at dksX0_goWays_7 4 rfl rfl)
theorem dX0_goWays_170 : decode cX0_goWays 170 = .ok (.aload_n 1, 1) := dk_43 (dk_at dksX0_goWays_7 7 rfl rfl)
theorem dX0_goWays_171 : decode cX0_goWays 171 = .ok (.iload 10, 2) := dk_21 10 (dk_at dksX0_goWays_7 8 rfl rfl)
theorem dX0_goWays_173 : decode cX0_goWays 173 = .ok (.putfield 156, 3) := dk_181 0 156 (dk_at dksX0_goWays_7 10 rfl rfl)
theorem dX0_goWays_176 : decode cX0_goWays 176 = .ok (.aload_n 2, 1) := dk_44 (dk_at dksX0_goWays_7 13 rfl rfl)
theorem dX0_goWays_177 : decode cX0_goWays 177 = .ok (.iload 11, 2) := dk_21 11 (dk_at dksX0_goWays_7 14 rfl rfl)
theorem dX0_goWays_179 : decode cX0_goWays 179 = .ok (.putfield 156, 3) := dk_181 0 156 (dk_at dksX0_goWays_7 16 rfl rfl)
theorem dX0_goWays_182 : decode cX0_goWays 182 = .ok (.aload_n 0, 1) := dk_42 (dk_at dksX0_goWays_7 19 rfl rfl)
theorem dX0_goWays_183 : decode cX0_goWays 183 = .ok (.dup, 1) := dk_89 (dk_at dksX0_goWays_7 20 rfl rfl)
theorem dX0_goWays_184 : decode cX0_goWays 184 = .ok (.getfield 98, 3) := dk_180 0 98 (dk_at dksX0_goWays_7 21 rfl rfl)
theorem dX0_goWays_187 : decode cX0_goWays 187 = .ok (.iconst 1, 1) := dk_4 (dk_at dksX0_goWays_8 0 rfl rfl)
theorem dX0_goWays_188 : decode cX0_goWays 188 = .ok (.isub, 1) := dk_100 (dk_at dksX0_goWays_8 1 rfl rfl)
theorem dX0_goWays_189 : decode cX0_goWays 189 = .ok (.putfield 98, 3) := dk_181 0 98 (dk_at dksX0_goWays_8 2 rfl rfl)
theorem dX0_goWays_192 : decode cX0_goWays 192 = .ok (.return_, 1) := dk_177 (dk_at dksX0_goWays_8 5 rfl rfl)
abbrev cX0_power : ByteArray := prog_1_method_19_code
def yX0_power : MethodName := ⟨RX0, "power", "(I)J"⟩
def dkwX0_power_0 : List UInt8 := [10, 64, 3, 62, 29, 26, 162, 0, 15, 31, 20, 0, 186, 105, 64, 132, 3, 1, 167, 255, 242, 31, 173]
abbrev dktX0_power_0 : List UInt8 := dkwX0_power_0 ++ []
theorem dksX0_power_0 : cX0_power.data.toList.drop 0 = dktX0_power_0 := by decide +kernel
theorem dX0_power_0 : decode cX0_power 0 = .ok (.lconst 1, 1) := dk_10 (dk_at dksX0_power_0 0 rfl rfl)
theorem dX0_power_1 : decode cX0_power 1 = .ok (.lstore_n 1, 1) := dk_64 (dk_at dksX0_power_0 1 rfl rfl)
theorem dX0_power_2 : decode cX0_power 2 = .ok (.iconst 0, 1) := dk_3 (dk_at dksX0_power_0 2 rfl rfl)
theorem dX0_power_3 : decode cX0_power 3 = .ok (.istore_n 3, 1) := dk_62 (dk_at dksX0_power_0 3 rfl rfl)
theorem dX0_power_4 : decode cX0_power 4 = .ok (.iload_n 3, 1) := dk_29 (dk_at dksX0_power_0 4 rfl rfl)
theorem dX0_power_5 : decode cX0_power 5 = .ok (.iload_n 0, 1) := dk_26 (dk_at dksX0_power_0 5 rfl rfl)
theorem dX0_power_6 : decode cX0_power 6 = .ok (.if_icmp .ge 15, 3) := dk_162 0 15 (dk_at dksX0_power_0 6 rfl rfl)
theorem dX0_power_9 : decode cX0_power 9 = .ok (.lload_n 1, 1) := dk_31 (dk_at dksX0_power_0 9 rfl rfl)
theorem dX0_power_10 : decode cX0_power 10 = .ok (.ldc2_w 186, 3) := dk_20 0 186 (dk_at dksX0_power_0 10 rfl rfl)
theorem dX0_power_13 : decode cX0_power 13 = .ok (.lmul, 1) := dk_105 (dk_at dksX0_power_0 13 rfl rfl)
theorem dX0_power_14 : decode cX0_power 14 = .ok (.lstore_n 1, 1) := dk_64 (dk_at dksX0_power_0 14 rfl rfl)
theorem dX0_power_15 : decode cX0_power 15 = .ok (.iinc 3 1, 3) := dk_132 3 1 (dk_at dksX0_power_0 15 rfl rfl)
theorem dX0_power_18 : decode cX0_power 18 = .ok (.goto (-14), 3) := dk_167 255 242 (dk_at dksX0_power_0 18 rfl rfl)
theorem dX0_power_21 : decode cX0_power 21 = .ok (.lload_n 1, 1) := dk_31 (dk_at dksX0_power_0 21 rfl rfl)
theorem dX0_power_22 : decode cX0_power 22 = .ok (.lreturn, 1) := dk_173 (dk_at dksX0_power_0 22 rfl rfl)
abbrev cX0_lowest : ByteArray := prog_1_method_20_code
def yX0_lowest : MethodName := ⟨RX0, "lowest", "(JJI)J"⟩
def dkwX0_lowest_2 : List UInt8 := [22, 5, 109, 173]
abbrev dktX0_lowest_2 : List UInt8 := dkwX0_lowest_2 ++ []
def dkwX0_lowest_1 : List UInt8 := [22, 7, 55, 5, 22, 9, 55, 7, 167, 255, 234, 21, 4, 154, 0, 10, 30, 22, 5, 109, 167, 0, 7, 32]
abbrev dktX0_lowest_1 : List UInt8 := dkwX0_lowest_1 ++ dktX0_lowest_2
def dkwX0_lowest_0 : List UInt8 := [30, 184, 0, 188, 55, 5, 32, 55, 7, 22, 7, 9, 148, 153, 0, 21, 22, 5, 22, 7, 113, 55, 9]
abbrev dktX0_lowest_0 : List UInt8 := dkwX0_lowest_0 ++ dktX0_lowest_1
theorem dksX0_lowest_0 : cX0_lowest.data.toList.drop 0 = dktX0_lowest_0 := by decide +kernel
theorem dksX0_lowest_1 : cX0_lowest.data.toList.drop 23 = dktX0_lowest_1 := dk_seg dksX0_lowest_0 23 rfl rfl
theorem dksX0_lowest_2 : cX0_lowest.data.toList.drop 47 = dktX0_lowest_2 := dk_seg dksX0_lowest_1 24 rfl rfl
theorem dX0_lowest_0 : decode cX0_lowest 0 = .ok (.lload_n 0, 1) := dk_30 (dk_at dksX0_lowest_0 0 rfl rfl)
theorem dX0_lowest_1 : decode cX0_lowest 1 = .ok (.invokestatic 188, 3) := dk_184 0 188 (dk_at dksX0_lowest_0 1 rfl rfl)
theorem dX0_lowest_4 : decode cX0_lowest 4 = .ok (.lstore 5, 2) := dk_55 5 (dk_at dksX0_lowest_0 4 rfl rfl)
theorem dX0_lowest_6 : decode cX0_lowest 6 = .ok (.lload_n 2, 1) := dk_32 (dk_at dksX0_lowest_0 6 rfl rfl)
theorem dX0_lowest_7 : decode cX0_lowest 7 = .ok (.lstore 7, 2) := dk_55 7 (dk_at dksX0_lowest_0 7 rfl rfl)
theorem dX0_lowest_9 : decode cX0_lowest 9 = .ok (.lload 7, 2) := dk_22 7 (dk_at dksX0_lowest_0 9 rfl rfl)
theorem dX0_lowest_11 : decode cX0_lowest 11 = .ok (.lconst 0, 1) := dk_9 (dk_at dksX0_lowest_0 11 rfl rfl)
theorem dX0_lowest_12 : decode cX0_lowest 12 = .ok (.lcmp, 1) := dk_148 (dk_at dksX0_lowest_0 12 rfl rfl)
theorem dX0_lowest_13 : decode cX0_lowest 13 = .ok (.ifCond .eq 21, 3) := dk_153 0 21 (dk_at dksX0_lowest_0 13 rfl rfl)
theorem dX0_lowest_16 : decode cX0_lowest 16 = .ok (.lload 5, 2) := dk_22 5 (dk_at dksX0_lowest_0 16 rfl rfl)
theorem dX0_lowest_18 : decode cX0_lowest 18 = .ok (.lload 7, 2) := dk_22 7 (dk_at dksX0_lowest_0 18 rfl rfl)
theorem dX0_lowest_20 : decode cX0_lowest 20 = .ok (.lrem, 1) := dk_113 (dk_at dksX0_lowest_0 20 rfl rfl)
theorem dX0_lowest_21 : decode cX0_lowest 21 = .ok (.lstore 9, 2) := dk_55 9 (dk_at dksX0_lowest_0 21 rfl rfl)
theorem dX0_lowest_23 : decode cX0_lowest 23 = .ok (.lload 7, 2) := dk_22 7 (dk_at dksX0_lowest_1 0 rfl rfl)
theorem dX0_lowest_25 : decode cX0_lowest 25 = .ok (.lstore 5, 2) := dk_55 5 (dk_at dksX0_lowest_1 2 rfl rfl)
theorem dX0_lowest_27 : decode cX0_lowest 27 = .ok (.lload 9, 2) := dk_22 9 (dk_at dksX0_lowest_1 4 rfl rfl)
theorem dX0_lowest_29 : decode cX0_lowest 29 = .ok (.lstore 7, 2) := dk_55 7 (dk_at dksX0_lowest_1 6 rfl rfl)
theorem dX0_lowest_31 : decode cX0_lowest 31 = .ok (.goto (-22), 3) := dk_167 255 234 (dk_at dksX0_lowest_1 8 rfl rfl)
theorem dX0_lowest_34 : decode cX0_lowest 34 = .ok (.iload 4, 2) := dk_21 4 (dk_at dksX0_lowest_1 11 rfl rfl)
theorem dX0_lowest_36 : decode cX0_lowest 36 = .ok (.ifCond .ne 10, 3) := dk_154 0 10 (dk_at dksX0_lowest_1 13 rfl rfl)
theorem dX0_lowest_39 : decode cX0_lowest 39 = .ok (.lload_n 0, 1) := dk_30 (dk_at dksX0_lowest_1 16 rfl rfl)
theorem dX0_lowest_40 : decode cX0_lowest 40 = .ok (.lload 5, 2) := dk_22 5 (dk_at dksX0_lowest_1 17 rfl rfl)
theorem dX0_lowest_42 : decode cX0_lowest 42 = .ok (.ldiv, 1) := dk_109 (dk_at dksX0_lowest_1 19 rfl rfl)
theorem dX0_lowest_43 : decode cX0_lowest 43 = .ok (.goto 7, 3) := dk_167 0 7 (dk_at dksX0_lowest_1 20 rfl rfl)
theorem dX0_lowest_46 : decode cX0_lowest 46 = .ok (.lload_n 2, 1) := dk_32 (dk_at dksX0_lowest_1 23 rfl rfl)
theorem dX0_lowest_47 : decode cX0_lowest 47 = .ok (.lload 5, 2) := dk_22 5 (dk_at dksX0_lowest_2 0 rfl rfl)
theorem dX0_lowest_49 : decode cX0_lowest 49 = .ok (.ldiv, 1) := dk_109 (dk_at dksX0_lowest_2 2 rfl rfl)
theorem dX0_lowest_50 : decode cX0_lowest 50 = .ok (.lreturn, 1) := dk_173 (dk_at dksX0_lowest_2 3 rfl rfl)
abbrev cX0_mean : ByteArray := prog_1_method_25_code
def yX0_mean : MethodName := ⟨RX0, "mean", "(IIII)J"⟩
def dkwX0_mean_1 : List UInt8 := [173, 42, 27, 28, 29, 182, 0, 208, 42, 180, 0, 192, 29, 184, 0, 212, 21, 4, 184, 0, 216, 173]
abbrev dktX0_mean_1 : List UInt8 := dkwX0_mean_1 ++ []
def dkwX0_mean_0 : List UInt8 := [42, 27, 28, 21, 4, 182, 0, 203, 153, 0, 13, 29, 3, 16, 12, 184, 0, 78, 154, 0, 7, 20, 0, 206]
abbrev dktX0_mean_0 : List UInt8 := dkwX0_mean_0 ++ dktX0_mean_1
theorem dksX0_mean_0 : cX0_mean.data.toList.drop 0 = dktX0_mean_0 := by decide +kernel
theorem dksX0_mean_1 : cX0_mean.data.toList.drop 24 = dktX0_mean_1 := dk_seg dksX0_mean_0 24 rfl rfl
theorem dX0_mean_0 : decode cX0_mean 0 = .ok (.aload_n 0, 1) := dk_42 (dk_at dksX0_mean_0 0 rfl rfl)
theorem dX0_mean_1 : decode cX0_mean 1 = .ok (.iload_n 1, 1) := dk_27 (dk_at dksX0_mean_0 1 rfl rfl)
theorem dX0_mean_2 : decode cX0_mean 2 = .ok (.iload_n 2, 1) := dk_28 (dk_at dksX0_mean_0 2 rfl rfl)
theorem dX0_mean_3 : decode cX0_mean 3 = .ok (.iload 4, 2) := dk_21 4 (dk_at dksX0_mean_0 3 rfl rfl)
theorem dX0_mean_5 : decode cX0_mean 5 = .ok (.invokevirtual 203, 3) := dk_182 0 203 (dk_at dksX0_mean_0 5 rfl rfl)
theorem dX0_mean_8 : decode cX0_mean 8 = .ok (.ifCond .eq 13, 3) := dk_153 0 13 (dk_at dksX0_mean_0 8 rfl rfl)
theorem dX0_mean_11 : decode cX0_mean 11 = .ok (.iload_n 3, 1) := dk_29 (dk_at dksX0_mean_0 11 rfl rfl)
theorem dX0_mean_12 : decode cX0_mean 12 = .ok (.iconst 0, 1) := dk_3 (dk_at dksX0_mean_0 12 rfl rfl)
theorem dX0_mean_13 : decode cX0_mean 13 = .ok (.bipush 12, 2) := dk_16 12 (dk_at dksX0_mean_0 13 rfl rfl)
theorem dX0_mean_15 : decode cX0_mean 15 = .ok (.invokestatic 78, 3) := dk_184 0 78 (dk_at dksX0_mean_0 15 rfl rfl)
theorem dX0_mean_18 : decode cX0_mean 18 = .ok (.ifCond .ne 7, 3) := dk_154 0 7 (dk_at dksX0_mean_0 18 rfl rfl)
theorem dX0_mean_21 : decode cX0_mean 21 = .ok (.ldc2_w 206, 3) := dk_20 0 206 (dk_at dksX0_mean_0 21 rfl rfl)
theorem dX0_mean_24 : decode cX0_mean 24 = .ok (.lreturn, 1) := dk_173 (dk_at dksX0_mean_1 0 rfl rfl)
theorem dX0_mean_25 : decode cX0_mean 25 = .ok (.aload_n 0, 1) := dk_42 (dk_at dksX0_mean_1 1 rfl rfl)
theorem dX0_mean_26 : decode cX0_mean 26 = .ok (.iload_n 1, 1) := dk_27 (dk_at dksX0_mean_1 2 rfl rfl)
theorem dX0_mean_27 : decode cX0_mean 27 = .ok (.iload_n 2, 1) := dk_28 (dk_at dksX0_mean_1 3 rfl rfl)
theorem dX0_mean_28 : decode cX0_mean 28 = .ok (.iload_n 3, 1) := dk_29 (dk_at dksX0_mean_1 4 rfl rfl)
theorem dX0_mean_29 : decode cX0_mean 29 = .ok (.invokevirtual 208, 3) := dk_182 0 208 (dk_at dksX0_mean_1 5 rfl rfl)
theorem dX0_mean_32 : decode cX0_mean 32 = .ok (.aload_n 0, 1) := dk_42 (dk_at dksX0_mean_1 8 rfl rfl)
theorem dX0_mean_33 : decode cX0_mean 33 = .ok (.getfield 192, 3) := dk_180 0 192 (dk_at dksX0_mean_1 9 rfl rfl)
theorem dX0_mean_36 : decode cX0_mean 36 = .ok (.iload_n 3, 1) := dk_29 (dk_at dksX0_mean_1 12 rfl rfl)
theorem dX0_mean_37 : decode cX0_mean 37 = .ok (.invokestatic 212, 3) := dk_184 0 212 (dk_at dksX0_mean_1 13 rfl rfl)
theorem dX0_mean_40 : decode cX0_mean 40 = .ok (.iload 4, 2) := dk_21 4 (dk_at dksX0_mean_1 16 rfl rfl)
theorem dX0_mean_42 : decode cX0_mean 42 = .ok (.invokestatic 216, 3) := dk_184 0 216 (dk_at dksX0_mean_1 18 rfl rfl)
theorem dX0_mean_45 : decode cX0_mean 45 = .ok (.lreturn, 1) := dk_173 (dk_at dksX0_mean_1 21 rfl rfl)
abbrev cX0_ends : ByteArray := prog_1_method_26_code
def yX0_ends : MethodName := ⟨RX0, "ends", "(IIII)J"⟩
def dkwX0_ends_1 : List UInt8 := [173, 42, 27, 28, 29, 182, 0, 208, 42, 180, 0, 196, 29, 184, 0, 212, 21, 4, 184, 0, 216, 173]
abbrev dktX0_ends_1 : List UInt8 := dkwX0_ends_1 ++ []
def dkwX0_ends_0 : List UInt8 := [42, 27, 28, 21, 4, 182, 0, 203, 153, 0, 13, 29, 3, 16, 12, 184, 0, 78, 154, 0, 7, 20, 0, 206]
abbrev dktX0_ends_0 : List UInt8 := dkwX0_ends_0 ++ dktX0_ends_1
theorem dksX0_ends_0 : cX0_ends.data.toList.drop 0 = dktX0_ends_0 := by decide +kernel
theorem dksX0_ends_1 : cX0_ends.data.toList.drop 24 = dktX0_ends_1 := dk_seg dksX0_ends_0 24 rfl rfl
theorem dX0_ends_0 : decode cX0_ends 0 = .ok (.aload_n 0, 1) := dk_42 (dk_at dksX0_ends_0 0 rfl rfl)
theorem dX0_ends_1 : decode cX0_ends 1 = .ok (.iload_n 1, 1) := dk_27 (dk_at dksX0_ends_0 1 rfl rfl)
theorem dX0_ends_2 : decode cX0_ends 2 = .ok (.iload_n 2, 1) := dk_28 (dk_at dksX0_ends_0 2 rfl rfl)
theorem dX0_ends_3 : decode cX0_ends 3 = .ok (.iload 4, 2) := dk_21 4 (dk_at dksX0_ends_0 3 rfl rfl)
theorem dX0_ends_5 : decode cX0_ends 5 = .ok (.invokevirtual 203, 3) := dk_182 0 203 (dk_at dksX0_ends_0 5 rfl rfl)
theorem dX0_ends_8 : decode cX0_ends 8 = .ok (.ifCond .eq 13, 3) := dk_153 0 13 (dk_at dksX0_ends_0 8 rfl rfl)
theorem dX0_ends_11 : decode cX0_ends 11 = .ok (.iload_n 3, 1) := dk_29 (dk_at dksX0_ends_0 11 rfl rfl)
theorem dX0_ends_12 : decode cX0_ends 12 = .ok (.iconst 0, 1) := dk_3 (dk_at dksX0_ends_0 12 rfl rfl)
theorem dX0_ends_13 : decode cX0_ends 13 = .ok (.bipush 12, 2) := dk_16 12 (dk_at dksX0_ends_0 13 rfl rfl)
theorem dX0_ends_15 : decode cX0_ends 15 = .ok (.invokestatic 78, 3) := dk_184 0 78 (dk_at dksX0_ends_0 15 rfl rfl)
theorem dX0_ends_18 : decode cX0_ends 18 = .ok (.ifCond .ne 7, 3) := dk_154 0 7 (dk_at dksX0_ends_0 18 rfl rfl)
theorem dX0_ends_21 : decode cX0_ends 21 = .ok (.ldc2_w 206, 3) := dk_20 0 206 (dk_at dksX0_ends_0 21 rfl rfl)
theorem dX0_ends_24 : decode cX0_ends 24 = .ok (.lreturn, 1) := dk_173 (dk_at dksX0_ends_1 0 rfl rfl)
theorem dX0_ends_25 : decode cX0_ends 25 = .ok (.aload_n 0, 1) := dk_42 (dk_at dksX0_ends_1 1 rfl rfl)
theorem dX0_ends_26 : decode cX0_ends 26 = .ok (.iload_n 1, 1) := dk_27 (dk_at dksX0_ends_1 2 rfl rfl)
theorem dX0_ends_27 : decode cX0_ends 27 = .ok (.iload_n 2, 1) := dk_28 (dk_at dksX0_ends_1 3 rfl rfl)
theorem dX0_ends_28 : decode cX0_ends 28 = .ok (.iload_n 3, 1) := dk_29 (dk_at dksX0_ends_1 4 rfl rfl)
theorem dX0_ends_29 : decode cX0_ends 29 = .ok (.invokevirtual 208, 3) := dk_182 0 208 (dk_at dksX0_ends_1 5 rfl rfl)
theorem dX0_ends_32 : decode cX0_ends 32 = .ok (.aload_n 0, 1) := dk_42 (dk_at dksX0_ends_1 8 rfl rfl)
theorem dX0_ends_33 : decode cX0_ends 33 = .ok (.getfield 196, 3) := dk_180 0 196 (dk_at dksX0_ends_1 9 rfl rfl)
theorem dX0_ends_36 : decode cX0_ends 36 = .ok (.iload_n 3, 1) := dk_29 (dk_at dksX0_ends_1 12 rfl rfl)
theorem dX0_ends_37 : decode cX0_ends 37 = .ok (.invokestatic 212, 3) := dk_184 0 212 (dk_at dksX0_ends_1 13 rfl rfl)
theorem dX0_ends_40 : decode cX0_ends 40 = .ok (.iload 4, 2) := dk_21 4 (dk_at dksX0_ends_1 16 rfl rfl)
theorem dX0_ends_42 : decode cX0_ends 42 = .ok (.invokestatic 216, 3) := dk_184 0 216 (dk_at dksX0_ends_1 18 rfl rfl)
theorem dX0_ends_45 : decode cX0_ends 45 = .ok (.lreturn, 1) := dk_173 (dk_at dksX0_ends_1 21 rfl rfl)
abbrev cX0_series : ByteArray := prog_1_method_28_code
def yX0_series : MethodName := ⟨RX0, "series", "(IIII)J"⟩
def dkwX0_series_2 : List UInt8 := [29, 5, 29, 104, 4, 100, 182, 0, 220, 5, 29, 104, 4, 100, 184, 0, 212, 21, 4, 184, 0, 216, 173]
abbrev dktX0_series_2 : List UInt8 := dkwX0_series_2 ++ []
def dkwX0_series_1 : List UInt8 := [42, 42, 180, 0, 45, 27, 182, 0, 111, 192, 0, 115, 42, 180, 0, 45, 28, 182, 0, 111, 192, 0, 115, 29]
abbrev dktX0_series_1 : List UInt8 := dkwX0_series_1 ++ dktX0_series_2
def dkwX0_series_0 : List UInt8 := [42, 27, 28, 21, 4, 182, 0, 203, 153, 0, 12, 29, 4, 8, 184, 0, 78, 154, 0, 7, 20, 0, 206, 173]
abbrev dktX0_series_0 : List UInt8 := dkwX0_series_0 ++ dktX0_series_1
theorem dksX0_series_0 : cX0_series.data.toList.drop 0 = dktX0_series_0 := by decide +kernel
theorem dksX0_series_1 : cX0_series.data.toList.drop 24 = dktX0_series_1 := dk_seg dksX0_series_0 24 rfl rfl
theorem dksX0_series_2 : cX0_series.data.toList.drop 48 = dktX0_series_2 := dk_seg dksX0_series_1 24 rfl rfl
theorem dX0_series_0 : decode cX0_series 0 = .ok (.aload_n 0, 1) := dk_42 (dk_at dksX0_series_0 0 rfl rfl)
theorem dX0_series_1 : decode cX0_series 1 = .ok (.iload_n 1, 1) := dk_27 (dk_at dksX0_series_0 1 rfl rfl)
theorem dX0_series_2 : decode cX0_series 2 = .ok (.iload_n 2, 1) := dk_28 (dk_at dksX0_series_0 2 rfl rfl)
theorem dX0_series_3 : decode cX0_series 3 = .ok (.iload 4, 2) := dk_21 4 (dk_at dksX0_series_0 3 rfl rfl)
theorem dX0_series_5 : decode cX0_series 5 = .ok (.invokevirtual 203, 3) := dk_182 0 203 (dk_at dksX0_series_0 5 rfl rfl)
theorem dX0_series_8 : decode cX0_series 8 = .ok (.ifCond .eq 12, 3) := dk_153 0 12 (dk_at dksX0_series_0 8 rfl rfl)
theorem dX0_series_11 : decode cX0_series 11 = .ok (.iload_n 3, 1) := dk_29 (dk_at dksX0_series_0 11 rfl rfl)
theorem dX0_series_12 : decode cX0_series 12 = .ok (.iconst 1, 1) := dk_4 (dk_at dksX0_series_0 12 rfl rfl)
theorem dX0_series_13 : decode cX0_series 13 = .ok (.iconst 5, 1) := dk_8 (dk_at dksX0_series_0 13 rfl rfl)
theorem dX0_series_14 : decode cX0_series 14 = .ok (.invokestatic 78, 3) := dk_184 0 78 (dk_at dksX0_series_0 14 rfl rfl)
theorem dX0_series_17 : decode cX0_series 17 = .ok (.ifCond .ne 7, 3) := dk_154 0 7 (dk_at dksX0_series_0 17 rfl rfl)
theorem dX0_series_20 : decode cX0_series 20 = .ok (.ldc2_w 206, 3) := dk_20 0 206 (dk_at dksX0_series_0 20 rfl rfl)
theorem dX0_series_23 : decode cX0_series 23 = .ok (.lreturn, 1) := dk_173 (dk_at dksX0_series_0 23 rfl rfl)
theorem dX0_series_24 : decode cX0_series 24 = .ok (.aload_n 0, 1) := dk_42 (dk_at dksX0_series_1 0 rfl rfl)
theorem dX0_series_25 : decode cX0_series 25 = .ok (.aload_n 0, 1) := dk_42 (dk_at dksX0_series_1 1 rfl rfl)
theorem dX0_series_26 : decode cX0_series 26 = .ok (.getfield 45, 3) := dk_180 0 45 (dk_at dksX0_series_1 2 rfl rfl)
theorem dX0_series_29 : decode cX0_series 29 = .ok (.iload_n 1, 1) := dk_27 (dk_at dksX0_series_1 5 rfl rfl)
theorem dX0_series_30 : decode cX0_series 30 = .ok (.invokevirtual 111, 3) := dk_182 0 111 (dk_at dksX0_series_1 6 rfl rfl)
theorem dX0_series_33 : decode cX0_series 33 = .ok (.checkcast 115, 3) := dk_192 0 115 (dk_at dksX0_series_1 9 rfl rfl)
theorem dX0_series_36 : decode cX0_series 36 = .ok (.aload_n 0, 1) := dk_42 (dk_at dksX0_series_1 12 rfl rfl)
theorem dX0_series_37 : decode cX0_series 37 = .ok (.getfield 45, 3) := dk_180 0 45 (dk_at dksX0_series_1 13 rfl rfl)
theorem dX0_series_40 : decode cX0_series 40 = .ok (.iload_n 2, 1) := dk_28 (dk_at dksX0_series_1 16 rfl rfl)
theorem dX0_series_41 : decode cX0_series 41 = .ok (.invokevirtual 111, 3) := dk_182 0 111 (dk_at dksX0_series_1 17 rfl rfl)
theorem dX0_series_44 : decode cX0_series 44 = .ok (.checkcast 115, 3) := dk_192 0 115 (dk_at dksX0_series_1 20 rfl rfl)
theorem dX0_series_47 : decode cX0_series 47 = .ok (.iload_n 3, 1) := dk_29 (dk_at dksX0_series_1 23 rfl rfl)
theorem dX0_series_48 : decode cX0_series 48 = .ok (.iload_n 3, 1) := dk_29 (dk_at dksX0_series_2 0 rfl rfl)
theorem dX0_series_49 : decode cX0_series 49 = .ok (.iconst 2, 1) := dk_5 (dk_at dksX0_series_2 1 rfl rfl)
theorem dX0_series_50 : decode cX0_series 50 = .ok (.iload_n 3, 1) := dk_29 (dk_at dksX0_series_2 2 rfl rfl)
theorem dX0_series_51 : decode cX0_series 51 = .ok (.imul, 1) := dk_104 (dk_at dksX0_series_2 3 rfl rfl)
theorem dX0_series_52 : decode cX0_series 52 = .ok (.iconst 1, 1) := dk_4 (dk_at dksX0_series_2 4 rfl rfl)
theorem dX0_series_53 : decode cX0_series 53 = .ok (.isub, 1) := dk_100 (dk_at dksX0_series_2 5 rfl rfl)
theorem dX0_series_54 : decode cX0_series 54 = .ok (.invokevirtual 220, 3) := dk_182 0 220 (dk_at dksX0_series_2 6 rfl rfl)
theorem dX0_series_57 : decode cX0_series 57 = .ok (.iconst 2, 1) := dk_5 (dk_at dksX0_series_2 9 rfl rfl)
theorem dX0_series_58 : decode cX0_series 58 = .ok (.iload_n 3, 1) := dk_29 (dk_at dksX0_series_2 10 rfl rfl)
theorem dX0_series_59 : decode cX0_series 59 = .ok (.imul, 1) := dk_104 (dk_at dksX0_series_2 11 rfl rfl)
theorem dX0_series_60 : decode cX0_series 60 = .ok (.iconst 1, 1) := dk_4 (dk_at dksX0_series_2 12 rfl rfl)
theorem dX0_series_61 : decode cX0_series 61 = .ok (.isub, 1) := dk_100 (dk_at dksX0_series_2 13 rfl rfl)
theorem dX0_series_62 : decode cX0_series 62 = .ok (.invokestatic 212, 3) := dk_184 0 212 (dk_at dksX0_series_2 14 rfl rfl)
theorem dX0_series_65 : decode cX0_series 65 = .ok (.iload 4, 2) := dk_21 4 (dk_at dksX0_series_2 17 rfl rfl)
theorem dX0_series_67 : decode cX0_series 67 = .ok (.invokestatic 216, 3) := dk_184 0 216 (dk_at dksX0_series_2 19 rfl rfl)
theorem dX0_series_70 : decode cX0_series 70 = .ok (.lreturn, 1) := dk_173 (dk_at dksX0_series_2 22 rfl rfl)
abbrev cX0_firstOf : ByteArray := prog_1_method_27_code
def yX0_firstOf : MethodName := ⟨RX0, "firstOf", "(LFewerMan$Player;LFewerMan$Player;III)J"⟩
def dkwX0_firstOf_5 : List UInt8 := [21, 7, 181, 0, 156, 44, 21, 8, 181, 0, 156, 42, 89, 180, 0, 98, 4, 100, 181, 0, 98, 22, 9, 173]
abbrev dktX0_firstOf_5 : List UInt8 := dkwX0_firstOf_5 ++ []
def dkwX0_firstOf_4 : List UInt8 := [21, 6, 100, 133, 42, 43, 44, 29, 21, 4, 4, 100, 21, 5, 4, 100, 182, 0, 220, 105, 97, 55, 9, 43]
abbrev dktX0_firstOf_4 : List UInt8 := dkwX0_firstOf_4 ++ dktX0_firstOf_5
def dkwX0_firstOf_3 : List UInt8 := [181, 0, 156, 42, 89, 180, 0, 98, 4, 100, 181, 0, 98, 42, 44, 43, 182, 0, 182, 22, 9, 16, 10]
abbrev dktX0_firstOf_3 : List UInt8 := dkwX0_firstOf_3 ++ dktX0_firstOf_4
def dkwX0_firstOf_2 : List UInt8 := [29, 4, 100, 21, 4, 21, 5, 4, 100, 182, 0, 220, 105, 55, 9, 43, 21, 7, 181, 0, 156, 44, 21, 8]
abbrev dktX0_firstOf_2 : List UInt8 := dkwX0_firstOf_2 ++ dktX0_firstOf_3
def dkwX0_firstOf_1 : List UInt8 := [43, 180, 0, 156, 54, 7, 44, 180, 0, 156, 54, 8, 42, 43, 44, 182, 0, 182, 21, 6, 133, 42, 43, 44]
abbrev dktX0_firstOf_1 : List UInt8 := dkwX0_firstOf_1 ++ dktX0_firstOf_2
def dkwX0_firstOf_0 : List UInt8 := [29, 154, 0, 9, 21, 5, 184, 0, 212, 173, 21, 4, 154, 0, 5, 9, 173, 43, 44, 182, 0, 170, 54, 6]
abbrev dktX0_firstOf_0 : List UInt8 := dkwX0_firstOf_0 ++ dktX0_firstOf_1
theorem dksX0_firstOf_0 : cX0_firstOf.data.toList.drop 0 = dktX0_firstOf_0 := by decide +kernel
theorem dksX0_firstOf_1 : cX0_firstOf.data.toList.drop 24 = dktX0_firstOf_1 := dk_seg dksX0_firstOf_0 24 rfl rfl
theorem dksX0_firstOf_2 : cX0_firstOf.data.toList.drop 48 = dktX0_firstOf_2 := dk_seg dksX0_firstOf_1 24 rfl rfl
theorem dksX0_firstOf_3 : cX0_firstOf.data.toList.drop 72 = dktX0_firstOf_3 := dk_seg dksX0_firstOf_2 24 rfl rfl
theorem dksX0_firstOf_4 : cX0_firstOf.data.toList.drop 95 = dktX0_firstOf_4 := dk_seg dksX0_firstOf_3 23 rfl rfl
theorem dksX0_firstOf_5 : cX0_firstOf.data.toList.drop 119 = dktX0_firstOf_5 := dk_seg dksX0_firstOf_4 24 rfl rfl
theorem dX0_firstOf_0 : decode cX0_firstOf 0 = .ok (.iload_n 3, 1) := dk_29 (dk_at dksX0_firstOf_0 0 rfl rfl)
theorem dX0_firstOf_1 : decode cX0_firstOf 1 = .ok (.ifCond .ne 9, 3) := dk_154 0 9 (dk_at dksX0_firstOf_0 1 rfl rfl)
theorem dX0_firstOf_4 : decode cX0_firstOf 4 = .ok (.iload 5, 2) := dk_21 5 (dk_at dksX0_firstOf_0 4 rfl rfl)
theorem dX0_firstOf_6 : decode cX0_firstOf 6 = .ok (.invokestatic 212, 3) := dk_184 0 212 (dk_at dksX0_firstOf_0 6 rfl rfl)
theorem dX0_firstOf_9 : decode cX0_firstOf 9 = .ok (.lreturn, 1) := dk_173 (dk_at dksX0_firstOf_0 9 rfl rfl)
theorem dX0_firstOf_10 : decode cX0_firstOf 10 = .ok (.iload 4, 2) := dk_21 4 (dk_at dksX0_firstOf_0 10 rfl rfl)
theorem dX0_firstOf_12 : decode cX0_firstOf 12 = .ok (.ifCond .ne 5, 3) := dk_154 0 5 (dk_at dksX0_firstOf_0 12 rfl rfl)
theorem dX0_firstOf_15 : decode cX0_firstOf 15 = .ok (.lconst 0, 1) := dk_9 (dk_at dksX0_firstOf_0 15 rfl rfl)
theorem dX0_firstOf_16 : decode cX0_firstOf 16 = .ok (.lreturn, 1) := dk_173 (dk_at dksX0_firstOf_0 16 rfl rfl)
theorem dX0_firstOf_17 : decode cX0_firstOf 17 = .ok (.aload_n 1, 1) := dk_43 (dk_at dksX0_firstOf_0 17 rfl rfl)
theorem dX0_firstOf_18 : decode cX0_firstOf 18 = .ok (.aload_n 2, 1) := dk_44 (dk_at dksX0_firstOf_0 18 rfl rfl)
theorem dX0_firstOf_19 : decode cX0_firstOf 19 = .ok (.invokevirtual 170, 3) := dk_182 0 170 (dk_at dksX0_firstOf_0 19 rfl rfl)
theorem dX0_firstOf_22 : decode cX0_firstOf 22 = .ok (.istore 6, 2) := dk_54 6 (dk_at dksX0_firstOf_0 22 rfl rfl)
theorem dX0_firstOf_24 : decode cX0_firstOf 24 = .ok (.aload_n 1, 1) := dk_43 (dk_at dksX0_firstOf_1 0 rfl rfl)
theorem dX0_firstOf_25 : decode cX0_firstOf 25 = .ok (.getfield 156, 3) := dk_180 0 156 (dk_at dksX0_firstOf_1 1 rfl rfl)
theorem dX0_firstOf_28 : decode cX0_firstOf 28 = .ok (.istore 7, 2) := dk_54 7 (dk_at dksX0_firstOf_1 4 rfl rfl)
theorem dX0_firstOf_30 : decode cX0_firstOf 30 = .ok (.aload_n 2, 1) := dk_44 (dk_at dksX0_firstOf_1 6 rfl rfl)
theorem dX0_firstOf_31 : decode cX0_firstOf 31 = .ok (.getfield 156, 3) := dk_180 0 156 (dk_at dksX0_firstOf_1 7 rfl rfl)
theorem dX0_firstOf_34 : decode cX0_firstOf 34 = .ok (.istore 8, 2) := dk_54 8 (dk_at dksX0_firstOf_1 10 rfl rfl)
theorem dX0_firstOf_36 : decode cX0_firstOf 36 = .ok (.aload_n 0, 1) := dk_42 (dk_at dksX0_firstOf_1 12 rfl rfl)
theorem dX0_firstOf_37 : decode cX0_firstOf 37 = .ok (.aload_n 1, 1) := dk_43 (dk_at dksX0_firstOf_1 13 rfl rfl)
theorem dX0_firstOf_38 : decode cX0_firstOf 38 = .ok (.aload_n 2, 1) := dk_44 (dk_at dksX0_firstOf_1 14 rfl rfl)
theorem dX0_firstOf_39 : decode cX0_firstOf 39 = .ok (.invokevirtual 182, 3) := dk_182 0 182 (dk_at dksX0_firstOf_1 15 rfl rfl)
theorem dX0_firstOf_42 : decode cX0_firstOf 42 = .ok (.iload 6, 2) := dk_21 6 (dk_at dksX0_firstOf_1 18 rfl rfl)
theorem dX0_firstOf_44 : decode cX0_firstOf 44 = .ok (.i2l, 1) := dk_133 (dk_at dksX0_firstOf_1 20 rfl rfl)
theorem dX0_firstOf_45 : decode cX0_firstOf 45 = .ok (.aload_n 0, 1) := dk_42 (dk_at dksX0_firstOf_1 21 rfl rfl)
theorem dX0_firstOf_46 : decode cX0_firstOf 46 = .ok (.aload_n 1, 1) := dk_43 (dk_at dksX0_firstOf_1 22 rfl rfl)
theorem dX0_firstOf_47 : decode cX0_firstOf 47 = .ok (.aload_n 2, 1) := dk_44 (dk_at dksX0_firstOf_1 23 rfl rfl)
theorem dX0_firstOf_48 : decode cX0_firstOf 48 = .ok (.iload_n 3, 1) := dk_29 (dk_at dksX0_firstOf_2 0 rfl rfl)
theorem dX0_firstOf_49 : decode cX0_firstOf 49 = .ok (.iconst 1, 1) := dk_4 (dk_at dksX0_firstOf_2 1 rfl rfl)
theorem dX0_firstOf_50 : decode cX0_firstOf 50 = .ok (.isub, 1) := dk_100 (dk_at dksX0_firstOf_2 2 rfl rfl)
theorem dX0_firstOf_51 : decode cX0_firstOf 51 = .ok (.iload 4, 2) := dk_21 4 (dk_at dksX0_firstOf_2 3 rfl rfl)
theorem dX0_firstOf_53 : decode cX0_firstOf 53 = .ok (.iload 5, 2) := dk_21 5 (dk_at dksX0_firstOf_2 5 rfl rfl)
theorem dX0_firstOf_55 : decode cX0_firstOf 55 = .ok (.iconst 1, 1) := dk_4 (dk_at dksX0_firstOf_2 7 rfl rfl)
theorem dX0_firstOf_56 : decode cX0_firstOf 56 = .ok (.isub, 1) := dk_100 (dk_at dksX0_firstOf_2 8 rfl rfl)
theorem dX0_firstOf_57 : decode cX0_firstOf 57 = .ok (.invokevirtual 220, 3) := dk_182 0 220 (dk_at dksX0_firstOf_2 9 rfl rfl)
theorem dX0_firstOf_60 : decode cX0_firstOf 60 = .ok (.lmul, 1) := dk_105 (dk_at dksX0_firstOf_2 12 rfl rfl)
theorem dX0_firstOf_61 : decode cX0_firstOf 61 = .ok (.lstore 9, 2) := dk_55 9 (dk_at dksX0_firstOf_2 13 rfl rfl)
theorem dX0_firstOf_63 : decode cX0_firstOf 63 = .ok (.aload_n 1, 1) := dk_43 (dk_at dksX0_firstOf_2 15 rfl rfl)
theorem dX0_firstOf_64 : decode cX0_firstOf 64 = .ok (.iload 7, 2) := dk_21 7 (dk_at dksX0_firstOf_2 16 rfl rfl)
theorem dX0_firstOf_66 : decode cX0_firstOf 66 = .ok (.putfield 156, 3) := dk_181 0 156 (dk_at dksX0_firstOf_2 18 rfl rfl)
theorem dX0_firstOf_69 : decode cX0_firstOf 69 = .ok (.aload_n 2, 1) := dk_44 (dk_at dksX0_firstOf_2 21 rfl rfl)
theorem dX0_firstOf_70 : decode cX0_firstOf 70 = .ok (.iload 8, 2) := dk_21 8 (dk_at dksX0_firstOf_2 22 rfl rfl)
theorem dX0_firstOf_72 : decode cX0_firstOf 72 = .ok (.putfield 156, 3) := dk_181 0 156 (dk_at dksX0_firstOf_3 0 rfl rfl)
theorem dX0_firstOf_75 : decode cX0_firstOf 75 = .ok (.aload_n 0, 1) := dk_42 (dk_at dksX0_firstOf_3 3 rfl rfl)
theorem dX0_firstOf_76 : decode cX0_firstOf 76 = .ok (.dup, 1) := dk_89 (dk_at dksX0_firstOf_3 4 rfl rfl)
theorem dX0_firstOf_77 : decode cX0_firstOf 77 = .ok (.getfield 98, 3) := dk_180 0 98 (dk_at dksX0_firstOf_3 5 rfl rfl)
theorem dX0_firstOf_80 : decode cX0_firstOf 80 = .ok (.iconst 1, 1) := dk_4 (dk_at dksX0_firstOf_3 8 rfl rfl)
theorem dX0_firstOf_81 : decode cX0_firstOf 81 = .ok (.isub, 1) := dk_100 (dk_at dksX0_firstOf_3 9 rfl rfl)
theorem dX0_firstOf_82 : decode cX0_firstOf 82 = .ok (.putfield 98, 3) := dk_181 0 98 (dk_at dksX0_firstOf_3 10 rfl rfl)
theorem dX0_firstOf_85 : decode cX0_firstOf 85 = .ok (.aload_n 0, 1) := dk_42 (dk_at dksX0_firstOf_3 13 rfl rfl)
theorem dX0_firstOf_86 : decode cX0_firstOf 86 = .ok (.aload_n 2, 1) := dk_44 (dk_at dksX0_firstOf_3 14 rfl rfl)
theorem dX0_firstOf_87 : decode cX0_firstOf 87 = .ok (.aload_n 1, 1) := dk_43 (dk_at dksX0_firstOf_3 15 rfl rfl)
theorem dX0_firstOf_88 : decode cX0_firstOf 88 = .ok (.invokevirtual 182, 3) := dk_182 0 182 (dk_at dksX0_firstOf_3 16 rfl rfl)
theorem dX0_firstOf_91 : decode cX0_firstOf 91 = .ok (.lload 9, 2) := dk_22 9 (dk_at dksX0_firstOf_3 19 rfl rfl)
theorem dX0_firstOf_93 : decode cX0_firstOf 93 = .ok (.bipush 10, 2) := dk_16 10 (dk_at dksX0_firstOf_3 21 rfl rfl)
theorem dX0_firstOf_95 : decode cX0_firstOf 95 = .ok (.iload 6, 2) := dk_21 6 (dk_at dksX0_firstOf_4 0 rfl rfl)
theorem dX0_firstOf_97 : decode cX0_firstOf 97 = .ok (.isub, 1) := dk_100 (dk_at dksX0_firstOf_4 2 rfl rfl)
theorem dX0_firstOf_98 : decode cX0_firstOf 98 = .ok (.i2l, 1) := dk_133 (dk_at dksX0_firstOf_4 3 rfl rfl)
theorem dX0_firstOf_99 : decode cX0_firstOf 99 = .ok (.aload_n 0, 1) := dk_42 (dk_at dksX0_firstOf_4 4 rfl rfl)
theorem dX0_firstOf_100 : decode cX0_firstOf 100 = .ok (.aload_n 1, 1) := dk_43 (dk_at dksX0_firstOf_4 5 rfl rfl)
theorem dX0_firstOf_101 : decode cX0_firstOf 101 = .ok (.aload_n 2, 1) := dk_44 (dk_at dksX0_firstOf_4 6 rfl rfl)
theorem dX0_firstOf_102 : decode cX0_firstOf 102 = .ok (.iload_n 3, 1) := dk_29 (dk_at dksX0_firstOf_4 7 rfl rfl)
theorem dX0_firstOf_103 : decode cX0_firstOf 103 = .ok (.iload 4, 2) := dk_21 4 (dk_at dksX0_firstOf_4 8 rfl rfl)
theorem dX0_firstOf_105 : decode cX0_firstOf 105 = .ok (.iconst 1, 1) := dk_4 (dk_at dksX0_firstOf_4 10 rfl rfl)
theorem dX0_firstOf_106 : decode cX0_firstOf 106 = .ok (.isub, 1) := dk_100 (dk_at dksX0_firstOf_4 11 rfl rfl)
theorem dX0_firstOf_107 : decode cX0_firstOf 107 = .ok (.iload 5, 2) := dk_21 5 (dk_at dksX0_firstOf_4 12 rfl rfl)
theorem dX0_firstOf_109 : decode cX0_firstOf 109 = .ok (.iconst 1, 1) := dk_4 (dk_at dksX0_firstOf_4 14 rfl rfl)
theorem dX0_firstOf_110 : decode cX0_firstOf 110 = .ok (.isub, 1) := dk_100 (dk_at dksX0_firstOf_4 15 rfl rfl)
theorem dX0_firstOf_111 : decode cX0_firstOf 111 = .ok (.invokevirtual 220, 3) := dk_182 0 220 (dk_at dksX0_firstOf_4 16 rfl rfl)
theorem dX0_firstOf_114 : decode cX0_firstOf 114 = .ok (.lmul, 1) := dk_105 (dk_at dksX0_firstOf_4 19 rfl rfl)
theorem dX0_firstOf_115 : decode cX0_firstOf 115 = .ok (.ladd, 1) := dk_97 (dk_at dksX0_firstOf_4 20 rfl rfl)
theorem dX0_firstOf_116 : decode cX0_firstOf 116 = .ok (.lstore 9, 2) := dk_55 9 (dk_at dksX0_firstOf_4 21 rfl rfl)
theorem dX0_firstOf_118 : decode cX0_firstOf 118 = .ok (.aload_n 1, 1) := dk_43 (dk_at dksX0_firstOf_4 23 rfl rfl)
theorem dX0_firstOf_119 : decode cX0_firstOf 119 = .ok (.iload 7, 2) := dk_21 7 (dk_at dksX0_firstOf_5 0 rfl rfl)
theorem dX0_firstOf_121 : decode cX0_firstOf 121 = .ok (.putfield 156, 3) := dk_181 0 156 (dk_at dksX0_firstOf_5 2 rfl rfl)
theorem dX0_firstOf_124 : decode cX0_firstOf 124 = .ok (.aload_n 2, 1) := dk_44 (dk_at dksX0_firstOf_5 5 rfl rfl)
theorem dX0_firstOf_125 : decode cX0_firstOf 125 = .ok (.iload 8, 2) := dk_21 8 (dk_at dksX0_firstOf_5 6 rfl rfl)
theorem dX0_firstOf_127 : decode cX0_firstOf 127 = .ok (.putfield 156, 3) := dk_181 0 156 (dk_at dksX0_firstOf_5 8 rfl rfl)
theorem dX0_firstOf_130 : decode cX0_firstOf 130 = .ok (.aload_n 0, 1) := dk_42 (dk_at dksX0_firstOf_5 11 rfl rfl)
theorem dX0_firstOf_131 : decode cX0_firstOf 131 = .ok (.dup, 1) := dk_89 (dk_at dksX0_firstOf_5 12 rfl rfl)
theorem dX0_firstOf_132 : decode cX0_firstOf 132 = .ok (.getfield 98, 3) := dk_180 0 98 (dk_at dksX0_firstOf_5 13 rfl rfl)
theorem dX0_firstOf_135 : decode cX0_firstOf 135 = .ok (.iconst 1, 1) := dk_4 (dk_at dksX0_firstOf_5 16 rfl rfl)
theorem dX0_firstOf_136 : decode cX0_firstOf 136 = .ok (.isub, 1) := dk_100 (dk_at dksX0_firstOf_5 17 rfl rfl)
theorem dX0_firstOf_137 : decode cX0_firstOf 137 = .ok (.putfield 98, 3) := dk_181 0 98 (dk_at dksX0_firstOf_5 18 rfl rfl)
theorem dX0_firstOf_140 : decode cX0_firstOf 140 = .ok (.lload 9, 2) := dk_22 9 (dk_at dksX0_firstOf_5 21 rfl rfl)
theorem dX0_firstOf_142 : decode cX0_firstOf 142 = .ok (.lreturn, 1) := dk_173 (dk_at dksX0_firstOf_5 23 rfl rfl)
abbrev cX0_even : ByteArray := prog_1_method_29_code
def yX0_even : MethodName := ⟨RX0, "even", "(II)I"⟩
def dkwX0_even_5 : List UInt8 := [181, 0, 156, 21, 6, 172]
abbrev dktX0_even_5 : List UInt8 := dkwX0_even_5 ++ []
def dkwX0_even_4 : List UInt8 := [161, 0, 6, 167, 0, 11, 21, 8, 54, 6, 21, 9, 54, 7, 132, 8, 1, 167, 255, 204, 45, 21, 5]
abbrev dktX0_even_4 : List UInt8 := dkwX0_even_4 ++ dktX0_even_5
def dkwX0_even_3 : List UInt8 := [45, 25, 4, 182, 0, 170, 8, 100, 184, 0, 224, 54, 9, 21, 6, 158, 0, 13, 21, 9, 21, 7]
abbrev dktX0_even_3 : List UInt8 := dkwX0_even_3 ++ dktX0_even_4
def dkwX0_even_2 : List UInt8 := [54, 5, 3, 54, 6, 3, 54, 7, 4, 54, 8, 21, 8, 16, 20, 163, 0, 51, 45, 21, 8, 181, 0, 156]
abbrev dktX0_even_2 : List UInt8 := dkwX0_even_2 ++ dktX0_even_3
def dkwX0_even_1 : List UInt8 := [182, 0, 111, 192, 0, 115, 78, 42, 180, 0, 45, 28, 182, 0, 111, 192, 0, 115, 58, 4, 45, 180, 0, 156]
abbrev dktX0_even_1 : List UInt8 := dkwX0_even_1 ++ dktX0_even_2
def dkwX0_even_0 : List UInt8 := [42, 27, 28, 182, 0, 162, 154, 0, 5, 2, 172, 27, 28, 160, 0, 6, 16, 254, 172, 42, 180, 0, 45, 27]
abbrev dktX0_even_0 : List UInt8 := dkwX0_even_0 ++ dktX0_even_1
theorem dksX0_even_0 : cX0_even.data.toList.drop 0 = dktX0_even_0 := by decide +kernel
theorem dksX0_even_1 : cX0_even.data.toList.drop 24 = dktX0_even_1 := dk_seg dksX0_even_0 24 rfl rfl
theorem dksX0_even_2 : cX0_even.data.toList.drop 48 = dktX0_even_2 := dk_seg dksX0_even_1 24 rfl rfl
theorem dksX0_even_3 : cX0_even.data.toList.drop 72 = dktX0_even_3 := dk_seg dksX0_even_2 24 rfl rfl
theorem dksX0_even_4 : cX0_even.data.toList.drop 94 = dktX0_even_4 := dk_seg dksX0_even_3 22 rfl rfl
theorem dksX0_even_5 : cX0_even.data.toList.drop 117 = dktX0_even_5 := dk_seg dksX0_even_4 23 rfl rfl
theorem dX0_even_0 : decode cX0_even 0 = .ok (.aload_n 0, 1) := dk_42 (dk_at dksX0_even_0 0 rfl rfl)
theorem dX0_even_1 : decode cX0_even 1 = .ok (.iload_n 1, 1) := dk_27 (dk_at dksX0_even_0 1 rfl rfl)
theorem dX0_even_2 : decode cX0_even 2 = .ok (.iload_n 2, 1) := dk_28 (dk_at dksX0_even_0 2 rfl rfl)
theorem dX0_even_3 : decode cX0_even 3 = .ok (.invokevirtual 162, 3) := dk_182 0 162 (dk_at dksX0_even_0 3 rfl rfl)
theorem dX0_even_6 : decode cX0_even 6 = .ok (.ifCond .ne 5, 3) := dk_154 0 5 (dk_at dksX0_even_0 6 rfl rfl)
theorem dX0_even_9 : decode cX0_even 9 = .ok (.iconst (-1), 1) := dk_2 (dk_at dksX0_even_0 9 rfl rfl)
theorem dX0_even_10 : decode cX0_even 10 = .ok (.ireturn, 1) := dk_172 (dk_at dksX0_even_0 10 rfl rfl)
theorem dX0_even_11 : decode cX0_even 11 = .ok (.iload_n 1, 1) := dk_27 (dk_at dksX0_even_0 11 rfl rfl)
theorem dX0_even_12 : decode cX0_even 12 = .ok (.iload_n 2, 1) := dk_28 (dk_at dksX0_even_0 12 rfl rfl)
theorem dX0_even_13 : decode cX0_even 13 = .ok (.if_icmp .ne 6, 3) := dk_160 0 6 (dk_at dksX0_even_0 13 rfl rfl)
theorem dX0_even_16 : decode cX0_even 16 = .ok (.bipush (-2), 2) := dk_16 254 (dk_at dksX0_even_0 16 rfl rfl)
theorem dX0_even_18 : decode cX0_even 18 = .ok (.ireturn, 1) := dk_172 (dk_at dksX0_even_0 18 rfl rfl)
theorem dX0_even_19 : decode cX0_even 19 = .ok (.aload_n 0, 1) := dk_42 (dk_at dksX0_even_0 19 rfl rfl)
theorem dX0_even_20 : decode cX0_even 20 = .ok (.getfield 45, 3) := dk_180 0 45 (dk_at dksX0_even_0 20 rfl rfl)
theorem dX0_even_23 : decode cX0_even 23 = .ok (.iload_n 1, 1) := dk_27 (dk_at dksX0_even_0 23 rfl rfl)
theorem dX0_even_24 : decode cX0_even 24 = .ok (.invokevirtual 111, 3) := dk_182 0 111 (dk_at dksX0_even_1 0 rfl rfl)
theorem dX0_even_27 : decode cX0_even 27 = .ok (.checkcast 115, 3) := dk_192 0 115 (dk_at dksX0_even_1 3 rfl rfl)
theorem dX0_even_30 : decode cX0_even 30 = .ok (.astore_n 3, 1) := dk_78 (dk_at dksX0_even_1 6 rfl rfl)
theorem dX0_even_31 : decode cX0_even 31 = .ok (.aload_n 0, 1) := dk_42 (dk_at dksX0_even_1 7 rfl rfl)
theorem dX0_even_32 : decode cX0_even 32 = .ok (.getfield 45, 3) := dk_180 0 45 (dk_at dksX0_even_1 8 rfl rfl)
theorem dX0_even_35 : decode cX0_even 35 = .ok (.iload_n 2, 1) := dk_28 (dk_at dksX0_even_1 11 rfl rfl)
theorem dX0_even_36 : decode cX0_even 36 = .ok (.invokevirtual 111, 3) := dk_182 0 111 (dk_at dksX0_even_1 12 rfl rfl)
theorem dX0_even_39 : decode cX0_even 39 = .ok (.checkcast 115, 3) := dk_192 0 115 (dk_at dksX0_even_1 15 rfl rfl)
theorem dX0_even_42 : decode cX0_even 42 = .ok (.astore 4, 2) := dk_58 4 (dk_at dksX0_even_1 18 rfl rfl)
theorem dX0_even_44 : decode cX0_even 44 = .ok (.aload_n 3, 1) := dk_45 (dk_at dksX0_even_1 20 rfl rfl)
theorem dX0_even_45 : decode cX0_even 45 = .ok (.getfield 156, 3) := dk_180 0 156 (dk_at dksX0_even_1 21 rfl rfl)
theorem dX0_even_48 : decode cX0_even 48 = .ok (.istore 5, 2) := dk_54 5 (dk_at dksX0_even_2 0 rfl rfl)
theorem dX0_even_50 : decode cX0_even 50 = .ok (.iconst 0, 1) := dk_3 (dk_at dksX0_even_2 2 rfl rfl)
theorem dX0_even_51 : decode cX0_even 51 = .ok (.istore 6, 2) := dk_54 6 (dk_at dksX0_even_2 3 rfl rfl)
theorem dX0_even_53 : decode cX0_even 53 = .ok (.iconst 0, 1) := dk_3 (dk_at dksX0_even_2 5 rfl rfl)
theorem dX0_even_54 : decode cX0_even 54 = .ok (.istore 7, 2) := dk_54 7 (dk_at dksX0_even_2 6 rfl rfl)
theorem dX0_even_56 : decode cX0_even 56 = .ok (.iconst 1, 1) := dk_4 (dk_at dksX0_even_2 8 rfl rfl)
theorem dX0_even_57 : decode cX0_even 57 = .ok (.istore 8, 2) := dk_54 8 (dk_at dksX0_even_2 9 rfl rfl)
theorem dX0_even_59 : decode cX0_even 59 = .ok (.iload 8, 2) := dk_21 8 (dk_at dksX0_even_2 11 rfl rfl)
theorem dX0_even_61 : decode cX0_even 61 = .ok (.bipush 20, 2) := dk_16 20 (dk_at dksX0_even_2 13 rfl rfl)
theorem dX0_even_63 : decode cX0_even 63 = .ok (.if_icmp .gt 51, 3) := dk_163 0 51 (dk_at dksX0_even_2 15 rfl rfl)
theorem dX0_even_66 : decode cX0_even 66 = .ok (.aload_n 3, 1) := dk_45 (dk_at dksX0_even_2 18 rfl rfl)
theorem dX0_even_67 : decode cX0_even 67 = .ok (.iload 8, 2) := dk_21 8 (dk_at dksX0_even_2 19 rfl rfl)
theorem dX0_even_69 : decode cX0_even 69 = .ok (.putfield 156, 3) := dk_181 0 156 (dk_at dksX0_even_2 21 rfl rfl)
theorem dX0_even_72 : decode cX0_even 72 = .ok (.aload_n 3, 1) := dk_45 (dk_at dksX0_even_3 0 rfl rfl)
theorem dX0_even_73 : decode cX0_even 73 = .ok (.aload 4, 2) := dk_25 4 (dk_at dksX0_even_3 1 rfl rfl)
theorem dX0_even_75 : decode cX0_even 75 = .ok (.invokevirtual 170, 3) := dk_182 0 170 (dk_at dksX0_even_3 3 rfl rfl)
theorem dX0_even_78 : decode cX0_even 78 = .ok (.iconst 5, 1) := dk_8 (dk_at dksX0_even_3 6 rfl rfl)
theorem dX0_even_79 : decode cX0_even 79 = .ok (.isub, 1) := dk_100 (dk_at dksX0_even_3 7 rfl rfl)
theorem dX0_even_80 : decode cX0_even 80 = .ok (.invokestatic 224, 3) := dk_184 0 224 (dk_at dksX0_even_3 8 rfl rfl)
theorem dX0_even_83 : decode cX0_even 83 = .ok (.istore 9, 2) := dk_54 9 (dk_at dksX0_even_3 11 rfl rfl)
theorem dX0_even_85 : decode cX0_even 85 = .ok (.iload 6, 2) := dk_21 6 (dk_at dksX0_even_3 13 rfl rfl)
theorem dX0_even_87 : decode cX0_even 87 = .ok (.ifCond .le 13, 3) := dk_158 0 13 (dk_at dksX0_even_3 15 rfl rfl)
theorem dX0_even_90 : decode cX0_even 90 = .ok (.iload 9, 2) := dk_21 9 (dk_at dksX0_even_3 18 rfl rfl)
theorem dX0_even_92 : decode cX0_even 92 = .ok (.iload 7, 2) := dk_21 7 (dk_at dksX0_even_3 20 rfl rfl)
theorem dX0_even_94 : decode cX0_even 94 = .ok (.if_icmp .lt 6, 3) := dk_161 0 6 (dk_at dksX0_even_4 0 rfl rfl)
theorem dX0_even_97 : decode cX0_even 97 = .ok (.goto 11, 3) := dk_167 0 11 (dk_at dksX0_even_4 3 rfl rfl)
theorem dX0_even_100 : decode cX0_even 100 = .ok (.iload 8, 2) := dk_21 8 (dk_at dksX0_even_4 6 rfl rfl)
theorem dX0_even_102 : decode cX0_even 102 = .ok (.istore 6, 2) := dk_54 6 (dk_at dksX0_even_4 8 rfl rfl)
theorem dX0_even_104 : decode cX0_even 104 = .ok (.iload 9, 2) := dk_21 9 (dk_at dksX0_even_4 10 rfl rfl)
theorem dX0_even_106 : decode cX0_even 106 = .ok (.istore 7, 2) := dk_54 7 (dk_at dksX0_even_4 12 rfl rfl)
theorem dX0_even_108 : decode cX0_even 108 = .ok (.iinc 8 1, 3) := dk_132 8 1 (dk_at dksX0_even_4 14 rfl rfl)
theorem dX0_even_111 : decode cX0_even 111 = .ok (.goto (-52), 3) := dk_167 255 204 (dk_at dksX0_even_4 17 rfl rfl)
theorem dX0_even_114 : decode cX0_even 114 = .ok (.aload_n 3, 1) := dk_45 (dk_at dksX0_even_4 20 rfl rfl)
theorem dX0_even_115 : decode cX0_even 115 = .ok (.iload 5, 2) := dk_21 5 (dk_at dksX0_even_4 21 rfl rfl)
theorem dX0_even_117 : decode cX0_even 117 = .ok (.putfield 156, 3) := dk_181 0 156 (dk_at dksX0_even_5 0 rfl rfl)
theorem dX0_even_120 : decode cX0_even 120 = .ok (.iload 6, 2) := dk_21 6 (dk_at dksX0_even_5 3 rfl rfl)
theorem dX0_even_122 : decode cX0_even 122 = .ok (.ireturn, 1) := dk_172 (dk_at dksX0_even_5 5 rfl rfl)
abbrev cX0_purpose : ByteArray := prog_1_method_31_code
def yX0_purpose : MethodName := ⟨RX0, "purpose", "(IIII)J"⟩
def dkwX0_purpose_2 : List UInt8 := [29, 182, 0, 231, 29, 184, 0, 212, 21, 4, 184, 0, 216, 173]
abbrev dktX0_purpose_2 : List UInt8 := dkwX0_purpose_2 ++ []
def dkwX0_purpose_1 : List UInt8 := [173, 42, 42, 180, 0, 45, 27, 182, 0, 111, 192, 0, 115, 42, 180, 0, 45, 28, 182, 0, 111, 192, 0, 115]
abbrev dktX0_purpose_1 : List UInt8 := dkwX0_purpose_1 ++ dktX0_purpose_2
def dkwX0_purpose_0 : List UInt8 := [42, 27, 28, 21, 4, 182, 0, 203, 153, 0, 13, 29, 4, 16, 8, 184, 0, 78, 154, 0, 7, 20, 0, 206]
abbrev dktX0_purpose_0 : List UInt8 := dkwX0_purpose_0 ++ dktX0_purpose_1
theorem dksX0_purpose_0 : cX0_purpose.data.toList.drop 0 = dktX0_purpose_0 := by decide +kernel
theorem dksX0_purpose_1 : cX0_purpose.data.toList.drop 24 = dktX0_purpose_1 := dk_seg dksX0_purpose_0 24 rfl rfl
theorem dksX0_purpose_2 : cX0_purpose.data.toList.drop 48 = dktX0_purpose_2 := dk_seg dksX0_purpose_1 24 rfl rfl
theorem dX0_purpose_0 : decode cX0_purpose 0 = .ok (.aload_n 0, 1) := dk_42 (dk_at dksX0_purpose_0 0 rfl rfl)
theorem dX0_purpose_1 : decode cX0_purpose 1 = .ok (.iload_n 1, 1) := dk_27 (dk_at dksX0_purpose_0 1 rfl rfl)
theorem dX0_purpose_2 : decode cX0_purpose 2 = .ok (.iload_n 2, 1) := dk_28 (dk_at dksX0_purpose_0 2 rfl rfl)
theorem dX0_purpose_3 : decode cX0_purpose 3 = .ok (.iload 4, 2) := dk_21 4 (dk_at dksX0_purpose_0 3 rfl rfl)
theorem dX0_purpose_5 : decode cX0_purpose 5 = .ok (.invokevirtual 203, 3) := dk_182 0 203 (dk_at dksX0_purpose_0 5 rfl rfl)
theorem dX0_purpose_8 : decode cX0_purpose 8 = .ok (.ifCond .eq 13, 3) := dk_153 0 13 (dk_at dksX0_purpose_0 8 rfl rfl)
theorem dX0_purpose_11 : decode cX0_purpose 11 = .ok (.iload_n 3, 1) := dk_29 (dk_at dksX0_purpose_0 11 rfl rfl)
theorem dX0_purpose_12 : decode cX0_purpose 12 = .ok (.iconst 1, 1) := dk_4 (dk_at dksX0_purpose_0 12 rfl rfl)
theorem dX0_purpose_13 : decode cX0_purpose 13 = .ok (.bipush 8, 2) := dk_16 8 (dk_at dksX0_purpose_0 13 rfl rfl)
theorem dX0_purpose_15 : decode cX0_purpose 15 = .ok (.invokestatic 78, 3) := dk_184 0 78 (dk_at dksX0_purpose_0 15 rfl rfl)
theorem dX0_purpose_18 : decode cX0_purpose 18 = .ok (.ifCond .ne 7, 3) := dk_154 0 7 (dk_at dksX0_purpose_0 18 rfl rfl)
theorem dX0_purpose_21 : decode cX0_purpose 21 = .ok (.ldc2_w 206, 3) := dk_20 0 206 (dk_at dksX0_purpose_0 21 rfl rfl)
theorem dX0_purpose_24 : decode cX0_purpose 24 = .ok (.lreturn, 1) := dk_173 (dk_at dksX0_purpose_1 0 rfl rfl)
theorem dX0_purpose_25 : decode cX0_purpose 25 = .ok (.aload_n 0, 1) := dk_42 (dk_at dksX0_purpose_1 1 rfl rfl)
theorem dX0_purpose_26 : decode cX0_purpose 26 = .ok (.aload_n 0, 1) := dk_42 (dk_at dksX0_purpose_1 2 rfl rfl)
theorem dX0_purpose_27 : decode cX0_purpose 27 = .ok (.getfield 45, 3) := dk_180 0 45 (dk_at dksX0_purpose_1 3 rfl rfl)
theorem dX0_purpose_30 : decode cX0_purpose 30 = .ok (.iload_n 1, 1) := dk_27 (dk_at dksX0_purpose_1 6 rfl rfl)
theorem dX0_purpose_31 : decode cX0_purpose 31 = .ok (.invokevirtual 111, 3) := dk_182 0 111 (dk_at dksX0_purpose_1 7 rfl rfl)
theorem dX0_purpose_34 : decode cX0_purpose 34 = .ok (.checkcast 115, 3) := dk_192 0 115 (dk_at dksX0_purpose_1 10 rfl rfl)
theorem dX0_purpose_37 : decode cX0_purpose 37 = .ok (.aload_n 0, 1) := dk_42 (dk_at dksX0_purpose_1 13 rfl rfl)
theorem dX0_purpose_38 : decode cX0_purpose 38 = .ok (.getfield 45, 3) := dk_180 0 45 (dk_at dksX0_purpose_1 14 rfl rfl)
theorem dX0_purpose_41 : decode cX0_purpose 41 = .ok (.iload_n 2, 1) := dk_28 (dk_at dksX0_purpose_1 17 rfl rfl)
theorem dX0_purpose_42 : decode cX0_purpose 42 = .ok (.invokevirtual 111, 3) := dk_182 0 111 (dk_at dksX0_purpose_1 18 rfl rfl)
theorem dX0_purpose_45 : decode cX0_purpose 45 = .ok (.checkcast 115, 3) := dk_192 0 115 (dk_at dksX0_purpose_1 21 rfl rfl)
theorem dX0_purpose_48 : decode cX0_purpose 48 = .ok (.iload_n 3, 1) := dk_29 (dk_at dksX0_purpose_2 0 rfl rfl)
theorem dX0_purpose_49 : decode cX0_purpose 49 = .ok (.invokevirtual 231, 3) := dk_182 0 231 (dk_at dksX0_purpose_2 1 rfl rfl)
theorem dX0_purpose_52 : decode cX0_purpose 52 = .ok (.iload_n 3, 1) := dk_29 (dk_at dksX0_purpose_2 4 rfl rfl)
theorem dX0_purpose_53 : decode cX0_purpose 53 = .ok (.invokestatic 212, 3) := dk_184 0 212 (dk_at dksX0_purpose_2 5 rfl rfl)
theorem dX0_purpose_56 : decode cX0_purpose 56 = .ok (.iload 4, 2) := dk_21 4 (dk_at dksX0_purpose_2 8 rfl rfl)
theorem dX0_purpose_58 : decode cX0_purpose 58 = .ok (.invokestatic 216, 3) := dk_184 0 216 (dk_at dksX0_purpose_2 10 rfl rfl)
theorem dX0_purpose_61 : decode cX0_purpose 61 = .ok (.lreturn, 1) := dk_173 (dk_at dksX0_purpose_2 13 rfl rfl)
abbrev cX0_aims : ByteArray := prog_1_method_30_code
def yX0_aims : MethodName := ⟨RX0, "aims", "(LFewerMan$Player;LFewerMan$Player;I)J"⟩
def dkwX0_aims_7 : List UInt8 := [167, 0, 5, 22, 11, 173]
abbrev dktX0_aims_7 : List UInt8 := dkwX0_aims_7 ++ []
def dkwX0_aims_6 : List UInt8 := [158, 0, 7, 4, 167, 0, 4, 3, 181, 0, 227, 42, 180, 0, 227, 153, 0, 12, 20, 0, 186, 22, 9, 105]
abbrev dktX0_aims_6 : List UInt8 := dkwX0_aims_6 ++ dktX0_aims_7
def dkwX0_aims_5 : List UInt8 := [105, 16, 10, 21, 4, 100, 133, 22, 9, 105, 97, 55, 11, 42, 20, 0, 186, 22, 9, 105, 22, 11, 148]
abbrev dktX0_aims_5 : List UInt8 := dkwX0_aims_5 ++ dktX0_aims_6
def dkwX0_aims_4 : List UInt8 := [181, 0, 156, 44, 21, 6, 181, 0, 156, 42, 89, 180, 0, 98, 4, 100, 181, 0, 98, 21, 4, 133, 22, 7]
abbrev dktX0_aims_4 : List UInt8 := dkwX0_aims_4 ++ dktX0_aims_5
def dkwX0_aims_3 : List UInt8 := [181, 0, 98, 42, 44, 43, 182, 0, 182, 42, 43, 44, 29, 4, 100, 182, 0, 231, 55, 9, 43, 21, 5]
abbrev dktX0_aims_3 : List UInt8 := dkwX0_aims_3 ++ dktX0_aims_4
def dkwX0_aims_2 : List UInt8 := [182, 0, 231, 55, 7, 43, 21, 5, 181, 0, 156, 44, 21, 6, 181, 0, 156, 42, 89, 180, 0, 98, 4, 100]
abbrev dktX0_aims_2 : List UInt8 := dkwX0_aims_2 ++ dktX0_aims_3
def dkwX0_aims_1 : List UInt8 := [180, 0, 156, 54, 5, 44, 180, 0, 156, 54, 6, 42, 43, 44, 182, 0, 182, 42, 43, 44, 29, 4, 100]
abbrev dktX0_aims_1 : List UInt8 := dkwX0_aims_1 ++ dktX0_aims_2
def dkwX0_aims_0 : List UInt8 := [43, 44, 182, 0, 170, 54, 4, 29, 4, 160, 0, 12, 42, 3, 181, 0, 227, 21, 4, 133, 173, 43]
abbrev dktX0_aims_0 : List UInt8 := dkwX0_aims_0 ++ dktX0_aims_1
theorem dksX0_aims_0 : cX0_aims.data.toList.drop 0 = dktX0_aims_0 := by decide +kernel
theorem dksX0_aims_1 : cX0_aims.data.toList.drop 22 = dktX0_aims_1 := dk_seg dksX0_aims_0 22 rfl rfl
theorem dksX0_aims_2 : cX0_aims.data.toList.drop 45 = dktX0_aims_2 := dk_seg dksX0_aims_1 23 rfl rfl
theorem dksX0_aims_3 : cX0_aims.data.toList.drop 69 = dktX0_aims_3 := dk_seg dksX0_aims_2 24 rfl rfl
theorem dksX0_aims_4 : cX0_aims.data.toList.drop 92 = dktX0_aims_4 := dk_seg dksX0_aims_3 23 rfl rfl
theorem dksX0_aims_5 : cX0_aims.data.toList.drop 116 = dktX0_aims_5 := dk_seg dksX0_aims_4 24 rfl rfl
theorem dksX0_aims_6 : cX0_aims.data.toList.drop 139 = dktX0_aims_6 := dk_seg dksX0_aims_5 23 rfl rfl
theorem dksX0_aims_7 : cX0_aims.data.toList.drop 163 = dktX0_aims_7 := dk_seg dksX0_aims_6 24 rfl rfl
theorem dX0_aims_0 : decode cX0_aims 0 = .ok (.aload_n 1, 1) := dk_43 (dk_at dksX0_aims_0 0 rfl rfl)
theorem dX0_aims_1 : decode cX0_aims 1 = .ok (.aload_n 2, 1) := dk_44 (dk_at dksX0_aims_0 1 rfl rfl)
theorem dX0_aims_2 : decode cX0_aims 2 = .ok (.invokevirtual 170, 3) := dk_182 0 170 (dk_at dksX0_aims_0 2 rfl rfl)
theorem dX0_aims_5 : decode cX0_aims 5 = .ok (.istore 4, 2) := dk_54 4 (dk_at dksX0_aims_0 5 rfl rfl)
theorem dX0_aims_7 : decode cX0_aims 7 = .ok (.iload_n 3, 1) := dk_29 (dk_at dksX0_aims_0 7 rfl rfl)
theorem dX0_aims_8 : decode cX0_aims 8 = .ok (.iconst 1, 1) := dk_4 (dk_at dksX0_aims_0 8 rfl rfl)
theorem dX0_aims_9 : decode cX0_aims 9 = .ok (.if_icmp .ne 12, 3) := dk_160 0 12 (dk_at dksX0_aims_0 9 rfl rfl)
theorem dX0_aims_12 : decode cX0_aims 12 = .ok (.aload_n 0, 1) := dk_42 (dk_at dksX0_aims_0 12 rfl rfl)
theorem dX0_aims_13 : decode cX0_aims 13 = .ok (.iconst 0, 1) := dk_3 (dk_at dksX0_aims_0 13 rfl rfl)
theorem dX0_aims_14 : decode cX0_aims 14 = .ok (.putfield 227, 3) := dk_181 0 227 (dk_at dksX0_aims_0 14 rfl rfl)
theorem dX0_aims_17 : decode cX0_aims 17 = .ok (.iload 4, 2) := dk_21 4 (dk_at dksX0_aims_0 17 rfl rfl)
theorem dX0_aims_19 : decode cX0_aims 19 = .ok (.i2l, 1) := dk_133 (dk_at dksX0_aims_0 19 rfl rfl)
theorem dX0_aims_20 : decode cX0_aims 20 = .ok (.lreturn, 1) := dk_173 (dk_at dksX0_aims_0 20 rfl rfl)
theorem dX0_aims_21 : decode cX0_aims 21 = .ok (.aload_n 1, 1) := dk_43 (dk_at dksX0_aims_0 21 rfl rfl)
theorem dX0_aims_22 : decode cX0_aims 22 = .ok (.getfield 156, 3) := dk_180 0 156 (dk_at dksX0_aims_1 0 rfl rfl)
theorem dX0_aims_25 : decode cX0_aims 25 = .ok (.istore 5, 2) := dk_54 5 (dk_at dksX0_aims_1 3 rfl rfl)
theorem dX0_aims_27 : decode cX0_aims 27 = .ok (.aload_n 2, 1) := dk_44 (dk_at dksX0_aims_1 5 rfl rfl)
theorem dX0_aims_28 : decode cX0_aims 28 = .ok (.getfield 156, 3) := dk_180 0 156 (dk_at dksX0_aims_1 6 rfl rfl)
theorem dX0_aims_31 : decode cX0_aims 31 = .ok (.istore 6, 2) := dk_54 6 (dk_at dksX0_aims_1 9 rfl rfl)
theorem dX0_aims_33 : decode cX0_aims 33 = .ok (.aload_n 0, 1) := dk_42 (dk_at dksX0_aims_1 11 rfl rfl)
theorem dX0_aims_34 : decode cX0_aims 34 = .ok (.aload_n 1, 1) := dk_43 (dk_at dksX0_aims_1 12 rfl rfl)
theorem dX0_aims_35 : decode cX0_aims 35 = .ok (.aload_n 2, 1) := dk_44 (dk_at dksX0_aims_1 13 rfl rfl)
theorem dX0_aims_36 : decode cX0_aims 36 = .ok (.invokevirtual 182, 3) := dk_182 0 182 (dk_at dksX0_aims_1 14 rfl rfl)
theorem dX0_aims_39 : decode cX0_aims 39 = .ok (.aload_n 0, 1) := dk_42 (dk_at dksX0_aims_1 17 rfl rfl)
theorem dX0_aims_40 : decode cX0_aims 40 = .ok (.aload_n 1, 1) := dk_43 (dk_at dksX0_aims_1 18 rfl rfl)
theorem dX0_aims_41 : decode cX0_aims 41 = .ok (.aload_n 2, 1) := dk_44 (dk_at dksX0_aims_1 19 rfl rfl)
theorem dX0_aims_42 : decode cX0_aims 42 = .ok (.iload_n 3, 1) := dk_29 (dk_at dksX0_aims_1 20 rfl rfl)
theorem dX0_aims_43 : decode cX0_aims 43 = .ok (.iconst 1, 1) := dk_4 (dk_at dksX0_aims_1 21 rfl rfl)
theorem dX0_aims_44 : decode cX0_aims 44 = .ok (.isub, 1) := dk_100 (dk_at dksX0_aims_1 22 rfl rfl)
theorem dX0_aims_45 : decode cX0_aims 45 = .ok (.invokevirtual 231, 3) := dk_182 0 231 (dk_at dksX0_aims_2 0 rfl rfl)
theorem dX0_aims_48 : decode cX0_aims 48 = .ok (.lstore 7, 2) := dk_55 7 (dk_at dksX0_aims_2 3 rfl rfl)
theorem dX0_aims_50 : decode cX0_aims 50 = .ok (.aload_n 1, 1) := dk_43 (dk_at dksX0_aims_2 5 rfl rfl)
theorem dX0_aims_51 : decode cX0_aims 51 = .ok (.iload 5, 2) := dk_21 5 (dk_at dksX0_aims_2 6 rfl rfl)
theorem dX0_aims_53 : decode cX0_aims 53 = .ok (.putfield 156, 3) := dk_181 0 156 (dk_at dksX0_aims_2 8 rfl rfl)
theorem dX0_aims_56 : decode cX0_aims 56 = .ok (.aload_n 2, 1) := dk_44 (dk_at dksX0_aims_2 11 rfl rfl)
theorem dX0_aims_57 : decode cX0_aims 57 = .ok (.iload 6, 2) := dk_21 6 (dk_at dksX0_aims_2 12 rfl rfl)
theorem dX0_aims_59 : decode cX0_aims 59 = .ok (.putfield 156, 3) := dk_181 0 156 (dk_at dksX0_aims_2 14 rfl rfl)
theorem dX0_aims_62 : decode cX0_aims 62 = .ok (.aload_n 0, 1) := dk_42 (dk_at dksX0_aims_2 17 rfl rfl)
theorem dX0_aims_63 : decode cX0_aims 63 = .ok (.dup, 1) := dk_89 (dk_at dksX0_aims_2 18 rfl rfl)
theorem dX0_aims_64 : decode cX0_aims 64 = .ok (.getfield 98, 3) := dk_180 0 98 (dk_at dksX0_aims_2 19 rfl rfl)
theorem dX0_aims_67 : decode cX0_aims 67 = .ok (.iconst 1, 1) := dk_4 (dk_at dksX0_aims_2 22 rfl rfl)
theorem dX0_aims_68 : decode cX0_aims 68 = .ok (.isub, 1) := dk_100 (dk_at dksX0_aims_2 23 rfl rfl)
theorem dX0_aims_69 : decode cX0_aims 69 = .ok (.putfield 98, 3) := dk_181 0 98 (dk_at dksX0_aims_3 0 rfl rfl)
theorem dX0_aims_72 : decode cX0_aims 72 = .ok (.aload_n 0, 1) := dk_42 (dk_at dksX0_aims_3 3 rfl rfl)
theorem dX0_aims_73 : decode cX0_aims 73 = .ok (.aload_n 2, 1) := dk_44 (dk_at dksX0_aims_3 4 rfl rfl)
theorem dX0_aims_74 : decode cX0_aims 74 = .ok (.aload_n 1, 1) := dk_43 (dk_at dksX0_aims_3 5 rfl rfl)
theorem dX0_aims_75 : decode cX0_aims 75 = .ok (.invokevirtual 182, 3) := dk_182 0 182 (dk_at dksX0_aims_3 6 rfl rfl)
theorem dX0_aims_78 : decode cX0_aims 78 = .ok (.aload_n 0, 1) := dk_42 (dk_at dksX0_aims_3 9 rfl rfl)
theorem dX0_aims_79 : decode cX0_aims 79 = .ok (.aload_n 1, 1) := dk_43 (dk_at dksX0_aims_3 10 rfl rfl)
theorem dX0_aims_80 : decode cX0_aims 80 = .ok (.aload_n 2, 1) := dk_44 (dk_at dksX0_aims_3 11 rfl rfl)
theorem dX0_aims_81 : decode cX0_aims 81 = .ok (.iload_n 3, 1) := dk_29 (dk_at dksX0_aims_3 12 rfl rfl)
theorem dX0_aims_82 : decode cX0_aims 82 = .ok (.iconst 1, 1) := dk_4 (dk_at dksX0_aims_3 13 rfl rfl)
theorem dX0_aims_83 : decode cX0_aims 83 = .ok (.isub, 1) := dk_100 (dk_at dksX0_aims_3 14 rfl rfl)
theorem dX0_aims_84 : decode cX0_aims 84 = .ok (.invokevirtual 231, 3) := dk_182 0 231 (dk_at dksX0_aims_3 15 rfl rfl)
theorem dX0_aims_87 : decode cX0_aims 87 = .ok (.lstore 9, 2) := dk_55 9 (dk_at dksX0_aims_3 18 rfl rfl)
theorem dX0_aims_89 : decode cX0_aims 89 = .ok (.aload_n 1, 1) := dk_43 (dk_at dksX0_aims_3 20 rfl rfl)
theorem dX0_aims_90 : decode cX0_aims 90 = .ok (.iload 5, 2) := dk_21 5 (dk_at dksX0_aims_3 21 rfl rfl)
theorem dX0_aims_92 : decode cX0_aims 92 = .ok (.putfield 156, 3) := dk_181 0 156 (dk_at dksX0_aims_4 0 rfl rfl)
theorem dX0_aims_95 : decode cX0_aims 95 = .ok (.aload_n 2, 1) := dk_44 (dk_at dksX0_aims_4 3 rfl rfl)
theorem dX0_aims_96 : decode cX0_aims 96 = .ok (.iload 6, 2) := dk_21 6 (dk_at dksX0_aims_4 4 rfl rfl)
theorem dX0_aims_98 : decode cX0_aims 98 = .ok (.putfield 156, 3) := dk_181 0 156 (dk_at dksX0_aims_4 6 rfl rfl)
theorem dX0_aims_101 : decode cX0_aims 101 = .ok (.aload_n 0, 1) := dk_42 (dk_at dksX0_aims_4 9 rfl rfl)
theorem dX0_aims_102 : decode cX0_aims 102 = .ok (.dup, 1) := dk_89 (dk_at dksX0_aims_4 10 rfl rfl)
theorem dX0_aims_103 : decode cX0_aims 103 = .ok (.getfield 98, 3) := dk_180 0 98 (dk_at dksX0_aims_4 11 rfl rfl)
theorem dX0_aims_106 : decode cX0_aims 106 = .ok (.iconst 1, 1) := dk_4 (dk_at dksX0_aims_4 14 rfl rfl)
theorem dX0_aims_107 : decode cX0_aims 107 = .ok (.isub, 1) := dk_100 (dk_at dksX0_aims_4 15 rfl rfl)
theorem dX0_aims_108 : decode cX0_aims 108 = .ok (.putfield 98, 3) := dk_181 0 98 (dk_at dksX0_aims_4 16 rfl rfl)
theorem dX0_aims_111 : decode cX0_aims 111 = .ok (.iload 4, 2) := dk_21 4 (dk_at dksX0_aims_4 19 rfl rfl)
theorem dX0_aims_113 : decode cX0_aims 113 = .ok (.i2l, 1) := dk_133 (dk_at dksX0_aims_4 21 rfl rfl)
theorem dX0_aims_114 : decode cX0_aims 114 = .ok (.lload 7, 2) := dk_22 7 (dk_at dksX0_aims_4 22 rfl rfl)
theorem dX0_aims_116 : decode cX0_aims 116 = .ok (.lmul, 1) := dk_105 (dk_at dksX0_aims_5 0 rfl rfl)
theorem dX0_aims_117 : decode cX0_aims 117 = .ok (.bipush 10, 2) := dk_16 10 (dk_at dksX0_aims_5 1 rfl rfl)
theorem dX0_aims_119 : decode cX0_aims 119 = .ok (.iload 4, 2) := dk_21 4 (dk_at dksX0_aims_5 3 rfl rfl)
theorem dX0_aims_121 : decode cX0_aims 121 = .ok (.isub, 1) := dk_100 (dk_at dksX0_aims_5 5 rfl rfl)
theorem dX0_aims_122 : decode cX0_aims 122 = .ok (.i2l, 1) := dk_133 (dk_at dksX0_aims_5 6 rfl rfl)
theorem dX0_aims_123 : decode cX0_aims 123 = .ok (.lload 9, 2) := dk_22 9 (dk_at dksX0_aims_5 7 rfl rfl)
theorem dX0_aims_125 : decode cX0_aims 125 = .ok (.lmul, 1) := dk_105 (dk_at dksX0_aims_5 9 rfl rfl)
theorem dX0_aims_126 : decode cX0_aims 126 = .ok (.ladd, 1) := dk_97 (dk_at dksX0_aims_5 10 rfl rfl)
theorem dX0_aims_127 : decode cX0_aims 127 = .ok (.lstore 11, 2) := dk_55 11 (dk_at dksX0_aims_5 11 rfl rfl)
theorem dX0_aims_129 : decode cX0_aims 129 = .ok (.aload_n 0, 1) := dk_42 (dk_at dksX0_aims_5 13 rfl rfl)
theorem dX0_aims_130 : decode cX0_aims 130 = .ok (.ldc2_w 186, 3) := dk_20 0 186 (dk_at dksX0_aims_5 14 rfl rfl)
theorem dX0_aims_133 : decode cX0_aims 133 = .ok (.lload 9, 2) := dk_22 9 (dk_at dksX0_aims_5 17 rfl rfl)
theorem dX0_aims_135 : decode cX0_aims 135 = .ok (.lmul, 1) := dk_105 (dk_at dksX0_aims_5 19 rfl rfl)
theorem dX0_aims_136 : decode cX0_aims 136 = .ok (.lload 11, 2) := dk_22 11 (dk_at dksX0_aims_5 20 rfl rfl)
theorem dX0_aims_138 : decode cX0_aims 138 = .ok (.lcmp, 1) := dk_148 (dk_at dksX0_aims_5 22 rfl rfl)
theorem dX0_aims_139 : decode cX0_aims 139 = .ok (.ifCond .le 7, 3) := dk_158 0 7 (dk_at dksX0_aims_6 0 rfl rfl)
theorem dX0_aims_142 : decode cX0_aims 142 = .ok (.iconst 1, 1) := dk_4 (dk_at dksX0_aims_6 3 rfl rfl)
theorem dX0_aims_143 : decode cX0_aims 143 = .ok (.goto 4, 3) := dk_167 0 4 (dk_at dksX0_aims_6 4 rfl rfl)
theorem dX0_aims_146 : decode cX0_aims 146 = .ok (.iconst 0, 1) := dk_3 (dk_at dksX0_aims_6 7 rfl rfl)
theorem dX0_aims_147 : decode cX0_aims 147 = .ok (.putfield 227, 3) := dk_181 0 227 (dk_at dksX0_aims_6 8 rfl rfl)
theorem dX0_aims_150 : decode cX0_aims 150 = .ok (.aload_n 0, 1) := dk_42 (dk_at dksX0_aims_6 11 rfl rfl)
theorem dX0_aims_151 : decode cX0_aims 151 = .ok (.getfield 227, 3) := dk_180 0 227 (dk_at dksX0_aims_6 12 rfl rfl)
theorem dX0_aims_154 : decode cX0_aims 154 = .ok (.ifCond .eq 12, 3) := dk_153 0 12 (dk_at dksX0_aims_6 15 rfl rfl)
theorem dX0_aims_157 : decode cX0_aims 157 = .ok (.ldc2_w 186, 3) := dk_20 0 186 (dk_at dksX0_aims_6 18 rfl rfl)
theorem dX0_aims_160 : decode cX0_aims 160 = .ok (.lload 9, 2) := dk_22 9 (dk_at dksX0_aims_6 21 rfl rfl)
theorem dX0_aims_162 : decode cX0_aims 162 = .ok (.lmul, 1) := dk_105 (dk_at dksX0_aims_6 23 rfl rfl)
theorem dX0_aims_163 : decode cX0_aims 163 = .ok (.goto 5, 3) := dk_167 0 5 (dk_at dksX0_aims_7 0 rfl rfl)
theorem dX0_aims_166 : decode cX0_aims 166 = .ok (.lload 11, 2) := dk_22 11 (dk_at dksX0_aims_7 3 rfl rfl)
theorem dX0_aims_168 : decode cX0_aims 168 = .ok (.lreturn, 1) := dk_173 (dk_at dksX0_aims_7 5 rfl rfl)
abbrev cX0_loses : ByteArray := prog_1_method_32_code
def yX0_loses : MethodName := ⟨RX0, "loses", "(III)I"⟩
def dkwX0_loses_2 : List UInt8 := [182, 0, 111, 192, 0, 115, 29, 182, 0, 231, 88, 42, 180, 0, 227, 153, 0, 7, 4, 167, 0, 4, 3, 172]
abbrev dktX0_loses_2 : List UInt8 := dkwX0_loses_2 ++ []
def dkwX0_loses_1 : List UInt8 := [154, 0, 6, 16, 254, 172, 42, 42, 180, 0, 45, 27, 182, 0, 111, 192, 0, 115, 42, 180, 0, 45, 28]
abbrev dktX0_loses_1 : List UInt8 := dkwX0_loses_1 ++ dktX0_loses_2
def dkwX0_loses_0 : List UInt8 := [42, 27, 28, 182, 0, 162, 154, 0, 5, 2, 172, 27, 28, 159, 0, 13, 29, 4, 16, 8, 184, 0, 78]
abbrev dktX0_loses_0 : List UInt8 := dkwX0_loses_0 ++ dktX0_loses_1
theorem dksX0_loses_0 : cX0_loses.data.toList.drop 0 = dktX0_loses_0 := by decide +kernel
theorem dksX0_loses_1 : cX0_loses.data.toList.drop 23 = dktX0_loses_1 := dk_seg dksX0_loses_0 23 rfl rfl
theorem dksX0_loses_2 : cX0_loses.data.toList.drop 46 = dktX0_loses_2 := dk_seg dksX0_loses_1 23 rfl rfl
theorem dX0_loses_0 : decode cX0_loses 0 = .ok (.aload_n 0, 1) := dk_42 (dk_at dksX0_loses_0 0 rfl rfl)
theorem dX0_loses_1 : decode cX0_loses 1 = .ok (.iload_n 1, 1) := dk_27 (dk_at dksX0_loses_0 1 rfl rfl)
theorem dX0_loses_2 : decode cX0_loses 2 = .ok (.iload_n 2, 1) := dk_28 (dk_at dksX0_loses_0 2 rfl rfl)
theorem dX0_loses_3 : decode cX0_loses 3 = .ok (.invokevirtual 162, 3) := dk_182 0 162 (dk_at dksX0_loses_0 3 rfl rfl)
theorem dX0_loses_6 : decode cX0_loses 6 = .ok (.ifCond .ne 5, 3) := dk_154 0 5 (dk_at dksX0_loses_0 6 rfl rfl)
theorem dX0_loses_9 : decode cX0_loses 9 = .ok (.iconst (-1), 1) := dk_2 (dk_at dksX0_loses_0 9 rfl rfl)
theorem dX0_loses_10 : decode cX0_loses 10 = .ok (.ireturn, 1) := dk_172 (dk_at dksX0_loses_0 10 rfl rfl)
theorem dX0_loses_11 : decode cX0_loses 11 = .ok (.iload_n 1, 1) := dk_27 (dk_at dksX0_loses_0 11 rfl rfl)
theorem dX0_loses_12 : decode cX0_loses 12 = .ok (.iload_n 2, 1) := dk_28 (dk_at dksX0_loses_0 12 rfl rfl)
theorem dX0_loses_13 : decode cX0_loses 13 = .ok (.if_icmp .eq 13, 3) := dk_159 0 13 (dk_at dksX0_loses_0 13 rfl rfl)
theorem dX0_loses_16 : decode cX0_loses 16 = .ok (.iload_n 3, 1) := dk_29 (dk_at dksX0_loses_0 16 rfl rfl)
theorem dX0_loses_17 : decode cX0_loses 17 = .ok (.iconst 1, 1) := dk_4 (dk_at dksX0_loses_0 17 rfl rfl)
theorem dX0_loses_18 : decode cX0_loses 18 = .ok (.bipush 8, 2) := dk_16 8 (dk_at dksX0_loses_0 18 rfl rfl)
theorem dX0_loses_20 : decode cX0_loses 20 = .ok (.invokestatic 78, 3) := dk_184 0 78 (dk_at dksX0_loses_0 20 rfl rfl)
theorem dX0_loses_23 : decode cX0_loses 23 = .ok (.ifCond .ne 6, 3) := dk_154 0 6 (dk_at dksX0_loses_1 0 rfl rfl)
theorem dX0_loses_26 : decode cX0_loses 26 = .ok (.bipush (-2), 2) := dk_16 254 (dk_at dksX0_loses_1 3 rfl rfl)
theorem dX0_loses_28 : decode cX0_loses 28 = .ok (.ireturn, 1) := dk_172 (dk_at dksX0_loses_1 5 rfl rfl)
theorem dX0_loses_29 : decode cX0_loses 29 = .ok (.aload_n 0, 1) := dk_42 (dk_at dksX0_loses_1 6 rfl rfl)
theorem dX0_loses_30 : decode cX0_loses 30 = .ok (.aload_n 0, 1) := dk_42 (dk_at dksX0_loses_1 7 rfl rfl)
theorem dX0_loses_31 : decode cX0_loses 31 = .ok (.getfield 45, 3) := dk_180 0 45 (dk_at dksX0_loses_1 8 rfl rfl)
theorem dX0_loses_34 : decode cX0_loses 34 = .ok (.iload_n 1, 1) := dk_27 (dk_at dksX0_loses_1 11 rfl rfl)
theorem dX0_loses_35 : decode cX0_loses 35 = .ok (.invokevirtual 111, 3) := dk_182 0 111 (dk_at dksX0_loses_1 12 rfl rfl)
theorem dX0_loses_38 : decode cX0_loses 38 = .ok (.checkcast 115, 3) := dk_192 0 115 (dk_at dksX0_loses_1 15 rfl rfl)
theorem dX0_loses_41 : decode cX0_loses 41 = .ok (.aload_n 0, 1) := dk_42 (dk_at dksX0_loses_1 18 rfl rfl)
theorem dX0_loses_42 : decode cX0_loses 42 = .ok (.getfield 45, 3) := dk_180 0 45 (dk_at dksX0_loses_1 19 rfl rfl)
theorem dX0_loses_45 : decode cX0_loses 45 = .ok (.iload_n 2, 1) := dk_28 (dk_at dksX0_loses_1 22 rfl rfl)
theorem dX0_loses_46 : decode cX0_loses 46 = .ok (.invokevirtual 111, 3) := dk_182 0 111 (dk_at dksX0_loses_2 0 rfl rfl)
theorem dX0_loses_49 : decode cX0_loses 49 = .ok (.checkcast 115, 3) := dk_192 0 115 (dk_at dksX0_loses_2 3 rfl rfl)
theorem dX0_loses_52 : decode cX0_loses 52 = .ok (.iload_n 3, 1) := dk_29 (dk_at dksX0_loses_2 6 rfl rfl)
theorem dX0_loses_53 : decode cX0_loses 53 = .ok (.invokevirtual 231, 3) := dk_182 0 231 (dk_at dksX0_loses_2 7 rfl rfl)
theorem dX0_loses_56 : decode cX0_loses 56 = .ok (.pop2, 1) := dk_88 (dk_at dksX0_loses_2 10 rfl rfl)
theorem dX0_loses_57 : decode cX0_loses 57 = .ok (.aload_n 0, 1) := dk_42 (dk_at dksX0_loses_2 11 rfl rfl)
theorem dX0_loses_58 : decode cX0_loses 58 = .ok (.getfield 227, 3) := dk_180 0 227 (dk_at dksX0_loses_2 12 rfl rfl)
theorem dX0_loses_61 : decode cX0_loses 61 = .ok (.ifCond .eq 7, 3) := dk_153 0 7 (dk_at dksX0_loses_2 15 rfl rfl)
theorem dX0_loses_64 : decode cX0_loses 64 = .ok (.iconst 1, 1) := dk_4 (dk_at dksX0_loses_2 18 rfl rfl)
theorem dX0_loses_65 : decode cX0_loses 65 = .ok (.goto 4, 3) := dk_167 0 4 (dk_at dksX0_loses_2 19 rfl rfl)
theorem dX0_loses_68 : decode cX0_loses 68 = .ok (.iconst 0, 1) := dk_3 (dk_at dksX0_loses_2 22 rfl rfl)
theorem dX0_loses_69 : decode cX0_loses 69 = .ok (.ireturn, 1) := dk_172 (dk_at dksX0_loses_2 23 rfl rfl)
abbrev cX0_order : ByteArray := prog_1_method_37_code
def yX0_order : MethodName := ⟨RX0, "order", "(III)I"⟩
def dkwX0_order_2 : List UInt8 := [180, 0, 56, 29, 46, 167, 0, 5, 16, 251, 172]
abbrev dktX0_order_2 : List UInt8 := dkwX0_order_2 ++ []
def dkwX0_order_1 : List UInt8 := [182, 1, 6, 154, 0, 6, 16, 254, 172, 42, 27, 28, 182, 1, 9, 29, 28, 184, 0, 255, 162, 0, 12, 42]
abbrev dktX0_order_1 : List UInt8 := dkwX0_order_1 ++ dktX0_order_2
def dkwX0_order_0 : List UInt8 := [42, 27, 182, 0, 146, 198, 0, 12, 29, 3, 6, 184, 0, 78, 154, 0, 5, 2, 172, 42, 27, 28]
abbrev dktX0_order_0 : List UInt8 := dkwX0_order_0 ++ dktX0_order_1
theorem dksX0_order_0 : cX0_order.data.toList.drop 0 = dktX0_order_0 := by decide +kernel
theorem dksX0_order_1 : cX0_order.data.toList.drop 22 = dktX0_order_1 := dk_seg dksX0_order_0 22 rfl rfl
theorem dksX0_order_2 : cX0_order.data.toList.drop 46 = dktX0_order_2 := dk_seg dksX0_order_1 24 rfl rfl
theorem dX0_order_0 : decode cX0_order 0 = .ok (.aload_n 0, 1) := dk_42 (dk_at dksX0_order_0 0 rfl rfl)
theorem dX0_order_1 : decode cX0_order 1 = .ok (.iload_n 1, 1) := dk_27 (dk_at dksX0_order_0 1 rfl rfl)
theorem dX0_order_2 : decode cX0_order 2 = .ok (.invokevirtual 146, 3) := dk_182 0 146 (dk_at dksX0_order_0 2 rfl rfl)
theorem dX0_order_5 : decode cX0_order 5 = .ok (.ifnull 12, 3) := dk_198 0 12 (dk_at dksX0_order_0 5 rfl rfl)
theorem dX0_order_8 : decode cX0_order 8 = .ok (.iload_n 3, 1) := dk_29 (dk_at dksX0_order_0 8 rfl rfl)
theorem dX0_order_9 : decode cX0_order 9 = .ok (.iconst 0, 1) := dk_3 (dk_at dksX0_order_0 9 rfl rfl)
theorem dX0_order_10 : decode cX0_order 10 = .ok (.iconst 3, 1) := dk_6 (dk_at dksX0_order_0 10 rfl rfl)
theorem dX0_order_11 : decode cX0_order 11 = .ok (.invokestatic 78, 3) := dk_184 0 78 (dk_at dksX0_order_0 11 rfl rfl)
theorem dX0_order_14 : decode cX0_order 14 = .ok (.ifCond .ne 5, 3) := dk_154 0 5 (dk_at dksX0_order_0 14 rfl rfl)
theorem dX0_order_17 : decode cX0_order 17 = .ok (.iconst (-1), 1) := dk_2 (dk_at dksX0_order_0 17 rfl rfl)
theorem dX0_order_18 : decode cX0_order 18 = .ok (.ireturn, 1) := dk_172 (dk_at dksX0_order_0 18 rfl rfl)
theorem dX0_order_19 : decode cX0_order 19 = .ok (.aload_n 0, 1) := dk_42 (dk_at dksX0_order_0 19 rfl rfl)
theorem dX0_order_20 : decode cX0_order 20 = .ok (.iload_n 1, 1) := dk_27 (dk_at dksX0_order_0 20 rfl rfl)
theorem dX0_order_21 : decode cX0_order 21 = .ok (.iload_n 2, 1) := dk_28 (dk_at dksX0_order_0 21 rfl rfl)
theorem dX0_order_22 : decode cX0_order 22 = .ok (.invokevirtual 262, 3) := dk_182 1 6 (dk_at dksX0_order_1 0 rfl rfl)
theorem dX0_order_25 : decode cX0_order 25 = .ok (.ifCond .ne 6, 3) := dk_154 0 6 (dk_at dksX0_order_1 3 rfl rfl)
theorem dX0_order_28 : decode cX0_order 28 = .ok (.bipush (-2), 2) := dk_16 254 (dk_at dksX0_order_1 6 rfl rfl)
theorem dX0_order_30 : decode cX0_order 30 = .ok (.ireturn, 1) := dk_172 (dk_at dksX0_order_1 8 rfl rfl)
theorem dX0_order_31 : decode cX0_order 31 = .ok (.aload_n 0, 1) := dk_42 (dk_at dksX0_order_1 9 rfl rfl)
theorem dX0_order_32 : decode cX0_order 32 = .ok (.iload_n 1, 1) := dk_27 (dk_at dksX0_order_1 10 rfl rfl)
theorem dX0_order_33 : decode cX0_order 33 = .ok (.iload_n 2, 1) := dk_28 (dk_at dksX0_order_1 11 rfl rfl)
theorem dX0_order_34 : decode cX0_order 34 = .ok (.invokevirtual 265, 3) := dk_182 1 9 (dk_at dksX0_order_1 12 rfl rfl)
theorem dX0_order_37 : decode cX0_order 37 = .ok (.iload_n 3, 1) := dk_29 (dk_at dksX0_order_1 15 rfl rfl)
theorem dX0_order_38 : decode cX0_order 38 = .ok (.iload_n 2, 1) := dk_28 (dk_at dksX0_order_1 16 rfl rfl)
theorem dX0_order_39 : decode cX0_order 39 = .ok (.invokestatic 255, 3) := dk_184 0 255 (dk_at dksX0_order_1 17 rfl rfl)
theorem dX0_order_42 : decode cX0_order 42 = .ok (.if_icmp .ge 12, 3) := dk_162 0 12 (dk_at dksX0_order_1 20 rfl rfl)
theorem dX0_order_45 : decode cX0_order 45 = .ok (.aload_n 0, 1) := dk_42 (dk_at dksX0_order_1 23 rfl rfl)
theorem dX0_order_46 : decode cX0_order 46 = .ok (.getfield 56, 3) := dk_180 0 56 (dk_at dksX0_order_2 0 rfl rfl)
theorem dX0_order_49 : decode cX0_order 49 = .ok (.iload_n 3, 1) := dk_29 (dk_at dksX0_order_2 3 rfl rfl)
theorem dX0_order_50 : decode cX0_order 50 = .ok (.iaload, 1) := dk_46 (dk_at dksX0_order_2 4 rfl rfl)
theorem dX0_order_51 : decode cX0_order 51 = .ok (.goto 5, 3) := dk_167 0 5 (dk_at dksX0_order_2 5 rfl rfl)
theorem dX0_order_54 : decode cX0_order 54 = .ok (.bipush (-5), 2) := dk_16 251 (dk_at dksX0_order_2 8 rfl rfl)
theorem dX0_order_56 : decode cX0_order 56 = .ok (.ireturn, 1) := dk_172 (dk_at dksX0_order_2 10 rfl rfl)
abbrev cX0_isSet : ByteArray := prog_1_method_35_code
def yX0_isSet : MethodName := ⟨RX0, "isSet", "(II)Z"⟩
def dkwX0_isSet_1 : List UInt8 := [154, 0, 15, 28, 184, 0, 255, 7, 163, 0, 7, 4, 167, 0, 4, 3, 172]
abbrev dktX0_isSet_1 : List UInt8 := dkwX0_isSet_1 ++ []
def dkwX0_isSet_0 : List UInt8 := [28, 3, 4, 42, 180, 0, 45, 182, 0, 107, 120, 4, 100, 184, 0, 78, 153, 0, 23, 28, 27, 184, 0, 248]
abbrev dktX0_isSet_0 : List UInt8 := dkwX0_isSet_0 ++ dktX0_isSet_1
theorem dksX0_isSet_0 : cX0_isSet.data.toList.drop 0 = dktX0_isSet_0 := by decide +kernel
theorem dksX0_isSet_1 : cX0_isSet.data.toList.drop 24 = dktX0_isSet_1 := dk_seg dksX0_isSet_0 24 rfl rfl
theorem dX0_isSet_0 : decode cX0_isSet 0 = .ok (.iload_n 2, 1) := dk_28 (dk_at dksX0_isSet_0 0 rfl rfl)
theorem dX0_isSet_1 : decode cX0_isSet 1 = .ok (.iconst 0, 1) := dk_3 (dk_at dksX0_isSet_0 1 rfl rfl)
theorem dX0_isSet_2 : decode cX0_isSet 2 = .ok (.iconst 1, 1) := dk_4 (dk_at dksX0_isSet_0 2 rfl rfl)
theorem dX0_isSet_3 : decode cX0_isSet 3 = .ok (.aload_n 0, 1) := dk_42 (dk_at dksX0_isSet_0 3 rfl rfl)
theorem dX0_isSet_4 : decode cX0_isSet 4 = .ok (.getfield 45, 3) := dk_180 0 45 (dk_at dksX0_isSet_0 4 rfl rfl)
theorem dX0_isSet_7 : decode cX0_isSet 7 = .ok (.invokevirtual 107, 3) := dk_182 0 107 (dk_at dksX0_isSet_0 7 rfl rfl)
theorem dX0_isSet_10 : decode cX0_isSet 10 = .ok (.ishl, 1) := dk_120 (dk_at dksX0_isSet_0 10 rfl rfl)
theorem dX0_isSet_11 : decode cX0_isSet 11 = .ok (.iconst 1, 1) := dk_4 (dk_at dksX0_isSet_0 11 rfl rfl)
theorem dX0_isSet_12 : decode cX0_isSet 12 = .ok (.isub, 1) := dk_100 (dk_at dksX0_isSet_0 12 rfl rfl)
theorem dX0_isSet_13 : decode cX0_isSet 13 = .ok (.invokestatic 78, 3) := dk_184 0 78 (dk_at dksX0_isSet_0 13 rfl rfl)
theorem dX0_isSet_16 : decode cX0_isSet 16 = .ok (.ifCond .eq 23, 3) := dk_153 0 23 (dk_at dksX0_isSet_0 16 rfl rfl)
theorem dX0_isSet_19 : decode cX0_isSet 19 = .ok (.iload_n 2, 1) := dk_28 (dk_at dksX0_isSet_0 19 rfl rfl)
theorem dX0_isSet_20 : decode cX0_isSet 20 = .ok (.iload_n 1, 1) := dk_27 (dk_at dksX0_isSet_0 20 rfl rfl)
theorem dX0_isSet_21 : decode cX0_isSet 21 = .ok (.invokestatic 248, 3) := dk_184 0 248 (dk_at dksX0_isSet_0 21 rfl rfl)
theorem dX0_isSet_24 : decode cX0_isSet 24 = .ok (.ifCond .ne 15, 3) := dk_154 0 15 (dk_at dksX0_isSet_1 0 rfl rfl)
theorem dX0_isSet_27 : decode cX0_isSet 27 = .ok (.iload_n 2, 1) := dk_28 (dk_at dksX0_isSet_1 3 rfl rfl)
theorem dX0_isSet_28 : decode cX0_isSet 28 = .ok (.invokestatic 255, 3) := dk_184 0 255 (dk_at dksX0_isSet_1 4 rfl rfl)
theorem dX0_isSet_31 : decode cX0_isSet 31 = .ok (.iconst 4, 1) := dk_7 (dk_at dksX0_isSet_1 7 rfl rfl)
theorem dX0_isSet_32 : decode cX0_isSet 32 = .ok (.if_icmp .gt 7, 3) := dk_163 0 7 (dk_at dksX0_isSet_1 8 rfl rfl)
theorem dX0_isSet_35 : decode cX0_isSet 35 = .ok (.iconst 1, 1) := dk_4 (dk_at dksX0_isSet_1 11 rfl rfl)
theorem dX0_isSet_36 : decode cX0_isSet 36 = .ok (.goto 4, 3) := dk_167 0 4 (dk_at dksX0_isSet_1 12 rfl rfl)
theorem dX0_isSet_39 : decode cX0_isSet 39 = .ok (.iconst 0, 1) := dk_3 (dk_at dksX0_isSet_1 15 rfl rfl)
theorem dX0_isSet_40 : decode cX0_isSet 40 = .ok (.ireturn, 1) := dk_172 (dk_at dksX0_isSet_1 16 rfl rfl)
abbrev cX0_has : ByteArray := prog_1_method_2_code
def yX0_has : MethodName := ⟨RX0, "has", "(II)Z"⟩
def dkwX0_has_0 : List UInt8 := [26, 27, 122, 4, 126, 4, 160, 0, 7, 4, 167, 0, 4, 3, 172]
abbrev dktX0_has_0 : List UInt8 := dkwX0_has_0 ++ []
theorem dksX0_has_0 : cX0_has.data.toList.drop 0 = dktX0_has_0 := by decide +kernel
theorem dX0_has_0 : decode cX0_has 0 = .ok (.iload_n 0, 1) := dk_26 (dk_at dksX0_has_0 0 rfl rfl)
theorem dX0_has_1 : decode cX0_has 1 = .ok (.iload_n 1, 1) := dk_27 (dk_at dksX0_has_0 1 rfl rfl)
theorem dX0_has_2 : decode cX0_has 2 = .ok (.ishr, 1) := dk_122 (dk_at dksX0_has_0 2 rfl rfl)
theorem dX0_has_3 : decode cX0_has 3 = .ok (.iconst 1, 1) := dk_4 (dk_at dksX0_has_0 3 rfl rfl)
theorem dX0_has_4 : decode cX0_has 4 = .ok (.iand, 1) := dk_126 (dk_at dksX0_has_0 4 rfl rfl)
theorem dX0_has_5 : decode cX0_has 5 = .ok (.iconst 1, 1) := dk_4 (dk_at dksX0_has_0 5 rfl rfl)
theorem dX0_has_6 : decode cX0_has 6 = .ok (.if_icmp .ne 7, 3) := dk_160 0 7 (dk_at dksX0_has_0 6 rfl rfl)
theorem dX0_has_9 : decode cX0_has 9 = .ok (.iconst 1, 1) := dk_4 (dk_at dksX0_has_0 9 rfl rfl)
theorem dX0_has_10 : decode cX0_has 10 = .ok (.goto 4, 3) := dk_167 0 4 (dk_at dksX0_has_0 10 rfl rfl)
theorem dX0_has_13 : decode cX0_has 13 = .ok (.iconst 0, 1) := dk_3 (dk_at dksX0_has_0 13 rfl rfl)
theorem dX0_has_14 : decode cX0_has 14 = .ok (.ireturn, 1) := dk_172 (dk_at dksX0_has_0 14 rfl rfl)
abbrev cX0_layOrder : ByteArray := prog_1_method_36_code
def yX0_layOrder : MethodName := ⟨RX0, "layOrder", "(II)V"⟩
def dkwX0_layOrder_1 : List UInt8 := [184, 0, 255, 182, 0, 251, 177]
abbrev dktX0_layOrder_1 : List UInt8 := dkwX0_layOrder_1 ++ []
def dkwX0_layOrder_0 : List UInt8 := [42, 20, 1, 4, 181, 0, 239, 42, 42, 180, 0, 45, 27, 182, 0, 111, 192, 0, 115, 28, 3, 28]
abbrev dktX0_layOrder_0 : List UInt8 := dkwX0_layOrder_0 ++ dktX0_layOrder_1
theorem dksX0_layOrder_0 : cX0_layOrder.data.toList.drop 0 = dktX0_layOrder_0 := by decide +kernel
theorem dksX0_layOrder_1 : cX0_layOrder.data.toList.drop 22 = dktX0_layOrder_1 := dk_seg dksX0_layOrder_0 22 rfl rfl
theorem dX0_layOrder_0 : decode cX0_layOrder 0 = .ok (.aload_n 0, 1) := dk_42 (dk_at dksX0_layOrder_0 0 rfl rfl)
theorem dX0_layOrder_1 : decode cX0_layOrder 1 = .ok (.ldc2_w 260, 3) := dk_20 1 4 (dk_at dksX0_layOrder_0 1 rfl rfl)
theorem dX0_layOrder_4 : decode cX0_layOrder 4 = .ok (.putfield 239, 3) := dk_181 0 239 (dk_at dksX0_layOrder_0 4 rfl rfl)
theorem dX0_layOrder_7 : decode cX0_layOrder 7 = .ok (.aload_n 0, 1) := dk_42 (dk_at dksX0_layOrder_0 7 rfl rfl)
theorem dX0_layOrder_8 : decode cX0_layOrder 8 = .ok (.aload_n 0, 1) := dk_42 (dk_at dksX0_layOrder_0 8 rfl rfl)
theorem dX0_layOrder_9 : decode cX0_layOrder 9 = .ok (.getfield 45, 3) := dk_180 0 45 (dk_at dksX0_layOrder_0 9 rfl rfl)
theorem dX0_layOrder_12 : decode cX0_layOrder 12 = .ok (.iload_n 1, 1) := dk_27 (dk_at dksX0_layOrder_0 12 rfl rfl)
theorem dX0_layOrder_13 : decode cX0_layOrder 13 = .ok (.invokevirtual 111, 3) := dk_182 0 111 (dk_at dksX0_layOrder_0 13 rfl rfl)
theorem dX0_layOrder_16 : decode cX0_layOrder 16 = .ok (.checkcast 115, 3) := dk_192 0 115 (dk_at dksX0_layOrder_0 16 rfl rfl)
theorem dX0_layOrder_19 : decode cX0_layOrder 19 = .ok (.iload_n 2, 1) := dk_28 (dk_at dksX0_layOrder_0 19 rfl rfl)
theorem dX0_layOrder_20 : decode cX0_layOrder 20 = .ok (.iconst 0, 1) := dk_3 (dk_at dksX0_layOrder_0 20 rfl rfl)
theorem dX0_layOrder_21 : decode cX0_layOrder 21 = .ok (.iload_n 2, 1) := dk_28 (dk_at dksX0_layOrder_0 21 rfl rfl)
theorem dX0_layOrder_22 : decode cX0_layOrder 22 = .ok (.invokestatic 255, 3) := dk_184 0 255 (dk_at dksX0_layOrder_1 0 rfl rfl)
theorem dX0_layOrder_25 : decode cX0_layOrder 25 = .ok (.invokevirtual 251, 3) := dk_182 0 251 (dk_at dksX0_layOrder_1 3 rfl rfl)
theorem dX0_layOrder_28 : decode cX0_layOrder 28 = .ok (.return_, 1) := dk_177 (dk_at dksX0_layOrder_1 6 rfl rfl)
abbrev cX0_tryOrders : ByteArray := prog_1_method_34_code
def yX0_tryOrders : MethodName := ⟨RX0, "tryOrders", "(LFewerMan$Player;III)V"⟩
def dkwX0_tryOrders_4 : List UInt8 := [21, 4, 182, 0, 251, 132, 5, 1, 167, 255, 203, 177]
abbrev dktX0_tryOrders_4 : List UInt8 := dkwX0_tryOrders_4 ++ []
def dkwX0_tryOrders_3 : List UInt8 := [167, 0, 29, 42, 180, 0, 53, 29, 21, 5, 79, 42, 43, 28, 4, 21, 5, 120, 2, 130, 126, 29, 4, 96]
abbrev dktX0_tryOrders_3 : List UInt8 := dkwX0_tryOrders_3 ++ dktX0_tryOrders_4
def dkwX0_tryOrders_2 : List UInt8 := [54, 5, 21, 5, 42, 180, 0, 45, 182, 0, 107, 162, 0, 47, 28, 21, 5, 184, 0, 248, 154, 0, 6]
abbrev dktX0_tryOrders_2 : List UInt8 := dkwX0_tryOrders_2 ++ dktX0_tryOrders_3
def dkwX0_tryOrders_1 : List UInt8 := [177, 42, 22, 5, 181, 0, 239, 42, 180, 0, 53, 3, 42, 180, 0, 56, 3, 7, 184, 0, 242, 177, 3]
abbrev dktX0_tryOrders_1 : List UInt8 := dkwX0_tryOrders_1 ++ dktX0_tryOrders_2
def dkwX0_tryOrders_0 : List UInt8 := [28, 154, 0, 45, 42, 43, 3, 21, 4, 182, 0, 235, 55, 5, 22, 5, 42, 180, 0, 239, 148, 157, 0, 4]
abbrev dktX0_tryOrders_0 : List UInt8 := dkwX0_tryOrders_0 ++ dktX0_tryOrders_1
theorem dksX0_tryOrders_0 : cX0_tryOrders.data.toList.drop 0 = dktX0_tryOrders_0 := by decide +kernel
theorem dksX0_tryOrders_1 : cX0_tryOrders.data.toList.drop 24 = dktX0_tryOrders_1 := dk_seg dksX0_tryOrders_0 24 rfl rfl
theorem dksX0_tryOrders_2 : cX0_tryOrders.data.toList.drop 47 = dktX0_tryOrders_2 := dk_seg dksX0_tryOrders_1 23 rfl rfl
theorem dksX0_tryOrders_3 : cX0_tryOrders.data.toList.drop 70 = dktX0_tryOrders_3 := dk_seg dksX0_tryOrders_2 23 rfl rfl
theorem dksX0_tryOrders_4 : cX0_tryOrders.data.toList.drop 94 = dktX0_tryOrders_4 := dk_seg dksX0_tryOrders_3 24 rfl rfl
theorem dX0_tryOrders_0 : decode cX0_tryOrders 0 = .ok (.iload_n 2, 1) := dk_28 (dk_at dksX0_tryOrders_0 0 rfl rfl)
theorem dX0_tryOrders_1 : decode cX0_tryOrders 1 = .ok (.ifCond .ne 45, 3) := dk_154 0 45 (dk_at dksX0_tryOrders_0 1 rfl rfl)
theorem dX0_tryOrders_4 : decode cX0_tryOrders 4 = .ok (.aload_n 0, 1) := dk_42 (dk_at dksX0_tryOrders_0 4 rfl rfl)
theorem dX0_tryOrders_5 : decode cX0_tryOrders 5 = .ok (.aload_n 1, 1) := dk_43 (dk_at dksX0_tryOrders_0 5 rfl rfl)
theorem dX0_tryOrders_6 : decode cX0_tryOrders 6 = .ok (.iconst 0, 1) := dk_3 (dk_at dksX0_tryOrders_0 6 rfl rfl)
theorem dX0_tryOrders_7 : decode cX0_tryOrders 7 = .ok (.iload 4, 2) := dk_21 4 (dk_at dksX0_tryOrders_0 7 rfl rfl)
theorem dX0_tryOrders_9 : decode cX0_tryOrders 9 = .ok (.invokevirtual 235, 3) := dk_182 0 235 (dk_at dksX0_tryOrders_0 9 rfl rfl)
theorem dX0_tryOrders_12 : decode cX0_tryOrders 12 = .ok (.lstore 5, 2) := dk_55 5 (dk_at dksX0_tryOrders_0 12 rfl rfl)
theorem dX0_tryOrders_14 : decode cX0_tryOrders 14 = .ok (.lload 5, 2) := dk_22 5 (dk_at dksX0_tryOrders_0 14 rfl rfl)
theorem dX0_tryOrders_16 : decode cX0_tryOrders 16 = .ok (.aload_n 0, 1) := dk_42 (dk_at dksX0_tryOrders_0 16 rfl rfl)
theorem dX0_tryOrders_17 : decode cX0_tryOrders 17 = .ok (.getfield 239, 3) := dk_180 0 239 (dk_at dksX0_tryOrders_0 17 rfl rfl)
theorem dX0_tryOrders_20 : decode cX0_tryOrders 20 = .ok (.lcmp, 1) := dk_148 (dk_at dksX0_tryOrders_0 20 rfl rfl)
theorem dX0_tryOrders_21 : decode cX0_tryOrders 21 = .ok (.ifCond .gt 4, 3) := dk_157 0 4 (dk_at dksX0_tryOrders_0 21 rfl rfl)
theorem dX0_tryOrders_24 : decode cX0_tryOrders 24 = .ok (.return_, 1) := dk_177 (dk_at dksX0_tryOrders_1 0 rfl rfl)
theorem dX0_tryOrders_25 : decode cX0_tryOrders 25 = .ok (.aload_n 0, 1) := dk_42 (dk_at dksX0_tryOrders_1 1 rfl rfl)
theorem dX0_tryOrders_26 : decode cX0_tryOrders 26 = .ok (.lload 5, 2) := dk_22 5 (dk_at dksX0_tryOrders_1 2 rfl rfl)
theorem dX0_tryOrders_28 : decode cX0_tryOrders 28 = .ok (.putfield 239, 3) := dk_181 0 239 (dk_at dksX0_tryOrders_1 4 rfl rfl)
theorem dX0_tryOrders_31 : decode cX0_tryOrders 31 = .ok (.aload_n 0, 1) := dk_42 (dk_at dksX0_tryOrders_1 7 rfl rfl)
theorem dX0_tryOrders_32 : decode cX0_tryOrders 32 = .ok (.getfield 53, 3) := dk_180 0 53 (dk_at dksX0_tryOrders_1 8 rfl rfl)
theorem dX0_tryOrders_35 : decode cX0_tryOrders 35 = .ok (.iconst 0, 1) := dk_3 (dk_at dksX0_tryOrders_1 11 rfl rfl)
theorem dX0_tryOrders_36 : decode cX0_tryOrders 36 = .ok (.aload_n 0, 1) := dk_42 (dk_at dksX0_tryOrders_1 12 rfl rfl)
theorem dX0_tryOrders_37 : decode cX0_tryOrders 37 = .ok (.getfield 56, 3) := dk_180 0 56 (dk_at dksX0_tryOrders_1 13 rfl rfl)
theorem dX0_tryOrders_40 : decode cX0_tryOrders 40 = .ok (.iconst 0, 1) := dk_3 (dk_at dksX0_tryOrders_1 16 rfl rfl)
theorem dX0_tryOrders_41 : decode cX0_tryOrders 41 = .ok (.iconst 4, 1) := dk_7 (dk_at dksX0_tryOrders_1 17 rfl rfl)
theorem dX0_tryOrders_42 : decode cX0_tryOrders 42 = .ok (.invokestatic 242, 3) := dk_184 0 242 (dk_at dksX0_tryOrders_1 18 rfl rfl)
theorem dX0_tryOrders_45 : decode cX0_tryOrders 45 = .ok (.return_, 1) := dk_177 (dk_at dksX0_tryOrders_1 21 rfl rfl)
theorem dX0_tryOrders_46 : decode cX0_tryOrders 46 = .ok (.iconst 0, 1) := dk_3 (dk_at dksX0_tryOrders_1 22 rfl rfl)
theorem dX0_tryOrders_47 : decode cX0_tryOrders 47 = .ok (.istore 5, 2) := dk_54 5 (dk_at dksX0_tryOrders_2 0 rfl rfl)
theorem dX0_tryOrders_49 : decode cX0_tryOrders 49 = .ok (.iload 5, 2) := dk_21 5 (dk_at dksX0_tryOrders_2 2 rfl rfl)
theorem dX0_tryOrders_51 : decode cX0_tryOrders 51 = .ok (.aload_n 0, 1) := dk_42 (dk_at dksX0_tryOrders_2 4 rfl rfl)
theorem dX0_tryOrders_52 : decode cX0_tryOrders 52 = .ok (.getfield 45, 3) := dk_180 0 45 (dk_at dksX0_tryOrders_2 5 rfl rfl)
theorem dX0_tryOrders_55 : decode cX0_tryOrders 55 = .ok (.invokevirtual 107, 3) := dk_182 0 107 (dk_at dksX0_tryOrders_2 8 rfl rfl)
theorem dX0_tryOrders_58 : decode cX0_tryOrders 58 = .ok (.if_icmp .ge 47, 3) := dk_162 0 47 (dk_at dksX0_tryOrders_2 11 rfl rfl)
theorem dX0_tryOrders_61 : decode cX0_tryOrders 61 = .ok (.iload_n 2, 1) := dk_28 (dk_at dksX0_tryOrders_2 14 rfl rfl)
theorem dX0_tryOrders_62 : decode cX0_tryOrders 62 = .ok (.iload 5, 2) := dk_21 5 (dk_at dksX0_tryOrders_2 15 rfl rfl)
theorem dX0_tryOrders_64 : decode cX0_tryOrders 64 = .ok (.invokestatic 248, 3) := dk_184 0 248 (dk_at dksX0_tryOrders_2 17 rfl rfl)
theorem dX0_tryOrders_67 : decode cX0_tryOrders 67 = .ok (.ifCond .ne 6, 3) := dk_154 0 6 (dk_at dksX0_tryOrders_2 20 rfl rfl)
theorem dX0_tryOrders_70 : decode cX0_tryOrders 70 = .ok (.goto 29, 3) := dk_167 0 29 (dk_at dksX0_tryOrders_3 0 rfl rfl)
theorem dX0_tryOrders_73 : decode cX0_tryOrders 73 = .ok (.aload_n 0, 1) := dk_42 (dk_at dksX0_tryOrders_3 3 rfl rfl)
theorem dX0_tryOrders_74 : decode cX0_tryOrders 74 = .ok (.getfield 53, 3) := dk_180 0 53 (dk_at dksX0_tryOrders_3 4 rfl rfl)
theorem dX0_tryOrders_77 : decode cX0_tryOrders 77 = .ok (.iload_n 3, 1) := dk_29 (dk_at dksX0_tryOrders_3 7 rfl rfl)
theorem dX0_tryOrders_78 : decode cX0_tryOrders 78 = .ok (.iload 5, 2) := dk_21 5 (dk_at dksX0_tryOrders_3 8 rfl rfl)
theorem dX0_tryOrders_80 : decode cX0_tryOrders 80 = .ok (.iastore, 1) := dk_79 (dk_at dksX0_tryOrders_3 10 rfl rfl)
theorem dX0_tryOrders_81 : decode cX0_tryOrders 81 = .ok (.aload_n 0, 1) := dk_42 (dk_at dksX0_tryOrders_3 11 rfl rfl)
theorem dX0_tryOrders_82 : decode cX0_tryOrders 82 = .ok (.aload_n 1, 1) := dk_43 (dk_at dksX0_tryOrders_3 12 rfl rfl)
theorem dX0_tryOrders_83 : decode cX0_tryOrders 83 = .ok (.iload_n 2, 1) := dk_28 (dk_at dksX0_tryOrders_3 13 rfl rfl)
theorem dX0_tryOrders_84 : decode cX0_tryOrders 84 = .ok (.iconst 1, 1) := dk_4 (dk_at dksX0_tryOrders_3 14 rfl rfl)
theorem dX0_tryOrders_85 : decode cX0_tryOrders 85 = .ok (.iload 5, 2) := dk_21 5 (dk_at dksX0_tryOrders_3 15 rfl rfl)
theorem dX0_tryOrders_87 : decode cX0_tryOrders 87 = .ok (.ishl, 1) := dk_120 (dk_at dksX0_tryOrders_3 17 rfl rfl)
theorem dX0_tryOrders_88 : decode cX0_tryOrders 88 = .ok (.iconst (-1), 1) := dk_2 (dk_at dksX0_tryOrders_3 18 rfl rfl)
theorem dX0_tryOrders_89 : decode cX0_tryOrders 89 = .ok (.ixor, 1) := dk_130 (dk_at dksX0_tryOrders_3 19 rfl rfl)
theorem dX0_tryOrders_90 : decode cX0_tryOrders 90 = .ok (.iand, 1) := dk_126 (dk_at dksX0_tryOrders_3 20 rfl rfl)
theorem dX0_tryOrders_91 : decode cX0_tryOrders 91 = .ok (.iload_n 3, 1) := dk_29 (dk_at dksX0_tryOrders_3 21 rfl rfl)
theorem dX0_tryOrders_92 : decode cX0_tryOrders 92 = .ok (.iconst 1, 1) := dk_4 (dk_at dksX0_tryOrders_3 22 rfl rfl)
theorem dX0_tryOrders_93 : decode cX0_tryOrders 93 = .ok (.iadd, 1) := dk_96 (dk_at dksX0_tryOrders_3 23 rfl rfl)
theorem dX0_tryOrders_94 : decode cX0_tryOrders 94 = .ok (.iload 4, 2) := dk_21 4 (dk_at dksX0_tryOrders_4 0 rfl rfl)
theorem dX0_tryOrders_96 : decode cX0_tryOrders 96 = .ok (.invokevirtual 251, 3) := dk_182 0 251 (dk_at dksX0_tryOrders_4 2 rfl rfl)
theorem dX0_tryOrders_99 : decode cX0_tryOrders 99 = .ok (.iinc 5 1, 3) := dk_132 5 1 (dk_at dksX0_tryOrders_4 5 rfl rfl)
theorem dX0_tryOrders_102 : decode cX0_tryOrders 102 = .ok (.goto (-53), 3) := dk_167 255 203 (dk_at dksX0_tryOrders_4 8 rfl rfl)
theorem dX0_tryOrders_105 : decode cX0_tryOrders 105 = .ok (.return_, 1) := dk_177 (dk_at dksX0_tryOrders_4 11 rfl rfl)
abbrev cX0_winsOf : ByteArray := prog_1_method_33_code
def yX0_winsOf : MethodName := ⟨RX0, "winsOf", "(LFewerMan$Player;II)J"⟩
def dkwX0_winsOf_6 : List UInt8 := [181, 0, 156, 42, 89, 180, 0, 98, 4, 100, 181, 0, 98, 22, 8, 173]
abbrev dktX0_winsOf_6 : List UInt8 := dkwX0_winsOf_6 ++ []
def dkwX0_winsOf_5 : List UInt8 := [43, 28, 4, 96, 29, 182, 0, 235, 105, 97, 55, 8, 43, 21, 6, 181, 0, 156, 25, 4, 21, 7]
abbrev dktX0_winsOf_5 : List UInt8 := dkwX0_winsOf_5 ++ dktX0_winsOf_6
def dkwX0_winsOf_4 : List UInt8 := [180, 0, 98, 4, 100, 181, 0, 98, 42, 25, 4, 43, 182, 0, 182, 22, 8, 16, 10, 21, 5, 100, 133, 42]
abbrev dktX0_winsOf_4 : List UInt8 := dkwX0_winsOf_4 ++ dktX0_winsOf_5
def dkwX0_winsOf_3 : List UInt8 := [182, 0, 235, 97, 105, 55, 8, 43, 21, 6, 181, 0, 156, 25, 4, 21, 7, 181, 0, 156, 42, 89]
abbrev dktX0_winsOf_3 : List UInt8 := dkwX0_winsOf_3 ++ dktX0_winsOf_4
def dkwX0_winsOf_2 : List UInt8 := [43, 25, 4, 182, 0, 182, 21, 5, 133, 29, 28, 100, 4, 100, 184, 0, 212, 42, 43, 28, 4, 96, 29]
abbrev dktX0_winsOf_2 : List UInt8 := dkwX0_winsOf_2 ++ dktX0_winsOf_3
def dkwX0_winsOf_1 : List UInt8 := [58, 4, 43, 25, 4, 182, 0, 170, 54, 5, 43, 180, 0, 156, 54, 6, 25, 4, 180, 0, 156, 54, 7, 42]
abbrev dktX0_winsOf_1 : List UInt8 := dkwX0_winsOf_1 ++ dktX0_winsOf_2
def dkwX0_winsOf_0 : List UInt8 := [28, 29, 160, 0, 5, 9, 173, 42, 180, 0, 45, 42, 180, 0, 53, 28, 46, 182, 0, 111, 192, 0, 115]
abbrev dktX0_winsOf_0 : List UInt8 := dkwX0_winsOf_0 ++ dktX0_winsOf_1
theorem dksX0_winsOf_0 : cX0_winsOf.data.toList.drop 0 = dktX0_winsOf_0 := by decide +kernel
theorem dksX0_winsOf_1 : cX0_winsOf.data.toList.drop 23 = dktX0_winsOf_1 := dk_seg dksX0_winsOf_0 23 rfl rfl
theorem dksX0_winsOf_2 : cX0_winsOf.data.toList.drop 47 = dktX0_winsOf_2 := dk_seg dksX0_winsOf_1 24 rfl rfl
theorem dksX0_winsOf_3 : cX0_winsOf.data.toList.drop 70 = dktX0_winsOf_3 := dk_seg dksX0_winsOf_2 23 rfl rfl
theorem dksX0_winsOf_4 : cX0_winsOf.data.toList.drop 92 = dktX0_winsOf_4 := dk_seg dksX0_winsOf_3 22 rfl rfl
theorem dksX0_winsOf_5 : cX0_winsOf.data.toList.drop 116 = dktX0_winsOf_5 := dk_seg dksX0_winsOf_4 24 rfl rfl
theorem dksX0_winsOf_6 : cX0_winsOf.data.toList.drop 138 = dktX0_winsOf_6 := dk_seg dksX0_winsOf_5 22 rfl rfl
theorem dX0_winsOf_0 : decode cX0_winsOf 0 = .ok (.iload_n 2, 1) := dk_28 (dk_at dksX0_winsOf_0 0 rfl rfl)
theorem dX0_winsOf_1 : decode cX0_winsOf 1 = .ok (.iload_n 3, 1) := dk_29 (dk_at dksX0_winsOf_0 1 rfl rfl)
theorem dX0_winsOf_2 : decode cX0_winsOf 2 = .ok (.if_icmp .ne 5, 3) := dk_160 0 5 (dk_at dksX0_winsOf_0 2 rfl rfl)
theorem dX0_winsOf_5 : decode cX0_winsOf 5 = .ok (.lconst 0, 1) := dk_9 (dk_at dksX0_winsOf_0 5 rfl rfl)
theorem dX0_winsOf_6 : decode cX0_winsOf 6 = .ok (.lreturn, 1) := dk_173 (dk_at dksX0_winsOf_0 6 rfl rfl)
theorem dX0_winsOf_7 : decode cX0_winsOf 7 = .ok (.aload_n 0, 1) := dk_42 (dk_at dksX0_winsOf_0 7 rfl rfl)
theorem dX0_winsOf_8 : decode cX0_winsOf 8 = .ok (.getfield 45, 3) := dk_180 0 45 (dk_at dksX0_winsOf_0 8 rfl rfl)
theorem dX0_winsOf_11 : decode cX0_winsOf 11 = .ok (.aload_n 0, 1) := dk_42 (dk_at dksX0_winsOf_0 11 rfl rfl)
theorem dX0_winsOf_12 : decode cX0_winsOf 12 = .ok (.getfield 53, 3) := dk_180 0 53 (dk_at dksX0_winsOf_0 12 rfl rfl)
theorem dX0_winsOf_15 : decode cX0_winsOf 15 = .ok (.iload_n 2, 1) := dk_28 (dk_at dksX0_winsOf_0 15 rfl rfl)
theorem dX0_winsOf_16 : decode cX0_winsOf 16 = .ok (.iaload, 1) := dk_46 (dk_at dksX0_winsOf_0 16 rfl rfl)
theorem dX0_winsOf_17 : decode cX0_winsOf 17 = .ok (.invokevirtual 111, 3) := dk_182 0 111 (dk_at dksX0_winsOf_0 17 rfl rfl)
theorem dX0_winsOf_20 : decode cX0_winsOf 20 = .ok (.checkcast 115, 3) := dk_192 0 115 (dk_at dksX0_winsOf_0 20 rfl rfl)
theorem dX0_winsOf_23 : decode cX0_winsOf 23 = .ok (.astore 4, 2) := dk_58 4 (dk_at dksX0_winsOf_1 0 rfl rfl)
theorem dX0_winsOf_25 : decode cX0_winsOf 25 = .ok (.aload_n 1, 1) := dk_43 (dk_at dksX0_winsOf_1 2 rfl rfl)
theorem dX0_winsOf_26 : decode cX0_winsOf 26 = .ok (.aload 4, 2) := dk_25 4 (dk_at dksX0_winsOf_1 3 rfl rfl)
theorem dX0_winsOf_28 : decode cX0_winsOf 28 = .ok (.invokevirtual 170, 3) := dk_182 0 170 (dk_at dksX0_winsOf_1 5 rfl rfl)
theorem dX0_winsOf_31 : decode cX0_winsOf 31 = .ok (.istore 5, 2) := dk_54 5 (dk_at dksX0_winsOf_1 8 rfl rfl)
theorem dX0_winsOf_33 : decode cX0_winsOf 33 = .ok (.aload_n 1, 1) := dk_43 (dk_at dksX0_winsOf_1 10 rfl rfl)
theorem dX0_winsOf_34 : decode cX0_winsOf 34 = .ok (.getfield 156, 3) := dk_180 0 156 (dk_at dksX0_winsOf_1 11 rfl rfl)
theorem dX0_winsOf_37 : decode cX0_winsOf 37 = .ok (.istore 6, 2) := dk_54 6 (dk_at dksX0_winsOf_1 14 rfl rfl)
theorem dX0_winsOf_39 : decode cX0_winsOf 39 = .ok (.aload 4, 2) := dk_25 4 (dk_at dksX0_winsOf_1 16 rfl rfl)
theorem dX0_winsOf_41 : decode cX0_winsOf 41 = .ok (.getfield 156, 3) := dk_180 0 156 (dk_at dksX0_winsOf_1 18 rfl rfl)
theorem dX0_winsOf_44 : decode cX0_winsOf 44 = .ok (.istore 7, 2) := dk_54 7 (dk_at dksX0_winsOf_1 21 rfl rfl)
theorem dX0_winsOf_46 : decode cX0_winsOf 46 = .ok (.aload_n 0, 1) := dk_42 (dk_at dksX0_winsOf_1 23 rfl rfl)
theorem dX0_winsOf_47 : decode cX0_winsOf 47 = .ok (.aload_n 1, 1) := dk_43 (dk_at dksX0_winsOf_2 0 rfl rfl)
theorem dX0_winsOf_48 : decode cX0_winsOf 48 = .ok (.aload 4, 2) := dk_25 4 (dk_at dksX0_winsOf_2 1 rfl rfl)
theorem dX0_winsOf_50 : decode cX0_winsOf 50 = .ok (.invokevirtual 182, 3) := dk_182 0 182 (dk_at dksX0_winsOf_2 3 rfl rfl)
theorem dX0_winsOf_53 : decode cX0_winsOf 53 = .ok (.iload 5, 2) := dk_21 5 (dk_at dksX0_winsOf_2 6 rfl rfl)
theorem dX0_winsOf_55 : decode cX0_winsOf 55 = .ok (.i2l, 1) := dk_133 (dk_at dksX0_winsOf_2 8 rfl rfl)
theorem dX0_winsOf_56 : decode cX0_winsOf 56 = .ok (.iload_n 3, 1) := dk_29 (dk_at dksX0_winsOf_2 9 rfl rfl)
theorem dX0_winsOf_57 : decode cX0_winsOf 57 = .ok (.iload_n 2, 1) := dk_28 (dk_at dksX0_winsOf_2 10 rfl rfl)
theorem dX0_winsOf_58 : decode cX0_winsOf 58 = .ok (.isub, 1) := dk_100 (dk_at dksX0_winsOf_2 11 rfl rfl)
theorem dX0_winsOf_59 : decode cX0_winsOf 59 = .ok (.iconst 1, 1) := dk_4 (dk_at dksX0_winsOf_2 12 rfl rfl)
theorem dX0_winsOf_60 : decode cX0_winsOf 60 = .ok (.isub, 1) := dk_100 (dk_at dksX0_winsOf_2 13 rfl rfl)
theorem dX0_winsOf_61 : decode cX0_winsOf 61 = .ok (.invokestatic 212, 3) := dk_184 0 212 (dk_at dksX0_winsOf_2 14 rfl rfl)
theorem dX0_winsOf_64 : decode cX0_winsOf 64 = .ok (.aload_n 0, 1) := dk_42 (dk_at dksX0_winsOf_2 17 rfl rfl)
theorem dX0_winsOf_65 : decode cX0_winsOf 65 = .ok (.aload_n 1, 1) := dk_43 (dk_at dksX0_winsOf_2 18 rfl rfl)
theorem dX0_winsOf_66 : decode cX0_winsOf 66 = .ok (.iload_n 2, 1) := dk_28 (dk_at dksX0_winsOf_2 19 rfl rfl)
theorem dX0_winsOf_67 : decode cX0_winsOf 67 = .ok (.iconst 1, 1) := dk_4 (dk_at dksX0_winsOf_2 20 rfl rfl)
theorem dX0_winsOf_68 : decode cX0_winsOf 68 = .ok (.iadd, 1) := dk_96 (dk_at dksX0_winsOf_2 21 rfl rfl)
theorem dX0_winsOf_69 : decode cX0_winsOf 69 = .ok (.iload_n 3, 1) := dk_29 (dk_at dksX0_winsOf_2 22 rfl rfl)
theorem dX0_winsOf_70 : decode cX0_winsOf 70 = .ok (.invokevirtual 235, 3) := dk_182 0 235 (dk_at dksX0_winsOf_3 0 rfl rfl)
theorem dX0_winsOf_73 : decode cX0_winsOf 73 = .ok (.ladd, 1) := dk_97 (dk_at dksX0_winsOf_3 3 rfl rfl)
theorem dX0_winsOf_74 : decode cX0_winsOf 74 = .ok (.lmul, 1) := dk_105 (dk_at dksX0_winsOf_3 4 rfl rfl)
theorem dX0_winsOf_75 : decode cX0_winsOf 75 = .ok (.lstore 8, 2) := dk_55 8 (dk_at dksX0_winsOf_3 5 rfl rfl)
theorem dX0_winsOf_77 : decode cX0_winsOf 77 = .ok (.aload_n 1, 1) := dk_43 (dk_at dksX0_winsOf_3 7 rfl rfl)
theorem dX0_winsOf_78 : decode cX0_winsOf 78 = .ok (.iload 6, 2) := dk_21 6 (dk_at dksX0_winsOf_3 8 rfl rfl)
theorem dX0_winsOf_80 : decode cX0_winsOf 80 = .ok (.putfield 156, 3) := dk_181 0 156 (dk_at dksX0_winsOf_3 10 rfl rfl)
theorem dX0_winsOf_83 : decode cX0_winsOf 83 = .ok (.aload 4, 2) := dk_25 4 (dk_at dksX0_winsOf_3 13 rfl rfl)
theorem dX0_winsOf_85 : decode cX0_winsOf 85 = .ok (.iload 7, 2) := dk_21 7 (dk_at dksX0_winsOf_3 15 rfl rfl)
theorem dX0_winsOf_87 : decode cX0_winsOf 87 = .ok (.putfield 156, 3) := dk_181 0 156 (dk_at dksX0_winsOf_3 17 rfl rfl)
theorem dX0_winsOf_90 : decode cX0_winsOf 90 = .ok (.aload_n 0, 1) := dk_42 (dk_at dksX0_winsOf_3 20 rfl rfl)
theorem dX0_winsOf_91 : decode cX0_winsOf 91 = .ok (.dup, 1) := dk_89 (dk_at dksX0_winsOf_3 21 rfl rfl)
theorem dX0_winsOf_92 : decode cX0_winsOf 92 = .ok (.getfield 98, 3) := dk_180 0 98 (dk_at dksX0_winsOf_4 0 rfl rfl)
theorem dX0_winsOf_95 : decode cX0_winsOf 95 = .ok (.iconst 1, 1) := dk_4 (dk_at dksX0_winsOf_4 3 rfl rfl)
theorem dX0_winsOf_96 : decode cX0_winsOf 96 = .ok (.isub, 1) := dk_100 (dk_at dksX0_winsOf_4 4 rfl rfl)
theorem dX0_winsOf_97 : decode cX0_winsOf 97 = .ok (.putfield 98, 3) := dk_181 0 98 (dk_at dksX0_winsOf_4 5 rfl rfl)
theorem dX0_winsOf_100 : decode cX0_winsOf 100 = .ok (.aload_n 0, 1) := dk_42 (dk_at dksX0_winsOf_4 8 rfl rfl)
theorem dX0_winsOf_101 : decode cX0_winsOf 101 = .ok (.aload 4, 2) := dk_25 4 (dk_at dksX0_winsOf_4 9 rfl rfl)
theorem dX0_winsOf_103 : decode cX0_winsOf 103 = .ok (.aload_n 1, 1) := dk_43 (dk_at dksX0_winsOf_4 11 rfl rfl)
theorem dX0_winsOf_104 : decode cX0_winsOf 104 = .ok (.invokevirtual 182, 3) := dk_182 0 182 (dk_at dksX0_winsOf_4 12 rfl rfl)
theorem dX0_winsOf_107 : decode cX0_winsOf 107 = .ok (.lload 8, 2) := dk_22 8 (dk_at dksX0_winsOf_4 15 rfl rfl)
theorem dX0_winsOf_109 : decode cX0_winsOf 109 = .ok (.bipush 10, 2) := dk_16 10 (dk_at dksX0_winsOf_4 17 rfl rfl)
theorem dX0_winsOf_111 : decode cX0_winsOf 111 = .ok (.iload 5, 2) := dk_21 5 (dk_at dksX0_winsOf_4 19 rfl rfl)
theorem dX0_winsOf_113 : decode cX0_winsOf 113 = .ok (.isub, 1) := dk_100 (dk_at dksX0_winsOf_4 21 rfl rfl)
theorem dX0_winsOf_114 : decode cX0_winsOf 114 = .ok (.i2l, 1) := dk_133 (dk_at dksX0_winsOf_4 22 rfl rfl)
theorem dX0_winsOf_115 : decode cX0_winsOf 115 = .ok (.aload_n 0, 1) := dk_42 (dk_at dksX0_winsOf_4 23 rfl rfl)
theorem dX0_winsOf_116 : decode cX0_winsOf 116 = .ok (.aload_n 1, 1) := dk_43 (dk_at dksX0_winsOf_5 0 rfl rfl)
theorem dX0_winsOf_117 : decode cX0_winsOf 117 = .ok (.iload_n 2, 1) := dk_28 (dk_at dksX0_winsOf_5 1 rfl rfl)
theorem dX0_winsOf_118 : decode cX0_winsOf 118 = .ok (.iconst 1, 1) := dk_4 (dk_at dksX0_winsOf_5 2 rfl rfl)
theorem dX0_winsOf_119 : decode cX0_winsOf 119 = .ok (.iadd, 1) := dk_96 (dk_at dksX0_winsOf_5 3 rfl rfl)
theorem dX0_winsOf_120 : decode cX0_winsOf 120 = .ok (.iload_n 3, 1) := dk_29 (dk_at dksX0_winsOf_5 4 rfl rfl)
theorem dX0_winsOf_121 : decode cX0_winsOf 121 = .ok (.invokevirtual 235, 3) := dk_182 0 235 (dk_at dksX0_winsOf_5 5 rfl rfl)
theorem dX0_winsOf_124 : decode cX0_winsOf 124 = .ok (.lmul, 1) := dk_105 (dk_at dksX0_winsOf_5 8 rfl rfl)
theorem dX0_winsOf_125 : decode cX0_winsOf 125 = .ok (.ladd, 1) := dk_97 (dk_at dksX0_winsOf_5 9 rfl rfl)
theorem dX0_winsOf_126 : decode cX0_winsOf 126 = .ok (.lstore 8, 2) := dk_55 8 (dk_at dksX0_winsOf_5 10 rfl rfl)
theorem dX0_winsOf_128 : decode cX0_winsOf 128 = .ok (.aload_n 1, 1) := dk_43 (dk_at dksX0_winsOf_5 12 rfl rfl)
theorem dX0_winsOf_129 : decode cX0_winsOf 129 = .ok (.iload 6, 2) := dk_21 6 (dk_at dksX0_winsOf_5 13 rfl rfl)
theorem dX0_winsOf_131 : decode cX0_winsOf 131 = .ok (.putfield 156, 3) := dk_181 0 156 (dk_at dksX0_winsOf_5 15 rfl rfl)
theorem dX0_winsOf_134 : decode cX0_winsOf 134 = .ok (.aload 4, 2) := dk_25 4 (dk_at dksX0_winsOf_5 18 rfl rfl)
theorem dX0_winsOf_136 : decode cX0_winsOf 136 = .ok (.iload 7, 2) := dk_21 7 (dk_at dksX0_winsOf_5 20 rfl rfl)
theorem dX0_winsOf_138 : decode cX0_winsOf 138 = .ok (.putfield 156, 3) := dk_181 0 156 (dk_at dksX0_winsOf_6 0 rfl rfl)
theorem dX0_winsOf_141 : decode cX0_winsOf 141 = .ok (.aload_n 0, 1) := dk_42 (dk_at dksX0_winsOf_6 3 rfl rfl)
theorem dX0_winsOf_142 : decode cX0_winsOf 142 = .ok (.dup, 1) := dk_89 (dk_at dksX0_winsOf_6 4 rfl rfl)
theorem dX0_winsOf_143 : decode cX0_winsOf 143 = .ok (.getfield 98, 3) := dk_180 0 98 (dk_at dksX0_winsOf_6 5 rfl rfl)
theorem dX0_winsOf_146 : decode cX0_winsOf 146 = .ok (.iconst 1, 1) := dk_4 (dk_at dksX0_winsOf_6 8 rfl rfl)
theorem dX0_winsOf_147 : decode cX0_winsOf 147 = .ok (.isub, 1) := dk_100 (dk_at dksX0_winsOf_6 9 rfl rfl)
theorem dX0_winsOf_148 : decode cX0_winsOf 148 = .ok (.putfield 98, 3) := dk_181 0 98 (dk_at dksX0_winsOf_6 10 rfl rfl)
theorem dX0_winsOf_151 : decode cX0_winsOf 151 = .ok (.lload 8, 2) := dk_22 8 (dk_at dksX0_winsOf_6 13 rfl rfl)
theorem dX0_winsOf_153 : decode cX0_winsOf 153 = .ok (.lreturn, 1) := dk_173 (dk_at dksX0_winsOf_6 15 rfl rfl)
abbrev cX0_orderMean : ByteArray := prog_1_method_38_code
def yX0_orderMean : MethodName := ⟨RX0, "orderMean", "(III)J"⟩
def dkwX0_orderMean_2 : List UInt8 := [29, 184, 0, 216, 173]
abbrev dktX0_orderMean_2 : List UInt8 := dkwX0_orderMean_2 ++ []
def dkwX0_orderMean_1 : List UInt8 := [154, 0, 7, 20, 0, 206, 173, 42, 27, 28, 182, 1, 9, 42, 180, 0, 239, 28, 184, 0, 255, 184, 0, 212]
abbrev dktX0_orderMean_1 : List UInt8 := dkwX0_orderMean_1 ++ dktX0_orderMean_2
def dkwX0_orderMean_0 : List UInt8 := [42, 27, 182, 0, 146, 198, 0, 21, 42, 27, 28, 182, 1, 6, 153, 0, 12, 29, 3, 4, 184, 0, 78]
abbrev dktX0_orderMean_0 : List UInt8 := dkwX0_orderMean_0 ++ dktX0_orderMean_1
theorem dksX0_orderMean_0 : cX0_orderMean.data.toList.drop 0 = dktX0_orderMean_0 := by decide +kernel
theorem dksX0_orderMean_1 : cX0_orderMean.data.toList.drop 23 = dktX0_orderMean_1 := dk_seg dksX0_orderMean_0 23 rfl rfl
theorem dksX0_orderMean_2 : cX0_orderMean.data.toList.drop 47 = dktX0_orderMean_2 := dk_seg dksX0_orderMean_1 24 rfl rfl
theorem dX0_orderMean_0 : decode cX0_orderMean 0 = .ok (.aload_n 0, 1) := dk_42 (dk_at dksX0_orderMean_0 0 rfl rfl)
theorem dX0_orderMean_1 : decode cX0_orderMean 1 = .ok (.iload_n 1, 1) := dk_27 (dk_at dksX0_orderMean_0 1 rfl rfl)
theorem dX0_orderMean_2 : decode cX0_orderMean 2 = .ok (.invokevirtual 146, 3) := dk_182 0 146 (dk_at dksX0_orderMean_0 2 rfl rfl)
theorem dX0_orderMean_5 : decode cX0_orderMean 5 = .ok (.ifnull 21, 3) := dk_198 0 21 (dk_at dksX0_orderMean_0 5 rfl rfl)
theorem dX0_orderMean_8 : decode cX0_orderMean 8 = .ok (.aload_n 0, 1) := dk_42 (dk_at dksX0_orderMean_0 8 rfl rfl)
theorem dX0_orderMean_9 : decode cX0_orderMean 9 = .ok (.iload_n 1, 1) := dk_27 (dk_at dksX0_orderMean_0 9 rfl rfl)
theorem dX0_orderMean_10 : decode cX0_orderMean 10 = .ok (.iload_n 2, 1) := dk_28 (dk_at dksX0_orderMean_0 10 rfl rfl)
theorem dX0_orderMean_11 : decode cX0_orderMean 11 = .ok (.invokevirtual 262, 3) := dk_182 1 6 (dk_at dksX0_orderMean_0 11 rfl rfl)
theorem dX0_orderMean_14 : decode cX0_orderMean 14 = .ok (.ifCond .eq 12, 3) := dk_153 0 12 (dk_at dksX0_orderMean_0 14 rfl rfl)
theorem dX0_orderMean_17 : decode cX0_orderMean 17 = .ok (.iload_n 3, 1) := dk_29 (dk_at dksX0_orderMean_0 17 rfl rfl)
theorem dX0_orderMean_18 : decode cX0_orderMean 18 = .ok (.iconst 0, 1) := dk_3 (dk_at dksX0_orderMean_0 18 rfl rfl)
theorem dX0_orderMean_19 : decode cX0_orderMean 19 = .ok (.iconst 1, 1) := dk_4 (dk_at dksX0_orderMean_0 19 rfl rfl)
theorem dX0_orderMean_20 : decode cX0_orderMean 20 = .ok (.invokestatic 78, 3) := dk_184 0 78 (dk_at dksX0_orderMean_0 20 rfl rfl)
theorem dX0_orderMean_23 : decode cX0_orderMean 23 = .ok (.ifCond .ne 7, 3) := dk_154 0 7 (dk_at dksX0_orderMean_1 0 rfl rfl)
theorem dX0_orderMean_26 : decode cX0_orderMean 26 = .ok (.ldc2_w 206, 3) := dk_20 0 206 (dk_at dksX0_orderMean_1 3 rfl rfl)
theorem dX0_orderMean_29 : decode cX0_orderMean 29 = .ok (.lreturn, 1) := dk_173 (dk_at dksX0_orderMean_1 6 rfl rfl)
theorem dX0_orderMean_30 : decode cX0_orderMean 30 = .ok (.aload_n 0, 1) := dk_42 (dk_at dksX0_orderMean_1 7 rfl rfl)
theorem dX0_orderMean_31 : decode cX0_orderMean 31 = .ok (.iload_n 1, 1) := dk_27 (dk_at dksX0_orderMean_1 8 rfl rfl)
theorem dX0_orderMean_32 : decode cX0_orderMean 32 = .ok (.iload_n 2, 1) := dk_28 (dk_at dksX0_orderMean_1 9 rfl rfl)
theorem dX0_orderMean_33 : decode cX0_orderMean 33 = .ok (.invokevirtual 265, 3) := dk_182 1 9 (dk_at dksX0_orderMean_1 10 rfl rfl)
theorem dX0_orderMean_36 : decode cX0_orderMean 36 = .ok (.aload_n 0, 1) := dk_42 (dk_at dksX0_orderMean_1 13 rfl rfl)
theorem dX0_orderMean_37 : decode cX0_orderMean 37 = .ok (.getfield 239, 3) := dk_180 0 239 (dk_at dksX0_orderMean_1 14 rfl rfl)
theorem dX0_orderMean_40 : decode cX0_orderMean 40 = .ok (.iload_n 2, 1) := dk_28 (dk_at dksX0_orderMean_1 17 rfl rfl)
theorem dX0_orderMean_41 : decode cX0_orderMean 41 = .ok (.invokestatic 255, 3) := dk_184 0 255 (dk_at dksX0_orderMean_1 18 rfl rfl)
theorem dX0_orderMean_44 : decode cX0_orderMean 44 = .ok (.invokestatic 212, 3) := dk_184 0 212 (dk_at dksX0_orderMean_1 21 rfl rfl)
theorem dX0_orderMean_47 : decode cX0_orderMean 47 = .ok (.iload_n 3, 1) := dk_29 (dk_at dksX0_orderMean_2 0 rfl rfl)
theorem dX0_orderMean_48 : decode cX0_orderMean 48 = .ok (.invokestatic 216, 3) := dk_184 0 216 (dk_at dksX0_orderMean_2 1 rfl rfl)
theorem dX0_orderMean_51 : decode cX0_orderMean 51 = .ok (.lreturn, 1) := dk_173 (dk_at dksX0_orderMean_2 4 rfl rfl)
abbrev cX0_stakes : ByteArray := prog_1_method_40_code
def yX0_stakes : MethodName := ⟨RX0, "stakes", "(IIII)J"⟩
def dkwX0_stakes_2 : List UInt8 := [29, 182, 1, 13, 29, 184, 0, 212, 21, 4, 184, 0, 216, 173]
abbrev dktX0_stakes_2 : List UInt8 := dkwX0_stakes_2 ++ []
def dkwX0_stakes_1 : List UInt8 := [173, 42, 42, 180, 0, 45, 27, 182, 0, 111, 192, 0, 115, 42, 180, 0, 45, 28, 182, 0, 111, 192, 0, 115]
abbrev dktX0_stakes_1 : List UInt8 := dkwX0_stakes_1 ++ dktX0_stakes_2
def dkwX0_stakes_0 : List UInt8 := [42, 27, 28, 21, 4, 182, 0, 203, 153, 0, 13, 29, 3, 16, 10, 184, 0, 78, 154, 0, 7, 20, 0, 206]
abbrev dktX0_stakes_0 : List UInt8 := dkwX0_stakes_0 ++ dktX0_stakes_1
theorem dksX0_stakes_0 : cX0_stakes.data.toList.drop 0 = dktX0_stakes_0 := by decide +kernel
theorem dksX0_stakes_1 : cX0_stakes.data.toList.drop 24 = dktX0_stakes_1 := dk_seg dksX0_stakes_0 24 rfl rfl
theorem dksX0_stakes_2 : cX0_stakes.data.toList.drop 48 = dktX0_stakes_2 := dk_seg dksX0_stakes_1 24 rfl rfl
theorem dX0_stakes_0 : decode cX0_stakes 0 = .ok (.aload_n 0, 1) := dk_42 (dk_at dksX0_stakes_0 0 rfl rfl)
theorem dX0_stakes_1 : decode cX0_stakes 1 = .ok (.iload_n 1, 1) := dk_27 (dk_at dksX0_stakes_0 1 rfl rfl)
theorem dX0_stakes_2 : decode cX0_stakes 2 = .ok (.iload_n 2, 1) := dk_28 (dk_at dksX0_stakes_0 2 rfl rfl)
theorem dX0_stakes_3 : decode cX0_stakes 3 = .ok (.iload 4, 2) := dk_21 4 (dk_at dksX0_stakes_0 3 rfl rfl)
theorem dX0_stakes_5 : decode cX0_stakes 5 = .ok (.invokevirtual 203, 3) := dk_182 0 203 (dk_at dksX0_stakes_0 5 rfl rfl)
theorem dX0_stakes_8 : decode cX0_stakes 8 = .ok (.ifCond .eq 13, 3) := dk_153 0 13 (dk_at dksX0_stakes_0 8 rfl rfl)
theorem dX0_stakes_11 : decode cX0_stakes 11 = .ok (.iload_n 3, 1) := dk_29 (dk_at dksX0_stakes_0 11 rfl rfl)
theorem dX0_stakes_12 : decode cX0_stakes 12 = .ok (.iconst 0, 1) := dk_3 (dk_at dksX0_stakes_0 12 rfl rfl)
theorem dX0_stakes_13 : decode cX0_stakes 13 = .ok (.bipush 10, 2) := dk_16 10 (dk_at dksX0_stakes_0 13 rfl rfl)
theorem dX0_stakes_15 : decode cX0_stakes 15 = .ok (.invokestatic 78, 3) := dk_184 0 78 (dk_at dksX0_stakes_0 15 rfl rfl)
theorem dX0_stakes_18 : decode cX0_stakes 18 = .ok (.ifCond .ne 7, 3) := dk_154 0 7 (dk_at dksX0_stakes_0 18 rfl rfl)
theorem dX0_stakes_21 : decode cX0_stakes 21 = .ok (.ldc2_w 206, 3) := dk_20 0 206 (dk_at dksX0_stakes_0 21 rfl rfl)
theorem dX0_stakes_24 : decode cX0_stakes 24 = .ok (.lreturn, 1) := dk_173 (dk_at dksX0_stakes_1 0 rfl rfl)
theorem dX0_stakes_25 : decode cX0_stakes 25 = .ok (.aload_n 0, 1) := dk_42 (dk_at dksX0_stakes_1 1 rfl rfl)
theorem dX0_stakes_26 : decode cX0_stakes 26 = .ok (.aload_n 0, 1) := dk_42 (dk_at dksX0_stakes_1 2 rfl rfl)
theorem dX0_stakes_27 : decode cX0_stakes 27 = .ok (.getfield 45, 3) := dk_180 0 45 (dk_at dksX0_stakes_1 3 rfl rfl)
theorem dX0_stakes_30 : decode cX0_stakes 30 = .ok (.iload_n 1, 1) := dk_27 (dk_at dksX0_stakes_1 6 rfl rfl)
theorem dX0_stakes_31 : decode cX0_stakes 31 = .ok (.invokevirtual 111, 3) := dk_182 0 111 (dk_at dksX0_stakes_1 7 rfl rfl)
theorem dX0_stakes_34 : decode cX0_stakes 34 = .ok (.checkcast 115, 3) := dk_192 0 115 (dk_at dksX0_stakes_1 10 rfl rfl)
theorem dX0_stakes_37 : decode cX0_stakes 37 = .ok (.aload_n 0, 1) := dk_42 (dk_at dksX0_stakes_1 13 rfl rfl)
theorem dX0_stakes_38 : decode cX0_stakes 38 = .ok (.getfield 45, 3) := dk_180 0 45 (dk_at dksX0_stakes_1 14 rfl rfl)
theorem dX0_stakes_41 : decode cX0_stakes 41 = .ok (.iload_n 2, 1) := dk_28 (dk_at dksX0_stakes_1 17 rfl rfl)
theorem dX0_stakes_42 : decode cX0_stakes 42 = .ok (.invokevirtual 111, 3) := dk_182 0 111 (dk_at dksX0_stakes_1 18 rfl rfl)
theorem dX0_stakes_45 : decode cX0_stakes 45 = .ok (.checkcast 115, 3) := dk_192 0 115 (dk_at dksX0_stakes_1 21 rfl rfl)
theorem dX0_stakes_48 : decode cX0_stakes 48 = .ok (.iload_n 3, 1) := dk_29 (dk_at dksX0_stakes_2 0 rfl rfl)
theorem dX0_stakes_49 : decode cX0_stakes 49 = .ok (.invokevirtual 269, 3) := dk_182 1 13 (dk_at dksX0_stakes_2 1 rfl rfl)
theorem dX0_stakes_52 : decode cX0_stakes 52 = .ok (.iload_n 3, 1) := dk_29 (dk_at dksX0_stakes_2 4 rfl rfl)
theorem dX0_stakes_53 : decode cX0_stakes 53 = .ok (.invokestatic 212, 3) := dk_184 0 212 (dk_at dksX0_stakes_2 5 rfl rfl)
theorem dX0_stakes_56 : decode cX0_stakes 56 = .ok (.iload 4, 2) := dk_21 4 (dk_at dksX0_stakes_2 8 rfl rfl)
theorem dX0_stakes_58 : decode cX0_stakes 58 = .ok (.invokestatic 216, 3) := dk_184 0 216 (dk_at dksX0_stakes_2 10 rfl rfl)
theorem dX0_stakes_61 : decode cX0_stakes 61 = .ok (.lreturn, 1) := dk_173 (dk_at dksX0_stakes_2 13 rfl rfl)
abbrev cX0_paid : ByteArray := prog_1_method_39_code
def yX0_paid : MethodName := ⟨RX0, "paid", "(LFewerMan$Player;LFewerMan$Player;I)J"⟩
def dkwX0_paid_5 : List UInt8 := [21, 5, 181, 0, 156, 44, 21, 6, 181, 0, 156, 42, 89, 180, 0, 98, 4, 100, 181, 0, 98, 22, 7, 173]
abbrev dktX0_paid_5 : List UInt8 := dkwX0_paid_5 ++ []
def dkwX0_paid_4 : List UInt8 := [44, 29, 4, 100, 182, 1, 13, 21, 5, 133, 29, 4, 100, 184, 0, 212, 105, 101, 105, 97, 55, 7, 43]
abbrev dktX0_paid_4 : List UInt8 := dkwX0_paid_4 ++ dktX0_paid_5
def dkwX0_paid_3 : List UInt8 := [180, 0, 98, 4, 100, 181, 0, 98, 42, 44, 43, 182, 0, 182, 22, 7, 16, 10, 21, 4, 100, 133, 42, 43]
abbrev dktX0_paid_3 : List UInt8 := dkwX0_paid_3 ++ dktX0_paid_4
def dkwX0_paid_2 : List UInt8 := [29, 4, 100, 182, 1, 13, 97, 105, 55, 7, 43, 21, 5, 181, 0, 156, 44, 21, 6, 181, 0, 156, 42, 89]
abbrev dktX0_paid_2 : List UInt8 := dkwX0_paid_2 ++ dktX0_paid_3
def dkwX0_paid_1 : List UInt8 := [54, 6, 42, 43, 44, 182, 0, 182, 21, 4, 133, 21, 6, 133, 29, 4, 100, 184, 0, 212, 105, 42, 43, 44]
abbrev dktX0_paid_1 : List UInt8 := dkwX0_paid_1 ++ dktX0_paid_2
def dkwX0_paid_0 : List UInt8 := [29, 154, 0, 5, 9, 173, 43, 44, 182, 0, 170, 54, 4, 43, 180, 0, 156, 54, 5, 44, 180, 0, 156]
abbrev dktX0_paid_0 : List UInt8 := dkwX0_paid_0 ++ dktX0_paid_1
theorem dksX0_paid_0 : cX0_paid.data.toList.drop 0 = dktX0_paid_0 := by decide +kernel
theorem dksX0_paid_1 : cX0_paid.data.toList.drop 23 = dktX0_paid_1 := dk_seg dksX0_paid_0 23 rfl rfl
theorem dksX0_paid_2 : cX0_paid.data.toList.drop 47 = dktX0_paid_2 := dk_seg dksX0_paid_1 24 rfl rfl
theorem dksX0_paid_3 : cX0_paid.data.toList.drop 71 = dktX0_paid_3 := dk_seg dksX0_paid_2 24 rfl rfl
theorem dksX0_paid_4 : cX0_paid.data.toList.drop 95 = dktX0_paid_4 := dk_seg dksX0_paid_3 24 rfl rfl
theorem dksX0_paid_5 : cX0_paid.data.toList.drop 118 = dktX0_paid_5 := dk_seg dksX0_paid_4 23 rfl rfl
theorem dX0_paid_0 : decode cX0_paid 0 = .ok (.iload_n 3, 1) := dk_29 (dk_at dksX0_paid_0 0 rfl rfl)
theorem dX0_paid_1 : decode cX0_paid 1 = .ok (.ifCond .ne 5, 3) := dk_154 0 5 (dk_at dksX0_paid_0 1 rfl rfl)
theorem dX0_paid_4 : decode cX0_paid 4 = .ok (.lconst 0, 1) := dk_9 (dk_at dksX0_paid_0 4 rfl rfl)
theorem dX0_paid_5 : decode cX0_paid 5 = .ok (.lreturn, 1) := dk_173 (dk_at dksX0_paid_0 5 rfl rfl)
theorem dX0_paid_6 : decode cX0_paid 6 = .ok (.aload_n 1, 1) := dk_43 (dk_at dksX0_paid_0 6 rfl rfl)
theorem dX0_paid_7 : decode cX0_paid 7 = .ok (.aload_n 2, 1) := dk_44 (dk_at dksX0_paid_0 7 rfl rfl)
theorem dX0_paid_8 : decode cX0_paid 8 = .ok (.invokevirtual 170, 3) := dk_182 0 170 (dk_at dksX0_paid_0 8 rfl rfl)
theorem dX0_paid_11 : decode cX0_paid 11 = .ok (.istore 4, 2) := dk_54 4 (dk_at dksX0_paid_0 11 rfl rfl)
theorem dX0_paid_13 : decode cX0_paid 13 = .ok (.aload_n 1, 1) := dk_43 (dk_at dksX0_paid_0 13 rfl rfl)
theorem dX0_paid_14 : decode cX0_paid 14 = .ok (.getfield 156, 3) := dk_180 0 156 (dk_at dksX0_paid_0 14 rfl rfl)
theorem dX0_paid_17 : decode cX0_paid 17 = .ok (.istore 5, 2) := dk_54 5 (dk_at dksX0_paid_0 17 rfl rfl)
theorem dX0_paid_19 : decode cX0_paid 19 = .ok (.aload_n 2, 1) := dk_44 (dk_at dksX0_paid_0 19 rfl rfl)
theorem dX0_paid_20 : decode cX0_paid 20 = .ok (.getfield 156, 3) := dk_180 0 156 (dk_at dksX0_paid_0 20 rfl rfl)
theorem dX0_paid_23 : decode cX0_paid 23 = .ok (.istore 6, 2) := dk_54 6 (dk_at dksX0_paid_1 0 rfl rfl)
theorem dX0_paid_25 : decode cX0_paid 25 = .ok (.aload_n 0, 1) := dk_42 (dk_at dksX0_paid_1 2 rfl rfl)
theorem dX0_paid_26 : decode cX0_paid 26 = .ok (.aload_n 1, 1) := dk_43 (dk_at dksX0_paid_1 3 rfl rfl)
theorem dX0_paid_27 : decode cX0_paid 27 = .ok (.aload_n 2, 1) := dk_44 (dk_at dksX0_paid_1 4 rfl rfl)
theorem dX0_paid_28 : decode cX0_paid 28 = .ok (.invokevirtual 182, 3) := dk_182 0 182 (dk_at dksX0_paid_1 5 rfl rfl)
theorem dX0_paid_31 : decode cX0_paid 31 = .ok (.iload 4, 2) := dk_21 4 (dk_at dksX0_paid_1 8 rfl rfl)
theorem dX0_paid_33 : decode cX0_paid 33 = .ok (.i2l, 1) := dk_133 (dk_at dksX0_paid_1 10 rfl rfl)
theorem dX0_paid_34 : decode cX0_paid 34 = .ok (.iload 6, 2) := dk_21 6 (dk_at dksX0_paid_1 11 rfl rfl)
theorem dX0_paid_36 : decode cX0_paid 36 = .ok (.i2l, 1) := dk_133 (dk_at dksX0_paid_1 13 rfl rfl)
theorem dX0_paid_37 : decode cX0_paid 37 = .ok (.iload_n 3, 1) := dk_29 (dk_at dksX0_paid_1 14 rfl rfl)
theorem dX0_paid_38 : decode cX0_paid 38 = .ok (.iconst 1, 1) := dk_4 (dk_at dksX0_paid_1 15 rfl rfl)
theorem dX0_paid_39 : decode cX0_paid 39 = .ok (.isub, 1) := dk_100 (dk_at dksX0_paid_1 16 rfl rfl)
theorem dX0_paid_40 : decode cX0_paid 40 = .ok (.invokestatic 212, 3) := dk_184 0 212 (dk_at dksX0_paid_1 17 rfl rfl)
theorem dX0_paid_43 : decode cX0_paid 43 = .ok (.lmul, 1) := dk_105 (dk_at dksX0_paid_1 20 rfl rfl)
theorem dX0_paid_44 : decode cX0_paid 44 = .ok (.aload_n 0, 1) := dk_42 (dk_at dksX0_paid_1 21 rfl rfl)
theorem dX0_paid_45 : decode cX0_paid 45 = .ok (.aload_n 1, 1) := dk_43 (dk_at dksX0_paid_1 22 rfl rfl)
theorem dX0_paid_46 : decode cX0_paid 46 = .ok (.aload_n 2, 1) := dk_44 (dk_at dksX0_paid_1 23 rfl rfl)
theorem dX0_paid_47 : decode cX0_paid 47 = .ok (.iload_n 3, 1) := dk_29 (dk_at dksX0_paid_2 0 rfl rfl)
theorem dX0_paid_48 : decode cX0_paid 48 = .ok (.iconst 1, 1) := dk_4 (dk_at dksX0_paid_2 1 rfl rfl)
theorem dX0_paid_49 : decode cX0_paid 49 = .ok (.isub, 1) := dk_100 (dk_at dksX0_paid_2 2 rfl rfl)
theorem dX0_paid_50 : decode cX0_paid 50 = .ok (.invokevirtual 269, 3) := dk_182 1 13 (dk_at dksX0_paid_2 3 rfl rfl)
theorem dX0_paid_53 : decode cX0_paid 53 = .ok (.ladd, 1) := dk_97 (dk_at dksX0_paid_2 6 rfl rfl)
theorem dX0_paid_54 : decode cX0_paid 54 = .ok (.lmul, 1) := dk_105 (dk_at dksX0_paid_2 7 rfl rfl)
theorem dX0_paid_55 : decode cX0_paid 55 = .ok (.lstore 7, 2) := dk_55 7 (dk_at dksX0_paid_2 8 rfl rfl)
theorem dX0_paid_57 : decode cX0_paid 57 = .ok (.aload_n 1, 1) := dk_43 (dk_at dksX0_paid_2 10 rfl rfl)
theorem dX0_paid_58 : decode cX0_paid 58 = .ok (.iload 5, 2) := dk_21 5 (dk_at dksX0_paid_2 11 rfl rfl)
theorem dX0_paid_60 : decode cX0_paid 60 = .ok (.putfield 156, 3) := dk_181 0 156 (dk_at dksX0_paid_2 13 rfl rfl)
theorem dX0_paid_63 : decode cX0_paid 63 = .ok (.aload_n 2, 1) := dk_44 (dk_at dksX0_paid_2 16 rfl rfl)
theorem dX0_paid_64 : decode cX0_paid 64 = .ok (.iload 6, 2) := dk_21 6 (dk_at dksX0_paid_2 17 rfl rfl)
theorem dX0_paid_66 : decode cX0_paid 66 = .ok (.putfield 156, 3) := dk_181 0 156 (dk_at dksX0_paid_2 19 rfl rfl)
theorem dX0_paid_69 : decode cX0_paid 69 = .ok (.aload_n 0, 1) := dk_42 (dk_at dksX0_paid_2 22 rfl rfl)
theorem dX0_paid_70 : decode cX0_paid 70 = .ok (.dup, 1) := dk_89 (dk_at dksX0_paid_2 23 rfl rfl)
theorem dX0_paid_71 : decode cX0_paid 71 = .ok (.getfield 98, 3) := dk_180 0 98 (dk_at dksX0_paid_3 0 rfl rfl)
theorem dX0_paid_74 : decode cX0_paid 74 = .ok (.iconst 1, 1) := dk_4 (dk_at dksX0_paid_3 3 rfl rfl)
theorem dX0_paid_75 : decode cX0_paid 75 = .ok (.isub, 1) := dk_100 (dk_at dksX0_paid_3 4 rfl rfl)
theorem dX0_paid_76 : decode cX0_paid 76 = .ok (.putfield 98, 3) := dk_181 0 98 (dk_at dksX0_paid_3 5 rfl rfl)
theorem dX0_paid_79 : decode cX0_paid 79 = .ok (.aload_n 0, 1) := dk_42 (dk_at dksX0_paid_3 8 rfl rfl)
theorem dX0_paid_80 : decode cX0_paid 80 = .ok (.aload_n 2, 1) := dk_44 (dk_at dksX0_paid_3 9 rfl rfl)
theorem dX0_paid_81 : decode cX0_paid 81 = .ok (.aload_n 1, 1) := dk_43 (dk_at dksX0_paid_3 10 rfl rfl)
theorem dX0_paid_82 : decode cX0_paid 82 = .ok (.invokevirtual 182, 3) := dk_182 0 182 (dk_at dksX0_paid_3 11 rfl rfl)
theorem dX0_paid_85 : decode cX0_paid 85 = .ok (.lload 7, 2) := dk_22 7 (dk_at dksX0_paid_3 14 rfl rfl)
theorem dX0_paid_87 : decode cX0_paid 87 = .ok (.bipush 10, 2) := dk_16 10 (dk_at dksX0_paid_3 16 rfl rfl)
theorem dX0_paid_89 : decode cX0_paid 89 = .ok (.iload 4, 2) := dk_21 4 (dk_at dksX0_paid_3 18 rfl rfl)
theorem dX0_paid_91 : decode cX0_paid 91 = .ok (.isub, 1) := dk_100 (dk_at dksX0_paid_3 20 rfl rfl)
theorem dX0_paid_92 : decode cX0_paid 92 = .ok (.i2l, 1) := dk_133 (dk_at dksX0_paid_3 21 rfl rfl)
theorem dX0_paid_93 : decode cX0_paid 93 = .ok (.aload_n 0, 1) := dk_42 (dk_at dksX0_paid_3 22 rfl rfl)
theorem dX0_paid_94 : decode cX0_paid 94 = .ok (.aload_n 1, 1) := dk_43 (dk_at dksX0_paid_3 23 rfl rfl)
theorem dX0_paid_95 : decode cX0_paid 95 = .ok (.aload_n 2, 1) := dk_44 (dk_at dksX0_paid_4 0 rfl rfl)
theorem dX0_paid_96 : decode cX0_paid 96 = .ok (.iload_n 3, 1) := dk_29 (dk_at dksX0_paid_4 1 rfl rfl)
theorem dX0_paid_97 : decode cX0_paid 97 = .ok (.iconst 1, 1) := dk_4 (dk_at dksX0_paid_4 2 rfl rfl)
theorem dX0_paid_98 : decode cX0_paid 98 = .ok (.isub, 1) := dk_100 (dk_at dksX0_paid_4 3 rfl rfl)
theorem dX0_paid_99 : decode cX0_paid 99 = .ok (.invokevirtual 269, 3) := dk_182 1 13 (dk_at dksX0_paid_4 4 rfl rfl)
theorem dX0_paid_102 : decode cX0_paid 102 = .ok (.iload 5, 2) := dk_21 5 (dk_at dksX0_paid_4 7 rfl rfl)
theorem dX0_paid_104 : decode cX0_paid 104 = .ok (.i2l, 1) := dk_133 (dk_at dksX0_paid_4 9 rfl rfl)
theorem dX0_paid_105 : decode cX0_paid 105 = .ok (.iload_n 3, 1) := dk_29 (dk_at dksX0_paid_4 10 rfl rfl)
theorem dX0_paid_106 : decode cX0_paid 106 = .ok (.iconst 1, 1) := dk_4 (dk_at dksX0_paid_4 11 rfl rfl)
theorem dX0_paid_107 : decode cX0_paid 107 = .ok (.isub, 1) := dk_100 (dk_at dksX0_paid_4 12 rfl rfl)
theorem dX0_paid_108 : decode cX0_paid 108 = .ok (.invokestatic 212, 3) := dk_184 0 212 (dk_at dksX0_paid_4 13 rfl rfl)
theorem dX0_paid_111 : decode cX0_paid 111 = .ok (.lmul, 1) := dk_105 (dk_at dksX0_paid_4 16 rfl rfl)
theorem dX0_paid_112 : decode cX0_paid 112 = .ok (.lsub, 1) := dk_101 (dk_at dksX0_paid_4 17 rfl rfl)
theorem dX0_paid_113 : decode cX0_paid 113 = .ok (.lmul, 1) := dk_105 (dk_at dksX0_paid_4 18 rfl rfl)
theorem dX0_paid_114 : decode cX0_paid 114 = .ok (.ladd, 1) := dk_97 (dk_at dksX0_paid_4 19 rfl rfl)
theorem dX0_paid_115 : decode cX0_paid 115 = .ok (.lstore 7, 2) := dk_55 7 (dk_at dksX0_paid_4 20 rfl rfl)
theorem dX0_paid_117 : decode cX0_paid 117 = .ok (.aload_n 1, 1) := dk_43 (dk_at dksX0_paid_4 22 rfl rfl)
theorem dX0_paid_118 : decode cX0_paid 118 = .ok (.iload 5, 2) := dk_21 5 (dk_at dksX0_paid_5 0 rfl rfl)
theorem dX0_paid_120 : decode cX0_paid 120 = .ok (.putfield 156, 3) := dk_181 0 156 (dk_at dksX0_paid_5 2 rfl rfl)
theorem dX0_paid_123 : decode cX0_paid 123 = .ok (.aload_n 2, 1) := dk_44 (dk_at dksX0_paid_5 5 rfl rfl)
theorem dX0_paid_124 : decode cX0_paid 124 = .ok (.iload 6, 2) := dk_21 6 (dk_at dksX0_paid_5 6 rfl rfl)
theorem dX0_paid_126 : decode cX0_paid 126 = .ok (.putfield 156, 3) := dk_181 0 156 (dk_at dksX0_paid_5 8 rfl rfl)
theorem dX0_paid_129 : decode cX0_paid 129 = .ok (.aload_n 0, 1) := dk_42 (dk_at dksX0_paid_5 11 rfl rfl)
theorem dX0_paid_130 : decode cX0_paid 130 = .ok (.dup, 1) := dk_89 (dk_at dksX0_paid_5 12 rfl rfl)
theorem dX0_paid_131 : decode cX0_paid 131 = .ok (.getfield 98, 3) := dk_180 0 98 (dk_at dksX0_paid_5 13 rfl rfl)
theorem dX0_paid_134 : decode cX0_paid 134 = .ok (.iconst 1, 1) := dk_4 (dk_at dksX0_paid_5 16 rfl rfl)
theorem dX0_paid_135 : decode cX0_paid 135 = .ok (.isub, 1) := dk_100 (dk_at dksX0_paid_5 17 rfl rfl)
theorem dX0_paid_136 : decode cX0_paid 136 = .ok (.putfield 98, 3) := dk_181 0 98 (dk_at dksX0_paid_5 18 rfl rfl)
theorem dX0_paid_139 : decode cX0_paid 139 = .ok (.lload 7, 2) := dk_22 7 (dk_at dksX0_paid_5 21 rfl rfl)
theorem dX0_paid_141 : decode cX0_paid 141 = .ok (.lreturn, 1) := dk_173 (dk_at dksX0_paid_5 23 rfl rfl)
abbrev cX0_table : ByteArray := prog_1_method_43_code
def yX0_table : MethodName := ⟨RX0, "table", "(III)J"⟩
def dkwX0_table_3 : List UInt8 := [167, 255, 230, 42, 27, 3, 4, 28, 182, 1, 20, 28, 184, 0, 212, 29, 184, 0, 216, 173]
abbrev dktX0_table_3 : List UInt8 := dkwX0_table_3 ++ []
def dkwX0_table_2 : List UInt8 := [180, 0, 45, 182, 0, 107, 162, 0, 20, 42, 180, 0, 59, 21, 4, 5, 100, 21, 4, 79, 132, 4, 1]
abbrev dktX0_table_2 : List UInt8 := dkwX0_table_2 ++ dktX0_table_3
def dkwX0_table_1 : List UInt8 := [153, 0, 14, 42, 180, 0, 45, 182, 0, 107, 5, 162, 0, 7, 20, 0, 206, 173, 5, 54, 4, 21, 4, 42]
abbrev dktX0_table_1 : List UInt8 := dkwX0_table_1 ++ dktX0_table_2
def dkwX0_table_0 : List UInt8 := [42, 27, 182, 0, 146, 198, 0, 33, 28, 4, 16, 8, 184, 0, 78, 153, 0, 23, 29, 3, 4, 184, 0, 78]
abbrev dktX0_table_0 : List UInt8 := dkwX0_table_0 ++ dktX0_table_1
theorem dksX0_table_0 : cX0_table.data.toList.drop 0 = dktX0_table_0 := by decide +kernel
theorem dksX0_table_1 : cX0_table.data.toList.drop 24 = dktX0_table_1 := dk_seg dksX0_table_0 24 rfl rfl
theorem dksX0_table_2 : cX0_table.data.toList.drop 48 = dktX0_table_2 := dk_seg dksX0_table_1 24 rfl rfl
theorem dksX0_table_3 : cX0_table.data.toList.drop 71 = dktX0_table_3 := dk_seg dksX0_table_2 23 rfl rfl
theorem dX0_table_0 : decode cX0_table 0 = .ok (.aload_n 0, 1) := dk_42 (dk_at dksX0_table_0 0 rfl rfl)
theorem dX0_table_1 : decode cX0_table 1 = .ok (.iload_n 1, 1) := dk_27 (dk_at dksX0_table_0 1 rfl rfl)
theorem dX0_table_2 : decode cX0_table 2 = .ok (.invokevirtual 146, 3) := dk_182 0 146 (dk_at dksX0_table_0 2 rfl rfl)
theorem dX0_table_5 : decode cX0_table 5 = .ok (.ifnull 33, 3) := dk_198 0 33 (dk_at dksX0_table_0 5 rfl rfl)
theorem dX0_table_8 : decode cX0_table 8 = .ok (.iload_n 2, 1) := dk_28 (dk_at dksX0_table_0 8 rfl rfl)
theorem dX0_table_9 : decode cX0_table 9 = .ok (.iconst 1, 1) := dk_4 (dk_at dksX0_table_0 9 rfl rfl)
theorem dX0_table_10 : decode cX0_table 10 = .ok (.bipush 8, 2) := dk_16 8 (dk_at dksX0_table_0 10 rfl rfl)
theorem dX0_table_12 : decode cX0_table 12 = .ok (.invokestatic 78, 3) := dk_184 0 78 (dk_at dksX0_table_0 12 rfl rfl)
theorem dX0_table_15 : decode cX0_table 15 = .ok (.ifCond .eq 23, 3) := dk_153 0 23 (dk_at dksX0_table_0 15 rfl rfl)
theorem dX0_table_18 : decode cX0_table 18 = .ok (.iload_n 3, 1) := dk_29 (dk_at dksX0_table_0 18 rfl rfl)
theorem dX0_table_19 : decode cX0_table 19 = .ok (.iconst 0, 1) := dk_3 (dk_at dksX0_table_0 19 rfl rfl)
theorem dX0_table_20 : decode cX0_table 20 = .ok (.iconst 1, 1) := dk_4 (dk_at dksX0_table_0 20 rfl rfl)
theorem dX0_table_21 : decode cX0_table 21 = .ok (.invokestatic 78, 3) := dk_184 0 78 (dk_at dksX0_table_0 21 rfl rfl)
theorem dX0_table_24 : decode cX0_table 24 = .ok (.ifCond .eq 14, 3) := dk_153 0 14 (dk_at dksX0_table_1 0 rfl rfl)
theorem dX0_table_27 : decode cX0_table 27 = .ok (.aload_n 0, 1) := dk_42 (dk_at dksX0_table_1 3 rfl rfl)
theorem dX0_table_28 : decode cX0_table 28 = .ok (.getfield 45, 3) := dk_180 0 45 (dk_at dksX0_table_1 4 rfl rfl)
theorem dX0_table_31 : decode cX0_table 31 = .ok (.invokevirtual 107, 3) := dk_182 0 107 (dk_at dksX0_table_1 7 rfl rfl)
theorem dX0_table_34 : decode cX0_table 34 = .ok (.iconst 2, 1) := dk_5 (dk_at dksX0_table_1 10 rfl rfl)
theorem dX0_table_35 : decode cX0_table 35 = .ok (.if_icmp .ge 7, 3) := dk_162 0 7 (dk_at dksX0_table_1 11 rfl rfl)
theorem dX0_table_38 : decode cX0_table 38 = .ok (.ldc2_w 206, 3) := dk_20 0 206 (dk_at dksX0_table_1 14 rfl rfl)
theorem dX0_table_41 : decode cX0_table 41 = .ok (.lreturn, 1) := dk_173 (dk_at dksX0_table_1 17 rfl rfl)
theorem dX0_table_42 : decode cX0_table 42 = .ok (.iconst 2, 1) := dk_5 (dk_at dksX0_table_1 18 rfl rfl)
theorem dX0_table_43 : decode cX0_table 43 = .ok (.istore 4, 2) := dk_54 4 (dk_at dksX0_table_1 19 rfl rfl)
theorem dX0_table_45 : decode cX0_table 45 = .ok (.iload 4, 2) := dk_21 4 (dk_at dksX0_table_1 21 rfl rfl)
theorem dX0_table_47 : decode cX0_table 47 = .ok (.aload_n 0, 1) := dk_42 (dk_at dksX0_table_1 23 rfl rfl)
theorem dX0_table_48 : decode cX0_table 48 = .ok (.getfield 45, 3) := dk_180 0 45 (dk_at dksX0_table_2 0 rfl rfl)
theorem dX0_table_51 : decode cX0_table 51 = .ok (.invokevirtual 107, 3) := dk_182 0 107 (dk_at dksX0_table_2 3 rfl rfl)
theorem dX0_table_54 : decode cX0_table 54 = .ok (.if_icmp .ge 20, 3) := dk_162 0 20 (dk_at dksX0_table_2 6 rfl rfl)
theorem dX0_table_57 : decode cX0_table 57 = .ok (.aload_n 0, 1) := dk_42 (dk_at dksX0_table_2 9 rfl rfl)
theorem dX0_table_58 : decode cX0_table 58 = .ok (.getfield 59, 3) := dk_180 0 59 (dk_at dksX0_table_2 10 rfl rfl)
theorem dX0_table_61 : decode cX0_table 61 = .ok (.iload 4, 2) := dk_21 4 (dk_at dksX0_table_2 13 rfl rfl)
theorem dX0_table_63 : decode cX0_table 63 = .ok (.iconst 2, 1) := dk_5 (dk_at dksX0_table_2 15 rfl rfl)
theorem dX0_table_64 : decode cX0_table 64 = .ok (.isub, 1) := dk_100 (dk_at dksX0_table_2 16 rfl rfl)
theorem dX0_table_65 : decode cX0_table 65 = .ok (.iload 4, 2) := dk_21 4 (dk_at dksX0_table_2 17 rfl rfl)
theorem dX0_table_67 : decode cX0_table 67 = .ok (.iastore, 1) := dk_79 (dk_at dksX0_table_2 19 rfl rfl)
theorem dX0_table_68 : decode cX0_table 68 = .ok (.iinc 4 1, 3) := dk_132 4 1 (dk_at dksX0_table_2 20 rfl rfl)
theorem dX0_table_71 : decode cX0_table 71 = .ok (.goto (-26), 3) := dk_167 255 230 (dk_at dksX0_table_3 0 rfl rfl)
theorem dX0_table_74 : decode cX0_table 74 = .ok (.aload_n 0, 1) := dk_42 (dk_at dksX0_table_3 3 rfl rfl)
theorem dX0_table_75 : decode cX0_table 75 = .ok (.iload_n 1, 1) := dk_27 (dk_at dksX0_table_3 4 rfl rfl)
theorem dX0_table_76 : decode cX0_table 76 = .ok (.iconst 0, 1) := dk_3 (dk_at dksX0_table_3 5 rfl rfl)
theorem dX0_table_77 : decode cX0_table 77 = .ok (.iconst 1, 1) := dk_4 (dk_at dksX0_table_3 6 rfl rfl)
theorem dX0_table_78 : decode cX0_table 78 = .ok (.iload_n 2, 1) := dk_28 (dk_at dksX0_table_3 7 rfl rfl)
theorem dX0_table_79 : decode cX0_table 79 = .ok (.invokevirtual 276, 3) := dk_182 1 20 (dk_at dksX0_table_3 8 rfl rfl)
theorem dX0_table_82 : decode cX0_table 82 = .ok (.iload_n 2, 1) := dk_28 (dk_at dksX0_table_3 11 rfl rfl)
theorem dX0_table_83 : decode cX0_table 83 = .ok (.invokestatic 212, 3) := dk_184 0 212 (dk_at dksX0_table_3 12 rfl rfl)
theorem dX0_table_86 : decode cX0_table 86 = .ok (.iload_n 3, 1) := dk_29 (dk_at dksX0_table_3 15 rfl rfl)
theorem dX0_table_87 : decode cX0_table 87 = .ok (.invokestatic 216, 3) := dk_184 0 216 (dk_at dksX0_table_3 16 rfl rfl)
theorem dX0_table_90 : decode cX0_table 90 = .ok (.lreturn, 1) := dk_173 (dk_at dksX0_table_3 19 rfl rfl)
abbrev cX0_atTable : ByteArray := prog_1_method_41_code
def yX0_atTable : MethodName := ⟨RX0, "atTable", "(IIII)J"⟩
def dkwX0_atTable_4 : List UInt8 := [105, 97, 173]
abbrev dktX0_atTable_4 : List UInt8 := dkwX0_atTable_4 ++ []
def dkwX0_atTable_3 : List UInt8 := [27, 28, 29, 21, 4, 182, 1, 16, 105, 16, 10, 21, 7, 100, 133, 42, 27, 29, 28, 21, 4, 182, 1, 16]
abbrev dktX0_atTable_3 : List UInt8 := dkwX0_atTable_3 ++ dktX0_atTable_4
def dkwX0_atTable_2 : List UInt8 := [133, 167, 0, 18, 29, 27, 160, 0, 12, 16, 10, 21, 7, 100, 133, 167, 0, 4, 9, 173, 21, 7, 133, 42]
abbrev dktX0_atTable_2 : List UInt8 := dkwX0_atTable_2 ++ dktX0_atTable_3
def dkwX0_atTable_1 : List UInt8 := [58, 6, 25, 5, 25, 6, 182, 0, 170, 54, 7, 21, 4, 4, 160, 0, 30, 28, 27, 160, 0, 9, 21, 7]
abbrev dktX0_atTable_1 : List UInt8 := dkwX0_atTable_1 ++ dktX0_atTable_2
def dkwX0_atTable_0 : List UInt8 := [42, 180, 0, 45, 28, 182, 0, 111, 192, 0, 115, 58, 5, 42, 180, 0, 45, 29, 182, 0, 111, 192, 0, 115]
abbrev dktX0_atTable_0 : List UInt8 := dkwX0_atTable_0 ++ dktX0_atTable_1
theorem dksX0_atTable_0 : cX0_atTable.data.toList.drop 0 = dktX0_atTable_0 := by decide +kernel
theorem dksX0_atTable_1 : cX0_atTable.data.toList.drop 24 = dktX0_atTable_1 := dk_seg dksX0_atTable_0 24 rfl rfl
theorem dksX0_atTable_2 : cX0_atTable.data.toList.drop 48 = dktX0_atTable_2 := dk_seg dksX0_atTable_1 24 rfl rfl
theorem dksX0_atTable_3 : cX0_atTable.data.toList.drop 72 = dktX0_atTable_3 := dk_seg dksX0_atTable_2 24 rfl rfl
theorem dksX0_atTable_4 : cX0_atTable.data.toList.drop 96 = dktX0_atTable_4 := dk_seg dksX0_atTable_3 24 rfl rfl
theorem dX0_atTable_0 : decode cX0_atTable 0 = .ok (.aload_n 0, 1) := dk_42 (dk_at dksX0_atTable_0 0 rfl rfl)
theorem dX0_atTable_1 : decode cX0_atTable 1 = .ok (.getfield 45, 3) := dk_180 0 45 (dk_at dksX0_atTable_0 1 rfl rfl)
theorem dX0_atTable_4 : decode cX0_atTable 4 = .ok (.iload_n 2, 1) := dk_28 (dk_at dksX0_atTable_0 4 rfl rfl)
theorem dX0_atTable_5 : decode cX0_atTable 5 = .ok (.invokevirtual 111, 3) := dk_182 0 111 (dk_at dksX0_atTable_0 5 rfl rfl)
theorem dX0_atTable_8 : decode cX0_atTable 8 = .ok (.checkcast 115, 3) := dk_192 0 115 (dk_at dksX0_atTable_0 8 rfl rfl)
theorem dX0_atTable_11 : decode cX0_atTable 11 = .ok (.astore 5, 2) := dk_58 5 (dk_at dksX0_atTable_0 11 rfl rfl)
theorem dX0_atTable_13 : decode cX0_atTable 13 = .ok (.aload_n 0, 1) := dk_42 (dk_at dksX0_atTable_0 13 rfl rfl)
theorem dX0_atTable_14 : decode cX0_atTable 14 = .ok (.getfield 45, 3) := dk_180 0 45 (dk_at dksX0_atTable_0 14 rfl rfl)
theorem dX0_atTable_17 : decode cX0_atTable 17 = .ok (.iload_n 3, 1) := dk_29 (dk_at dksX0_atTable_0 17 rfl rfl)
theorem dX0_atTable_18 : decode cX0_atTable 18 = .ok (.invokevirtual 111, 3) := dk_182 0 111 (dk_at dksX0_atTable_0 18 rfl rfl)
theorem dX0_atTable_21 : decode cX0_atTable 21 = .ok (.checkcast 115, 3) := dk_192 0 115 (dk_at dksX0_atTable_0 21 rfl rfl)
theorem dX0_atTable_24 : decode cX0_atTable 24 = .ok (.astore 6, 2) := dk_58 6 (dk_at dksX0_atTable_1 0 rfl rfl)
theorem dX0_atTable_26 : decode cX0_atTable 26 = .ok (.aload 5, 2) := dk_25 5 (dk_at dksX0_atTable_1 2 rfl rfl)
theorem dX0_atTable_28 : decode cX0_atTable 28 = .ok (.aload 6, 2) := dk_25 6 (dk_at dksX0_atTable_1 4 rfl rfl)
theorem dX0_atTable_30 : decode cX0_atTable 30 = .ok (.invokevirtual 170, 3) := dk_182 0 170 (dk_at dksX0_atTable_1 6 rfl rfl)
theorem dX0_atTable_33 : decode cX0_atTable 33 = .ok (.istore 7, 2) := dk_54 7 (dk_at dksX0_atTable_1 9 rfl rfl)
theorem dX0_atTable_35 : decode cX0_atTable 35 = .ok (.iload 4, 2) := dk_21 4 (dk_at dksX0_atTable_1 11 rfl rfl)
theorem dX0_atTable_37 : decode cX0_atTable 37 = .ok (.iconst 1, 1) := dk_4 (dk_at dksX0_atTable_1 13 rfl rfl)
theorem dX0_atTable_38 : decode cX0_atTable 38 = .ok (.if_icmp .ne 30, 3) := dk_160 0 30 (dk_at dksX0_atTable_1 14 rfl rfl)
theorem dX0_atTable_41 : decode cX0_atTable 41 = .ok (.iload_n 2, 1) := dk_28 (dk_at dksX0_atTable_1 17 rfl rfl)
theorem dX0_atTable_42 : decode cX0_atTable 42 = .ok (.iload_n 1, 1) := dk_27 (dk_at dksX0_atTable_1 18 rfl rfl)
theorem dX0_atTable_43 : decode cX0_atTable 43 = .ok (.if_icmp .ne 9, 3) := dk_160 0 9 (dk_at dksX0_atTable_1 19 rfl rfl)
theorem dX0_atTable_46 : decode cX0_atTable 46 = .ok (.iload 7, 2) := dk_21 7 (dk_at dksX0_atTable_1 22 rfl rfl)
theorem dX0_atTable_48 : decode cX0_atTable 48 = .ok (.i2l, 1) := dk_133 (dk_at dksX0_atTable_2 0 rfl rfl)
theorem dX0_atTable_49 : decode cX0_atTable 49 = .ok (.goto 18, 3) := dk_167 0 18 (dk_at dksX0_atTable_2 1 rfl rfl)
theorem dX0_atTable_52 : decode cX0_atTable 52 = .ok (.iload_n 3, 1) := dk_29 (dk_at dksX0_atTable_2 4 rfl rfl)
theorem dX0_atTable_53 : decode cX0_atTable 53 = .ok (.iload_n 1, 1) := dk_27 (dk_at dksX0_atTable_2 5 rfl rfl)
theorem dX0_atTable_54 : decode cX0_atTable 54 = .ok (.if_icmp .ne 12, 3) := dk_160 0 12 (dk_at dksX0_atTable_2 6 rfl rfl)
theorem dX0_atTable_57 : decode cX0_atTable 57 = .ok (.bipush 10, 2) := dk_16 10 (dk_at dksX0_atTable_2 9 rfl rfl)
theorem dX0_atTable_59 : decode cX0_atTable 59 = .ok (.iload 7, 2) := dk_21 7 (dk_at dksX0_atTable_2 11 rfl rfl)
theorem dX0_atTable_61 : decode cX0_atTable 61 = .ok (.isub, 1) := dk_100 (dk_at dksX0_atTable_2 13 rfl rfl)
theorem dX0_atTable_62 : decode cX0_atTable 62 = .ok (.i2l, 1) := dk_133 (dk_at dksX0_atTable_2 14 rfl rfl)
theorem dX0_atTable_63 : decode cX0_atTable 63 = .ok (.goto 4, 3) := dk_167 0 4 (dk_at dksX0_atTable_2 15 rfl rfl)
theorem dX0_atTable_66 : decode cX0_atTable 66 = .ok (.lconst 0, 1) := dk_9 (dk_at dksX0_atTable_2 18 rfl rfl)
theorem dX0_atTable_67 : decode cX0_atTable 67 = .ok (.lreturn, 1) := dk_173 (dk_at dksX0_atTable_2 19 rfl rfl)
theorem dX0_atTable_68 : decode cX0_atTable 68 = .ok (.iload 7, 2) := dk_21 7 (dk_at dksX0_atTable_2 20 rfl rfl)
theorem dX0_atTable_70 : decode cX0_atTable 70 = .ok (.i2l, 1) := dk_133 (dk_at dksX0_atTable_2 22 rfl rfl)
theorem dX0_atTable_71 : decode cX0_atTable 71 = .ok (.aload_n 0, 1) := dk_42 (dk_at dksX0_atTable_2 23 rfl rfl)
theorem dX0_atTable_72 : decode cX0_atTable 72 = .ok (.iload_n 1, 1) := dk_27 (dk_at dksX0_atTable_3 0 rfl rfl)
theorem dX0_atTable_73 : decode cX0_atTable 73 = .ok (.iload_n 2, 1) := dk_28 (dk_at dksX0_atTable_3 1 rfl rfl)
theorem dX0_atTable_74 : decode cX0_atTable 74 = .ok (.iload_n 3, 1) := dk_29 (dk_at dksX0_atTable_3 2 rfl rfl)
theorem dX0_atTable_75 : decode cX0_atTable 75 = .ok (.iload 4, 2) := dk_21 4 (dk_at dksX0_atTable_3 3 rfl rfl)
theorem dX0_atTable_77 : decode cX0_atTable 77 = .ok (.invokevirtual 272, 3) := dk_182 1 16 (dk_at dksX0_atTable_3 5 rfl rfl)
theorem dX0_atTable_80 : decode cX0_atTable 80 = .ok (.lmul, 1) := dk_105 (dk_at dksX0_atTable_3 8 rfl rfl)
theorem dX0_atTable_81 : decode cX0_atTable 81 = .ok (.bipush 10, 2) := dk_16 10 (dk_at dksX0_atTable_3 9 rfl rfl)
theorem dX0_atTable_83 : decode cX0_atTable 83 = .ok (.iload 7, 2) := dk_21 7 (dk_at dksX0_atTable_3 11 rfl rfl)
theorem dX0_atTable_85 : decode cX0_atTable 85 = .ok (.isub, 1) := dk_100 (dk_at dksX0_atTable_3 13 rfl rfl)
theorem dX0_atTable_86 : decode cX0_atTable 86 = .ok (.i2l, 1) := dk_133 (dk_at dksX0_atTable_3 14 rfl rfl)
theorem dX0_atTable_87 : decode cX0_atTable 87 = .ok (.aload_n 0, 1) := dk_42 (dk_at dksX0_atTable_3 15 rfl rfl)
theorem dX0_atTable_88 : decode cX0_atTable 88 = .ok (.iload_n 1, 1) := dk_27 (dk_at dksX0_atTable_3 16 rfl rfl)
theorem dX0_atTable_89 : decode cX0_atTable 89 = .ok (.iload_n 3, 1) := dk_29 (dk_at dksX0_atTable_3 17 rfl rfl)
theorem dX0_atTable_90 : decode cX0_atTable 90 = .ok (.iload_n 2, 1) := dk_28 (dk_at dksX0_atTable_3 18 rfl rfl)
theorem dX0_atTable_91 : decode cX0_atTable 91 = .ok (.iload 4, 2) := dk_21 4 (dk_at dksX0_atTable_3 19 rfl rfl)
theorem dX0_atTable_93 : decode cX0_atTable 93 = .ok (.invokevirtual 272, 3) := dk_182 1 16 (dk_at dksX0_atTable_3 21 rfl rfl)
theorem dX0_atTable_96 : decode cX0_atTable 96 = .ok (.lmul, 1) := dk_105 (dk_at dksX0_atTable_4 0 rfl rfl)
theorem dX0_atTable_97 : decode cX0_atTable 97 = .ok (.ladd, 1) := dk_97 (dk_at dksX0_atTable_4 1 rfl rfl)
theorem dX0_atTable_98 : decode cX0_atTable 98 = .ok (.lreturn, 1) := dk_173 (dk_at dksX0_atTable_4 2 rfl rfl)
abbrev cX0_behind : ByteArray := prog_1_method_42_code
def yX0_behind : MethodName := ⟨RX0, "behind", "(IIII)J"⟩
def dkwX0_behind_6 : List UInt8 := [180, 0, 98, 4, 100, 181, 0, 98, 22, 11, 173]
abbrev dktX0_behind_6 : List UInt8 := dkwX0_behind_6 ++ []
def dkwX0_behind_5 : List UInt8 := [42, 180, 0, 59, 3, 21, 10, 79, 25, 5, 21, 7, 181, 0, 156, 25, 6, 21, 8, 181, 0, 156, 42, 89]
abbrev dktX0_behind_5 : List UInt8 := dkwX0_behind_5 ++ dktX0_behind_6
def dkwX0_behind_4 : List UInt8 := [21, 4, 4, 100, 182, 1, 20, 55, 11, 42, 180, 0, 59, 3, 42, 180, 0, 59, 4, 21, 9, 184, 0, 242]
abbrev dktX0_behind_4 : List UInt8 := dkwX0_behind_4 ++ dktX0_behind_5
def dkwX0_behind_3 : List UInt8 := [46, 54, 10, 42, 180, 0, 59, 4, 42, 180, 0, 59, 3, 21, 9, 184, 0, 242, 42, 27, 28, 21, 10]
abbrev dktX0_behind_3 : List UInt8 := dkwX0_behind_3 ++ dktX0_behind_4
def dkwX0_behind_2 : List UInt8 := [42, 180, 0, 45, 182, 0, 107, 5, 100, 54, 9, 42, 180, 0, 59, 21, 9, 29, 79, 42, 180, 0, 59, 3]
abbrev dktX0_behind_2 : List UInt8 := dkwX0_behind_2 ++ dktX0_behind_3
def dkwX0_behind_1 : List UInt8 := [58, 6, 25, 5, 180, 0, 156, 54, 7, 25, 6, 180, 0, 156, 54, 8, 42, 25, 5, 25, 6, 182, 0, 182]
abbrev dktX0_behind_1 : List UInt8 := dkwX0_behind_1 ++ dktX0_behind_2
def dkwX0_behind_0 : List UInt8 := [42, 180, 0, 45, 28, 182, 0, 111, 192, 0, 115, 58, 5, 42, 180, 0, 45, 29, 182, 0, 111, 192, 0, 115]
abbrev dktX0_behind_0 : List UInt8 := dkwX0_behind_0 ++ dktX0_behind_1
theorem dksX0_behind_0 : cX0_behind.data.toList.drop 0 = dktX0_behind_0 := by decide +kernel
theorem dksX0_behind_1 : cX0_behind.data.toList.drop 24 = dktX0_behind_1 := dk_seg dksX0_behind_0 24 rfl rfl
theorem dksX0_behind_2 : cX0_behind.data.toList.drop 48 = dktX0_behind_2 := dk_seg dksX0_behind_1 24 rfl rfl
theorem dksX0_behind_3 : cX0_behind.data.toList.drop 72 = dktX0_behind_3 := dk_seg dksX0_behind_2 24 rfl rfl
theorem dksX0_behind_4 : cX0_behind.data.toList.drop 95 = dktX0_behind_4 := dk_seg dksX0_behind_3 23 rfl rfl
theorem dksX0_behind_5 : cX0_behind.data.toList.drop 119 = dktX0_behind_5 := dk_seg dksX0_behind_4 24 rfl rfl
theorem dksX0_behind_6 : cX0_behind.data.toList.drop 143 = dktX0_behind_6 := dk_seg dksX0_behind_5 24 rfl rfl
theorem dX0_behind_0 : decode cX0_behind 0 = .ok (.aload_n 0, 1) := dk_42 (dk_at dksX0_behind_0 0 rfl rfl)
theorem dX0_behind_1 : decode cX0_behind 1 = .ok (.getfield 45, 3) := dk_180 0 45 (dk_at dksX0_behind_0 1 rfl rfl)
theorem dX0_behind_4 : decode cX0_behind 4 = .ok (.iload_n 2, 1) := dk_28 (dk_at dksX0_behind_0 4 rfl rfl)
theorem dX0_behind_5 : decode cX0_behind 5 = .ok (.invokevirtual 111, 3) := dk_182 0 111 (dk_at dksX0_behind_0 5 rfl rfl)
theorem dX0_behind_8 : decode cX0_behind 8 = .ok (.checkcast 115, 3) := dk_192 0 115 (dk_at dksX0_behind_0 8 rfl rfl)
theorem dX0_behind_11 : decode cX0_behind 11 = .ok (.astore 5, 2) := dk_58 5 (dk_at dksX0_behind_0 11 rfl rfl)
theorem dX0_behind_13 : decode cX0_behind 13 = .ok (.aload_n 0, 1) := dk_42 (dk_at dksX0_behind_0 13 rfl rfl)
theorem dX0_behind_14 : decode cX0_behind 14 = .ok (.getfield 45, 3) := dk_180 0 45 (dk_at dksX0_behind_0 14 rfl rfl)
theorem dX0_behind_17 : decode cX0_behind 17 = .ok (.iload_n 3, 1) := dk_29 (dk_at dksX0_behind_0 17 rfl rfl)
theorem dX0_behind_18 : decode cX0_behind 18 = .ok (.invokevirtual 111, 3) := dk_182 0 111 (dk_at dksX0_behind_0 18 rfl rfl)
theorem dX0_behind_21 : decode cX0_behind 21 = .ok (.checkcast 115, 3) := dk_192 0 115 (dk_at dksX0_behind_0 21 rfl rfl)
theorem dX0_behind_24 : decode cX0_behind 24 = .ok (.astore 6, 2) := dk_58 6 (dk_at dksX0_behind_1 0 rfl rfl)
theorem dX0_behind_26 : decode cX0_behind 26 = .ok (.aload 5, 2) := dk_25 5 (dk_at dksX0_behind_1 2 rfl rfl)
theorem dX0_behind_28 : decode cX0_behind 28 = .ok (.getfield 156, 3) := dk_180 0 156 (dk_at dksX0_behind_1 4 rfl rfl)
theorem dX0_behind_31 : decode cX0_behind 31 = .ok (.istore 7, 2) := dk_54 7 (dk_at dksX0_behind_1 7 rfl rfl)
theorem dX0_behind_33 : decode cX0_behind 33 = .ok (.aload 6, 2) := dk_25 6 (dk_at dksX0_behind_1 9 rfl rfl)
theorem dX0_behind_35 : decode cX0_behind 35 = .ok (.getfield 156, 3) := dk_180 0 156 (dk_at dksX0_behind_1 11 rfl rfl)
theorem dX0_behind_38 : decode cX0_behind 38 = .ok (.istore 8, 2) := dk_54 8 (dk_at dksX0_behind_1 14 rfl rfl)
theorem dX0_behind_40 : decode cX0_behind 40 = .ok (.aload_n 0, 1) := dk_42 (dk_at dksX0_behind_1 16 rfl rfl)
theorem dX0_behind_41 : decode cX0_behind 41 = .ok (.aload 5, 2) := dk_25 5 (dk_at dksX0_behind_1 17 rfl rfl)
theorem dX0_behind_43 : decode cX0_behind 43 = .ok (.aload 6, 2) := dk_25 6 (dk_at dksX0_behind_1 19 rfl rfl)
theorem dX0_behind_45 : decode cX0_behind 45 = .ok (.invokevirtual 182, 3) := dk_182 0 182 (dk_at dksX0_behind_1 21 rfl rfl)
theorem dX0_behind_48 : decode cX0_behind 48 = .ok (.aload_n 0, 1) := dk_42 (dk_at dksX0_behind_2 0 rfl rfl)
theorem dX0_behind_49 : decode cX0_behind 49 = .ok (.getfield 45, 3) := dk_180 0 45 (dk_at dksX0_behind_2 1 rfl rfl)
theorem dX0_behind_52 : decode cX0_behind 52 = .ok (.invokevirtual 107, 3) := dk_182 0 107 (dk_at dksX0_behind_2 4 rfl rfl)
theorem dX0_behind_55 : decode cX0_behind 55 = .ok (.iconst 2, 1) := dk_5 (dk_at dksX0_behind_2 7 rfl rfl)
theorem dX0_behind_56 : decode cX0_behind 56 = .ok (.isub, 1) := dk_100 (dk_at dksX0_behind_2 8 rfl rfl)
theorem dX0_behind_57 : decode cX0_behind 57 = .ok (.istore 9, 2) := dk_54 9 (dk_at dksX0_behind_2 9 rfl rfl)
theorem dX0_behind_59 : decode cX0_behind 59 = .ok (.aload_n 0, 1) := dk_42 (dk_at dksX0_behind_2 11 rfl rfl)
theorem dX0_behind_60 : decode cX0_behind 60 = .ok (.getfield 59, 3) := dk_180 0 59 (dk_at dksX0_behind_2 12 rfl rfl)
theorem dX0_behind_63 : decode cX0_behind 63 = .ok (.iload 9, 2) := dk_21 9 (dk_at dksX0_behind_2 15 rfl rfl)
theorem dX0_behind_65 : decode cX0_behind 65 = .ok (.iload_n 3, 1) := dk_29 (dk_at dksX0_behind_2 17 rfl rfl)
theorem dX0_behind_66 : decode cX0_behind 66 = .ok (.iastore, 1) := dk_79 (dk_at dksX0_behind_2 18 rfl rfl)
theorem dX0_behind_67 : decode cX0_behind 67 = .ok (.aload_n 0, 1) := dk_42 (dk_at dksX0_behind_2 19 rfl rfl)
theorem dX0_behind_68 : decode cX0_behind 68 = .ok (.getfield 59, 3) := dk_180 0 59 (dk_at dksX0_behind_2 20 rfl rfl)
theorem dX0_behind_71 : decode cX0_behind 71 = .ok (.iconst 0, 1) := dk_3 (dk_at dksX0_behind_2 23 rfl rfl)
theorem dX0_behind_72 : decode cX0_behind 72 = .ok (.iaload, 1) := dk_46 (dk_at dksX0_behind_3 0 rfl rfl)
theorem dX0_behind_73 : decode cX0_behind 73 = .ok (.istore 10, 2) := dk_54 10 (dk_at dksX0_behind_3 1 rfl rfl)
theorem dX0_behind_75 : decode cX0_behind 75 = .ok (.aload_n 0, 1) := dk_42 (dk_at dksX0_behind_3 3 rfl rfl)
theorem dX0_behind_76 : decode cX0_behind 76 = .ok (.getfield 59, 3) := dk_180 0 59 (dk_at dksX0_behind_3 4 rfl rfl)
theorem dX0_behind_79 : decode cX0_behind 79 = .ok (.iconst 1, 1) := dk_4 (dk_at dksX0_behind_3 7 rfl rfl)
theorem dX0_behind_80 : decode cX0_behind 80 = .ok (.aload_n 0, 1) := dk_42 (dk_at dksX0_behind_3 8 rfl rfl)
theorem dX0_behind_81 : decode cX0_behind 81 = .ok (.getfield 59, 3) := dk_180 0 59 (dk_at dksX0_behind_3 9 rfl rfl)
theorem dX0_behind_84 : decode cX0_behind 84 = .ok (.iconst 0, 1) := dk_3 (dk_at dksX0_behind_3 12 rfl rfl)
theorem dX0_behind_85 : decode cX0_behind 85 = .ok (.iload 9, 2) := dk_21 9 (dk_at dksX0_behind_3 13 rfl rfl)
theorem dX0_behind_87 : decode cX0_behind 87 = .ok (.invokestatic 242, 3) := dk_184 0 242 (dk_at dksX0_behind_3 15 rfl rfl)
theorem dX0_behind_90 : decode cX0_behind 90 = .ok (.aload_n 0, 1) := dk_42 (dk_at dksX0_behind_3 18 rfl rfl)
theorem dX0_behind_91 : decode cX0_behind 91 = .ok (.iload_n 1, 1) := dk_27 (dk_at dksX0_behind_3 19 rfl rfl)
theorem dX0_behind_92 : decode cX0_behind 92 = .ok (.iload_n 2, 1) := dk_28 (dk_at dksX0_behind_3 20 rfl rfl)
theorem dX0_behind_93 : decode cX0_behind 93 = .ok (.iload 10, 2) := dk_21 10 (dk_at dksX0_behind_3 21 rfl rfl)
theorem dX0_behind_95 : decode cX0_behind 95 = .ok (.iload 4, 2) := dk_21 4 (dk_at dksX0_behind_4 0 rfl rfl)
theorem dX0_behind_97 : decode cX0_behind 97 = .ok (.iconst 1, 1) := dk_4 (dk_at dksX0_behind_4 2 rfl rfl)
theorem dX0_behind_98 : decode cX0_behind 98 = .ok (.isub, 1) := dk_100 (dk_at dksX0_behind_4 3 rfl rfl)
theorem dX0_behind_99 : decode cX0_behind 99 = .ok (.invokevirtual 276, 3) := dk_182 1 20 (dk_at dksX0_behind_4 4 rfl rfl)
theorem dX0_behind_102 : decode cX0_behind 102 = .ok (.lstore 11, 2) := dk_55 11 (dk_at dksX0_behind_4 7 rfl rfl)
theorem dX0_behind_104 : decode cX0_behind 104 = .ok (.aload_n 0, 1) := dk_42 (dk_at dksX0_behind_4 9 rfl rfl)
theorem dX0_behind_105 : decode cX0_behind 105 = .ok (.getfield 59, 3) := dk_180 0 59 (dk_at dksX0_behind_4 10 rfl rfl)
theorem dX0_behind_108 : decode cX0_behind 108 = .ok (.iconst 0, 1) := dk_3 (dk_at dksX0_behind_4 13 rfl rfl)
theorem dX0_behind_109 : decode cX0_behind 109 = .ok (.aload_n 0, 1) := dk_42 (dk_at dksX0_behind_4 14 rfl rfl)
theorem dX0_behind_110 : decode cX0_behind 110 = .ok (.getfield 59, 3) := dk_180 0 59 (dk_at dksX0_behind_4 15 rfl rfl)
theorem dX0_behind_113 : decode cX0_behind 113 = .ok (.iconst 1, 1) := dk_4 (dk_at dksX0_behind_4 18 rfl rfl)
theorem dX0_behind_114 : decode cX0_behind 114 = .ok (.iload 9, 2) := dk_21 9 (dk_at dksX0_behind_4 19 rfl rfl)
theorem dX0_behind_116 : decode cX0_behind 116 = .ok (.invokestatic 242, 3) := dk_184 0 242 (dk_at dksX0_behind_4 21 rfl rfl)
theorem dX0_behind_119 : decode cX0_behind 119 = .ok (.aload_n 0, 1) := dk_42 (dk_at dksX0_behind_5 0 rfl rfl)
theorem dX0_behind_120 : decode cX0_behind 120 = .ok (.getfield 59, 3) := dk_180 0 59 (dk_at dksX0_behind_5 1 rfl rfl)
theorem dX0_behind_123 : decode cX0_behind 123 = .ok (.iconst 0, 1) := dk_3 (dk_at dksX0_behind_5 4 rfl rfl)
theorem dX0_behind_124 : decode cX0_behind 124 = .ok (.iload 10, 2) := dk_21 10 (dk_at dksX0_behind_5 5 rfl rfl)
theorem dX0_behind_126 : decode cX0_behind 126 = .ok (.iastore, 1) := dk_79 (dk_at dksX0_behind_5 7 rfl rfl)
theorem dX0_behind_127 : decode cX0_behind 127 = .ok (.aload 5, 2) := dk_25 5 (dk_at dksX0_behind_5 8 rfl rfl)
theorem dX0_behind_129 : decode cX0_behind 129 = .ok (.iload 7, 2) := dk_21 7 (dk_at dksX0_behind_5 10 rfl rfl)
theorem dX0_behind_131 : decode cX0_behind 131 = .ok (.putfield 156, 3) := dk_181 0 156 (dk_at dksX0_behind_5 12 rfl rfl)
theorem dX0_behind_134 : decode cX0_behind 134 = .ok (.aload 6, 2) := dk_25 6 (dk_at dksX0_behind_5 15 rfl rfl)
theorem dX0_behind_136 : decode cX0_behind 136 = .ok (.iload 8, 2) := dk_21 8 (dk_at dksX0_behind_5 17 rfl rfl)
theorem dX0_behind_138 : decode cX0_behind 138 = .ok (.putfield 156, 3) := dk_181 0 156 (dk_at dksX0_behind_5 19 rfl rfl)
theorem dX0_behind_141 : decode cX0_behind 141 = .ok (.aload_n 0, 1) := dk_42 (dk_at dksX0_behind_5 22 rfl rfl)
theorem dX0_behind_142 : decode cX0_behind 142 = .ok (.dup, 1) := dk_89 (dk_at dksX0_behind_5 23 rfl rfl)
theorem dX0_behind_143 : decode cX0_behind 143 = .ok (.getfield 98, 3) := dk_180 0 98 (dk_at dksX0_behind_6 0 rfl rfl)
theorem dX0_behind_146 : decode cX0_behind 146 = .ok (.iconst 1, 1) := dk_4 (dk_at dksX0_behind_6 3 rfl rfl)
theorem dX0_behind_147 : decode cX0_behind 147 = .ok (.isub, 1) := dk_100 (dk_at dksX0_behind_6 4 rfl rfl)
theorem dX0_behind_148 : decode cX0_behind 148 = .ok (.putfield 98, 3) := dk_181 0 98 (dk_at dksX0_behind_6 5 rfl rfl)
theorem dX0_behind_151 : decode cX0_behind 151 = .ok (.lload 11, 2) := dk_22 11 (dk_at dksX0_behind_6 8 rfl rfl)
theorem dX0_behind_153 : decode cX0_behind 153 = .ok (.lreturn, 1) := dk_173 (dk_at dksX0_behind_6 10 rfl rfl)
abbrev cX0_book : ByteArray := prog_1_method_44_code
def yX0_book : MethodName := ⟨RX0, "book", "(IIZ)I"⟩
def dkwX0_book_3 : List UInt8 := [84, 42, 89, 180, 1, 23, 4, 96, 181, 1, 23, 42, 180, 1, 23, 172]
abbrev dktX0_book_3 : List UInt8 := dkwX0_book_3 ++ []
def dkwX0_book_2 : List UInt8 := [180, 1, 23, 27, 79, 42, 180, 0, 65, 42, 180, 1, 23, 28, 79, 42, 180, 0, 74, 42, 180, 1, 23, 29]
abbrev dktX0_book_2 : List UInt8 := dkwX0_book_2 ++ dktX0_book_3
def dkwX0_book_1 : List UInt8 := [28, 160, 0, 6, 16, 254, 172, 42, 180, 1, 23, 16, 8, 160, 0, 6, 16, 252, 172, 42, 180, 0, 62, 42]
abbrev dktX0_book_1 : List UInt8 := dkwX0_book_1 ++ dktX0_book_2
def dkwX0_book_0 : List UInt8 := [27, 2, 160, 0, 10, 42, 3, 181, 1, 23, 3, 172, 42, 27, 28, 182, 0, 162, 154, 0, 5, 2, 172, 27]
abbrev dktX0_book_0 : List UInt8 := dkwX0_book_0 ++ dktX0_book_1
theorem dksX0_book_0 : cX0_book.data.toList.drop 0 = dktX0_book_0 := by decide +kernel
theorem dksX0_book_1 : cX0_book.data.toList.drop 24 = dktX0_book_1 := dk_seg dksX0_book_0 24 rfl rfl
theorem dksX0_book_2 : cX0_book.data.toList.drop 48 = dktX0_book_2 := dk_seg dksX0_book_1 24 rfl rfl
theorem dksX0_book_3 : cX0_book.data.toList.drop 72 = dktX0_book_3 := dk_seg dksX0_book_2 24 rfl rfl
theorem dX0_book_0 : decode cX0_book 0 = .ok (.iload_n 1, 1) := dk_27 (dk_at dksX0_book_0 0 rfl rfl)
theorem dX0_book_1 : decode cX0_book 1 = .ok (.iconst (-1), 1) := dk_2 (dk_at dksX0_book_0 1 rfl rfl)
theorem dX0_book_2 : decode cX0_book 2 = .ok (.if_icmp .ne 10, 3) := dk_160 0 10 (dk_at dksX0_book_0 2 rfl rfl)
theorem dX0_book_5 : decode cX0_book 5 = .ok (.aload_n 0, 1) := dk_42 (dk_at dksX0_book_0 5 rfl rfl)
theorem dX0_book_6 : decode cX0_book 6 = .ok (.iconst 0, 1) := dk_3 (dk_at dksX0_book_0 6 rfl rfl)
theorem dX0_book_7 : decode cX0_book 7 = .ok (.putfield 279, 3) := dk_181 1 23 (dk_at dksX0_book_0 7 rfl rfl)
theorem dX0_book_10 : decode cX0_book 10 = .ok (.iconst 0, 1) := dk_3 (dk_at dksX0_book_0 10 rfl rfl)
theorem dX0_book_11 : decode cX0_book 11 = .ok (.ireturn, 1) := dk_172 (dk_at dksX0_book_0 11 rfl rfl)
theorem dX0_book_12 : decode cX0_book 12 = .ok (.aload_n 0, 1) := dk_42 (dk_at dksX0_book_0 12 rfl rfl)
theorem dX0_book_13 : decode cX0_book 13 = .ok (.iload_n 1, 1) := dk_27 (dk_at dksX0_book_0 13 rfl rfl)
theorem dX0_book_14 : decode cX0_book 14 = .ok (.iload_n 2, 1) := dk_28 (dk_at dksX0_book_0 14 rfl rfl)
theorem dX0_book_15 : decode cX0_book 15 = .ok (.invokevirtual 162, 3) := dk_182 0 162 (dk_at dksX0_book_0 15 rfl rfl)
theorem dX0_book_18 : decode cX0_book 18 = .ok (.ifCond .ne 5, 3) := dk_154 0 5 (dk_at dksX0_book_0 18 rfl rfl)
theorem dX0_book_21 : decode cX0_book 21 = .ok (.iconst (-1), 1) := dk_2 (dk_at dksX0_book_0 21 rfl rfl)
theorem dX0_book_22 : decode cX0_book 22 = .ok (.ireturn, 1) := dk_172 (dk_at dksX0_book_0 22 rfl rfl)
theorem dX0_book_23 : decode cX0_book 23 = .ok (.iload_n 1, 1) := dk_27 (dk_at dksX0_book_0 23 rfl rfl)
theorem dX0_book_24 : decode cX0_book 24 = .ok (.iload_n 2, 1) := dk_28 (dk_at dksX0_book_1 0 rfl rfl)
theorem dX0_book_25 : decode cX0_book 25 = .ok (.if_icmp .ne 6, 3) := dk_160 0 6 (dk_at dksX0_book_1 1 rfl rfl)
theorem dX0_book_28 : decode cX0_book 28 = .ok (.bipush (-2), 2) := dk_16 254 (dk_at dksX0_book_1 4 rfl rfl)
theorem dX0_book_30 : decode cX0_book 30 = .ok (.ireturn, 1) := dk_172 (dk_at dksX0_book_1 6 rfl rfl)
theorem dX0_book_31 : decode cX0_book 31 = .ok (.aload_n 0, 1) := dk_42 (dk_at dksX0_book_1 7 rfl rfl)
theorem dX0_book_32 : decode cX0_book 32 = .ok (.getfield 279, 3) := dk_180 1 23 (dk_at dksX0_book_1 8 rfl rfl)
theorem dX0_book_35 : decode cX0_book 35 = .ok (.bipush 8, 2) := dk_16 8 (dk_at dksX0_book_1 11 rfl rfl)
theorem dX0_book_37 : decode cX0_book 37 = .ok (.if_icmp .ne 6, 3) := dk_160 0 6 (dk_at dksX0_book_1 13 rfl rfl)
theorem dX0_book_40 : decode cX0_book 40 = .ok (.bipush (-4), 2) := dk_16 252 (dk_at dksX0_book_1 16 rfl rfl)
theorem dX0_book_42 : decode cX0_book 42 = .ok (.ireturn, 1) := dk_172 (dk_at dksX0_book_1 18 rfl rfl)
theorem dX0_book_43 : decode cX0_book 43 = .ok (.aload_n 0, 1) := dk_42 (dk_at dksX0_book_1 19 rfl rfl)
theorem dX0_book_44 : decode cX0_book 44 = .ok (.getfield 62, 3) := dk_180 0 62 (dk_at dksX0_book_1 20 rfl rfl)
theorem dX0_book_47 : decode cX0_book 47 = .ok (.aload_n 0, 1) := dk_42 (dk_at dksX0_book_1 23 rfl rfl)
theorem dX0_book_48 : decode cX0_book 48 = .ok (.getfield 279, 3) := dk_180 1 23 (dk_at dksX0_book_2 0 rfl rfl)
theorem dX0_book_51 : decode cX0_book 51 = .ok (.iload_n 1, 1) := dk_27 (dk_at dksX0_book_2 3 rfl rfl)
theorem dX0_book_52 : decode cX0_book 52 = .ok (.iastore, 1) := dk_79 (dk_at dksX0_book_2 4 rfl rfl)
theorem dX0_book_53 : decode cX0_book 53 = .ok (.aload_n 0, 1) := dk_42 (dk_at dksX0_book_2 5 rfl rfl)
theorem dX0_book_54 : decode cX0_book 54 = .ok (.getfield 65, 3) := dk_180 0 65 (dk_at dksX0_book_2 6 rfl rfl)
theorem dX0_book_57 : decode cX0_book 57 = .ok (.aload_n 0, 1) := dk_42 (dk_at dksX0_book_2 9 rfl rfl)
theorem dX0_book_58 : decode cX0_book 58 = .ok (.getfield 279, 3) := dk_180 1 23 (dk_at dksX0_book_2 10 rfl rfl)
theorem dX0_book_61 : decode cX0_book 61 = .ok (.iload_n 2, 1) := dk_28 (dk_at dksX0_book_2 13 rfl rfl)
theorem dX0_book_62 : decode cX0_book 62 = .ok (.iastore, 1) := dk_79 (dk_at dksX0_book_2 14 rfl rfl)
theorem dX0_book_63 : decode cX0_book 63 = .ok (.aload_n 0, 1) := dk_42 (dk_at dksX0_book_2 15 rfl rfl)
theorem dX0_book_64 : decode cX0_book 64 = .ok (.getfield 74, 3) := dk_180 0 74 (dk_at dksX0_book_2 16 rfl rfl)
theorem dX0_book_67 : decode cX0_book 67 = .ok (.aload_n 0, 1) := dk_42 (dk_at dksX0_book_2 19 rfl rfl)
theorem dX0_book_68 : decode cX0_book 68 = .ok (.getfield 279, 3) := dk_180 1 23 (dk_at dksX0_book_2 20 rfl rfl)
theorem dX0_book_71 : decode cX0_book 71 = .ok (.iload_n 3, 1) := dk_29 (dk_at dksX0_book_2 23 rfl rfl)
theorem dX0_book_72 : decode cX0_book 72 = .ok (.bastore, 1) := dk_84 (dk_at dksX0_book_3 0 rfl rfl)
theorem dX0_book_73 : decode cX0_book 73 = .ok (.aload_n 0, 1) := dk_42 (dk_at dksX0_book_3 1 rfl rfl)
theorem dX0_book_74 : decode cX0_book 74 = .ok (.dup, 1) := dk_89 (dk_at dksX0_book_3 2 rfl rfl)
theorem dX0_book_75 : decode cX0_book 75 = .ok (.getfield 279, 3) := dk_180 1 23 (dk_at dksX0_book_3 3 rfl rfl)
theorem dX0_book_78 : decode cX0_book 78 = .ok (.iconst 1, 1) := dk_4 (dk_at dksX0_book_3 6 rfl rfl)
theorem dX0_book_79 : decode cX0_book 79 = .ok (.iadd, 1) := dk_96 (dk_at dksX0_book_3 7 rfl rfl)
theorem dX0_book_80 : decode cX0_book 80 = .ok (.putfield 279, 3) := dk_181 1 23 (dk_at dksX0_book_3 8 rfl rfl)
theorem dX0_book_83 : decode cX0_book 83 = .ok (.aload_n 0, 1) := dk_42 (dk_at dksX0_book_3 11 rfl rfl)
theorem dX0_book_84 : decode cX0_book 84 = .ok (.getfield 279, 3) := dk_180 1 23 (dk_at dksX0_book_3 12 rfl rfl)
theorem dX0_book_87 : decode cX0_book 87 = .ok (.ireturn, 1) := dk_172 (dk_at dksX0_book_3 15 rfl rfl)
abbrev cX0_likely : ByteArray := prog_1_method_49_code
def yX0_likely : MethodName := ⟨RX0, "likely", "(I)I"⟩
def dkwX0_likely_3 : List UInt8 := [29, 181, 0, 153, 21, 4, 172]
abbrev dktX0_likely_3 : List UInt8 := dkwX0_likely_3 ++ []
def dkwX0_likely_2 : List UInt8 := [22, 5, 148, 157, 0, 6, 167, 0, 11, 21, 7, 54, 4, 22, 8, 55, 5, 132, 7, 1, 167, 255, 215, 44]
abbrev dktX0_likely_2 : List UInt8 := dkwX0_likely_2 ++ dktX0_likely_3
def dkwX0_likely_1 : List UInt8 := [54, 7, 21, 7, 16, 9, 163, 0, 40, 44, 21, 7, 181, 0, 153, 42, 182, 1, 38, 55, 8, 22, 8]
abbrev dktX0_likely_1 : List UInt8 := dkwX0_likely_1 ++ dktX0_likely_2
def dkwX0_likely_0 : List UInt8 := [42, 27, 182, 0, 146, 77, 44, 199, 0, 5, 2, 172, 44, 180, 0, 153, 62, 3, 54, 4, 9, 55, 5, 3]
abbrev dktX0_likely_0 : List UInt8 := dkwX0_likely_0 ++ dktX0_likely_1
theorem dksX0_likely_0 : cX0_likely.data.toList.drop 0 = dktX0_likely_0 := by decide +kernel
theorem dksX0_likely_1 : cX0_likely.data.toList.drop 24 = dktX0_likely_1 := dk_seg dksX0_likely_0 24 rfl rfl
theorem dksX0_likely_2 : cX0_likely.data.toList.drop 47 = dktX0_likely_2 := dk_seg dksX0_likely_1 23 rfl rfl
theorem dksX0_likely_3 : cX0_likely.data.toList.drop 71 = dktX0_likely_3 := dk_seg dksX0_likely_2 24 rfl rfl
theorem dX0_likely_0 : decode cX0_likely 0 = .ok (.aload_n 0, 1) := dk_42 (dk_at dksX0_likely_0 0 rfl rfl)
theorem dX0_likely_1 : decode cX0_likely 1 = .ok (.iload_n 1, 1) := dk_27 (dk_at dksX0_likely_0 1 rfl rfl)
theorem dX0_likely_2 : decode cX0_likely 2 = .ok (.invokevirtual 146, 3) := dk_182 0 146 (dk_at dksX0_likely_0 2 rfl rfl)
theorem dX0_likely_5 : decode cX0_likely 5 = .ok (.astore_n 2, 1) := dk_77 (dk_at dksX0_likely_0 5 rfl rfl)
theorem dX0_likely_6 : decode cX0_likely 6 = .ok (.aload_n 2, 1) := dk_44 (dk_at dksX0_likely_0 6 rfl rfl)
theorem dX0_likely_7 : decode cX0_likely 7 = .ok (.ifnonnull 5, 3) := dk_199 0 5 (dk_at dksX0_likely_0 7 rfl rfl)
theorem dX0_likely_10 : decode cX0_likely 10 = .ok (.iconst (-1), 1) := dk_2 (dk_at dksX0_likely_0 10 rfl rfl)
theorem dX0_likely_11 : decode cX0_likely 11 = .ok (.ireturn, 1) := dk_172 (dk_at dksX0_likely_0 11 rfl rfl)
theorem dX0_likely_12 : decode cX0_likely 12 = .ok (.aload_n 2, 1) := dk_44 (dk_at dksX0_likely_0 12 rfl rfl)
theorem dX0_likely_13 : decode cX0_likely 13 = .ok (.getfield 153, 3) := dk_180 0 153 (dk_at dksX0_likely_0 13 rfl rfl)
theorem dX0_likely_16 : decode cX0_likely 16 = .ok (.istore_n 3, 1) := dk_62 (dk_at dksX0_likely_0 16 rfl rfl)
theorem dX0_likely_17 : decode cX0_likely 17 = .ok (.iconst 0, 1) := dk_3 (dk_at dksX0_likely_0 17 rfl rfl)
theorem dX0_likely_18 : decode cX0_likely 18 = .ok (.istore 4, 2) := dk_54 4 (dk_at dksX0_likely_0 18 rfl rfl)
theorem dX0_likely_20 : decode cX0_likely 20 = .ok (.lconst 0, 1) := dk_9 (dk_at dksX0_likely_0 20 rfl rfl)
theorem dX0_likely_21 : decode cX0_likely 21 = .ok (.lstore 5, 2) := dk_55 5 (dk_at dksX0_likely_0 21 rfl rfl)
theorem dX0_likely_23 : decode cX0_likely 23 = .ok (.iconst 0, 1) := dk_3 (dk_at dksX0_likely_0 23 rfl rfl)
theorem dX0_likely_24 : decode cX0_likely 24 = .ok (.istore 7, 2) := dk_54 7 (dk_at dksX0_likely_1 0 rfl rfl)
theorem dX0_likely_26 : decode cX0_likely 26 = .ok (.iload 7, 2) := dk_21 7 (dk_at dksX0_likely_1 2 rfl rfl)
theorem dX0_likely_28 : decode cX0_likely 28 = .ok (.bipush 9, 2) := dk_16 9 (dk_at dksX0_likely_1 4 rfl rfl)
theorem dX0_likely_30 : decode cX0_likely 30 = .ok (.if_icmp .gt 40, 3) := dk_163 0 40 (dk_at dksX0_likely_1 6 rfl rfl)
theorem dX0_likely_33 : decode cX0_likely 33 = .ok (.aload_n 2, 1) := dk_44 (dk_at dksX0_likely_1 9 rfl rfl)
theorem dX0_likely_34 : decode cX0_likely 34 = .ok (.iload 7, 2) := dk_21 7 (dk_at dksX0_likely_1 10 rfl rfl)
theorem dX0_likely_36 : decode cX0_likely 36 = .ok (.putfield 153, 3) := dk_181 0 153 (dk_at dksX0_likely_1 12 rfl rfl)
theorem dX0_likely_39 : decode cX0_likely 39 = .ok (.aload_n 0, 1) := dk_42 (dk_at dksX0_likely_1 15 rfl rfl)
theorem dX0_likely_40 : decode cX0_likely 40 = .ok (.invokevirtual 294, 3) := dk_182 1 38 (dk_at dksX0_likely_1 16 rfl rfl)
theorem dX0_likely_43 : decode cX0_likely 43 = .ok (.lstore 8, 2) := dk_55 8 (dk_at dksX0_likely_1 19 rfl rfl)
theorem dX0_likely_45 : decode cX0_likely 45 = .ok (.lload 8, 2) := dk_22 8 (dk_at dksX0_likely_1 21 rfl rfl)
theorem dX0_likely_47 : decode cX0_likely 47 = .ok (.lload 5, 2) := dk_22 5 (dk_at dksX0_likely_2 0 rfl rfl)
theorem dX0_likely_49 : decode cX0_likely 49 = .ok (.lcmp, 1) := dk_148 (dk_at dksX0_likely_2 2 rfl rfl)
theorem dX0_likely_50 : decode cX0_likely 50 = .ok (.ifCond .gt 6, 3) := dk_157 0 6 (dk_at dksX0_likely_2 3 rfl rfl)
theorem dX0_likely_53 : decode cX0_likely 53 = .ok (.goto 11, 3) := dk_167 0 11 (dk_at dksX0_likely_2 6 rfl rfl)
theorem dX0_likely_56 : decode cX0_likely 56 = .ok (.iload 7, 2) := dk_21 7 (dk_at dksX0_likely_2 9 rfl rfl)
theorem dX0_likely_58 : decode cX0_likely 58 = .ok (.istore 4, 2) := dk_54 4 (dk_at dksX0_likely_2 11 rfl rfl)
theorem dX0_likely_60 : decode cX0_likely 60 = .ok (.lload 8, 2) := dk_22 8 (dk_at dksX0_likely_2 13 rfl rfl)
theorem dX0_likely_62 : decode cX0_likely 62 = .ok (.lstore 5, 2) := dk_55 5 (dk_at dksX0_likely_2 15 rfl rfl)
theorem dX0_likely_64 : decode cX0_likely 64 = .ok (.iinc 7 1, 3) := dk_132 7 1 (dk_at dksX0_likely_2 17 rfl rfl)
theorem dX0_likely_67 : decode cX0_likely 67 = .ok (.goto (-41), 3) := dk_167 255 215 (dk_at dksX0_likely_2 20 rfl rfl)
theorem dX0_likely_70 : decode cX0_likely 70 = .ok (.aload_n 2, 1) := dk_44 (dk_at dksX0_likely_2 23 rfl rfl)
theorem dX0_likely_71 : decode cX0_likely 71 = .ok (.iload_n 3, 1) := dk_29 (dk_at dksX0_likely_3 0 rfl rfl)
theorem dX0_likely_72 : decode cX0_likely 72 = .ok (.putfield 153, 3) := dk_181 0 153 (dk_at dksX0_likely_3 1 rfl rfl)
theorem dX0_likely_75 : decode cX0_likely 75 = .ok (.iload 4, 2) := dk_21 4 (dk_at dksX0_likely_3 4 rfl rfl)
theorem dX0_likely_77 : decode cX0_likely 77 = .ok (.ireturn, 1) := dk_172 (dk_at dksX0_likely_3 6 rfl rfl)
abbrev cX0_bookOdds : ByteArray := prog_1_method_48_code
def yX0_bookOdds : MethodName := ⟨RX0, "bookOdds", "()J"⟩
def dkwX0_bookOdds_1 : List UInt8 := [64, 132, 3, 1, 167, 255, 236, 42, 182, 1, 35, 31, 173]
abbrev dktX0_bookOdds_1 : List UInt8 := dkwX0_bookOdds_1 ++ []
def dkwX0_bookOdds_0 : List UInt8 := [10, 64, 42, 182, 1, 29, 3, 62, 29, 42, 180, 1, 23, 162, 0, 18, 31, 42, 29, 182, 1, 32, 133, 105]
abbrev dktX0_bookOdds_0 : List UInt8 := dkwX0_bookOdds_0 ++ dktX0_bookOdds_1
theorem dksX0_bookOdds_0 : cX0_bookOdds.data.toList.drop 0 = dktX0_bookOdds_0 := by decide +kernel
theorem dksX0_bookOdds_1 : cX0_bookOdds.data.toList.drop 24 = dktX0_bookOdds_1 := dk_seg dksX0_bookOdds_0 24 rfl rfl
theorem dX0_bookOdds_0 : decode cX0_bookOdds 0 = .ok (.lconst 1, 1) := dk_10 (dk_at dksX0_bookOdds_0 0 rfl rfl)
theorem dX0_bookOdds_1 : decode cX0_bookOdds 1 = .ok (.lstore_n 1, 1) := dk_64 (dk_at dksX0_bookOdds_0 1 rfl rfl)
theorem dX0_bookOdds_2 : decode cX0_bookOdds 2 = .ok (.aload_n 0, 1) := dk_42 (dk_at dksX0_bookOdds_0 2 rfl rfl)
theorem dX0_bookOdds_3 : decode cX0_bookOdds 3 = .ok (.invokevirtual 285, 3) := dk_182 1 29 (dk_at dksX0_bookOdds_0 3 rfl rfl)
theorem dX0_bookOdds_6 : decode cX0_bookOdds 6 = .ok (.iconst 0, 1) := dk_3 (dk_at dksX0_bookOdds_0 6 rfl rfl)
theorem dX0_bookOdds_7 : decode cX0_bookOdds 7 = .ok (.istore_n 3, 1) := dk_62 (dk_at dksX0_bookOdds_0 7 rfl rfl)
theorem dX0_bookOdds_8 : decode cX0_bookOdds 8 = .ok (.iload_n 3, 1) := dk_29 (dk_at dksX0_bookOdds_0 8 rfl rfl)
theorem dX0_bookOdds_9 : decode cX0_bookOdds 9 = .ok (.aload_n 0, 1) := dk_42 (dk_at dksX0_bookOdds_0 9 rfl rfl)
theorem dX0_bookOdds_10 : decode cX0_bookOdds 10 = .ok (.getfield 279, 3) := dk_180 1 23 (dk_at dksX0_bookOdds_0 10 rfl rfl)
theorem dX0_bookOdds_13 : decode cX0_bookOdds 13 = .ok (.if_icmp .ge 18, 3) := dk_162 0 18 (dk_at dksX0_bookOdds_0 13 rfl rfl)
theorem dX0_bookOdds_16 : decode cX0_bookOdds 16 = .ok (.lload_n 1, 1) := dk_31 (dk_at dksX0_bookOdds_0 16 rfl rfl)
theorem dX0_bookOdds_17 : decode cX0_bookOdds 17 = .ok (.aload_n 0, 1) := dk_42 (dk_at dksX0_bookOdds_0 17 rfl rfl)
theorem dX0_bookOdds_18 : decode cX0_bookOdds 18 = .ok (.iload_n 3, 1) := dk_29 (dk_at dksX0_bookOdds_0 18 rfl rfl)
theorem dX0_bookOdds_19 : decode cX0_bookOdds 19 = .ok (.invokevirtual 288, 3) := dk_182 1 32 (dk_at dksX0_bookOdds_0 19 rfl rfl)
theorem dX0_bookOdds_22 : decode cX0_bookOdds 22 = .ok (.i2l, 1) := dk_133 (dk_at dksX0_bookOdds_0 22 rfl rfl)
theorem dX0_bookOdds_23 : decode cX0_bookOdds 23 = .ok (.lmul, 1) := dk_105 (dk_at dksX0_bookOdds_0 23 rfl rfl)
theorem dX0_bookOdds_24 : decode cX0_bookOdds 24 = .ok (.lstore_n 1, 1) := dk_64 (dk_at dksX0_bookOdds_1 0 rfl rfl)
theorem dX0_bookOdds_25 : decode cX0_bookOdds 25 = .ok (.iinc 3 1, 3) := dk_132 3 1 (dk_at dksX0_bookOdds_1 1 rfl rfl)
theorem dX0_bookOdds_28 : decode cX0_bookOdds 28 = .ok (.goto (-20), 3) := dk_167 255 236 (dk_at dksX0_bookOdds_1 4 rfl rfl)
theorem dX0_bookOdds_31 : decode cX0_bookOdds 31 = .ok (.aload_n 0, 1) := dk_42 (dk_at dksX0_bookOdds_1 7 rfl rfl)
theorem dX0_bookOdds_32 : decode cX0_bookOdds 32 = .ok (.invokevirtual 291, 3) := dk_182 1 35 (dk_at dksX0_bookOdds_1 8 rfl rfl)
theorem dX0_bookOdds_35 : decode cX0_bookOdds 35 = .ok (.lload_n 1, 1) := dk_31 (dk_at dksX0_bookOdds_1 11 rfl rfl)
theorem dX0_bookOdds_36 : decode cX0_bookOdds 36 = .ok (.lreturn, 1) := dk_173 (dk_at dksX0_bookOdds_1 12 rfl rfl)
abbrev cX0_keep : ByteArray := prog_1_method_45_code
def yX0_keep : MethodName := ⟨RX0, "keep", "()V"⟩
def dkwX0_keep_2 : List UInt8 := [177]
abbrev dktX0_keep_2 : List UInt8 := dkwX0_keep_2 ++ []
def dkwX0_keep_1 : List UInt8 := [182, 0, 111, 192, 0, 115, 180, 0, 156, 79, 132, 1, 1, 167, 255, 222, 42, 42, 180, 0, 98, 181, 1, 26]
abbrev dktX0_keep_1 : List UInt8 := dkwX0_keep_1 ++ dktX0_keep_2
def dkwX0_keep_0 : List UInt8 := [3, 60, 27, 42, 180, 0, 45, 182, 0, 107, 162, 0, 29, 42, 180, 0, 68, 27, 42, 180, 0, 45, 27]
abbrev dktX0_keep_0 : List UInt8 := dkwX0_keep_0 ++ dktX0_keep_1
theorem dksX0_keep_0 : cX0_keep.data.toList.drop 0 = dktX0_keep_0 := by decide +kernel
theorem dksX0_keep_1 : cX0_keep.data.toList.drop 23 = dktX0_keep_1 := dk_seg dksX0_keep_0 23 rfl rfl
theorem dksX0_keep_2 : cX0_keep.data.toList.drop 47 = dktX0_keep_2 := dk_seg dksX0_keep_1 24 rfl rfl
theorem dX0_keep_0 : decode cX0_keep 0 = .ok (.iconst 0, 1) := dk_3 (dk_at dksX0_keep_0 0 rfl rfl)
theorem dX0_keep_1 : decode cX0_keep 1 = .ok (.istore_n 1, 1) := dk_60 (dk_at dksX0_keep_0 1 rfl rfl)
theorem dX0_keep_2 : decode cX0_keep 2 = .ok (.iload_n 1, 1) := dk_27 (dk_at dksX0_keep_0 2 rfl rfl)
theorem dX0_keep_3 : decode cX0_keep 3 = .ok (.aload_n 0, 1) := dk_42 (dk_at dksX0_keep_0 3 rfl rfl)
theorem dX0_keep_4 : decode cX0_keep 4 = .ok (.getfield 45, 3) := dk_180 0 45 (dk_at dksX0_keep_0 4 rfl rfl)
theorem dX0_keep_7 : decode cX0_keep 7 = .ok (.invokevirtual 107, 3) := dk_182 0 107 (dk_at dksX0_keep_0 7 rfl rfl)
theorem dX0_keep_10 : decode cX0_keep 10 = .ok (.if_icmp .ge 29, 3) := dk_162 0 29 (dk_at dksX0_keep_0 10 rfl rfl)
theorem dX0_keep_13 : decode cX0_keep 13 = .ok (.aload_n 0, 1) := dk_42 (dk_at dksX0_keep_0 13 rfl rfl)
theorem dX0_keep_14 : decode cX0_keep 14 = .ok (.getfield 68, 3) := dk_180 0 68 (dk_at dksX0_keep_0 14 rfl rfl)
theorem dX0_keep_17 : decode cX0_keep 17 = .ok (.iload_n 1, 1) := dk_27 (dk_at dksX0_keep_0 17 rfl rfl)
theorem dX0_keep_18 : decode cX0_keep 18 = .ok (.aload_n 0, 1) := dk_42 (dk_at dksX0_keep_0 18 rfl rfl)
theorem dX0_keep_19 : decode cX0_keep 19 = .ok (.getfield 45, 3) := dk_180 0 45 (dk_at dksX0_keep_0 19 rfl rfl)
theorem dX0_keep_22 : decode cX0_keep 22 = .ok (.iload_n 1, 1) := dk_27 (dk_at dksX0_keep_0 22 rfl rfl)
theorem dX0_keep_23 : decode cX0_keep 23 = .ok (.invokevirtual 111, 3) := dk_182 0 111 (dk_at dksX0_keep_1 0 rfl rfl)
theorem dX0_keep_26 : decode cX0_keep 26 = .ok (.checkcast 115, 3) := dk_192 0 115 (dk_at dksX0_keep_1 3 rfl rfl)
theorem dX0_keep_29 : decode cX0_keep 29 = .ok (.getfield 156, 3) := dk_180 0 156 (dk_at dksX0_keep_1 6 rfl rfl)
theorem dX0_keep_32 : decode cX0_keep 32 = .ok (.iastore, 1) := dk_79 (dk_at dksX0_keep_1 9 rfl rfl)
theorem dX0_keep_33 : decode cX0_keep 33 = .ok (.iinc 1 1, 3) := dk_132 1 1 (dk_at dksX0_keep_1 10 rfl rfl)
theorem dX0_keep_36 : decode cX0_keep 36 = .ok (.goto (-34), 3) := dk_167 255 222 (dk_at dksX0_keep_1 13 rfl rfl)
theorem dX0_keep_39 : decode cX0_keep 39 = .ok (.aload_n 0, 1) := dk_42 (dk_at dksX0_keep_1 16 rfl rfl)
theorem dX0_keep_40 : decode cX0_keep 40 = .ok (.aload_n 0, 1) := dk_42 (dk_at dksX0_keep_1 17 rfl rfl)
theorem dX0_keep_41 : decode cX0_keep 41 = .ok (.getfield 98, 3) := dk_180 0 98 (dk_at dksX0_keep_1 18 rfl rfl)
theorem dX0_keep_44 : decode cX0_keep 44 = .ok (.putfield 282, 3) := dk_181 1 26 (dk_at dksX0_keep_1 21 rfl rfl)
theorem dX0_keep_47 : decode cX0_keep 47 = .ok (.return_, 1) := dk_177 (dk_at dksX0_keep_2 0 rfl rfl)
abbrev cX0_goBook : ByteArray := prog_1_method_47_code
def yX0_goBook : MethodName := ⟨RX0, "goBook", "(I)I"⟩
def dkwX0_goBook_3 : List UInt8 := [78, 44, 45, 182, 0, 170, 54, 4, 42, 44, 45, 182, 0, 182, 21, 4, 172]
abbrev dktX0_goBook_3 : List UInt8 := dkwX0_goBook_3 ++ []
def dkwX0_goBook_2 : List UInt8 := [153, 0, 12, 42, 180, 0, 65, 27, 46, 167, 0, 9, 42, 180, 0, 62, 27, 46, 182, 0, 111, 192, 0, 115]
abbrev dktX0_goBook_2 : List UInt8 := dkwX0_goBook_2 ++ dktX0_goBook_3
def dkwX0_goBook_1 : List UInt8 := [180, 0, 65, 27, 46, 182, 0, 111, 192, 0, 115, 77, 42, 180, 0, 45, 42, 180, 0, 74, 27, 51]
abbrev dktX0_goBook_1 : List UInt8 := dkwX0_goBook_1 ++ dktX0_goBook_2
def dkwX0_goBook_0 : List UInt8 := [42, 180, 0, 45, 42, 180, 0, 74, 27, 51, 153, 0, 12, 42, 180, 0, 62, 27, 46, 167, 0, 9, 42]
abbrev dktX0_goBook_0 : List UInt8 := dkwX0_goBook_0 ++ dktX0_goBook_1
theorem dksX0_goBook_0 : cX0_goBook.data.toList.drop 0 = dktX0_goBook_0 := by decide +kernel
theorem dksX0_goBook_1 : cX0_goBook.data.toList.drop 23 = dktX0_goBook_1 := dk_seg dksX0_goBook_0 23 rfl rfl
theorem dksX0_goBook_2 : cX0_goBook.data.toList.drop 45 = dktX0_goBook_2 := dk_seg dksX0_goBook_1 22 rfl rfl
theorem dksX0_goBook_3 : cX0_goBook.data.toList.drop 69 = dktX0_goBook_3 := dk_seg dksX0_goBook_2 24 rfl rfl
theorem dX0_goBook_0 : decode cX0_goBook 0 = .ok (.aload_n 0, 1) := dk_42 (dk_at dksX0_goBook_0 0 rfl rfl)
theorem dX0_goBook_1 : decode cX0_goBook 1 = .ok (.getfield 45, 3) := dk_180 0 45 (dk_at dksX0_goBook_0 1 rfl rfl)
theorem dX0_goBook_4 : decode cX0_goBook 4 = .ok (.aload_n 0, 1) := dk_42 (dk_at dksX0_goBook_0 4 rfl rfl)
theorem dX0_goBook_5 : decode cX0_goBook 5 = .ok (.getfield 74, 3) := dk_180 0 74 (dk_at dksX0_goBook_0 5 rfl rfl)
theorem dX0_goBook_8 : decode cX0_goBook 8 = .ok (.iload_n 1, 1) := dk_27 (dk_at dksX0_goBook_0 8 rfl rfl)
theorem dX0_goBook_9 : decode cX0_goBook 9 = .ok (.baload, 1) := dk_51 (dk_at dksX0_goBook_0 9 rfl rfl)
theorem dX0_goBook_10 : decode cX0_goBook 10 = .ok (.ifCond .eq 12, 3) := dk_153 0 12 (dk_at dksX0_goBook_0 10 rfl rfl)
theorem dX0_goBook_13 : decode cX0_goBook 13 = .ok (.aload_n 0, 1) := dk_42 (dk_at dksX0_goBook_0 13 rfl rfl)
theorem dX0_goBook_14 : decode cX0_goBook 14 = .ok (.getfield 62, 3) := dk_180 0 62 (dk_at dksX0_goBook_0 14 rfl rfl)
theorem dX0_goBook_17 : decode cX0_goBook 17 = .ok (.iload_n 1, 1) := dk_27 (dk_at dksX0_goBook_0 17 rfl rfl)
theorem dX0_goBook_18 : decode cX0_goBook 18 = .ok (.iaload, 1) := dk_46 (dk_at dksX0_goBook_0 18 rfl rfl)
theorem dX0_goBook_19 : decode cX0_goBook 19 = .ok (.goto 9, 3) := dk_167 0 9 (dk_at dksX0_goBook_0 19 rfl rfl)
theorem dX0_goBook_22 : decode cX0_goBook 22 = .ok (.aload_n 0, 1) := dk_42 (dk_at dksX0_goBook_0 22 rfl rfl)
theorem dX0_goBook_23 : decode cX0_goBook 23 = .ok (.getfield 65, 3) := dk_180 0 65 (dk_at dksX0_goBook_1 0 rfl rfl)
theorem dX0_goBook_26 : decode cX0_goBook 26 = .ok (.iload_n 1, 1) := dk_27 (dk_at dksX0_goBook_1 3 rfl rfl)
theorem dX0_goBook_27 : decode cX0_goBook 27 = .ok (.iaload, 1) := dk_46 (dk_at dksX0_goBook_1 4 rfl rfl)
theorem dX0_goBook_28 : decode cX0_goBook 28 = .ok (.invokevirtual 111, 3) := dk_182 0 111 (dk_at dksX0_goBook_1 5 rfl rfl)
theorem dX0_goBook_31 : decode cX0_goBook 31 = .ok (.checkcast 115, 3) := dk_192 0 115 (dk_at dksX0_goBook_1 8 rfl rfl)
theorem dX0_goBook_34 : decode cX0_goBook 34 = .ok (.astore_n 2, 1) := dk_77 (dk_at dksX0_goBook_1 11 rfl rfl)
theorem dX0_goBook_35 : decode cX0_goBook 35 = .ok (.aload_n 0, 1) := dk_42 (dk_at dksX0_goBook_1 12 rfl rfl)
theorem dX0_goBook_36 : decode cX0_goBook 36 = .ok (.getfield 45, 3) := dk_180 0 45 (dk_at dksX0_goBook_1 13 rfl rfl)
theorem dX0_goBook_39 : decode cX0_goBook 39 = .ok (.aload_n 0, 1) := dk_42 (dk_at dksX0_goBook_1 16 rfl rfl)
theorem dX0_goBook_40 : decode cX0_goBook 40 = .ok (.getfield 74, 3) := dk_180 0 74 (dk_at dksX0_goBook_1 17 rfl rfl)
theorem dX0_goBook_43 : decode cX0_goBook 43 = .ok (.iload_n 1, 1) := dk_27 (dk_at dksX0_goBook_1 20 rfl rfl)
theorem dX0_goBook_44 : decode cX0_goBook 44 = .ok (.baload, 1) := dk_51 (dk_at dksX0_goBook_1 21 rfl rfl)
theorem dX0_goBook_45 : decode cX0_goBook 45 = .ok (.ifCond .eq 12, 3) := dk_153 0 12 (dk_at dksX0_goBook_2 0 rfl rfl)
theorem dX0_goBook_48 : decode cX0_goBook 48 = .ok (.aload_n 0, 1) := dk_42 (dk_at dksX0_goBook_2 3 rfl rfl)
theorem dX0_goBook_49 : decode cX0_goBook 49 = .ok (.getfield 65, 3) := dk_180 0 65 (dk_at dksX0_goBook_2 4 rfl rfl)
theorem dX0_goBook_52 : decode cX0_goBook 52 = .ok (.iload_n 1, 1) := dk_27 (dk_at dksX0_goBook_2 7 rfl rfl)
theorem dX0_goBook_53 : decode cX0_goBook 53 = .ok (.iaload, 1) := dk_46 (dk_at dksX0_goBook_2 8 rfl rfl)
theorem dX0_goBook_54 : decode cX0_goBook 54 = .ok (.goto 9, 3) := dk_167 0 9 (dk_at dksX0_goBook_2 9 rfl rfl)
theorem dX0_goBook_57 : decode cX0_goBook 57 = .ok (.aload_n 0, 1) := dk_42 (dk_at dksX0_goBook_2 12 rfl rfl)
theorem dX0_goBook_58 : decode cX0_goBook 58 = .ok (.getfield 62, 3) := dk_180 0 62 (dk_at dksX0_goBook_2 13 rfl rfl)
theorem dX0_goBook_61 : decode cX0_goBook 61 = .ok (.iload_n 1, 1) := dk_27 (dk_at dksX0_goBook_2 16 rfl rfl)
theorem dX0_goBook_62 : decode cX0_goBook 62 = .ok (.iaload, 1) := dk_46 (dk_at dksX0_goBook_2 17 rfl rfl)
theorem dX0_goBook_63 : decode cX0_goBook 63 = .ok (.invokevirtual 111, 3) := dk_182 0 111 (dk_at dksX0_goBook_2 18 rfl rfl)
theorem dX0_goBook_66 : decode cX0_goBook 66 = .ok (.checkcast 115, 3) := dk_192 0 115 (dk_at dksX0_goBook_2 21 rfl rfl)
theorem dX0_goBook_69 : decode cX0_goBook 69 = .ok (.astore_n 3, 1) := dk_78 (dk_at dksX0_goBook_3 0 rfl rfl)
theorem dX0_goBook_70 : decode cX0_goBook 70 = .ok (.aload_n 2, 1) := dk_44 (dk_at dksX0_goBook_3 1 rfl rfl)
theorem dX0_goBook_71 : decode cX0_goBook 71 = .ok (.aload_n 3, 1) := dk_45 (dk_at dksX0_goBook_3 2 rfl rfl)
theorem dX0_goBook_72 : decode cX0_goBook 72 = .ok (.invokevirtual 170, 3) := dk_182 0 170 (dk_at dksX0_goBook_3 3 rfl rfl)
theorem dX0_goBook_75 : decode cX0_goBook 75 = .ok (.istore 4, 2) := dk_54 4 (dk_at dksX0_goBook_3 6 rfl rfl)
theorem dX0_goBook_77 : decode cX0_goBook 77 = .ok (.aload_n 0, 1) := dk_42 (dk_at dksX0_goBook_3 8 rfl rfl)
theorem dX0_goBook_78 : decode cX0_goBook 78 = .ok (.aload_n 2, 1) := dk_44 (dk_at dksX0_goBook_3 9 rfl rfl)
theorem dX0_goBook_79 : decode cX0_goBook 79 = .ok (.aload_n 3, 1) := dk_45 (dk_at dksX0_goBook_3 10 rfl rfl)
theorem dX0_goBook_80 : decode cX0_goBook 80 = .ok (.invokevirtual 182, 3) := dk_182 0 182 (dk_at dksX0_goBook_3 11 rfl rfl)
theorem dX0_goBook_83 : decode cX0_goBook 83 = .ok (.iload 4, 2) := dk_21 4 (dk_at dksX0_goBook_3 14 rfl rfl)
theorem dX0_goBook_85 : decode cX0_goBook 85 = .ok (.ireturn, 1) := dk_172 (dk_at dksX0_goBook_3 16 rfl rfl)
abbrev cX0_putBack : ByteArray := prog_1_method_46_code
def yX0_putBack : MethodName := ⟨RX0, "putBack", "()V"⟩
def dkwX0_putBack_1 : List UInt8 := [42, 180, 0, 68, 27, 46, 181, 0, 156, 132, 1, 1, 167, 255, 222, 42, 42, 180, 1, 26, 181, 0, 98, 177]
abbrev dktX0_putBack_1 : List UInt8 := dkwX0_putBack_1 ++ []
def dkwX0_putBack_0 : List UInt8 := [3, 60, 27, 42, 180, 0, 45, 182, 0, 107, 162, 0, 29, 42, 180, 0, 45, 27, 182, 0, 111, 192, 0, 115]
abbrev dktX0_putBack_0 : List UInt8 := dkwX0_putBack_0 ++ dktX0_putBack_1
theorem dksX0_putBack_0 : cX0_putBack.data.toList.drop 0 = dktX0_putBack_0 := by decide +kernel
theorem dksX0_putBack_1 : cX0_putBack.data.toList.drop 24 = dktX0_putBack_1 := dk_seg dksX0_putBack_0 24 rfl rfl
theorem dX0_putBack_0 : decode cX0_putBack 0 = .ok (.iconst 0, 1) := dk_3 (dk_at dksX0_putBack_0 0 rfl rfl)
theorem dX0_putBack_1 : decode cX0_putBack 1 = .ok (.istore_n 1, 1) := dk_60 (dk_at dksX0_putBack_0 1 rfl rfl)
theorem dX0_putBack_2 : decode cX0_putBack 2 = .ok (.iload_n 1, 1) := dk_27 (dk_at dksX0_putBack_0 2 rfl rfl)
theorem dX0_putBack_3 : decode cX0_putBack 3 = .ok (.aload_n 0, 1) := dk_42 (dk_at dksX0_putBack_0 3 rfl rfl)
theorem dX0_putBack_4 : decode cX0_putBack 4 = .ok (.getfield 45, 3) := dk_180 0 45 (dk_at dksX0_putBack_0 4 rfl rfl)
theorem dX0_putBack_7 : decode cX0_putBack 7 = .ok (.invokevirtual 107, 3) := dk_182 0 107 (dk_at dksX0_putBack_0 7 rfl rfl)
theorem dX0_putBack_10 : decode cX0_putBack 10 = .ok (.if_icmp .ge 29, 3) := dk_162 0 29 (dk_at dksX0_putBack_0 10 rfl rfl)
theorem dX0_putBack_13 : decode cX0_putBack 13 = .ok (.aload_n 0, 1) := dk_42 (dk_at dksX0_putBack_0 13 rfl rfl)
theorem dX0_putBack_14 : decode cX0_putBack 14 = .ok (.getfield 45, 3) := dk_180 0 45 (dk_at dksX0_putBack_0 14 rfl rfl)
theorem dX0_putBack_17 : decode cX0_putBack 17 = .ok (.iload_n 1, 1) := dk_27 (dk_at dksX0_putBack_0 17 rfl rfl)
theorem dX0_putBack_18 : decode cX0_putBack 18 = .ok (.invokevirtual 111, 3) := dk_182 0 111 (dk_at dksX0_putBack_0 18 rfl rfl)
theorem dX0_putBack_21 : decode cX0_putBack 21 = .ok (.checkcast 115, 3) := dk_192 0 115 (dk_at dksX0_putBack_0 21 rfl rfl)
theorem dX0_putBack_24 : decode cX0_putBack 24 = .ok (.aload_n 0, 1) := dk_42 (dk_at dksX0_putBack_1 0 rfl rfl)
theorem dX0_putBack_25 : decode cX0_putBack 25 = .ok (.getfield 68, 3) := dk_180 0 68 (dk_at dksX0_putBack_1 1 rfl rfl)
theorem dX0_putBack_28 : decode cX0_putBack 28 = .ok (.iload_n 1, 1) := dk_27 (dk_at dksX0_putBack_1 4 rfl rfl)
theorem dX0_putBack_29 : decode cX0_putBack 29 = .ok (.iaload, 1) := dk_46 (dk_at dksX0_putBack_1 5 rfl rfl)
theorem dX0_putBack_30 : decode cX0_putBack 30 = .ok (.putfield 156, 3) := dk_181 0 156 (dk_at dksX0_putBack_1 6 rfl rfl)
theorem dX0_putBack_33 : decode cX0_putBack 33 = .ok (.iinc 1 1, 3) := dk_132 1 1 (dk_at dksX0_putBack_1 9 rfl rfl)
theorem dX0_putBack_36 : decode cX0_putBack 36 = .ok (.goto (-34), 3) := dk_167 255 222 (dk_at dksX0_putBack_1 12 rfl rfl)
theorem dX0_putBack_39 : decode cX0_putBack 39 = .ok (.aload_n 0, 1) := dk_42 (dk_at dksX0_putBack_1 15 rfl rfl)
theorem dX0_putBack_40 : decode cX0_putBack 40 = .ok (.aload_n 0, 1) := dk_42 (dk_at dksX0_putBack_1 16 rfl rfl)
theorem dX0_putBack_41 : decode cX0_putBack 41 = .ok (.getfield 282, 3) := dk_180 1 26 (dk_at dksX0_putBack_1 17 rfl rfl)
theorem dX0_putBack_44 : decode cX0_putBack 44 = .ok (.putfield 98, 3) := dk_181 0 98 (dk_at dksX0_putBack_1 20 rfl rfl)
theorem dX0_putBack_47 : decode cX0_putBack 47 = .ok (.return_, 1) := dk_177 (dk_at dksX0_putBack_1 23 rfl rfl)
abbrev cX0_says : ByteArray := prog_1_method_50_code
def yX0_says : MethodName := ⟨RX0, "says", "(I)I"⟩
def dkwX0_says_2 : List UInt8 := [29, 172]
abbrev dktX0_says_2 : List UInt8 := dkwX0_says_2 ++ []
def dkwX0_says_1 : List UInt8 := [162, 0, 15, 42, 29, 182, 1, 32, 87, 132, 3, 1, 167, 255, 239, 44, 180, 0, 156, 62, 42, 182, 1, 35]
abbrev dktX0_says_1 : List UInt8 := dkwX0_says_1 ++ dktX0_says_2
def dkwX0_says_0 : List UInt8 := [42, 27, 182, 0, 146, 77, 44, 199, 0, 5, 2, 172, 42, 182, 1, 29, 3, 62, 29, 42, 180, 1, 23]
abbrev dktX0_says_0 : List UInt8 := dkwX0_says_0 ++ dktX0_says_1
theorem dksX0_says_0 : cX0_says.data.toList.drop 0 = dktX0_says_0 := by decide +kernel
theorem dksX0_says_1 : cX0_says.data.toList.drop 23 = dktX0_says_1 := dk_seg dksX0_says_0 23 rfl rfl
theorem dksX0_says_2 : cX0_says.data.toList.drop 47 = dktX0_says_2 := dk_seg dksX0_says_1 24 rfl rfl
theorem dX0_says_0 : decode cX0_says 0 = .ok (.aload_n 0, 1) := dk_42 (dk_at dksX0_says_0 0 rfl rfl)
theorem dX0_says_1 : decode cX0_says 1 = .ok (.iload_n 1, 1) := dk_27 (dk_at dksX0_says_0 1 rfl rfl)
theorem dX0_says_2 : decode cX0_says 2 = .ok (.invokevirtual 146, 3) := dk_182 0 146 (dk_at dksX0_says_0 2 rfl rfl)
theorem dX0_says_5 : decode cX0_says 5 = .ok (.astore_n 2, 1) := dk_77 (dk_at dksX0_says_0 5 rfl rfl)
theorem dX0_says_6 : decode cX0_says 6 = .ok (.aload_n 2, 1) := dk_44 (dk_at dksX0_says_0 6 rfl rfl)
theorem dX0_says_7 : decode cX0_says 7 = .ok (.ifnonnull 5, 3) := dk_199 0 5 (dk_at dksX0_says_0 7 rfl rfl)
theorem dX0_says_10 : decode cX0_says 10 = .ok (.iconst (-1), 1) := dk_2 (dk_at dksX0_says_0 10 rfl rfl)
theorem dX0_says_11 : decode cX0_says 11 = .ok (.ireturn, 1) := dk_172 (dk_at dksX0_says_0 11 rfl rfl)
theorem dX0_says_12 : decode cX0_says 12 = .ok (.aload_n 0, 1) := dk_42 (dk_at dksX0_says_0 12 rfl rfl)
theorem dX0_says_13 : decode cX0_says 13 = .ok (.invokevirtual 285, 3) := dk_182 1 29 (dk_at dksX0_says_0 13 rfl rfl)
theorem dX0_says_16 : decode cX0_says 16 = .ok (.iconst 0, 1) := dk_3 (dk_at dksX0_says_0 16 rfl rfl)
theorem dX0_says_17 : decode cX0_says 17 = .ok (.istore_n 3, 1) := dk_62 (dk_at dksX0_says_0 17 rfl rfl)
theorem dX0_says_18 : decode cX0_says 18 = .ok (.iload_n 3, 1) := dk_29 (dk_at dksX0_says_0 18 rfl rfl)
theorem dX0_says_19 : decode cX0_says 19 = .ok (.aload_n 0, 1) := dk_42 (dk_at dksX0_says_0 19 rfl rfl)
theorem dX0_says_20 : decode cX0_says 20 = .ok (.getfield 279, 3) := dk_180 1 23 (dk_at dksX0_says_0 20 rfl rfl)
theorem dX0_says_23 : decode cX0_says 23 = .ok (.if_icmp .ge 15, 3) := dk_162 0 15 (dk_at dksX0_says_1 0 rfl rfl)
theorem dX0_says_26 : decode cX0_says 26 = .ok (.aload_n 0, 1) := dk_42 (dk_at dksX0_says_1 3 rfl rfl)
theorem dX0_says_27 : decode cX0_says 27 = .ok (.iload_n 3, 1) := dk_29 (dk_at dksX0_says_1 4 rfl rfl)
theorem dX0_says_28 : decode cX0_says 28 = .ok (.invokevirtual 288, 3) := dk_182 1 32 (dk_at dksX0_says_1 5 rfl rfl)
theorem dX0_says_31 : decode cX0_says 31 = .ok (.pop, 1) := dk_87 (dk_at dksX0_says_1 8 rfl rfl)
theorem dX0_says_32 : decode cX0_says 32 = .ok (.iinc 3 1, 3) := dk_132 3 1 (dk_at dksX0_says_1 9 rfl rfl)
theorem dX0_says_35 : decode cX0_says 35 = .ok (.goto (-17), 3) := dk_167 255 239 (dk_at dksX0_says_1 12 rfl rfl)
theorem dX0_says_38 : decode cX0_says 38 = .ok (.aload_n 2, 1) := dk_44 (dk_at dksX0_says_1 15 rfl rfl)
theorem dX0_says_39 : decode cX0_says 39 = .ok (.getfield 156, 3) := dk_180 0 156 (dk_at dksX0_says_1 16 rfl rfl)
theorem dX0_says_42 : decode cX0_says 42 = .ok (.istore_n 3, 1) := dk_62 (dk_at dksX0_says_1 19 rfl rfl)
theorem dX0_says_43 : decode cX0_says 43 = .ok (.aload_n 0, 1) := dk_42 (dk_at dksX0_says_1 20 rfl rfl)
theorem dX0_says_44 : decode cX0_says 44 = .ok (.invokevirtual 291, 3) := dk_182 1 35 (dk_at dksX0_says_1 21 rfl rfl)
theorem dX0_says_47 : decode cX0_says 47 = .ok (.iload_n 3, 1) := dk_29 (dk_at dksX0_says_2 0 rfl rfl)
theorem dX0_says_48 : decode cX0_says 48 = .ok (.ireturn, 1) := dk_172 (dk_at dksX0_says_2 1 rfl rfl)
abbrev cX0_tale : ByteArray := prog_1_method_51_code
def yX0_tale : MethodName := ⟨RX0, "tale", "(I)I"⟩
def dkwX0_tale_2 : List UInt8 := [96, 181, 1, 42, 27, 79, 42, 180, 1, 42, 172]
abbrev dktX0_tale_2 : List UInt8 := dkwX0_tale_2 ++ []
def dkwX0_tale_1 : List UInt8 := [172, 42, 180, 1, 42, 16, 8, 160, 0, 6, 16, 252, 172, 42, 180, 0, 71, 42, 89, 180, 1, 42, 90, 4]
abbrev dktX0_tale_1 : List UInt8 := dkwX0_tale_1 ++ dktX0_tale_2
def dkwX0_tale_0 : List UInt8 := [27, 2, 160, 0, 10, 42, 3, 181, 1, 42, 3, 172, 27, 4, 16, 20, 184, 0, 78, 154, 0, 6, 16, 254]
abbrev dktX0_tale_0 : List UInt8 := dkwX0_tale_0 ++ dktX0_tale_1
theorem dksX0_tale_0 : cX0_tale.data.toList.drop 0 = dktX0_tale_0 := by decide +kernel
theorem dksX0_tale_1 : cX0_tale.data.toList.drop 24 = dktX0_tale_1 := dk_seg dksX0_tale_0 24 rfl rfl
theorem dksX0_tale_2 : cX0_tale.data.toList.drop 48 = dktX0_tale_2 := dk_seg dksX0_tale_1 24 rfl rfl
theorem dX0_tale_0 : decode cX0_tale 0 = .ok (.iload_n 1, 1) := dk_27 (dk_at dksX0_tale_0 0 rfl rfl)
theorem dX0_tale_1 : decode cX0_tale 1 = .ok (.iconst (-1), 1) := dk_2 (dk_at dksX0_tale_0 1 rfl rfl)
theorem dX0_tale_2 : decode cX0_tale 2 = .ok (.if_icmp .ne 10, 3) := dk_160 0 10 (dk_at dksX0_tale_0 2 rfl rfl)
theorem dX0_tale_5 : decode cX0_tale 5 = .ok (.aload_n 0, 1) := dk_42 (dk_at dksX0_tale_0 5 rfl rfl)
theorem dX0_tale_6 : decode cX0_tale 6 = .ok (.iconst 0, 1) := dk_3 (dk_at dksX0_tale_0 6 rfl rfl)
theorem dX0_tale_7 : decode cX0_tale 7 = .ok (.putfield 298, 3) := dk_181 1 42 (dk_at dksX0_tale_0 7 rfl rfl)
theorem dX0_tale_10 : decode cX0_tale 10 = .ok (.iconst 0, 1) := dk_3 (dk_at dksX0_tale_0 10 rfl rfl)
theorem dX0_tale_11 : decode cX0_tale 11 = .ok (.ireturn, 1) := dk_172 (dk_at dksX0_tale_0 11 rfl rfl)
theorem dX0_tale_12 : decode cX0_tale 12 = .ok (.iload_n 1, 1) := dk_27 (dk_at dksX0_tale_0 12 rfl rfl)
theorem dX0_tale_13 : decode cX0_tale 13 = .ok (.iconst 1, 1) := dk_4 (dk_at dksX0_tale_0 13 rfl rfl)
theorem dX0_tale_14 : decode cX0_tale 14 = .ok (.bipush 20, 2) := dk_16 20 (dk_at dksX0_tale_0 14 rfl rfl)
theorem dX0_tale_16 : decode cX0_tale 16 = .ok (.invokestatic 78, 3) := dk_184 0 78 (dk_at dksX0_tale_0 16 rfl rfl)
theorem dX0_tale_19 : decode cX0_tale 19 = .ok (.ifCond .ne 6, 3) := dk_154 0 6 (dk_at dksX0_tale_0 19 rfl rfl)
theorem dX0_tale_22 : decode cX0_tale 22 = .ok (.bipush (-2), 2) := dk_16 254 (dk_at dksX0_tale_0 22 rfl rfl)
theorem dX0_tale_24 : decode cX0_tale 24 = .ok (.ireturn, 1) := dk_172 (dk_at dksX0_tale_1 0 rfl rfl)
theorem dX0_tale_25 : decode cX0_tale 25 = .ok (.aload_n 0, 1) := dk_42 (dk_at dksX0_tale_1 1 rfl rfl)
theorem dX0_tale_26 : decode cX0_tale 26 = .ok (.getfield 298, 3) := dk_180 1 42 (dk_at dksX0_tale_1 2 rfl rfl)
theorem dX0_tale_29 : decode cX0_tale 29 = .ok (.bipush 8, 2) := dk_16 8 (dk_at dksX0_tale_1 5 rfl rfl)
theorem dX0_tale_31 : decode cX0_tale 31 = .ok (.if_icmp .ne 6, 3) := dk_160 0 6 (dk_at dksX0_tale_1 7 rfl rfl)
theorem dX0_tale_34 : decode cX0_tale 34 = .ok (.bipush (-4), 2) := dk_16 252 (dk_at dksX0_tale_1 10 rfl rfl)
theorem dX0_tale_36 : decode cX0_tale 36 = .ok (.ireturn, 1) := dk_172 (dk_at dksX0_tale_1 12 rfl rfl)
theorem dX0_tale_37 : decode cX0_tale 37 = .ok (.aload_n 0, 1) := dk_42 (dk_at dksX0_tale_1 13 rfl rfl)
theorem dX0_tale_38 : decode cX0_tale 38 = .ok (.getfield 71, 3) := dk_180 0 71 (dk_at dksX0_tale_1 14 rfl rfl)
theorem dX0_tale_41 : decode cX0_tale 41 = .ok (.aload_n 0, 1) := dk_42 (dk_at dksX0_tale_1 17 rfl rfl)
theorem dX0_tale_42 : decode cX0_tale 42 = .ok (.dup, 1) := dk_89 (dk_at dksX0_tale_1 18 rfl rfl)
theorem dX0_tale_43 : decode cX0_tale 43 = .ok (.getfield 298, 3) := dk_180 1 42 (dk_at dksX0_tale_1 19 rfl rfl)
theorem dX0_tale_46 : decode cX0_tale 46 = .ok (.dup_x1, 1) := dk_90 (dk_at dksX0_tale_1 22 rfl rfl)
theorem dX0_tale_47 : decode cX0_tale 47 = .ok (.iconst 1, 1) := dk_4 (dk_at dksX0_tale_1 23 rfl rfl)
theorem dX0_tale_48 : decode cX0_tale 48 = .ok (.iadd, 1) := dk_96 (dk_at dksX0_tale_2 0 rfl rfl)
theorem dX0_tale_49 : decode cX0_tale 49 = .ok (.putfield 298, 3) := dk_181 1 42 (dk_at dksX0_tale_2 1 rfl rfl)
theorem dX0_tale_52 : decode cX0_tale 52 = .ok (.iload_n 1, 1) := dk_27 (dk_at dksX0_tale_2 4 rfl rfl)
theorem dX0_tale_53 : decode cX0_tale 53 = .ok (.iastore, 1) := dk_79 (dk_at dksX0_tale_2 5 rfl rfl)
theorem dX0_tale_54 : decode cX0_tale 54 = .ok (.aload_n 0, 1) := dk_42 (dk_at dksX0_tale_2 6 rfl rfl)
theorem dX0_tale_55 : decode cX0_tale 55 = .ok (.getfield 298, 3) := dk_180 1 42 (dk_at dksX0_tale_2 7 rfl rfl)
theorem dX0_tale_58 : decode cX0_tale 58 = .ok (.ireturn, 1) := dk_172 (dk_at dksX0_tale_2 10 rfl rfl)
abbrev cX0_looked : ByteArray := prog_1_method_52_code
def yX0_looked : MethodName := ⟨RX0, "looked", "()I"⟩
def dkwX0_looked_4 : List UInt8 := [27, 172]
abbrev dktX0_looked_4 : List UInt8 := dkwX0_looked_4 ++ []
def dkwX0_looked_3 : List UInt8 := [180, 0, 156, 42, 180, 0, 71, 28, 46, 159, 0, 5, 28, 60, 132, 2, 1, 167, 255, 192, 42, 182, 1, 35]
abbrev dktX0_looked_3 : List UInt8 := dkwX0_looked_3 ++ dktX0_looked_4
def dkwX0_looked_2 : List UInt8 := [182, 1, 32, 87, 28, 42, 180, 1, 23, 162, 0, 26, 42, 180, 0, 45, 3, 182, 0, 111, 192, 0, 115]
abbrev dktX0_looked_2 : List UInt8 := dkwX0_looked_2 ++ dktX0_looked_3
def dkwX0_looked_1 : List UInt8 := [180, 1, 42, 162, 0, 62, 27, 16, 251, 160, 0, 56, 28, 42, 180, 1, 23, 162, 0, 9, 42, 28]
abbrev dktX0_looked_1 : List UInt8 := dkwX0_looked_1 ++ dktX0_looked_2
def dkwX0_looked_0 : List UInt8 := [42, 180, 0, 45, 182, 1, 45, 153, 0, 6, 16, 253, 172, 16, 251, 60, 42, 182, 1, 29, 3, 61, 28, 42]
abbrev dktX0_looked_0 : List UInt8 := dkwX0_looked_0 ++ dktX0_looked_1
theorem dksX0_looked_0 : cX0_looked.data.toList.drop 0 = dktX0_looked_0 := by decide +kernel
theorem dksX0_looked_1 : cX0_looked.data.toList.drop 24 = dktX0_looked_1 := dk_seg dksX0_looked_0 24 rfl rfl
theorem dksX0_looked_2 : cX0_looked.data.toList.drop 46 = dktX0_looked_2 := dk_seg dksX0_looked_1 22 rfl rfl
theorem dksX0_looked_3 : cX0_looked.data.toList.drop 69 = dktX0_looked_3 := dk_seg dksX0_looked_2 23 rfl rfl
theorem dksX0_looked_4 : cX0_looked.data.toList.drop 93 = dktX0_looked_4 := dk_seg dksX0_looked_3 24 rfl rfl
theorem dX0_looked_0 : decode cX0_looked 0 = .ok (.aload_n 0, 1) := dk_42 (dk_at dksX0_looked_0 0 rfl rfl)
theorem dX0_looked_1 : decode cX0_looked 1 = .ok (.getfield 45, 3) := dk_180 0 45 (dk_at dksX0_looked_0 1 rfl rfl)
theorem dX0_looked_4 : decode cX0_looked 4 = .ok (.invokevirtual 301, 3) := dk_182 1 45 (dk_at dksX0_looked_0 4 rfl rfl)
theorem dX0_looked_7 : decode cX0_looked 7 = .ok (.ifCond .eq 6, 3) := dk_153 0 6 (dk_at dksX0_looked_0 7 rfl rfl)
theorem dX0_looked_10 : decode cX0_looked 10 = .ok (.bipush (-3), 2) := dk_16 253 (dk_at dksX0_looked_0 10 rfl rfl)
theorem dX0_looked_12 : decode cX0_looked 12 = .ok (.ireturn, 1) := dk_172 (dk_at dksX0_looked_0 12 rfl rfl)
theorem dX0_looked_13 : decode cX0_looked 13 = .ok (.bipush (-5), 2) := dk_16 251 (dk_at dksX0_looked_0 13 rfl rfl)
theorem dX0_looked_15 : decode cX0_looked 15 = .ok (.istore_n 1, 1) := dk_60 (dk_at dksX0_looked_0 15 rfl rfl)
theorem dX0_looked_16 : decode cX0_looked 16 = .ok (.aload_n 0, 1) := dk_42 (dk_at dksX0_looked_0 16 rfl rfl)
theorem dX0_looked_17 : decode cX0_looked 17 = .ok (.invokevirtual 285, 3) := dk_182 1 29 (dk_at dksX0_looked_0 17 rfl rfl)
theorem dX0_looked_20 : decode cX0_looked 20 = .ok (.iconst 0, 1) := dk_3 (dk_at dksX0_looked_0 20 rfl rfl)
theorem dX0_looked_21 : decode cX0_looked 21 = .ok (.istore_n 2, 1) := dk_61 (dk_at dksX0_looked_0 21 rfl rfl)
theorem dX0_looked_22 : decode cX0_looked 22 = .ok (.iload_n 2, 1) := dk_28 (dk_at dksX0_looked_0 22 rfl rfl)
theorem dX0_looked_23 : decode cX0_looked 23 = .ok (.aload_n 0, 1) := dk_42 (dk_at dksX0_looked_0 23 rfl rfl)
theorem dX0_looked_24 : decode cX0_looked 24 = .ok (.getfield 298, 3) := dk_180 1 42 (dk_at dksX0_looked_1 0 rfl rfl)
theorem dX0_looked_27 : decode cX0_looked 27 = .ok (.if_icmp .ge 62, 3) := dk_162 0 62 (dk_at dksX0_looked_1 3 rfl rfl)
theorem dX0_looked_30 : decode cX0_looked 30 = .ok (.iload_n 1, 1) := dk_27 (dk_at dksX0_looked_1 6 rfl rfl)
theorem dX0_looked_31 : decode cX0_looked 31 = .ok (.bipush (-5), 2) := dk_16 251 (dk_at dksX0_looked_1 7 rfl rfl)
theorem dX0_looked_33 : decode cX0_looked 33 = .ok (.if_icmp .ne 56, 3) := dk_160 0 56 (dk_at dksX0_looked_1 9 rfl rfl)
theorem dX0_looked_36 : decode cX0_looked 36 = .ok (.iload_n 2, 1) := dk_28 (dk_at dksX0_looked_1 12 rfl rfl)
theorem dX0_looked_37 : decode cX0_looked 37 = .ok (.aload_n 0, 1) := dk_42 (dk_at dksX0_looked_1 13 rfl rfl)
theorem dX0_looked_38 : decode cX0_looked 38 = .ok (.getfield 279, 3) := dk_180 1 23 (dk_at dksX0_looked_1 14 rfl rfl)
theorem dX0_looked_41 : decode cX0_looked 41 = .ok (.if_icmp .ge 9, 3) := dk_162 0 9 (dk_at dksX0_looked_1 17 rfl rfl)
theorem dX0_looked_44 : decode cX0_looked 44 = .ok (.aload_n 0, 1) := dk_42 (dk_at dksX0_looked_1 20 rfl rfl)
theorem dX0_looked_45 : decode cX0_looked 45 = .ok (.iload_n 2, 1) := dk_28 (dk_at dksX0_looked_1 21 rfl rfl)
theorem dX0_looked_46 : decode cX0_looked 46 = .ok (.invokevirtual 288, 3) := dk_182 1 32 (dk_at dksX0_looked_2 0 rfl rfl)
theorem dX0_looked_49 : decode cX0_looked 49 = .ok (.pop, 1) := dk_87 (dk_at dksX0_looked_2 3 rfl rfl)
theorem dX0_looked_50 : decode cX0_looked 50 = .ok (.iload_n 2, 1) := dk_28 (dk_at dksX0_looked_2 4 rfl rfl)
theorem dX0_looked_51 : decode cX0_looked 51 = .ok (.aload_n 0, 1) := dk_42 (dk_at dksX0_looked_2 5 rfl rfl)
theorem dX0_looked_52 : decode cX0_looked 52 = .ok (.getfield 279, 3) := dk_180 1 23 (dk_at dksX0_looked_2 6 rfl rfl)
theorem dX0_looked_55 : decode cX0_looked 55 = .ok (.if_icmp .ge 26, 3) := dk_162 0 26 (dk_at dksX0_looked_2 9 rfl rfl)
theorem dX0_looked_58 : decode cX0_looked 58 = .ok (.aload_n 0, 1) := dk_42 (dk_at dksX0_looked_2 12 rfl rfl)
theorem dX0_looked_59 : decode cX0_looked 59 = .ok (.getfield 45, 3) := dk_180 0 45 (dk_at dksX0_looked_2 13 rfl rfl)
theorem dX0_looked_62 : decode cX0_looked 62 = .ok (.iconst 0, 1) := dk_3 (dk_at dksX0_looked_2 16 rfl rfl)
theorem dX0_looked_63 : decode cX0_looked 63 = .ok (.invokevirtual 111, 3) := dk_182 0 111 (dk_at dksX0_looked_2 17 rfl rfl)
theorem dX0_looked_66 : decode cX0_looked 66 = .ok (.checkcast 115, 3) := dk_192 0 115 (dk_at dksX0_looked_2 20 rfl rfl)
theorem dX0_looked_69 : decode cX0_looked 69 = .ok (.getfield 156, 3) := dk_180 0 156 (dk_at dksX0_looked_3 0 rfl rfl)
theorem dX0_looked_72 : decode cX0_looked 72 = .ok (.aload_n 0, 1) := dk_42 (dk_at dksX0_looked_3 3 rfl rfl)
theorem dX0_looked_73 : decode cX0_looked 73 = .ok (.getfield 71, 3) := dk_180 0 71 (dk_at dksX0_looked_3 4 rfl rfl)
theorem dX0_looked_76 : decode cX0_looked 76 = .ok (.iload_n 2, 1) := dk_28 (dk_at dksX0_looked_3 7 rfl rfl)
theorem dX0_looked_77 : decode cX0_looked 77 = .ok (.iaload, 1) := dk_46 (dk_at dksX0_looked_3 8 rfl rfl)
theorem dX0_looked_78 : decode cX0_looked 78 = .ok (.if_icmp .eq 5, 3) := dk_159 0 5 (dk_at dksX0_looked_3 9 rfl rfl)
theorem dX0_looked_81 : decode cX0_looked 81 = .ok (.iload_n 2, 1) := dk_28 (dk_at dksX0_looked_3 12 rfl rfl)
theorem dX0_looked_82 : decode cX0_looked 82 = .ok (.istore_n 1, 1) := dk_60 (dk_at dksX0_looked_3 13 rfl rfl)
theorem dX0_looked_83 : decode cX0_looked 83 = .ok (.iinc 2 1, 3) := dk_132 2 1 (dk_at dksX0_looked_3 14 rfl rfl)
theorem dX0_looked_86 : decode cX0_looked 86 = .ok (.goto (-64), 3) := dk_167 255 192 (dk_at dksX0_looked_3 17 rfl rfl)
theorem dX0_looked_89 : decode cX0_looked 89 = .ok (.aload_n 0, 1) := dk_42 (dk_at dksX0_looked_3 20 rfl rfl)
theorem dX0_looked_90 : decode cX0_looked 90 = .ok (.invokevirtual 291, 3) := dk_182 1 35 (dk_at dksX0_looked_3 21 rfl rfl)
theorem dX0_looked_93 : decode cX0_looked 93 = .ok (.iload_n 1, 1) := dk_27 (dk_at dksX0_looked_4 0 rfl rfl)
theorem dX0_looked_94 : decode cX0_looked 94 = .ok (.ireturn, 1) := dk_172 (dk_at dksX0_looked_4 1 rfl rfl)
abbrev cX0_act : ByteArray := prog_1_method_53_code
def yX0_act : MethodName := ⟨RX0, "act", "(III)I"⟩
def dkwX0_act_2 : List UInt8 := [25, 4, 29, 182, 1, 52, 167, 0, 9, 25, 4, 29, 182, 1, 55, 172]
abbrev dktX0_act_2 : List UInt8 := dkwX0_act_2 ++ []
def dkwX0_act_1 : List UInt8 := [154, 0, 5, 3, 172, 28, 154, 0, 12, 25, 4, 29, 182, 1, 49, 167, 0, 23, 28, 4, 160, 0, 12]
abbrev dktX0_act_1 : List UInt8 := dkwX0_act_1 ++ dktX0_act_2
def dkwX0_act_0 : List UInt8 := [42, 3, 181, 0, 104, 42, 27, 182, 0, 146, 58, 4, 25, 4, 198, 0, 12, 28, 3, 5, 184, 0, 78]
abbrev dktX0_act_0 : List UInt8 := dkwX0_act_0 ++ dktX0_act_1
theorem dksX0_act_0 : cX0_act.data.toList.drop 0 = dktX0_act_0 := by decide +kernel
theorem dksX0_act_1 : cX0_act.data.toList.drop 23 = dktX0_act_1 := dk_seg dksX0_act_0 23 rfl rfl
theorem dksX0_act_2 : cX0_act.data.toList.drop 46 = dktX0_act_2 := dk_seg dksX0_act_1 23 rfl rfl
theorem dX0_act_0 : decode cX0_act 0 = .ok (.aload_n 0, 1) := dk_42 (dk_at dksX0_act_0 0 rfl rfl)
theorem dX0_act_1 : decode cX0_act 1 = .ok (.iconst 0, 1) := dk_3 (dk_at dksX0_act_0 1 rfl rfl)
theorem dX0_act_2 : decode cX0_act 2 = .ok (.putfield 104, 3) := dk_181 0 104 (dk_at dksX0_act_0 2 rfl rfl)
theorem dX0_act_5 : decode cX0_act 5 = .ok (.aload_n 0, 1) := dk_42 (dk_at dksX0_act_0 5 rfl rfl)
theorem dX0_act_6 : decode cX0_act 6 = .ok (.iload_n 1, 1) := dk_27 (dk_at dksX0_act_0 6 rfl rfl)
theorem dX0_act_7 : decode cX0_act 7 = .ok (.invokevirtual 146, 3) := dk_182 0 146 (dk_at dksX0_act_0 7 rfl rfl)
theorem dX0_act_10 : decode cX0_act 10 = .ok (.astore 4, 2) := dk_58 4 (dk_at dksX0_act_0 10 rfl rfl)
theorem dX0_act_12 : decode cX0_act 12 = .ok (.aload 4, 2) := dk_25 4 (dk_at dksX0_act_0 12 rfl rfl)
theorem dX0_act_14 : decode cX0_act 14 = .ok (.ifnull 12, 3) := dk_198 0 12 (dk_at dksX0_act_0 14 rfl rfl)
theorem dX0_act_17 : decode cX0_act 17 = .ok (.iload_n 2, 1) := dk_28 (dk_at dksX0_act_0 17 rfl rfl)
theorem dX0_act_18 : decode cX0_act 18 = .ok (.iconst 0, 1) := dk_3 (dk_at dksX0_act_0 18 rfl rfl)
theorem dX0_act_19 : decode cX0_act 19 = .ok (.iconst 2, 1) := dk_5 (dk_at dksX0_act_0 19 rfl rfl)
theorem dX0_act_20 : decode cX0_act 20 = .ok (.invokestatic 78, 3) := dk_184 0 78 (dk_at dksX0_act_0 20 rfl rfl)
theorem dX0_act_23 : decode cX0_act 23 = .ok (.ifCond .ne 5, 3) := dk_154 0 5 (dk_at dksX0_act_1 0 rfl rfl)
theorem dX0_act_26 : decode cX0_act 26 = .ok (.iconst 0, 1) := dk_3 (dk_at dksX0_act_1 3 rfl rfl)
theorem dX0_act_27 : decode cX0_act 27 = .ok (.ireturn, 1) := dk_172 (dk_at dksX0_act_1 4 rfl rfl)
theorem dX0_act_28 : decode cX0_act 28 = .ok (.iload_n 2, 1) := dk_28 (dk_at dksX0_act_1 5 rfl rfl)
theorem dX0_act_29 : decode cX0_act 29 = .ok (.ifCond .ne 12, 3) := dk_154 0 12 (dk_at dksX0_act_1 6 rfl rfl)
theorem dX0_act_32 : decode cX0_act 32 = .ok (.aload 4, 2) := dk_25 4 (dk_at dksX0_act_1 9 rfl rfl)
theorem dX0_act_34 : decode cX0_act 34 = .ok (.iload_n 3, 1) := dk_29 (dk_at dksX0_act_1 11 rfl rfl)
theorem dX0_act_35 : decode cX0_act 35 = .ok (.invokevirtual 305, 3) := dk_182 1 49 (dk_at dksX0_act_1 12 rfl rfl)
theorem dX0_act_38 : decode cX0_act 38 = .ok (.goto 23, 3) := dk_167 0 23 (dk_at dksX0_act_1 15 rfl rfl)
theorem dX0_act_41 : decode cX0_act 41 = .ok (.iload_n 2, 1) := dk_28 (dk_at dksX0_act_1 18 rfl rfl)
theorem dX0_act_42 : decode cX0_act 42 = .ok (.iconst 1, 1) := dk_4 (dk_at dksX0_act_1 19 rfl rfl)
theorem dX0_act_43 : decode cX0_act 43 = .ok (.if_icmp .ne 12, 3) := dk_160 0 12 (dk_at dksX0_act_1 20 rfl rfl)
theorem dX0_act_46 : decode cX0_act 46 = .ok (.aload 4, 2) := dk_25 4 (dk_at dksX0_act_2 0 rfl rfl)
theorem dX0_act_48 : decode cX0_act 48 = .ok (.iload_n 3, 1) := dk_29 (dk_at dksX0_act_2 2 rfl rfl)
theorem dX0_act_49 : decode cX0_act 49 = .ok (.invokevirtual 308, 3) := dk_182 1 52 (dk_at dksX0_act_2 3 rfl rfl)
theorem dX0_act_52 : decode cX0_act 52 = .ok (.goto 9, 3) := dk_167 0 9 (dk_at dksX0_act_2 6 rfl rfl)
theorem dX0_act_55 : decode cX0_act 55 = .ok (.aload 4, 2) := dk_25 4 (dk_at dksX0_act_2 9 rfl rfl)
theorem dX0_act_57 : decode cX0_act 57 = .ok (.iload_n 3, 1) := dk_29 (dk_at dksX0_act_2 11 rfl rfl)
theorem dX0_act_58 : decode cX0_act 58 = .ok (.invokevirtual 311, 3) := dk_182 1 55 (dk_at dksX0_act_2 12 rfl rfl)
theorem dX0_act_61 : decode cX0_act 61 = .ok (.ireturn, 1) := dk_172 (dk_at dksX0_act_2 15 rfl rfl)
abbrev cX0_body : ByteArray := prog_1_method_7_code
def yX0_body : MethodName := ⟨RX0, "body", "(I)V"⟩
def dkwX0_body_1 : List UInt8 := [180, 0, 104, 4, 96, 181, 0, 104, 177]
abbrev dktX0_body_1 : List UInt8 := dkwX0_body_1 ++ []
def dkwX0_body_0 : List UInt8 := [42, 180, 0, 104, 42, 180, 0, 38, 190, 162, 0, 13, 42, 180, 0, 38, 42, 180, 0, 104, 27, 79, 42, 89]
abbrev dktX0_body_0 : List UInt8 := dkwX0_body_0 ++ dktX0_body_1
theorem dksX0_body_0 : cX0_body.data.toList.drop 0 = dktX0_body_0 := by decide +kernel
theorem dksX0_body_1 : cX0_body.data.toList.drop 24 = dktX0_body_1 := dk_seg dksX0_body_0 24 rfl rfl
theorem dX0_body_0 : decode cX0_body 0 = .ok (.aload_n 0, 1) := dk_42 (dk_at dksX0_body_0 0 rfl rfl)
theorem dX0_body_1 : decode cX0_body 1 = .ok (.getfield 104, 3) := dk_180 0 104 (dk_at dksX0_body_0 1 rfl rfl)
theorem dX0_body_4 : decode cX0_body 4 = .ok (.aload_n 0, 1) := dk_42 (dk_at dksX0_body_0 4 rfl rfl)
theorem dX0_body_5 : decode cX0_body 5 = .ok (.getfield 38, 3) := dk_180 0 38 (dk_at dksX0_body_0 5 rfl rfl)
theorem dX0_body_8 : decode cX0_body 8 = .ok (.arraylength, 1) := dk_190 (dk_at dksX0_body_0 8 rfl rfl)
theorem dX0_body_9 : decode cX0_body 9 = .ok (.if_icmp .ge 13, 3) := dk_162 0 13 (dk_at dksX0_body_0 9 rfl rfl)
theorem dX0_body_12 : decode cX0_body 12 = .ok (.aload_n 0, 1) := dk_42 (dk_at dksX0_body_0 12 rfl rfl)
theorem dX0_body_13 : decode cX0_body 13 = .ok (.getfield 38, 3) := dk_180 0 38 (dk_at dksX0_body_0 13 rfl rfl)
theorem dX0_body_16 : decode cX0_body 16 = .ok (.aload_n 0, 1) := dk_42 (dk_at dksX0_body_0 16 rfl rfl)
theorem dX0_body_17 : decode cX0_body 17 = .ok (.getfield 104, 3) := dk_180 0 104 (dk_at dksX0_body_0 17 rfl rfl)
theorem dX0_body_20 : decode cX0_body 20 = .ok (.iload_n 1, 1) := dk_27 (dk_at dksX0_body_0 20 rfl rfl)
theorem dX0_body_21 : decode cX0_body 21 = .ok (.iastore, 1) := dk_79 (dk_at dksX0_body_0 21 rfl rfl)
theorem dX0_body_22 : decode cX0_body 22 = .ok (.aload_n 0, 1) := dk_42 (dk_at dksX0_body_0 22 rfl rfl)
theorem dX0_body_23 : decode cX0_body 23 = .ok (.dup, 1) := dk_89 (dk_at dksX0_body_0 23 rfl rfl)
theorem dX0_body_24 : decode cX0_body 24 = .ok (.getfield 104, 3) := dk_180 0 104 (dk_at dksX0_body_1 0 rfl rfl)
theorem dX0_body_27 : decode cX0_body 27 = .ok (.iconst 1, 1) := dk_4 (dk_at dksX0_body_1 3 rfl rfl)
theorem dX0_body_28 : decode cX0_body 28 = .ok (.iadd, 1) := dk_96 (dk_at dksX0_body_1 4 rfl rfl)
theorem dX0_body_29 : decode cX0_body 29 = .ok (.putfield 104, 3) := dk_181 0 104 (dk_at dksX0_body_1 5 rfl rfl)
theorem dX0_body_32 : decode cX0_body 32 = .ok (.return_, 1) := dk_177 (dk_at dksX0_body_1 8 rfl rfl)
abbrev cX0_trace : ByteArray := prog_1_method_54_code
def yX0_trace : MethodName := ⟨RX0, "trace", "(I)I"⟩
def dkwX0_trace_1 : List UInt8 := [180, 0, 38, 27, 46, 167, 0, 4, 2, 172]
abbrev dktX0_trace_1 : List UInt8 := dkwX0_trace_1 ++ []
def dkwX0_trace_0 : List UInt8 := [27, 3, 42, 180, 0, 38, 190, 4, 100, 184, 0, 78, 153, 0, 20, 27, 42, 180, 0, 104, 162, 0, 12, 42]
abbrev dktX0_trace_0 : List UInt8 := dkwX0_trace_0 ++ dktX0_trace_1
theorem dksX0_trace_0 : cX0_trace.data.toList.drop 0 = dktX0_trace_0 := by decide +kernel
theorem dksX0_trace_1 : cX0_trace.data.toList.drop 24 = dktX0_trace_1 := dk_seg dksX0_trace_0 24 rfl rfl
theorem dX0_trace_0 : decode cX0_trace 0 = .ok (.iload_n 1, 1) := dk_27 (dk_at dksX0_trace_0 0 rfl rfl)
theorem dX0_trace_1 : decode cX0_trace 1 = .ok (.iconst 0, 1) := dk_3 (dk_at dksX0_trace_0 1 rfl rfl)
theorem dX0_trace_2 : decode cX0_trace 2 = .ok (.aload_n 0, 1) := dk_42 (dk_at dksX0_trace_0 2 rfl rfl)
theorem dX0_trace_3 : decode cX0_trace 3 = .ok (.getfield 38, 3) := dk_180 0 38 (dk_at dksX0_trace_0 3 rfl rfl)
theorem dX0_trace_6 : decode cX0_trace 6 = .ok (.arraylength, 1) := dk_190 (dk_at dksX0_trace_0 6 rfl rfl)
theorem dX0_trace_7 : decode cX0_trace 7 = .ok (.iconst 1, 1) := dk_4 (dk_at dksX0_trace_0 7 rfl rfl)
theorem dX0_trace_8 : decode cX0_trace 8 = .ok (.isub, 1) := dk_100 (dk_at dksX0_trace_0 8 rfl rfl)
theorem dX0_trace_9 : decode cX0_trace 9 = .ok (.invokestatic 78, 3) := dk_184 0 78 (dk_at dksX0_trace_0 9 rfl rfl)
theorem dX0_trace_12 : decode cX0_trace 12 = .ok (.ifCond .eq 20, 3) := dk_153 0 20 (dk_at dksX0_trace_0 12 rfl rfl)
theorem dX0_trace_15 : decode cX0_trace 15 = .ok (.iload_n 1, 1) := dk_27 (dk_at dksX0_trace_0 15 rfl rfl)
theorem dX0_trace_16 : decode cX0_trace 16 = .ok (.aload_n 0, 1) := dk_42 (dk_at dksX0_trace_0 16 rfl rfl)
theorem dX0_trace_17 : decode cX0_trace 17 = .ok (.getfield 104, 3) := dk_180 0 104 (dk_at dksX0_trace_0 17 rfl rfl)
theorem dX0_trace_20 : decode cX0_trace 20 = .ok (.if_icmp .ge 12, 3) := dk_162 0 12 (dk_at dksX0_trace_0 20 rfl rfl)
theorem dX0_trace_23 : decode cX0_trace 23 = .ok (.aload_n 0, 1) := dk_42 (dk_at dksX0_trace_0 23 rfl rfl)
theorem dX0_trace_24 : decode cX0_trace 24 = .ok (.getfield 38, 3) := dk_180 0 38 (dk_at dksX0_trace_1 0 rfl rfl)
theorem dX0_trace_27 : decode cX0_trace 27 = .ok (.iload_n 1, 1) := dk_27 (dk_at dksX0_trace_1 3 rfl rfl)
theorem dX0_trace_28 : decode cX0_trace 28 = .ok (.iaload, 1) := dk_46 (dk_at dksX0_trace_1 4 rfl rfl)
theorem dX0_trace_29 : decode cX0_trace 29 = .ok (.goto 4, 3) := dk_167 0 4 (dk_at dksX0_trace_1 5 rfl rfl)
theorem dX0_trace_32 : decode cX0_trace 32 = .ok (.iconst (-1), 1) := dk_2 (dk_at dksX0_trace_1 8 rfl rfl)
theorem dX0_trace_33 : decode cX0_trace 33 = .ok (.ireturn, 1) := dk_172 (dk_at dksX0_trace_1 9 rfl rfl)
abbrev cX0_as : ByteArray := prog_1_method_55_code
def yX0_as : MethodName := ⟨RX0, "as", "(II)I"⟩
def dkwX0_as_1 : List UInt8 := [182, 1, 58, 153, 0, 10, 45, 180, 0, 153, 167, 0, 5, 16, 250, 172]
abbrev dktX0_as_1 : List UInt8 := dkwX0_as_1 ++ []
def dkwX0_as_0 : List UInt8 := [42, 27, 182, 0, 146, 78, 45, 198, 0, 13, 28, 3, 16, 6, 184, 0, 78, 154, 0, 5, 2, 172, 45, 28]
abbrev dktX0_as_0 : List UInt8 := dkwX0_as_0 ++ dktX0_as_1
theorem dksX0_as_0 : cX0_as.data.toList.drop 0 = dktX0_as_0 := by decide +kernel
theorem dksX0_as_1 : cX0_as.data.toList.drop 24 = dktX0_as_1 := dk_seg dksX0_as_0 24 rfl rfl
theorem dX0_as_0 : decode cX0_as 0 = .ok (.aload_n 0, 1) := dk_42 (dk_at dksX0_as_0 0 rfl rfl)
theorem dX0_as_1 : decode cX0_as 1 = .ok (.iload_n 1, 1) := dk_27 (dk_at dksX0_as_0 1 rfl rfl)
theorem dX0_as_2 : decode cX0_as 2 = .ok (.invokevirtual 146, 3) := dk_182 0 146 (dk_at dksX0_as_0 2 rfl rfl)
theorem dX0_as_5 : decode cX0_as 5 = .ok (.astore_n 3, 1) := dk_78 (dk_at dksX0_as_0 5 rfl rfl)
theorem dX0_as_6 : decode cX0_as 6 = .ok (.aload_n 3, 1) := dk_45 (dk_at dksX0_as_0 6 rfl rfl)
theorem dX0_as_7 : decode cX0_as 7 = .ok (.ifnull 13, 3) := dk_198 0 13 (dk_at dksX0_as_0 7 rfl rfl)
theorem dX0_as_10 : decode cX0_as 10 = .ok (.iload_n 2, 1) := dk_28 (dk_at dksX0_as_0 10 rfl rfl)
theorem dX0_as_11 : decode cX0_as 11 = .ok (.iconst 0, 1) := dk_3 (dk_at dksX0_as_0 11 rfl rfl)
theorem dX0_as_12 : decode cX0_as 12 = .ok (.bipush 6, 2) := dk_16 6 (dk_at dksX0_as_0 12 rfl rfl)
theorem dX0_as_14 : decode cX0_as 14 = .ok (.invokestatic 78, 3) := dk_184 0 78 (dk_at dksX0_as_0 14 rfl rfl)
theorem dX0_as_17 : decode cX0_as 17 = .ok (.ifCond .ne 5, 3) := dk_154 0 5 (dk_at dksX0_as_0 17 rfl rfl)
theorem dX0_as_20 : decode cX0_as 20 = .ok (.iconst (-1), 1) := dk_2 (dk_at dksX0_as_0 20 rfl rfl)
theorem dX0_as_21 : decode cX0_as 21 = .ok (.ireturn, 1) := dk_172 (dk_at dksX0_as_0 21 rfl rfl)
theorem dX0_as_22 : decode cX0_as 22 = .ok (.aload_n 3, 1) := dk_45 (dk_at dksX0_as_0 22 rfl rfl)
theorem dX0_as_23 : decode cX0_as 23 = .ok (.iload_n 2, 1) := dk_28 (dk_at dksX0_as_0 23 rfl rfl)
theorem dX0_as_24 : decode cX0_as 24 = .ok (.invokevirtual 314, 3) := dk_182 1 58 (dk_at dksX0_as_1 0 rfl rfl)
theorem dX0_as_27 : decode cX0_as 27 = .ok (.ifCond .eq 10, 3) := dk_153 0 10 (dk_at dksX0_as_1 3 rfl rfl)
theorem dX0_as_30 : decode cX0_as 30 = .ok (.aload_n 3, 1) := dk_45 (dk_at dksX0_as_1 6 rfl rfl)
theorem dX0_as_31 : decode cX0_as 31 = .ok (.getfield 153, 3) := dk_180 0 153 (dk_at dksX0_as_1 7 rfl rfl)
theorem dX0_as_34 : decode cX0_as 34 = .ok (.goto 5, 3) := dk_167 0 5 (dk_at dksX0_as_1 10 rfl rfl)
theorem dX0_as_37 : decode cX0_as 37 = .ok (.bipush (-6), 2) := dk_16 250 (dk_at dksX0_as_1 13 rfl rfl)
theorem dX0_as_39 : decode cX0_as 39 = .ok (.ireturn, 1) := dk_172 (dk_at dksX0_as_1 15 rfl rfl)
abbrev cX0_image : ByteArray := prog_1_method_56_code
def yX0_image : MethodName := ⟨RX0, "image", "()I"⟩
def dkwX0_image_0 : List UInt8 := [42, 187, 1, 62, 89, 42, 183, 1, 64, 181, 1, 65, 42, 180, 0, 45, 182, 0, 107, 172]
abbrev dktX0_image_0 : List UInt8 := dkwX0_image_0 ++ []
theorem dksX0_image_0 : cX0_image.data.toList.drop 0 = dktX0_image_0 := by decide +kernel
theorem dX0_image_0 : decode cX0_image 0 = .ok (.aload_n 0, 1) := dk_42 (dk_at dksX0_image_0 0 rfl rfl)
theorem dX0_image_1 : decode cX0_image 1 = .ok (.new 318, 3) := dk_187 1 62 (dk_at dksX0_image_0 1 rfl rfl)
theorem dX0_image_4 : decode cX0_image 4 = .ok (.dup, 1) := dk_89 (dk_at dksX0_image_0 4 rfl rfl)
theorem dX0_image_5 : decode cX0_image 5 = .ok (.aload_n 0, 1) := dk_42 (dk_at dksX0_image_0 5 rfl rfl)
theorem dX0_image_6 : decode cX0_image 6 = .ok (.invokespecial 320, 3) := dk_183 1 64 (dk_at dksX0_image_0 6 rfl rfl)
theorem dX0_image_9 : decode cX0_image 9 = .ok (.putfield 321, 3) := dk_181 1 65 (dk_at dksX0_image_0 9 rfl rfl)
theorem dX0_image_12 : decode cX0_image 12 = .ok (.aload_n 0, 1) := dk_42 (dk_at dksX0_image_0 12 rfl rfl)
theorem dX0_image_13 : decode cX0_image 13 = .ok (.getfield 45, 3) := dk_180 0 45 (dk_at dksX0_image_0 13 rfl rfl)
theorem dX0_image_16 : decode cX0_image 16 = .ok (.invokevirtual 107, 3) := dk_182 0 107 (dk_at dksX0_image_0 16 rfl rfl)
theorem dX0_image_19 : decode cX0_image 19 = .ok (.ireturn, 1) := dk_172 (dk_at dksX0_image_0 19 rfl rfl)
abbrev cX0_undo : ByteArray := prog_1_method_57_code
def yX0_undo : MethodName := ⟨RX0, "undo", "()I"⟩
def dkwX0_undo_1 : List UInt8 := [172]
abbrev dktX0_undo_1 : List UInt8 := dkwX0_undo_1 ++ []
def dkwX0_undo_0 : List UInt8 := [42, 180, 1, 65, 199, 0, 6, 16, 253, 172, 42, 180, 1, 65, 182, 1, 69, 42, 180, 0, 45, 182, 0, 107]
abbrev dktX0_undo_0 : List UInt8 := dkwX0_undo_0 ++ dktX0_undo_1
theorem dksX0_undo_0 : cX0_undo.data.toList.drop 0 = dktX0_undo_0 := by decide +kernel
theorem dksX0_undo_1 : cX0_undo.data.toList.drop 24 = dktX0_undo_1 := dk_seg dksX0_undo_0 24 rfl rfl
theorem dX0_undo_0 : decode cX0_undo 0 = .ok (.aload_n 0, 1) := dk_42 (dk_at dksX0_undo_0 0 rfl rfl)
theorem dX0_undo_1 : decode cX0_undo 1 = .ok (.getfield 321, 3) := dk_180 1 65 (dk_at dksX0_undo_0 1 rfl rfl)
theorem dX0_undo_4 : decode cX0_undo 4 = .ok (.ifnonnull 6, 3) := dk_199 0 6 (dk_at dksX0_undo_0 4 rfl rfl)
theorem dX0_undo_7 : decode cX0_undo 7 = .ok (.bipush (-3), 2) := dk_16 253 (dk_at dksX0_undo_0 7 rfl rfl)
theorem dX0_undo_9 : decode cX0_undo 9 = .ok (.ireturn, 1) := dk_172 (dk_at dksX0_undo_0 9 rfl rfl)
theorem dX0_undo_10 : decode cX0_undo 10 = .ok (.aload_n 0, 1) := dk_42 (dk_at dksX0_undo_0 10 rfl rfl)
theorem dX0_undo_11 : decode cX0_undo 11 = .ok (.getfield 321, 3) := dk_180 1 65 (dk_at dksX0_undo_0 11 rfl rfl)
theorem dX0_undo_14 : decode cX0_undo 14 = .ok (.invokevirtual 325, 3) := dk_182 1 69 (dk_at dksX0_undo_0 14 rfl rfl)
theorem dX0_undo_17 : decode cX0_undo 17 = .ok (.aload_n 0, 1) := dk_42 (dk_at dksX0_undo_0 17 rfl rfl)
theorem dX0_undo_18 : decode cX0_undo 18 = .ok (.getfield 45, 3) := dk_180 0 45 (dk_at dksX0_undo_0 18 rfl rfl)
theorem dX0_undo_21 : decode cX0_undo 21 = .ok (.invokevirtual 107, 3) := dk_182 0 107 (dk_at dksX0_undo_0 21 rfl rfl)
theorem dX0_undo_24 : decode cX0_undo 24 = .ok (.ireturn, 1) := dk_172 (dk_at dksX0_undo_1 0 rfl rfl)
abbrev cX0_count : ByteArray := prog_1_method_58_code
def yX0_count : MethodName := ⟨RX0, "count", "(I)I"⟩
def dkwX0_count_3 : List UInt8 := [180, 0, 82, 172, 42, 180, 0, 104, 172, 2, 172]
abbrev dktX0_count_3 : List UInt8 := dkwX0_count_3 ++ []
def dkwX0_count_2 : List UInt8 := [42, 180, 0, 45, 182, 0, 107, 172, 42, 180, 0, 86, 172, 42, 180, 1, 23, 172, 42, 180, 1, 42, 172, 42]
abbrev dktX0_count_2 : List UInt8 := dkwX0_count_2 ++ dktX0_count_3
def dkwX0_count_1 : List UInt8 := [170, 0, 0, 0, 0, 0, 72, 0, 0, 0, 0, 0, 0, 0, 5, 0, 0, 0, 39, 0, 0, 0, 47, 0, 0, 0, 52, 0, 0, 0, 57, 0, 0, 0, 62, 0, 0, 0, 67]
abbrev dktX0_count_1 : List UInt8 := dkwX0_count_1 ++ dktX0_count_2
def dkwX0_count_0 : List UInt8 := [27]
abbrev dktX0_count_0 : List UInt8 := dkwX0_count_0 ++ dktX0_count_1
theorem dksX0_count_0 : cX0_count.data.toList.drop 0 = dktX0_count_0 := by decide +kernel
theorem dksX0_count_1 : cX0_count.data.toList.drop 1 = dktX0_count_1 := dk_seg dksX0_count_0 1 rfl rfl
theorem dksX0_count_2 : cX0_count.data.toList.drop 40 = dktX0_count_2 := dk_seg dksX0_count_1 39 rfl rfl
theorem dksX0_count_3 : cX0_count.data.toList.drop 64 = dktX0_count_3 := dk_seg dksX0_count_2 24 rfl rfl
theorem dX0_count_0 : decode cX0_count 0 = .ok (.iload_n 1, 1) := dk_27 (dk_at dksX0_count_0 0 rfl rfl)
theorem dX0_count_1 : decode cX0_count 1 = .ok (.tableswitch 72 0 5 #[39, 47, 52, 57, 62, 67], 39) := by decide +kernel
theorem dX0_count_40 : decode cX0_count 40 = .ok (.aload_n 0, 1) := dk_42 (dk_at dksX0_count_2 0 rfl rfl)
theorem dX0_count_41 : decode cX0_count 41 = .ok (.getfield 45, 3) := dk_180 0 45 (dk_at dksX0_count_2 1 rfl rfl)
theorem dX0_count_44 : decode cX0_count 44 = .ok (.invokevirtual 107, 3) := dk_182 0 107 (dk_at dksX0_count_2 4 rfl rfl)
theorem dX0_count_47 : decode cX0_count 47 = .ok (.ireturn, 1) := dk_172 (dk_at dksX0_count_2 7 rfl rfl)
theorem dX0_count_48 : decode cX0_count 48 = .ok (.aload_n 0, 1) := dk_42 (dk_at dksX0_count_2 8 rfl rfl)
theorem dX0_count_49 : decode cX0_count 49 = .ok (.getfield 86, 3) := dk_180 0 86 (dk_at dksX0_count_2 9 rfl rfl)
theorem dX0_count_52 : decode cX0_count 52 = .ok (.ireturn, 1) := dk_172 (dk_at dksX0_count_2 12 rfl rfl)
theorem dX0_count_53 : decode cX0_count 53 = .ok (.aload_n 0, 1) := dk_42 (dk_at dksX0_count_2 13 rfl rfl)
theorem dX0_count_54 : decode cX0_count 54 = .ok (.getfield 279, 3) := dk_180 1 23 (dk_at dksX0_count_2 14 rfl rfl)
theorem dX0_count_57 : decode cX0_count 57 = .ok (.ireturn, 1) := dk_172 (dk_at dksX0_count_2 17 rfl rfl)
theorem dX0_count_58 : decode cX0_count 58 = .ok (.aload_n 0, 1) := dk_42 (dk_at dksX0_count_2 18 rfl rfl)
theorem dX0_count_59 : decode cX0_count 59 = .ok (.getfield 298, 3) := dk_180 1 42 (dk_at dksX0_count_2 19 rfl rfl)
theorem dX0_count_62 : decode cX0_count 62 = .ok (.ireturn, 1) := dk_172 (dk_at dksX0_count_2 22 rfl rfl)
theorem dX0_count_63 : decode cX0_count 63 = .ok (.aload_n 0, 1) := dk_42 (dk_at dksX0_count_2 23 rfl rfl)
theorem dX0_count_64 : decode cX0_count 64 = .ok (.getfield 82, 3) := dk_180 0 82 (dk_at dksX0_count_3 0 rfl rfl)
theorem dX0_count_67 : decode cX0_count 67 = .ok (.ireturn, 1) := dk_172 (dk_at dksX0_count_3 3 rfl rfl)
theorem dX0_count_68 : decode cX0_count 68 = .ok (.aload_n 0, 1) := dk_42 (dk_at dksX0_count_3 4 rfl rfl)
theorem dX0_count_69 : decode cX0_count 69 = .ok (.getfield 104, 3) := dk_180 0 104 (dk_at dksX0_count_3 5 rfl rfl)
theorem dX0_count_72 : decode cX0_count 72 = .ok (.ireturn, 1) := dk_172 (dk_at dksX0_count_3 8 rfl rfl)
theorem dX0_count_73 : decode cX0_count 73 = .ok (.iconst (-1), 1) := dk_2 (dk_at dksX0_count_3 9 rfl rfl)
theorem dX0_count_74 : decode cX0_count 74 = .ok (.ireturn, 1) := dk_172 (dk_at dksX0_count_3 10 rfl rfl)
theorem q81 : (Jvm.Cond.initialized "FewerMan") ∈ lw_all := lw_g (lw_at lw_m1 1 rfl) rfl
theorem q114 : (Jvm.Cond.instantiable "FewerMan" (27 : Nat)) ∈ lw_all := lw_g (lw_at lw_m1 34 rfl) rfl
theorem q116 : (Jvm.Cond.instanceMethod ({ cls := "FewerMan", name := "<init>", desc := "()V" } : Jvm.MethodName)) ∈ lw_all := lw_g (lw_at lw_m1 36 rfl) rfl
theorem q117 : (Jvm.Cond.code ({ cls := "FewerMan", name := "<init>", desc := "()V" } : Jvm.MethodName) prog_1_method_3_code (1 : Nat) (Option.none : Option Jvm.ClassFile.FieldType)) ∈ lw_all := lw_g (lw_at lw_m1 37 rfl) rfl
theorem q118 : (Jvm.Cond.methodLink "FewerMan" (3 : Nat) ({ cls := "java/lang/Object", name := "<init>", desc := "()V" } : Jvm.MethodName)) ∈ lw_all := lw_g (lw_at lw_m1 38 rfl) rfl
theorem q121 : (Jvm.Cond.classLink "FewerMan" (15 : Nat) "FewerMan$Inn") ∈ lw_all := lw_g (lw_at lw_m1 41 rfl) rfl
theorem q123 : (Jvm.Cond.methodLinkNest "FewerMan" (17 : Nat) ({ cls := "FewerMan$Inn", name := "<init>", desc := "()V" } : Jvm.MethodName) "FewerMan") ∈ lw_tbl := lw_at lw_m1 43 rfl
theorem q157 : (Jvm.Cond.fieldLinkNest "FewerMan" (101 : Nat) "FewerMan$Inn" "numbers" "[I" "FewerMan") ∈ lw_tbl := lw_at lw_m1 77 rfl
theorem q172 : (Jvm.Cond.classLink "FewerMan" (22 : Nat) "FewerMan$Reader") ∈ lw_all := lw_g (lw_at lw_m1 92 rfl) rfl
theorem q174 : (Jvm.Cond.methodLinkNest "FewerMan" (24 : Nat) ({ cls := "FewerMan$Reader", name := "<init>", desc := "(LFewerMan;)V" } : Jvm.MethodName) "FewerMan") ∈ lw_tbl := lw_at lw_m1 94 rfl
theorem q194 : (Jvm.Cond.classLink "FewerMan" (31 : Nat) "FewerMan$Moment") ∈ lw_all := lw_g (lw_at lw_m1 114 rfl) rfl
theorem q196 : (Jvm.Cond.methodLinkNest "FewerMan" (33 : Nat) ({ cls := "FewerMan$Moment", name := "<init>", desc := "()V" } : Jvm.MethodName) "FewerMan") ∈ lw_tbl := lw_at lw_m1 116 rfl
theorem q221 : (Jvm.Cond.classLink "FewerMan" (42 : Nat) "java/util/ArrayList") ∈ lw_all := lw_g (lw_at lw_m1 141 rfl) rfl
theorem q222 : (Jvm.Cond.methodLink "FewerMan" (44 : Nat) ({ cls := "java/util/ArrayList", name := "<init>", desc := "()V" } : Jvm.MethodName)) ∈ lw_all := lw_g (lw_at lw_m1 142 rfl) rfl
theorem q225 : (Jvm.Cond.fieldLink "FewerMan" (11 : Nat) "FewerMan" "tape" "[B") ∈ lw_all := lw_g (lw_at lw_m1 145 rfl) rfl
theorem q228 : (Jvm.Cond.fieldLink "FewerMan" (82 : Nat) "FewerMan" "taped" "I") ∈ lw_all := lw_g (lw_at lw_m1 148 rfl) rfl
theorem q230 : (Jvm.Cond.fieldLink "FewerMan" (86 : Nat) "FewerMan" "inns" "I") ∈ lw_all := lw_g (lw_at lw_m1 150 rfl) rfl
theorem q236 : (Jvm.Cond.fieldLink "FewerMan" (98 : Nat) "FewerMan" "game" "I") ∈ lw_all := lw_g (lw_at lw_m1 156 rfl) rfl
theorem q238 : (Jvm.Cond.fieldLink "FewerMan" (18 : Nat) "FewerMan" "inn" "LFewerMan$Inn;") ∈ lw_all := lw_g (lw_at lw_m1 158 rfl) rfl
theorem q240 : (Jvm.Cond.fieldLink "FewerMan" (27 : Nat) "FewerMan" "reader" "LFewerMan$Reader;") ∈ lw_all := lw_g (lw_at lw_m1 160 rfl) rfl
theorem q241 : (Jvm.Cond.fieldLink "FewerMan" (34 : Nat) "FewerMan" "moment" "LFewerMan$Moment;") ∈ lw_all := lw_g (lw_at lw_m1 161 rfl) rfl
theorem q243 : (Jvm.Cond.fieldLink "FewerMan" (104 : Nat) "FewerMan" "ran" "I") ∈ lw_all := lw_g (lw_at lw_m1 163 rfl) rfl
theorem q244 : (Jvm.Cond.fieldLink "FewerMan" (38 : Nat) "FewerMan" "bodies" "[I") ∈ lw_all := lw_g (lw_at lw_m1 164 rfl) rfl
theorem q246 : (Jvm.Cond.fieldLink "FewerMan" (45 : Nat) "FewerMan" "players" "Ljava/util/ArrayList;") ∈ lw_all := lw_g (lw_at lw_m1 166 rfl) rfl
theorem q247 : (Jvm.Cond.fieldLink "FewerMan" (49 : Nat) "FewerMan" "wonOf" "[J") ∈ lw_all := lw_g (lw_at lw_m1 167 rfl) rfl
theorem q248 : (Jvm.Cond.fieldLink "FewerMan" (192 : Nat) "FewerMan" "menSum" "J") ∈ lw_all := lw_g (lw_at lw_m1 168 rfl) rfl
theorem q249 : (Jvm.Cond.fieldLink "FewerMan" (196 : Nat) "FewerMan" "ended" "J") ∈ lw_all := lw_g (lw_at lw_m1 169 rfl) rfl
theorem q250 : (Jvm.Cond.fieldLink "FewerMan" (227 : Nat) "FewerMan" "isLost" "Z") ∈ lw_all := lw_g (lw_at lw_m1 170 rfl) rfl
theorem q251 : (Jvm.Cond.fieldLink "FewerMan" (53 : Nat) "FewerMan" "tried" "[I") ∈ lw_all := lw_g (lw_at lw_m1 171 rfl) rfl
theorem q252 : (Jvm.Cond.fieldLink "FewerMan" (56 : Nat) "FewerMan" "best" "[I") ∈ lw_all := lw_g (lw_at lw_m1 172 rfl) rfl
theorem q253 : (Jvm.Cond.fieldLink "FewerMan" (239 : Nat) "FewerMan" "bestWins" "J") ∈ lw_all := lw_g (lw_at lw_m1 173 rfl) rfl
theorem q254 : (Jvm.Cond.fieldLink "FewerMan" (59 : Nat) "FewerMan" "queue" "[I") ∈ lw_all := lw_g (lw_at lw_m1 174 rfl) rfl
theorem q256 : (Jvm.Cond.fieldLink "FewerMan" (62 : Nat) "FewerMan" "bookOne" "[I") ∈ lw_all := lw_g (lw_at lw_m1 176 rfl) rfl
theorem q258 : (Jvm.Cond.fieldLink "FewerMan" (65 : Nat) "FewerMan" "bookOther" "[I") ∈ lw_all := lw_g (lw_at lw_m1 178 rfl) rfl
theorem q259 : (Jvm.Cond.fieldLink "FewerMan" (68 : Nat) "FewerMan" "keptMen" "[I") ∈ lw_all := lw_g (lw_at lw_m1 179 rfl) rfl
theorem q261 : (Jvm.Cond.fieldLink "FewerMan" (71 : Nat) "FewerMan" "tales" "[I") ∈ lw_all := lw_g (lw_at lw_m1 181 rfl) rfl
theorem q263 : (Jvm.Cond.fieldLink "FewerMan" (74 : Nat) "FewerMan" "bookWon" "[Z") ∈ lw_all := lw_g (lw_at lw_m1 183 rfl) rfl
theorem q265 : (Jvm.Cond.fieldLink "FewerMan" (279 : Nat) "FewerMan" "books" "I") ∈ lw_all := lw_g (lw_at lw_m1 185 rfl) rfl
theorem q267 : (Jvm.Cond.fieldLink "FewerMan" (298 : Nat) "FewerMan" "taleMany" "I") ∈ lw_all := lw_g (lw_at lw_m1 187 rfl) rfl
theorem q268 : (Jvm.Cond.fieldLink "FewerMan" (282 : Nat) "FewerMan" "keptGame" "I") ∈ lw_all := lw_g (lw_at lw_m1 188 rfl) rfl
theorem q269 : (Jvm.Cond.fieldLink "FewerMan" (321 : Nat) "FewerMan" "image" "LFewerMan$Image;") ∈ lw_all := lw_g (lw_at lw_m1 189 rfl) rfl
theorem q270 : (Jvm.Cond.laysFinal "FewerMan" "FewerMan" "tape" "[B") ∈ lw_all := lw_g (lw_at lw_m1 190 rfl) rfl
theorem q271 : (Jvm.Cond.soleField "FewerMan" "tape") ∈ lw_all := lw_g (lw_at lw_m1 191 rfl) rfl
theorem q272 : (Jvm.Cond.lays "FewerMan" "FewerMan" "taped" "I") ∈ lw_all := lw_g (lw_at lw_m1 192 rfl) rfl
theorem q273 : (Jvm.Cond.soleField "FewerMan" "taped") ∈ lw_all := lw_g (lw_at lw_m1 193 rfl) rfl
theorem q274 : (Jvm.Cond.lays "FewerMan" "FewerMan" "inns" "I") ∈ lw_all := lw_g (lw_at lw_m1 194 rfl) rfl
theorem q275 : (Jvm.Cond.soleField "FewerMan" "inns") ∈ lw_all := lw_g (lw_at lw_m1 195 rfl) rfl
theorem q276 : (Jvm.Cond.lays "FewerMan" "FewerMan" "game" "I") ∈ lw_all := lw_g (lw_at lw_m1 196 rfl) rfl
theorem q277 : (Jvm.Cond.soleField "FewerMan" "game") ∈ lw_all := lw_g (lw_at lw_m1 197 rfl) rfl
theorem q278 : (Jvm.Cond.lays "FewerMan" "FewerMan" "inn" "LFewerMan$Inn;") ∈ lw_all := lw_g (lw_at lw_m1 198 rfl) rfl
theorem q279 : (Jvm.Cond.soleField "FewerMan" "inn") ∈ lw_all := lw_g (lw_at lw_m1 199 rfl) rfl
theorem q280 : (Jvm.Cond.laysFinal "FewerMan" "FewerMan" "reader" "LFewerMan$Reader;") ∈ lw_all := lw_g (lw_at lw_m1 200 rfl) rfl
theorem q281 : (Jvm.Cond.soleField "FewerMan" "reader") ∈ lw_all := lw_g (lw_at lw_m1 201 rfl) rfl
theorem q282 : (Jvm.Cond.laysFinal "FewerMan" "FewerMan" "moment" "LFewerMan$Moment;") ∈ lw_all := lw_g (lw_at lw_m1 202 rfl) rfl
theorem q283 : (Jvm.Cond.soleField "FewerMan" "moment") ∈ lw_all := lw_g (lw_at lw_m1 203 rfl) rfl
theorem q284 : (Jvm.Cond.lays "FewerMan" "FewerMan" "ran" "I") ∈ lw_all := lw_g (lw_at lw_m1 204 rfl) rfl
theorem q285 : (Jvm.Cond.soleField "FewerMan" "ran") ∈ lw_all := lw_g (lw_at lw_m1 205 rfl) rfl
theorem q286 : (Jvm.Cond.laysFinal "FewerMan" "FewerMan" "bodies" "[I") ∈ lw_all := lw_g (lw_at lw_m1 206 rfl) rfl
theorem q287 : (Jvm.Cond.soleField "FewerMan" "bodies") ∈ lw_all := lw_g (lw_at lw_m1 207 rfl) rfl
theorem q288 : (Jvm.Cond.laysFinal "FewerMan" "FewerMan" "players" "Ljava/util/ArrayList;") ∈ lw_all := lw_g (lw_at lw_m1 208 rfl) rfl
theorem q289 : (Jvm.Cond.soleField "FewerMan" "players") ∈ lw_all := lw_g (lw_at lw_m1 209 rfl) rfl
theorem q290 : (Jvm.Cond.laysFinal "FewerMan" "FewerMan" "wonOf" "[J") ∈ lw_all := lw_g (lw_at lw_m1 210 rfl) rfl
theorem q291 : (Jvm.Cond.soleField "FewerMan" "wonOf") ∈ lw_all := lw_g (lw_at lw_m1 211 rfl) rfl
theorem q292 : (Jvm.Cond.lays "FewerMan" "FewerMan" "menSum" "J") ∈ lw_all := lw_g (lw_at lw_m1 212 rfl) rfl
theorem q293 : (Jvm.Cond.soleField "FewerMan" "menSum") ∈ lw_all := lw_g (lw_at lw_m1 213 rfl) rfl
theorem q294 : (Jvm.Cond.lays "FewerMan" "FewerMan" "ended" "J") ∈ lw_all := lw_g (lw_at lw_m1 214 rfl) rfl
theorem q295 : (Jvm.Cond.soleField "FewerMan" "ended") ∈ lw_all := lw_g (lw_at lw_m1 215 rfl) rfl
theorem q296 : (Jvm.Cond.lays "FewerMan" "FewerMan" "isLost" "Z") ∈ lw_all := lw_g (lw_at lw_m1 216 rfl) rfl
theorem q297 : (Jvm.Cond.soleField "FewerMan" "isLost") ∈ lw_all := lw_g (lw_at lw_m1 217 rfl) rfl
theorem q298 : (Jvm.Cond.laysFinal "FewerMan" "FewerMan" "tried" "[I") ∈ lw_all := lw_g (lw_at lw_m1 218 rfl) rfl
theorem q299 : (Jvm.Cond.soleField "FewerMan" "tried") ∈ lw_all := lw_g (lw_at lw_m1 219 rfl) rfl
theorem q300 : (Jvm.Cond.laysFinal "FewerMan" "FewerMan" "best" "[I") ∈ lw_all := lw_g (lw_at lw_m1 220 rfl) rfl
theorem q301 : (Jvm.Cond.soleField "FewerMan" "best") ∈ lw_all := lw_g (lw_at lw_m1 221 rfl) rfl
theorem q302 : (Jvm.Cond.lays "FewerMan" "FewerMan" "bestWins" "J") ∈ lw_all := lw_g (lw_at lw_m1 222 rfl) rfl
theorem q303 : (Jvm.Cond.soleField "FewerMan" "bestWins") ∈ lw_all := lw_g (lw_at lw_m1 223 rfl) rfl
theorem q304 : (Jvm.Cond.laysFinal "FewerMan" "FewerMan" "queue" "[I") ∈ lw_all := lw_g (lw_at lw_m1 224 rfl) rfl
theorem q305 : (Jvm.Cond.soleField "FewerMan" "queue") ∈ lw_all := lw_g (lw_at lw_m1 225 rfl) rfl
theorem q306 : (Jvm.Cond.laysFinal "FewerMan" "FewerMan" "bookOne" "[I") ∈ lw_all := lw_g (lw_at lw_m1 226 rfl) rfl
theorem q307 : (Jvm.Cond.soleField "FewerMan" "bookOne") ∈ lw_all := lw_g (lw_at lw_m1 227 rfl) rfl
theorem q308 : (Jvm.Cond.laysFinal "FewerMan" "FewerMan" "bookOther" "[I") ∈ lw_all := lw_g (lw_at lw_m1 228 rfl) rfl
theorem q309 : (Jvm.Cond.soleField "FewerMan" "bookOther") ∈ lw_all := lw_g (lw_at lw_m1 229 rfl) rfl
theorem q310 : (Jvm.Cond.laysFinal "FewerMan" "FewerMan" "keptMen" "[I") ∈ lw_all := lw_g (lw_at lw_m1 230 rfl) rfl
theorem q311 : (Jvm.Cond.soleField "FewerMan" "keptMen") ∈ lw_all := lw_g (lw_at lw_m1 231 rfl) rfl
theorem q312 : (Jvm.Cond.laysFinal "FewerMan" "FewerMan" "tales" "[I") ∈ lw_all := lw_g (lw_at lw_m1 232 rfl) rfl
theorem q313 : (Jvm.Cond.soleField "FewerMan" "tales") ∈ lw_all := lw_g (lw_at lw_m1 233 rfl) rfl
theorem q314 : (Jvm.Cond.laysFinal "FewerMan" "FewerMan" "bookWon" "[Z") ∈ lw_all := lw_g (lw_at lw_m1 234 rfl) rfl
theorem q315 : (Jvm.Cond.soleField "FewerMan" "bookWon") ∈ lw_all := lw_g (lw_at lw_m1 235 rfl) rfl
theorem q316 : (Jvm.Cond.lays "FewerMan" "FewerMan" "books" "I") ∈ lw_all := lw_g (lw_at lw_m1 236 rfl) rfl
theorem q317 : (Jvm.Cond.soleField "FewerMan" "books") ∈ lw_all := lw_g (lw_at lw_m1 237 rfl) rfl
theorem q318 : (Jvm.Cond.lays "FewerMan" "FewerMan" "taleMany" "I") ∈ lw_all := lw_g (lw_at lw_m1 238 rfl) rfl
theorem q319 : (Jvm.Cond.soleField "FewerMan" "taleMany") ∈ lw_all := lw_g (lw_at lw_m1 239 rfl) rfl
theorem q320 : (Jvm.Cond.lays "FewerMan" "FewerMan" "keptGame" "I") ∈ lw_all := lw_g (lw_at lw_m2 0 rfl) rfl
theorem q321 : (Jvm.Cond.soleField "FewerMan" "keptGame") ∈ lw_all := lw_g (lw_at lw_m2 1 rfl) rfl
theorem q322 : (Jvm.Cond.lays "FewerMan" "FewerMan" "image" "LFewerMan$Image;") ∈ lw_all := lw_g (lw_at lw_m2 2 rfl) rfl
theorem q323 : (Jvm.Cond.soleField "FewerMan" "image") ∈ lw_all := lw_g (lw_at lw_m2 3 rfl) rfl
theorem q324 : (Jvm.Cond.superclass "FewerMan" "java/lang/Object") ∈ lw_all := lw_g (lw_at lw_m2 4 rfl) rfl
theorem q328 : (Jvm.Cond.instanceMethod ({ cls := "FewerMan", name := "feed", desc := "(I)I" } : Jvm.MethodName)) ∈ lw_all := lw_g (lw_at lw_m2 8 rfl) rfl
theorem q329 : (Jvm.Cond.selects "FewerMan" ({ cls := "FewerMan", name := "feed", desc := "(I)I" } : Jvm.MethodName) ({ cls := "FewerMan", name := "feed", desc := "(I)I" } : Jvm.MethodName)) ∈ lw_all := lw_g (lw_at lw_m2 9 rfl) rfl
theorem q330 : (Jvm.Cond.code ({ cls := "FewerMan", name := "feed", desc := "(I)I" } : Jvm.MethodName) prog_1_method_4_code (2 : Nat) (Option.some Jvm.ClassFile.FieldType.int)) ∈ lw_all := lw_g (lw_at lw_m2 10 rfl) rfl
theorem q331 : (Jvm.Cond.methodLink "FewerMan" (78 : Nat) ({ cls := "FewerMan", name := "in", desc := "(III)Z" } : Jvm.MethodName)) ∈ lw_all := lw_g (lw_at lw_m2 11 rfl) rfl
theorem q332 : (Jvm.Cond.static ({ cls := "FewerMan", name := "in", desc := "(III)Z" } : Jvm.MethodName)) ∈ lw_all := lw_g (lw_at lw_m2 12 rfl) rfl
theorem q333 : (Jvm.Cond.code ({ cls := "FewerMan", name := "in", desc := "(III)Z" } : Jvm.MethodName) prog_1_method_1_code (3 : Nat) (Option.some Jvm.ClassFile.FieldType.boolean)) ∈ lw_all := lw_g (lw_at lw_m2 13 rfl) rfl
theorem q335 : (Jvm.Cond.instanceMethod ({ cls := "FewerMan", name := "inn", desc := "()I" } : Jvm.MethodName)) ∈ lw_all := lw_g (lw_at lw_m2 15 rfl) rfl
theorem q336 : (Jvm.Cond.selects "FewerMan" ({ cls := "FewerMan", name := "inn", desc := "()I" } : Jvm.MethodName) ({ cls := "FewerMan", name := "inn", desc := "()I" } : Jvm.MethodName)) ∈ lw_all := lw_g (lw_at lw_m2 16 rfl) rfl
theorem q337 : (Jvm.Cond.codeWith ({ cls := "FewerMan", name := "inn", desc := "()I" } : Jvm.MethodName) prog_1_method_5_code (4 : Nat) (Option.some Jvm.ClassFile.FieldType.int) [((11 : Nat), (39 : Nat), (46 : Nat), (93 : Nat)), ((11 : Nat), (39 : Nat), (62 : Nat), (0 : Nat)), ((46 : Nat), (55 : Nat), (62 : Nat), (0 : Nat))]) ∈ lw_all := lw_g (lw_at lw_m2 17 rfl) rfl
theorem q338 : (Jvm.Cond.classLink "FewerMan" (93 : Nat) "FewerMan$Wrong") ∈ lw_all := lw_g (lw_at lw_m2 18 rfl) rfl
theorem q339 : (Jvm.Cond.methodLink "FewerMan" (89 : Nat) ({ cls := "FewerMan$Reader", name := "read", desc := "()LFewerMan$Inn;" } : Jvm.MethodName)) ∈ lw_all := lw_g (lw_at lw_m2 19 rfl) rfl
theorem q412 : (Jvm.Cond.fieldLinkNest "FewerMan" (95 : Nat) "FewerMan$Wrong" "place" "I" "FewerMan") ∈ lw_tbl := lw_at lw_m2 92 rfl
theorem q530 : (Jvm.Cond.selects "FewerMan" ({ cls := "java/lang/Object", name := "getClass", desc := "()Ljava/lang/Class;" } : Jvm.MethodName) ({ cls := "java/lang/Object", name := "getClass", desc := "()Ljava/lang/Class;" } : Jvm.MethodName)) ∈ lw_all := lw_g (lw_at lw_m2 210 rfl) rfl
theorem q564 : (Jvm.Cond.instanceMethod ({ cls := "FewerMan", name := "told", desc := "(I)I" } : Jvm.MethodName)) ∈ lw_all := lw_g (lw_at lw_m3 4 rfl) rfl
theorem q565 : (Jvm.Cond.selects "FewerMan" ({ cls := "FewerMan", name := "told", desc := "(I)I" } : Jvm.MethodName) ({ cls := "FewerMan", name := "told", desc := "(I)I" } : Jvm.MethodName)) ∈ lw_all := lw_g (lw_at lw_m3 5 rfl) rfl
theorem q566 : (Jvm.Cond.code ({ cls := "FewerMan", name := "told", desc := "(I)I" } : Jvm.MethodName) prog_1_method_6_code (2 : Nat) (Option.some Jvm.ClassFile.FieldType.int)) ∈ lw_all := lw_g (lw_at lw_m3 6 rfl) rfl
theorem q568 : (Jvm.Cond.instanceMethod ({ cls := "FewerMan", name := "player", desc := "(II)I" } : Jvm.MethodName)) ∈ lw_all := lw_g (lw_at lw_m3 8 rfl) rfl
theorem q569 : (Jvm.Cond.selects "FewerMan" ({ cls := "FewerMan", name := "player", desc := "(II)I" } : Jvm.MethodName) ({ cls := "FewerMan", name := "player", desc := "(II)I" } : Jvm.MethodName)) ∈ lw_all := lw_g (lw_at lw_m3 9 rfl) rfl
theorem q570 : (Jvm.Cond.code ({ cls := "FewerMan", name := "player", desc := "(II)I" } : Jvm.MethodName) prog_1_method_10_code (3 : Nat) (Option.some Jvm.ClassFile.FieldType.int)) ∈ lw_all := lw_g (lw_at lw_m3 10 rfl) rfl
theorem q571 : (Jvm.Cond.methodLink "FewerMan" (107 : Nat) ({ cls := "java/util/ArrayList", name := "size", desc := "()I" } : Jvm.MethodName)) ∈ lw_all := lw_g (lw_at lw_m3 11 rfl) rfl
theorem q572 : (Jvm.Cond.methodLink "FewerMan" (138 : Nat) ({ cls := "FewerMan", name := "make", desc := "(III)LFewerMan$Player;" } : Jvm.MethodName)) ∈ lw_all := lw_g (lw_at lw_m3 12 rfl) rfl
theorem q573 : (Jvm.Cond.privateMethod ({ cls := "FewerMan", name := "make", desc := "(III)LFewerMan$Player;" } : Jvm.MethodName)) ∈ lw_tbl := lw_at lw_m3 13 rfl
theorem q574 : (Jvm.Cond.instanceMethod ({ cls := "FewerMan", name := "make", desc := "(III)LFewerMan$Player;" } : Jvm.MethodName)) ∈ lw_all := lw_g (lw_at lw_m3 14 rfl) rfl
theorem q575 : (Jvm.Cond.code ({ cls := "FewerMan", name := "make", desc := "(III)LFewerMan$Player;" } : Jvm.MethodName) prog_1_method_9_code (4 : Nat) (Option.some (Jvm.ClassFile.FieldType.object "FewerMan$Player"))) ∈ lw_all := lw_g (lw_at lw_m3 15 rfl) rfl
theorem q576 : (Jvm.Cond.classLink "FewerMan" (115 : Nat) "FewerMan$Player") ∈ lw_all := lw_g (lw_at lw_m3 16 rfl) rfl
theorem q578 : (Jvm.Cond.methodLink "FewerMan" (117 : Nat) ({ cls := "FewerMan$Player", name := "<init>", desc := "(LFewerMan;II)V" } : Jvm.MethodName)) ∈ lw_all := lw_g (lw_at lw_m3 18 rfl) rfl
theorem q590 : (Jvm.Cond.fieldLink "FewerMan" (153 : Nat) "FewerMan$Player" "v" "I") ∈ lw_all := lw_g (lw_at lw_m3 30 rfl) rfl
theorem q598 : (Jvm.Cond.fieldLink "FewerMan" (156 : Nat) "FewerMan$Player" "men" "I") ∈ lw_all := lw_g (lw_at lw_m3 38 rfl) rfl
theorem q609 : (Jvm.Cond.classLink "FewerMan" (120 : Nat) "FewerMan$Master") ∈ lw_all := lw_g (lw_at lw_m3 49 rfl) rfl
theorem q611 : (Jvm.Cond.methodLink "FewerMan" (122 : Nat) ({ cls := "FewerMan$Master", name := "<init>", desc := "(LFewerMan;II)V" } : Jvm.MethodName)) ∈ lw_all := lw_g (lw_at lw_m3 51 rfl) rfl
theorem q623 : (Jvm.Cond.classLink "FewerMan" (123 : Nat) "FewerMan$Sly") ∈ lw_all := lw_g (lw_at lw_m3 63 rfl) rfl
theorem q625 : (Jvm.Cond.methodLink "FewerMan" (125 : Nat) ({ cls := "FewerMan$Sly", name := "<init>", desc := "(LFewerMan;II)V" } : Jvm.MethodName)) ∈ lw_all := lw_g (lw_at lw_m3 65 rfl) rfl
theorem q637 : (Jvm.Cond.classLink "FewerMan" (126 : Nat) "FewerMan$Fresh") ∈ lw_all := lw_g (lw_at lw_m3 77 rfl) rfl
theorem q639 : (Jvm.Cond.methodLink "FewerMan" (128 : Nat) ({ cls := "FewerMan$Fresh", name := "<init>", desc := "(LFewerMan;II)V" } : Jvm.MethodName)) ∈ lw_all := lw_g (lw_at lw_m3 79 rfl) rfl
theorem q651 : (Jvm.Cond.classLink "FewerMan" (129 : Nat) "FewerMan$Grand") ∈ lw_all := lw_g (lw_at lw_m3 91 rfl) rfl
theorem q653 : (Jvm.Cond.methodLink "FewerMan" (131 : Nat) ({ cls := "FewerMan$Grand", name := "<init>", desc := "(LFewerMan;II)V" } : Jvm.MethodName)) ∈ lw_all := lw_g (lw_at lw_m3 93 rfl) rfl
theorem q666 : (Jvm.Cond.classLink "FewerMan" (132 : Nat) "FewerMan$Prize") ∈ lw_all := lw_g (lw_at lw_m3 106 rfl) rfl
theorem q668 : (Jvm.Cond.methodLink "FewerMan" (134 : Nat) ({ cls := "FewerMan$Prize", name := "<init>", desc := "(LFewerMan;II)V" } : Jvm.MethodName)) ∈ lw_all := lw_g (lw_at lw_m3 108 rfl) rfl
theorem q681 : (Jvm.Cond.classLink "FewerMan" (135 : Nat) "FewerMan$Told") ∈ lw_all := lw_g (lw_at lw_m3 121 rfl) rfl
theorem q683 : (Jvm.Cond.methodLink "FewerMan" (137 : Nat) ({ cls := "FewerMan$Told", name := "<init>", desc := "(LFewerMan;II)V" } : Jvm.MethodName)) ∈ lw_all := lw_g (lw_at lw_m3 123 rfl) rfl
theorem q689 : (Jvm.Cond.fieldLinkNest "FewerMan" (159 : Nat) "FewerMan$Told" "row" "[I" "FewerMan") ∈ lw_tbl := lw_at lw_m3 129 rfl
theorem q701 : (Jvm.Cond.methodLink "FewerMan" (142 : Nat) ({ cls := "java/util/ArrayList", name := "add", desc := "(Ljava/lang/Object;)Z" } : Jvm.MethodName)) ∈ lw_all := lw_g (lw_at lw_m3 141 rfl) rfl
theorem q703 : (Jvm.Cond.instanceMethod ({ cls := "FewerMan", name := "of", desc := "(II)I" } : Jvm.MethodName)) ∈ lw_all := lw_g (lw_at lw_m3 143 rfl) rfl
theorem q704 : (Jvm.Cond.selects "FewerMan" ({ cls := "FewerMan", name := "of", desc := "(II)I" } : Jvm.MethodName) ({ cls := "FewerMan", name := "of", desc := "(II)I" } : Jvm.MethodName)) ∈ lw_all := lw_g (lw_at lw_m3 144 rfl) rfl
theorem q705 : (Jvm.Cond.code ({ cls := "FewerMan", name := "of", desc := "(II)I" } : Jvm.MethodName) prog_1_method_11_code (4 : Nat) (Option.some Jvm.ClassFile.FieldType.int)) ∈ lw_all := lw_g (lw_at lw_m3 145 rfl) rfl
theorem q706 : (Jvm.Cond.methodLink "FewerMan" (146 : Nat) ({ cls := "FewerMan", name := "playerAt", desc := "(I)LFewerMan$Player;" } : Jvm.MethodName)) ∈ lw_all := lw_g (lw_at lw_m3 146 rfl) rfl
theorem q707 : (Jvm.Cond.privateMethod ({ cls := "FewerMan", name := "playerAt", desc := "(I)LFewerMan$Player;" } : Jvm.MethodName)) ∈ lw_tbl := lw_at lw_m3 147 rfl
theorem q708 : (Jvm.Cond.instanceMethod ({ cls := "FewerMan", name := "playerAt", desc := "(I)LFewerMan$Player;" } : Jvm.MethodName)) ∈ lw_all := lw_g (lw_at lw_m3 148 rfl) rfl
theorem q709 : (Jvm.Cond.code ({ cls := "FewerMan", name := "playerAt", desc := "(I)LFewerMan$Player;" } : Jvm.MethodName) prog_1_method_8_code (2 : Nat) (Option.some (Jvm.ClassFile.FieldType.object "FewerMan$Player"))) ∈ lw_all := lw_g (lw_at lw_m3 149 rfl) rfl
theorem q710 : (Jvm.Cond.methodLink "FewerMan" (111 : Nat) ({ cls := "java/util/ArrayList", name := "get", desc := "(I)Ljava/lang/Object;" } : Jvm.MethodName)) ∈ lw_all := lw_g (lw_at lw_m3 150 rfl) rfl
theorem q724 : (Jvm.Cond.methodLink "FewerMan" (150 : Nat) ({ cls := "FewerMan$Player", name := "kind", desc := "()I" } : Jvm.MethodName)) ∈ lw_all := lw_g (lw_at lw_m3 164 rfl) rfl
theorem q748 : (Jvm.Cond.instanceMethod ({ cls := "FewerMan", name := "men", desc := "(II)I" } : Jvm.MethodName)) ∈ lw_all := lw_g (lw_at lw_m3 188 rfl) rfl
theorem q749 : (Jvm.Cond.selects "FewerMan" ({ cls := "FewerMan", name := "men", desc := "(II)I" } : Jvm.MethodName) ({ cls := "FewerMan", name := "men", desc := "(II)I" } : Jvm.MethodName)) ∈ lw_all := lw_g (lw_at lw_m3 189 rfl) rfl
theorem q750 : (Jvm.Cond.code ({ cls := "FewerMan", name := "men", desc := "(II)I" } : Jvm.MethodName) prog_1_method_12_code (5 : Nat) (Option.some Jvm.ClassFile.FieldType.int)) ∈ lw_all := lw_g (lw_at lw_m3 190 rfl) rfl
theorem q752 : (Jvm.Cond.instanceMethod ({ cls := "FewerMan", name := "row", desc := "(III)I" } : Jvm.MethodName)) ∈ lw_all := lw_g (lw_at lw_m3 192 rfl) rfl
theorem q753 : (Jvm.Cond.selects "FewerMan" ({ cls := "FewerMan", name := "row", desc := "(III)I" } : Jvm.MethodName) ({ cls := "FewerMan", name := "row", desc := "(III)I" } : Jvm.MethodName)) ∈ lw_all := lw_g (lw_at lw_m3 193 rfl) rfl
theorem q754 : (Jvm.Cond.code ({ cls := "FewerMan", name := "row", desc := "(III)I" } : Jvm.MethodName) prog_1_method_13_code (6 : Nat) (Option.some Jvm.ClassFile.FieldType.int)) ∈ lw_all := lw_g (lw_at lw_m3 194 rfl) rfl
theorem q756 : (Jvm.Cond.instanceMethod ({ cls := "FewerMan", name := "push", desc := "(II)I" } : Jvm.MethodName)) ∈ lw_all := lw_g (lw_at lw_m3 196 rfl) rfl
theorem q757 : (Jvm.Cond.selects "FewerMan" ({ cls := "FewerMan", name := "push", desc := "(II)I" } : Jvm.MethodName) ({ cls := "FewerMan", name := "push", desc := "(II)I" } : Jvm.MethodName)) ∈ lw_all := lw_g (lw_at lw_m3 197 rfl) rfl
theorem q758 : (Jvm.Cond.code ({ cls := "FewerMan", name := "push", desc := "(II)I" } : Jvm.MethodName) prog_1_method_15_code (3 : Nat) (Option.some Jvm.ClassFile.FieldType.int)) ∈ lw_all := lw_g (lw_at lw_m3 198 rfl) rfl
theorem q759 : (Jvm.Cond.methodLink "FewerMan" (162 : Nat) ({ cls := "FewerMan", name := "arePlayers", desc := "(II)Z" } : Jvm.MethodName)) ∈ lw_all := lw_g (lw_at lw_m3 199 rfl) rfl
theorem q760 : (Jvm.Cond.privateMethod ({ cls := "FewerMan", name := "arePlayers", desc := "(II)Z" } : Jvm.MethodName)) ∈ lw_tbl := lw_at lw_m3 200 rfl
theorem q761 : (Jvm.Cond.instanceMethod ({ cls := "FewerMan", name := "arePlayers", desc := "(II)Z" } : Jvm.MethodName)) ∈ lw_all := lw_g (lw_at lw_m3 201 rfl) rfl
theorem q762 : (Jvm.Cond.code ({ cls := "FewerMan", name := "arePlayers", desc := "(II)Z" } : Jvm.MethodName) prog_1_method_14_code (3 : Nat) (Option.some Jvm.ClassFile.FieldType.boolean)) ∈ lw_all := lw_g (lw_at lw_m3 202 rfl) rfl
theorem q763 : (Jvm.Cond.methodLink "FewerMan" (166 : Nat) ({ cls := "FewerMan$Player", name := "push", desc := "(LFewerMan$Player;)I" } : Jvm.MethodName)) ∈ lw_all := lw_g (lw_at lw_m3 203 rfl) rfl
theorem q839 : (Jvm.Cond.instanceMethod ({ cls := "FewerMan", name := "odds", desc := "(II)I" } : Jvm.MethodName)) ∈ lw_all := lw_g (lw_at lw_m4 39 rfl) rfl
theorem q840 : (Jvm.Cond.selects "FewerMan" ({ cls := "FewerMan", name := "odds", desc := "(II)I" } : Jvm.MethodName) ({ cls := "FewerMan", name := "odds", desc := "(II)I" } : Jvm.MethodName)) ∈ lw_all := lw_g (lw_at lw_m4 40 rfl) rfl
theorem q841 : (Jvm.Cond.code ({ cls := "FewerMan", name := "odds", desc := "(II)I" } : Jvm.MethodName) prog_1_method_16_code (3 : Nat) (Option.some Jvm.ClassFile.FieldType.int)) ∈ lw_all := lw_g (lw_at lw_m4 41 rfl) rfl
theorem q842 : (Jvm.Cond.methodLink "FewerMan" (170 : Nat) ({ cls := "FewerMan$Player", name := "odds", desc := "(LFewerMan$Player;)I" } : Jvm.MethodName)) ∈ lw_all := lw_g (lw_at lw_m4 42 rfl) rfl
theorem q857 : (Jvm.Cond.instanceMethod ({ cls := "FewerMan", name := "play", desc := "(IIZ)I" } : Jvm.MethodName)) ∈ lw_all := lw_g (lw_at lw_m4 57 rfl) rfl
theorem q858 : (Jvm.Cond.selects "FewerMan" ({ cls := "FewerMan", name := "play", desc := "(IIZ)I" } : Jvm.MethodName) ({ cls := "FewerMan", name := "play", desc := "(IIZ)I" } : Jvm.MethodName)) ∈ lw_all := lw_g (lw_at lw_m4 58 rfl) rfl
theorem q859 : (Jvm.Cond.code ({ cls := "FewerMan", name := "play", desc := "(IIZ)I" } : Jvm.MethodName) prog_1_method_18_code (6 : Nat) (Option.some Jvm.ClassFile.FieldType.int)) ∈ lw_all := lw_g (lw_at lw_m4 59 rfl) rfl
theorem q860 : (Jvm.Cond.methodLink "FewerMan" (182 : Nat) ({ cls := "FewerMan", name := "go", desc := "(LFewerMan$Player;LFewerMan$Player;)V" } : Jvm.MethodName)) ∈ lw_all := lw_g (lw_at lw_m4 60 rfl) rfl
theorem q861 : (Jvm.Cond.privateMethod ({ cls := "FewerMan", name := "go", desc := "(LFewerMan$Player;LFewerMan$Player;)V" } : Jvm.MethodName)) ∈ lw_tbl := lw_at lw_m4 61 rfl
theorem q862 : (Jvm.Cond.instanceMethod ({ cls := "FewerMan", name := "go", desc := "(LFewerMan$Player;LFewerMan$Player;)V" } : Jvm.MethodName)) ∈ lw_all := lw_g (lw_at lw_m4 62 rfl) rfl
theorem q863 : (Jvm.Cond.code ({ cls := "FewerMan", name := "go", desc := "(LFewerMan$Player;LFewerMan$Player;)V" } : Jvm.MethodName) prog_1_method_17_code (3 : Nat) (Option.none : Option Jvm.ClassFile.FieldType)) ∈ lw_all := lw_g (lw_at lw_m4 63 rfl) rfl
theorem q864 : (Jvm.Cond.methodLink "FewerMan" (173 : Nat) ({ cls := "java/lang/Math", name := "max", desc := "(II)I" } : Jvm.MethodName)) ∈ lw_all := lw_g (lw_at lw_m4 64 rfl) rfl
theorem q865 : (Jvm.Cond.methodLink "FewerMan" (179 : Nat) ({ cls := "java/lang/Math", name := "min", desc := "(II)I" } : Jvm.MethodName)) ∈ lw_all := lw_g (lw_at lw_m4 65 rfl) rfl
theorem q867 : (Jvm.Cond.instanceMethod ({ cls := "FewerMan", name := "wins", desc := "(IIIII)J" } : Jvm.MethodName)) ∈ lw_all := lw_g (lw_at lw_m4 67 rfl) rfl
theorem q868 : (Jvm.Cond.selects "FewerMan" ({ cls := "FewerMan", name := "wins", desc := "(IIIII)J" } : Jvm.MethodName) ({ cls := "FewerMan", name := "wins", desc := "(IIIII)J" } : Jvm.MethodName)) ∈ lw_all := lw_g (lw_at lw_m4 68 rfl) rfl
theorem q869 : (Jvm.Cond.code ({ cls := "FewerMan", name := "wins", desc := "(IIIII)J" } : Jvm.MethodName) prog_1_method_24_code (6 : Nat) (Option.some Jvm.ClassFile.FieldType.long)) ∈ lw_all := lw_g (lw_at lw_m4 69 rfl) rfl
theorem q870 : (Jvm.Cond.methodLink "FewerMan" (203 : Nat) ({ cls := "FewerMan", name := "arePair", desc := "(III)Z" } : Jvm.MethodName)) ∈ lw_all := lw_g (lw_at lw_m4 70 rfl) rfl
theorem q871 : (Jvm.Cond.privateMethod ({ cls := "FewerMan", name := "arePair", desc := "(III)Z" } : Jvm.MethodName)) ∈ lw_tbl := lw_at lw_m4 71 rfl
theorem q872 : (Jvm.Cond.instanceMethod ({ cls := "FewerMan", name := "arePair", desc := "(III)Z" } : Jvm.MethodName)) ∈ lw_all := lw_g (lw_at lw_m4 72 rfl) rfl
theorem q873 : (Jvm.Cond.code ({ cls := "FewerMan", name := "arePair", desc := "(III)Z" } : Jvm.MethodName) prog_1_method_21_code (4 : Nat) (Option.some Jvm.ClassFile.FieldType.boolean)) ∈ lw_all := lw_g (lw_at lw_m4 73 rfl) rfl
theorem q874 : (Jvm.Cond.constantLong "FewerMan" (206 : Nat) (-9223372036854775808 : Int64)) ∈ lw_all := lw_g (lw_at lw_m4 74 rfl) rfl
theorem q875 : (Jvm.Cond.methodLink "FewerMan" (208 : Nat) ({ cls := "FewerMan", name := "layWays", desc := "(III)V" } : Jvm.MethodName)) ∈ lw_all := lw_g (lw_at lw_m4 75 rfl) rfl
theorem q876 : (Jvm.Cond.privateMethod ({ cls := "FewerMan", name := "layWays", desc := "(III)V" } : Jvm.MethodName)) ∈ lw_tbl := lw_at lw_m4 76 rfl
theorem q877 : (Jvm.Cond.instanceMethod ({ cls := "FewerMan", name := "layWays", desc := "(III)V" } : Jvm.MethodName)) ∈ lw_all := lw_g (lw_at lw_m4 77 rfl) rfl
theorem q878 : (Jvm.Cond.code ({ cls := "FewerMan", name := "layWays", desc := "(III)V" } : Jvm.MethodName) prog_1_method_23_code (5 : Nat) (Option.none : Option Jvm.ClassFile.FieldType)) ∈ lw_all := lw_g (lw_at lw_m4 78 rfl) rfl
theorem q879 : (Jvm.Cond.methodLink "FewerMan" (199 : Nat) ({ cls := "FewerMan", name := "goWays", desc := "(LFewerMan$Player;LFewerMan$Player;IIZJ)V" } : Jvm.MethodName)) ∈ lw_all := lw_g (lw_at lw_m4 79 rfl) rfl
theorem q880 : (Jvm.Cond.privateMethod ({ cls := "FewerMan", name := "goWays", desc := "(LFewerMan$Player;LFewerMan$Player;IIZJ)V" } : Jvm.MethodName)) ∈ lw_tbl := lw_at lw_m4 80 rfl
theorem q881 : (Jvm.Cond.instanceMethod ({ cls := "FewerMan", name := "goWays", desc := "(LFewerMan$Player;LFewerMan$Player;IIZJ)V" } : Jvm.MethodName)) ∈ lw_all := lw_g (lw_at lw_m4 81 rfl) rfl
theorem q882 : (Jvm.Cond.code ({ cls := "FewerMan", name := "goWays", desc := "(LFewerMan$Player;LFewerMan$Player;IIZJ)V" } : Jvm.MethodName) prog_1_method_22_code (12 : Nat) (Option.none : Option Jvm.ClassFile.FieldType)) ∈ lw_all := lw_g (lw_at lw_m4 82 rfl) rfl
theorem q883 : (Jvm.Cond.methodLink "FewerMan" (212 : Nat) ({ cls := "FewerMan", name := "power", desc := "(I)J" } : Jvm.MethodName)) ∈ lw_all := lw_g (lw_at lw_m4 83 rfl) rfl
theorem q884 : (Jvm.Cond.static ({ cls := "FewerMan", name := "power", desc := "(I)J" } : Jvm.MethodName)) ∈ lw_all := lw_g (lw_at lw_m4 84 rfl) rfl
theorem q885 : (Jvm.Cond.code ({ cls := "FewerMan", name := "power", desc := "(I)J" } : Jvm.MethodName) prog_1_method_19_code (4 : Nat) (Option.some Jvm.ClassFile.FieldType.long)) ∈ lw_all := lw_g (lw_at lw_m4 85 rfl) rfl
theorem q886 : (Jvm.Cond.constantLong "FewerMan" (186 : Nat) (10 : Int64)) ∈ lw_all := lw_g (lw_at lw_m4 86 rfl) rfl
theorem q887 : (Jvm.Cond.methodLink "FewerMan" (216 : Nat) ({ cls := "FewerMan", name := "lowest", desc := "(JJI)J" } : Jvm.MethodName)) ∈ lw_all := lw_g (lw_at lw_m4 87 rfl) rfl
theorem q888 : (Jvm.Cond.static ({ cls := "FewerMan", name := "lowest", desc := "(JJI)J" } : Jvm.MethodName)) ∈ lw_all := lw_g (lw_at lw_m4 88 rfl) rfl
theorem q889 : (Jvm.Cond.code ({ cls := "FewerMan", name := "lowest", desc := "(JJI)J" } : Jvm.MethodName) prog_1_method_20_code (11 : Nat) (Option.some Jvm.ClassFile.FieldType.long)) ∈ lw_all := lw_g (lw_at lw_m4 89 rfl) rfl
theorem q890 : (Jvm.Cond.methodLink "FewerMan" (188 : Nat) ({ cls := "java/lang/Math", name := "abs", desc := "(J)J" } : Jvm.MethodName)) ∈ lw_all := lw_g (lw_at lw_m4 90 rfl) rfl
theorem q894 : (Jvm.Cond.instanceMethod ({ cls := "FewerMan", name := "mean", desc := "(IIII)J" } : Jvm.MethodName)) ∈ lw_all := lw_g (lw_at lw_m4 94 rfl) rfl
theorem q895 : (Jvm.Cond.selects "FewerMan" ({ cls := "FewerMan", name := "mean", desc := "(IIII)J" } : Jvm.MethodName) ({ cls := "FewerMan", name := "mean", desc := "(IIII)J" } : Jvm.MethodName)) ∈ lw_all := lw_g (lw_at lw_m4 95 rfl) rfl
theorem q896 : (Jvm.Cond.code ({ cls := "FewerMan", name := "mean", desc := "(IIII)J" } : Jvm.MethodName) prog_1_method_25_code (5 : Nat) (Option.some Jvm.ClassFile.FieldType.long)) ∈ lw_all := lw_g (lw_at lw_m4 96 rfl) rfl
theorem q898 : (Jvm.Cond.instanceMethod ({ cls := "FewerMan", name := "ends", desc := "(IIII)J" } : Jvm.MethodName)) ∈ lw_all := lw_g (lw_at lw_m4 98 rfl) rfl
theorem q899 : (Jvm.Cond.selects "FewerMan" ({ cls := "FewerMan", name := "ends", desc := "(IIII)J" } : Jvm.MethodName) ({ cls := "FewerMan", name := "ends", desc := "(IIII)J" } : Jvm.MethodName)) ∈ lw_all := lw_g (lw_at lw_m4 99 rfl) rfl
theorem q900 : (Jvm.Cond.code ({ cls := "FewerMan", name := "ends", desc := "(IIII)J" } : Jvm.MethodName) prog_1_method_26_code (5 : Nat) (Option.some Jvm.ClassFile.FieldType.long)) ∈ lw_all := lw_g (lw_at lw_m4 100 rfl) rfl
theorem q902 : (Jvm.Cond.instanceMethod ({ cls := "FewerMan", name := "series", desc := "(IIII)J" } : Jvm.MethodName)) ∈ lw_all := lw_g (lw_at lw_m4 102 rfl) rfl
theorem q903 : (Jvm.Cond.selects "FewerMan" ({ cls := "FewerMan", name := "series", desc := "(IIII)J" } : Jvm.MethodName) ({ cls := "FewerMan", name := "series", desc := "(IIII)J" } : Jvm.MethodName)) ∈ lw_all := lw_g (lw_at lw_m4 103 rfl) rfl
theorem q904 : (Jvm.Cond.code ({ cls := "FewerMan", name := "series", desc := "(IIII)J" } : Jvm.MethodName) prog_1_method_28_code (5 : Nat) (Option.some Jvm.ClassFile.FieldType.long)) ∈ lw_all := lw_g (lw_at lw_m4 104 rfl) rfl
theorem q905 : (Jvm.Cond.methodLink "FewerMan" (220 : Nat) ({ cls := "FewerMan", name := "firstOf", desc := "(LFewerMan$Player;LFewerMan$Player;III)J" } : Jvm.MethodName)) ∈ lw_all := lw_g (lw_at lw_m4 105 rfl) rfl
theorem q906 : (Jvm.Cond.privateMethod ({ cls := "FewerMan", name := "firstOf", desc := "(LFewerMan$Player;LFewerMan$Player;III)J" } : Jvm.MethodName)) ∈ lw_tbl := lw_at lw_m4 106 rfl
theorem q907 : (Jvm.Cond.instanceMethod ({ cls := "FewerMan", name := "firstOf", desc := "(LFewerMan$Player;LFewerMan$Player;III)J" } : Jvm.MethodName)) ∈ lw_all := lw_g (lw_at lw_m4 107 rfl) rfl
theorem q908 : (Jvm.Cond.code ({ cls := "FewerMan", name := "firstOf", desc := "(LFewerMan$Player;LFewerMan$Player;III)J" } : Jvm.MethodName) prog_1_method_27_code (11 : Nat) (Option.some Jvm.ClassFile.FieldType.long)) ∈ lw_all := lw_g (lw_at lw_m4 108 rfl) rfl
theorem q910 : (Jvm.Cond.instanceMethod ({ cls := "FewerMan", name := "even", desc := "(II)I" } : Jvm.MethodName)) ∈ lw_all := lw_g (lw_at lw_m4 110 rfl) rfl
theorem q911 : (Jvm.Cond.selects "FewerMan" ({ cls := "FewerMan", name := "even", desc := "(II)I" } : Jvm.MethodName) ({ cls := "FewerMan", name := "even", desc := "(II)I" } : Jvm.MethodName)) ∈ lw_all := lw_g (lw_at lw_m4 111 rfl) rfl
theorem q912 : (Jvm.Cond.code ({ cls := "FewerMan", name := "even", desc := "(II)I" } : Jvm.MethodName) prog_1_method_29_code (10 : Nat) (Option.some Jvm.ClassFile.FieldType.int)) ∈ lw_all := lw_g (lw_at lw_m4 112 rfl) rfl
theorem q913 : (Jvm.Cond.methodLink "FewerMan" (224 : Nat) ({ cls := "java/lang/Math", name := "abs", desc := "(I)I" } : Jvm.MethodName)) ∈ lw_all := lw_g (lw_at lw_m4 113 rfl) rfl
theorem q917 : (Jvm.Cond.instanceMethod ({ cls := "FewerMan", name := "purpose", desc := "(IIII)J" } : Jvm.MethodName)) ∈ lw_all := lw_g (lw_at lw_m4 117 rfl) rfl
theorem q918 : (Jvm.Cond.selects "FewerMan" ({ cls := "FewerMan", name := "purpose", desc := "(IIII)J" } : Jvm.MethodName) ({ cls := "FewerMan", name := "purpose", desc := "(IIII)J" } : Jvm.MethodName)) ∈ lw_all := lw_g (lw_at lw_m4 118 rfl) rfl
theorem q919 : (Jvm.Cond.code ({ cls := "FewerMan", name := "purpose", desc := "(IIII)J" } : Jvm.MethodName) prog_1_method_31_code (5 : Nat) (Option.some Jvm.ClassFile.FieldType.long)) ∈ lw_all := lw_g (lw_at lw_m4 119 rfl) rfl
theorem q920 : (Jvm.Cond.methodLink "FewerMan" (231 : Nat) ({ cls := "FewerMan", name := "aims", desc := "(LFewerMan$Player;LFewerMan$Player;I)J" } : Jvm.MethodName)) ∈ lw_all := lw_g (lw_at lw_m4 120 rfl) rfl
theorem q921 : (Jvm.Cond.privateMethod ({ cls := "FewerMan", name := "aims", desc := "(LFewerMan$Player;LFewerMan$Player;I)J" } : Jvm.MethodName)) ∈ lw_tbl := lw_at lw_m4 121 rfl
theorem q922 : (Jvm.Cond.instanceMethod ({ cls := "FewerMan", name := "aims", desc := "(LFewerMan$Player;LFewerMan$Player;I)J" } : Jvm.MethodName)) ∈ lw_all := lw_g (lw_at lw_m4 122 rfl) rfl
theorem q923 : (Jvm.Cond.code ({ cls := "FewerMan", name := "aims", desc := "(LFewerMan$Player;LFewerMan$Player;I)J" } : Jvm.MethodName) prog_1_method_30_code (13 : Nat) (Option.some Jvm.ClassFile.FieldType.long)) ∈ lw_all := lw_g (lw_at lw_m4 123 rfl) rfl
theorem q925 : (Jvm.Cond.instanceMethod ({ cls := "FewerMan", name := "loses", desc := "(III)I" } : Jvm.MethodName)) ∈ lw_all := lw_g (lw_at lw_m4 125 rfl) rfl
theorem q926 : (Jvm.Cond.selects "FewerMan" ({ cls := "FewerMan", name := "loses", desc := "(III)I" } : Jvm.MethodName) ({ cls := "FewerMan", name := "loses", desc := "(III)I" } : Jvm.MethodName)) ∈ lw_all := lw_g (lw_at lw_m4 126 rfl) rfl
theorem q927 : (Jvm.Cond.code ({ cls := "FewerMan", name := "loses", desc := "(III)I" } : Jvm.MethodName) prog_1_method_32_code (4 : Nat) (Option.some Jvm.ClassFile.FieldType.int)) ∈ lw_all := lw_g (lw_at lw_m4 127 rfl) rfl
theorem q929 : (Jvm.Cond.instanceMethod ({ cls := "FewerMan", name := "order", desc := "(III)I" } : Jvm.MethodName)) ∈ lw_all := lw_g (lw_at lw_m4 129 rfl) rfl
theorem q930 : (Jvm.Cond.selects "FewerMan" ({ cls := "FewerMan", name := "order", desc := "(III)I" } : Jvm.MethodName) ({ cls := "FewerMan", name := "order", desc := "(III)I" } : Jvm.MethodName)) ∈ lw_all := lw_g (lw_at lw_m4 130 rfl) rfl
theorem q931 : (Jvm.Cond.code ({ cls := "FewerMan", name := "order", desc := "(III)I" } : Jvm.MethodName) prog_1_method_37_code (4 : Nat) (Option.some Jvm.ClassFile.FieldType.int)) ∈ lw_all := lw_g (lw_at lw_m4 131 rfl) rfl
theorem q932 : (Jvm.Cond.methodLink "FewerMan" (262 : Nat) ({ cls := "FewerMan", name := "isSet", desc := "(II)Z" } : Jvm.MethodName)) ∈ lw_all := lw_g (lw_at lw_m4 132 rfl) rfl
theorem q933 : (Jvm.Cond.privateMethod ({ cls := "FewerMan", name := "isSet", desc := "(II)Z" } : Jvm.MethodName)) ∈ lw_tbl := lw_at lw_m4 133 rfl
theorem q934 : (Jvm.Cond.instanceMethod ({ cls := "FewerMan", name := "isSet", desc := "(II)Z" } : Jvm.MethodName)) ∈ lw_all := lw_g (lw_at lw_m4 134 rfl) rfl
theorem q935 : (Jvm.Cond.code ({ cls := "FewerMan", name := "isSet", desc := "(II)Z" } : Jvm.MethodName) prog_1_method_35_code (3 : Nat) (Option.some Jvm.ClassFile.FieldType.boolean)) ∈ lw_all := lw_g (lw_at lw_m4 135 rfl) rfl
theorem q936 : (Jvm.Cond.methodLink "FewerMan" (248 : Nat) ({ cls := "FewerMan", name := "has", desc := "(II)Z" } : Jvm.MethodName)) ∈ lw_all := lw_g (lw_at lw_m4 136 rfl) rfl
theorem q937 : (Jvm.Cond.static ({ cls := "FewerMan", name := "has", desc := "(II)Z" } : Jvm.MethodName)) ∈ lw_all := lw_g (lw_at lw_m4 137 rfl) rfl
theorem q938 : (Jvm.Cond.code ({ cls := "FewerMan", name := "has", desc := "(II)Z" } : Jvm.MethodName) prog_1_method_2_code (2 : Nat) (Option.some Jvm.ClassFile.FieldType.boolean)) ∈ lw_all := lw_g (lw_at lw_m4 138 rfl) rfl
theorem q939 : (Jvm.Cond.methodLink "FewerMan" (255 : Nat) ({ cls := "java/lang/Integer", name := "bitCount", desc := "(I)I" } : Jvm.MethodName)) ∈ lw_all := lw_g (lw_at lw_m4 139 rfl) rfl
theorem q945 : (Jvm.Cond.methodLink "FewerMan" (265 : Nat) ({ cls := "FewerMan", name := "layOrder", desc := "(II)V" } : Jvm.MethodName)) ∈ lw_all := lw_g (lw_at lw_m4 145 rfl) rfl
theorem q946 : (Jvm.Cond.privateMethod ({ cls := "FewerMan", name := "layOrder", desc := "(II)V" } : Jvm.MethodName)) ∈ lw_tbl := lw_at lw_m4 146 rfl
theorem q947 : (Jvm.Cond.instanceMethod ({ cls := "FewerMan", name := "layOrder", desc := "(II)V" } : Jvm.MethodName)) ∈ lw_all := lw_g (lw_at lw_m4 147 rfl) rfl
theorem q948 : (Jvm.Cond.code ({ cls := "FewerMan", name := "layOrder", desc := "(II)V" } : Jvm.MethodName) prog_1_method_36_code (3 : Nat) (Option.none : Option Jvm.ClassFile.FieldType)) ∈ lw_all := lw_g (lw_at lw_m4 148 rfl) rfl
theorem q949 : (Jvm.Cond.constantLong "FewerMan" (260 : Nat) (-1 : Int64)) ∈ lw_all := lw_g (lw_at lw_m4 149 rfl) rfl
theorem q950 : (Jvm.Cond.methodLink "FewerMan" (251 : Nat) ({ cls := "FewerMan", name := "tryOrders", desc := "(LFewerMan$Player;III)V" } : Jvm.MethodName)) ∈ lw_all := lw_g (lw_at lw_m4 150 rfl) rfl
theorem q951 : (Jvm.Cond.privateMethod ({ cls := "FewerMan", name := "tryOrders", desc := "(LFewerMan$Player;III)V" } : Jvm.MethodName)) ∈ lw_tbl := lw_at lw_m4 151 rfl
theorem q952 : (Jvm.Cond.instanceMethod ({ cls := "FewerMan", name := "tryOrders", desc := "(LFewerMan$Player;III)V" } : Jvm.MethodName)) ∈ lw_all := lw_g (lw_at lw_m4 152 rfl) rfl
theorem q953 : (Jvm.Cond.code ({ cls := "FewerMan", name := "tryOrders", desc := "(LFewerMan$Player;III)V" } : Jvm.MethodName) prog_1_method_34_code (7 : Nat) (Option.none : Option Jvm.ClassFile.FieldType)) ∈ lw_all := lw_g (lw_at lw_m4 153 rfl) rfl
theorem q954 : (Jvm.Cond.methodLink "FewerMan" (235 : Nat) ({ cls := "FewerMan", name := "winsOf", desc := "(LFewerMan$Player;II)J" } : Jvm.MethodName)) ∈ lw_all := lw_g (lw_at lw_m4 154 rfl) rfl
theorem q955 : (Jvm.Cond.privateMethod ({ cls := "FewerMan", name := "winsOf", desc := "(LFewerMan$Player;II)J" } : Jvm.MethodName)) ∈ lw_tbl := lw_at lw_m4 155 rfl
theorem q956 : (Jvm.Cond.instanceMethod ({ cls := "FewerMan", name := "winsOf", desc := "(LFewerMan$Player;II)J" } : Jvm.MethodName)) ∈ lw_all := lw_g (lw_at lw_m4 156 rfl) rfl
theorem q957 : (Jvm.Cond.code ({ cls := "FewerMan", name := "winsOf", desc := "(LFewerMan$Player;II)J" } : Jvm.MethodName) prog_1_method_33_code (10 : Nat) (Option.some Jvm.ClassFile.FieldType.long)) ∈ lw_all := lw_g (lw_at lw_m4 157 rfl) rfl
theorem q958 : (Jvm.Cond.methodLink "FewerMan" (242 : Nat) ({ cls := "java/lang/System", name := "arraycopy", desc := "(Ljava/lang/Object;ILjava/lang/Object;II)V" } : Jvm.MethodName)) ∈ lw_all := lw_g (lw_at lw_m4 158 rfl) rfl
theorem q960 : (Jvm.Cond.instanceMethod ({ cls := "FewerMan", name := "orderMean", desc := "(III)J" } : Jvm.MethodName)) ∈ lw_all := lw_g (lw_at lw_m4 160 rfl) rfl
theorem q961 : (Jvm.Cond.selects "FewerMan" ({ cls := "FewerMan", name := "orderMean", desc := "(III)J" } : Jvm.MethodName) ({ cls := "FewerMan", name := "orderMean", desc := "(III)J" } : Jvm.MethodName)) ∈ lw_all := lw_g (lw_at lw_m4 161 rfl) rfl
theorem q962 : (Jvm.Cond.code ({ cls := "FewerMan", name := "orderMean", desc := "(III)J" } : Jvm.MethodName) prog_1_method_38_code (4 : Nat) (Option.some Jvm.ClassFile.FieldType.long)) ∈ lw_all := lw_g (lw_at lw_m4 162 rfl) rfl
theorem q964 : (Jvm.Cond.instanceMethod ({ cls := "FewerMan", name := "stakes", desc := "(IIII)J" } : Jvm.MethodName)) ∈ lw_all := lw_g (lw_at lw_m4 164 rfl) rfl
theorem q965 : (Jvm.Cond.selects "FewerMan" ({ cls := "FewerMan", name := "stakes", desc := "(IIII)J" } : Jvm.MethodName) ({ cls := "FewerMan", name := "stakes", desc := "(IIII)J" } : Jvm.MethodName)) ∈ lw_all := lw_g (lw_at lw_m4 165 rfl) rfl
theorem q966 : (Jvm.Cond.code ({ cls := "FewerMan", name := "stakes", desc := "(IIII)J" } : Jvm.MethodName) prog_1_method_40_code (5 : Nat) (Option.some Jvm.ClassFile.FieldType.long)) ∈ lw_all := lw_g (lw_at lw_m4 166 rfl) rfl
theorem q967 : (Jvm.Cond.methodLink "FewerMan" (269 : Nat) ({ cls := "FewerMan", name := "paid", desc := "(LFewerMan$Player;LFewerMan$Player;I)J" } : Jvm.MethodName)) ∈ lw_all := lw_g (lw_at lw_m4 167 rfl) rfl
theorem q968 : (Jvm.Cond.privateMethod ({ cls := "FewerMan", name := "paid", desc := "(LFewerMan$Player;LFewerMan$Player;I)J" } : Jvm.MethodName)) ∈ lw_tbl := lw_at lw_m4 168 rfl
theorem q969 : (Jvm.Cond.instanceMethod ({ cls := "FewerMan", name := "paid", desc := "(LFewerMan$Player;LFewerMan$Player;I)J" } : Jvm.MethodName)) ∈ lw_all := lw_g (lw_at lw_m4 169 rfl) rfl
theorem q970 : (Jvm.Cond.code ({ cls := "FewerMan", name := "paid", desc := "(LFewerMan$Player;LFewerMan$Player;I)J" } : Jvm.MethodName) prog_1_method_39_code (9 : Nat) (Option.some Jvm.ClassFile.FieldType.long)) ∈ lw_all := lw_g (lw_at lw_m4 170 rfl) rfl
theorem q972 : (Jvm.Cond.instanceMethod ({ cls := "FewerMan", name := "table", desc := "(III)J" } : Jvm.MethodName)) ∈ lw_all := lw_g (lw_at lw_m4 172 rfl) rfl
theorem q973 : (Jvm.Cond.selects "FewerMan" ({ cls := "FewerMan", name := "table", desc := "(III)J" } : Jvm.MethodName) ({ cls := "FewerMan", name := "table", desc := "(III)J" } : Jvm.MethodName)) ∈ lw_all := lw_g (lw_at lw_m4 173 rfl) rfl
theorem q974 : (Jvm.Cond.code ({ cls := "FewerMan", name := "table", desc := "(III)J" } : Jvm.MethodName) prog_1_method_43_code (5 : Nat) (Option.some Jvm.ClassFile.FieldType.long)) ∈ lw_all := lw_g (lw_at lw_m4 174 rfl) rfl
theorem q975 : (Jvm.Cond.methodLink "FewerMan" (276 : Nat) ({ cls := "FewerMan", name := "atTable", desc := "(IIII)J" } : Jvm.MethodName)) ∈ lw_all := lw_g (lw_at lw_m4 175 rfl) rfl
theorem q976 : (Jvm.Cond.privateMethod ({ cls := "FewerMan", name := "atTable", desc := "(IIII)J" } : Jvm.MethodName)) ∈ lw_tbl := lw_at lw_m4 176 rfl
theorem q977 : (Jvm.Cond.instanceMethod ({ cls := "FewerMan", name := "atTable", desc := "(IIII)J" } : Jvm.MethodName)) ∈ lw_all := lw_g (lw_at lw_m4 177 rfl) rfl
theorem q978 : (Jvm.Cond.code ({ cls := "FewerMan", name := "atTable", desc := "(IIII)J" } : Jvm.MethodName) prog_1_method_41_code (8 : Nat) (Option.some Jvm.ClassFile.FieldType.long)) ∈ lw_all := lw_g (lw_at lw_m4 178 rfl) rfl
theorem q979 : (Jvm.Cond.methodLink "FewerMan" (272 : Nat) ({ cls := "FewerMan", name := "behind", desc := "(IIII)J" } : Jvm.MethodName)) ∈ lw_all := lw_g (lw_at lw_m4 179 rfl) rfl
theorem q980 : (Jvm.Cond.privateMethod ({ cls := "FewerMan", name := "behind", desc := "(IIII)J" } : Jvm.MethodName)) ∈ lw_tbl := lw_at lw_m4 180 rfl
theorem q981 : (Jvm.Cond.instanceMethod ({ cls := "FewerMan", name := "behind", desc := "(IIII)J" } : Jvm.MethodName)) ∈ lw_all := lw_g (lw_at lw_m4 181 rfl) rfl
theorem q982 : (Jvm.Cond.code ({ cls := "FewerMan", name := "behind", desc := "(IIII)J" } : Jvm.MethodName) prog_1_method_42_code (13 : Nat) (Option.some Jvm.ClassFile.FieldType.long)) ∈ lw_all := lw_g (lw_at lw_m4 182 rfl) rfl
theorem q984 : (Jvm.Cond.instanceMethod ({ cls := "FewerMan", name := "book", desc := "(IIZ)I" } : Jvm.MethodName)) ∈ lw_all := lw_g (lw_at lw_m4 184 rfl) rfl
theorem q985 : (Jvm.Cond.selects "FewerMan" ({ cls := "FewerMan", name := "book", desc := "(IIZ)I" } : Jvm.MethodName) ({ cls := "FewerMan", name := "book", desc := "(IIZ)I" } : Jvm.MethodName)) ∈ lw_all := lw_g (lw_at lw_m4 185 rfl) rfl
theorem q986 : (Jvm.Cond.code ({ cls := "FewerMan", name := "book", desc := "(IIZ)I" } : Jvm.MethodName) prog_1_method_44_code (4 : Nat) (Option.some Jvm.ClassFile.FieldType.int)) ∈ lw_all := lw_g (lw_at lw_m4 186 rfl) rfl
theorem q988 : (Jvm.Cond.instanceMethod ({ cls := "FewerMan", name := "likely", desc := "(I)I" } : Jvm.MethodName)) ∈ lw_all := lw_g (lw_at lw_m4 188 rfl) rfl
theorem q989 : (Jvm.Cond.selects "FewerMan" ({ cls := "FewerMan", name := "likely", desc := "(I)I" } : Jvm.MethodName) ({ cls := "FewerMan", name := "likely", desc := "(I)I" } : Jvm.MethodName)) ∈ lw_all := lw_g (lw_at lw_m4 189 rfl) rfl
theorem q990 : (Jvm.Cond.code ({ cls := "FewerMan", name := "likely", desc := "(I)I" } : Jvm.MethodName) prog_1_method_49_code (10 : Nat) (Option.some Jvm.ClassFile.FieldType.int)) ∈ lw_all := lw_g (lw_at lw_m4 190 rfl) rfl
theorem q991 : (Jvm.Cond.methodLink "FewerMan" (294 : Nat) ({ cls := "FewerMan", name := "bookOdds", desc := "()J" } : Jvm.MethodName)) ∈ lw_all := lw_g (lw_at lw_m4 191 rfl) rfl
theorem q992 : (Jvm.Cond.privateMethod ({ cls := "FewerMan", name := "bookOdds", desc := "()J" } : Jvm.MethodName)) ∈ lw_tbl := lw_at lw_m4 192 rfl
theorem q993 : (Jvm.Cond.instanceMethod ({ cls := "FewerMan", name := "bookOdds", desc := "()J" } : Jvm.MethodName)) ∈ lw_all := lw_g (lw_at lw_m4 193 rfl) rfl
theorem q994 : (Jvm.Cond.code ({ cls := "FewerMan", name := "bookOdds", desc := "()J" } : Jvm.MethodName) prog_1_method_48_code (4 : Nat) (Option.some Jvm.ClassFile.FieldType.long)) ∈ lw_all := lw_g (lw_at lw_m4 194 rfl) rfl
theorem q995 : (Jvm.Cond.methodLink "FewerMan" (285 : Nat) ({ cls := "FewerMan", name := "keep", desc := "()V" } : Jvm.MethodName)) ∈ lw_all := lw_g (lw_at lw_m4 195 rfl) rfl
theorem q996 : (Jvm.Cond.privateMethod ({ cls := "FewerMan", name := "keep", desc := "()V" } : Jvm.MethodName)) ∈ lw_tbl := lw_at lw_m4 196 rfl
theorem q997 : (Jvm.Cond.instanceMethod ({ cls := "FewerMan", name := "keep", desc := "()V" } : Jvm.MethodName)) ∈ lw_all := lw_g (lw_at lw_m4 197 rfl) rfl
theorem q998 : (Jvm.Cond.code ({ cls := "FewerMan", name := "keep", desc := "()V" } : Jvm.MethodName) prog_1_method_45_code (2 : Nat) (Option.none : Option Jvm.ClassFile.FieldType)) ∈ lw_all := lw_g (lw_at lw_m4 198 rfl) rfl
theorem q999 : (Jvm.Cond.methodLink "FewerMan" (288 : Nat) ({ cls := "FewerMan", name := "goBook", desc := "(I)I" } : Jvm.MethodName)) ∈ lw_all := lw_g (lw_at lw_m4 199 rfl) rfl
theorem q1000 : (Jvm.Cond.privateMethod ({ cls := "FewerMan", name := "goBook", desc := "(I)I" } : Jvm.MethodName)) ∈ lw_tbl := lw_at lw_m4 200 rfl
theorem q1001 : (Jvm.Cond.instanceMethod ({ cls := "FewerMan", name := "goBook", desc := "(I)I" } : Jvm.MethodName)) ∈ lw_all := lw_g (lw_at lw_m4 201 rfl) rfl
theorem q1002 : (Jvm.Cond.code ({ cls := "FewerMan", name := "goBook", desc := "(I)I" } : Jvm.MethodName) prog_1_method_47_code (5 : Nat) (Option.some Jvm.ClassFile.FieldType.int)) ∈ lw_all := lw_g (lw_at lw_m4 202 rfl) rfl
theorem q1003 : (Jvm.Cond.methodLink "FewerMan" (291 : Nat) ({ cls := "FewerMan", name := "putBack", desc := "()V" } : Jvm.MethodName)) ∈ lw_all := lw_g (lw_at lw_m4 203 rfl) rfl
theorem q1004 : (Jvm.Cond.privateMethod ({ cls := "FewerMan", name := "putBack", desc := "()V" } : Jvm.MethodName)) ∈ lw_tbl := lw_at lw_m4 204 rfl
theorem q1005 : (Jvm.Cond.instanceMethod ({ cls := "FewerMan", name := "putBack", desc := "()V" } : Jvm.MethodName)) ∈ lw_all := lw_g (lw_at lw_m4 205 rfl) rfl
theorem q1006 : (Jvm.Cond.code ({ cls := "FewerMan", name := "putBack", desc := "()V" } : Jvm.MethodName) prog_1_method_46_code (2 : Nat) (Option.none : Option Jvm.ClassFile.FieldType)) ∈ lw_all := lw_g (lw_at lw_m4 206 rfl) rfl
theorem q1008 : (Jvm.Cond.instanceMethod ({ cls := "FewerMan", name := "says", desc := "(I)I" } : Jvm.MethodName)) ∈ lw_all := lw_g (lw_at lw_m4 208 rfl) rfl
theorem q1009 : (Jvm.Cond.selects "FewerMan" ({ cls := "FewerMan", name := "says", desc := "(I)I" } : Jvm.MethodName) ({ cls := "FewerMan", name := "says", desc := "(I)I" } : Jvm.MethodName)) ∈ lw_all := lw_g (lw_at lw_m4 209 rfl) rfl
theorem q1010 : (Jvm.Cond.code ({ cls := "FewerMan", name := "says", desc := "(I)I" } : Jvm.MethodName) prog_1_method_50_code (4 : Nat) (Option.some Jvm.ClassFile.FieldType.int)) ∈ lw_all := lw_g (lw_at lw_m4 210 rfl) rfl
theorem q1012 : (Jvm.Cond.instanceMethod ({ cls := "FewerMan", name := "tale", desc := "(I)I" } : Jvm.MethodName)) ∈ lw_all := lw_g (lw_at lw_m4 212 rfl) rfl
theorem q1013 : (Jvm.Cond.selects "FewerMan" ({ cls := "FewerMan", name := "tale", desc := "(I)I" } : Jvm.MethodName) ({ cls := "FewerMan", name := "tale", desc := "(I)I" } : Jvm.MethodName)) ∈ lw_all := lw_g (lw_at lw_m4 213 rfl) rfl
theorem q1014 : (Jvm.Cond.code ({ cls := "FewerMan", name := "tale", desc := "(I)I" } : Jvm.MethodName) prog_1_method_51_code (2 : Nat) (Option.some Jvm.ClassFile.FieldType.int)) ∈ lw_all := lw_g (lw_at lw_m4 214 rfl) rfl
theorem q1016 : (Jvm.Cond.instanceMethod ({ cls := "FewerMan", name := "looked", desc := "()I" } : Jvm.MethodName)) ∈ lw_all := lw_g (lw_at lw_m4 216 rfl) rfl
theorem q1017 : (Jvm.Cond.selects "FewerMan" ({ cls := "FewerMan", name := "looked", desc := "()I" } : Jvm.MethodName) ({ cls := "FewerMan", name := "looked", desc := "()I" } : Jvm.MethodName)) ∈ lw_all := lw_g (lw_at lw_m4 217 rfl) rfl
theorem q1018 : (Jvm.Cond.code ({ cls := "FewerMan", name := "looked", desc := "()I" } : Jvm.MethodName) prog_1_method_52_code (3 : Nat) (Option.some Jvm.ClassFile.FieldType.int)) ∈ lw_all := lw_g (lw_at lw_m4 218 rfl) rfl
theorem q1019 : (Jvm.Cond.methodLink "FewerMan" (301 : Nat) ({ cls := "java/util/ArrayList", name := "isEmpty", desc := "()Z" } : Jvm.MethodName)) ∈ lw_all := lw_g (lw_at lw_m4 219 rfl) rfl
theorem q1024 : (Jvm.Cond.instanceMethod ({ cls := "FewerMan", name := "act", desc := "(III)I" } : Jvm.MethodName)) ∈ lw_all := lw_g (lw_at lw_m4 224 rfl) rfl
theorem q1025 : (Jvm.Cond.selects "FewerMan" ({ cls := "FewerMan", name := "act", desc := "(III)I" } : Jvm.MethodName) ({ cls := "FewerMan", name := "act", desc := "(III)I" } : Jvm.MethodName)) ∈ lw_all := lw_g (lw_at lw_m4 225 rfl) rfl
theorem q1026 : (Jvm.Cond.code ({ cls := "FewerMan", name := "act", desc := "(III)I" } : Jvm.MethodName) prog_1_method_53_code (5 : Nat) (Option.some Jvm.ClassFile.FieldType.int)) ∈ lw_all := lw_g (lw_at lw_m4 226 rfl) rfl
theorem q1027 : (Jvm.Cond.methodLink "FewerMan" (305 : Nat) ({ cls := "FewerMan$Player", name := "moves", desc := "(I)I" } : Jvm.MethodName)) ∈ lw_all := lw_g (lw_at lw_m4 227 rfl) rfl
theorem q1036 : (Jvm.Cond.privateMethod ({ cls := "FewerMan", name := "body", desc := "(I)V" } : Jvm.MethodName)) ∈ lw_tbl := lw_at lw_m4 236 rfl
theorem q1037 : (Jvm.Cond.instanceMethod ({ cls := "FewerMan", name := "body", desc := "(I)V" } : Jvm.MethodName)) ∈ lw_all := lw_g (lw_at lw_m4 237 rfl) rfl
theorem q1038 : (Jvm.Cond.code ({ cls := "FewerMan", name := "body", desc := "(I)V" } : Jvm.MethodName) prog_1_method_7_code (2 : Nat) (Option.none : Option Jvm.ClassFile.FieldType)) ∈ lw_all := lw_g (lw_at lw_m4 238 rfl) rfl
theorem q1052 : (Jvm.Cond.methodLink "FewerMan" (308 : Nat) ({ cls := "FewerMan$Player", name := "bets", desc := "(I)I" } : Jvm.MethodName)) ∈ lw_all := lw_g (lw_at lw_m5 12 rfl) rfl
theorem q1074 : (Jvm.Cond.methodLink "FewerMan" (311 : Nat) ({ cls := "FewerMan$Player", name := "tells", desc := "(I)I" } : Jvm.MethodName)) ∈ lw_all := lw_g (lw_at lw_m5 34 rfl) rfl
theorem q1101 : (Jvm.Cond.instanceMethod ({ cls := "FewerMan", name := "trace", desc := "(I)I" } : Jvm.MethodName)) ∈ lw_all := lw_g (lw_at lw_m5 61 rfl) rfl
theorem q1102 : (Jvm.Cond.selects "FewerMan" ({ cls := "FewerMan", name := "trace", desc := "(I)I" } : Jvm.MethodName) ({ cls := "FewerMan", name := "trace", desc := "(I)I" } : Jvm.MethodName)) ∈ lw_all := lw_g (lw_at lw_m5 62 rfl) rfl
theorem q1103 : (Jvm.Cond.code ({ cls := "FewerMan", name := "trace", desc := "(I)I" } : Jvm.MethodName) prog_1_method_54_code (2 : Nat) (Option.some Jvm.ClassFile.FieldType.int)) ∈ lw_all := lw_g (lw_at lw_m5 63 rfl) rfl
theorem q1105 : (Jvm.Cond.instanceMethod ({ cls := "FewerMan", name := "as", desc := "(II)I" } : Jvm.MethodName)) ∈ lw_all := lw_g (lw_at lw_m5 65 rfl) rfl
theorem q1106 : (Jvm.Cond.selects "FewerMan" ({ cls := "FewerMan", name := "as", desc := "(II)I" } : Jvm.MethodName) ({ cls := "FewerMan", name := "as", desc := "(II)I" } : Jvm.MethodName)) ∈ lw_all := lw_g (lw_at lw_m5 66 rfl) rfl
theorem q1107 : (Jvm.Cond.code ({ cls := "FewerMan", name := "as", desc := "(II)I" } : Jvm.MethodName) prog_1_method_55_code (4 : Nat) (Option.some Jvm.ClassFile.FieldType.int)) ∈ lw_all := lw_g (lw_at lw_m5 67 rfl) rfl
theorem q1108 : (Jvm.Cond.methodLink "FewerMan" (314 : Nat) ({ cls := "FewerMan$Player", name := "isUnder", desc := "(I)Z" } : Jvm.MethodName)) ∈ lw_all := lw_g (lw_at lw_m5 68 rfl) rfl
theorem q1138 : (Jvm.Cond.instanceMethod ({ cls := "FewerMan", name := "image", desc := "()I" } : Jvm.MethodName)) ∈ lw_all := lw_g (lw_at lw_m5 98 rfl) rfl
theorem q1139 : (Jvm.Cond.selects "FewerMan" ({ cls := "FewerMan", name := "image", desc := "()I" } : Jvm.MethodName) ({ cls := "FewerMan", name := "image", desc := "()I" } : Jvm.MethodName)) ∈ lw_all := lw_g (lw_at lw_m5 99 rfl) rfl
theorem q1140 : (Jvm.Cond.code ({ cls := "FewerMan", name := "image", desc := "()I" } : Jvm.MethodName) prog_1_method_56_code (1 : Nat) (Option.some Jvm.ClassFile.FieldType.int)) ∈ lw_all := lw_g (lw_at lw_m5 100 rfl) rfl
theorem q1141 : (Jvm.Cond.classLink "FewerMan" (318 : Nat) "FewerMan$Image") ∈ lw_all := lw_g (lw_at lw_m5 101 rfl) rfl
theorem q1143 : (Jvm.Cond.methodLink "FewerMan" (320 : Nat) ({ cls := "FewerMan$Image", name := "<init>", desc := "(LFewerMan;)V" } : Jvm.MethodName)) ∈ lw_all := lw_g (lw_at lw_m5 103 rfl) rfl
theorem q1216 : (Jvm.Cond.instanceMethod ({ cls := "FewerMan", name := "undo", desc := "()I" } : Jvm.MethodName)) ∈ lw_all := lw_g (lw_at lw_m5 176 rfl) rfl
theorem q1217 : (Jvm.Cond.selects "FewerMan" ({ cls := "FewerMan", name := "undo", desc := "()I" } : Jvm.MethodName) ({ cls := "FewerMan", name := "undo", desc := "()I" } : Jvm.MethodName)) ∈ lw_all := lw_g (lw_at lw_m5 177 rfl) rfl
theorem q1218 : (Jvm.Cond.code ({ cls := "FewerMan", name := "undo", desc := "()I" } : Jvm.MethodName) prog_1_method_57_code (1 : Nat) (Option.some Jvm.ClassFile.FieldType.int)) ∈ lw_all := lw_g (lw_at lw_m5 178 rfl) rfl
theorem q1219 : (Jvm.Cond.methodLink "FewerMan" (325 : Nat) ({ cls := "FewerMan$Image", name := "restore", desc := "()V" } : Jvm.MethodName)) ∈ lw_all := lw_g (lw_at lw_m5 179 rfl) rfl
theorem q1234 : (Jvm.Cond.instanceMethod ({ cls := "FewerMan", name := "count", desc := "(I)I" } : Jvm.MethodName)) ∈ lw_all := lw_g (lw_at lw_m5 194 rfl) rfl
theorem q1235 : (Jvm.Cond.selects "FewerMan" ({ cls := "FewerMan", name := "count", desc := "(I)I" } : Jvm.MethodName) ({ cls := "FewerMan", name := "count", desc := "(I)I" } : Jvm.MethodName)) ∈ lw_all := lw_g (lw_at lw_m5 195 rfl) rfl
theorem q1236 : (Jvm.Cond.code ({ cls := "FewerMan", name := "count", desc := "(I)I" } : Jvm.MethodName) prog_1_method_58_code (2 : Nat) (Option.some Jvm.ClassFile.FieldType.int)) ∈ lw_all := lw_g (lw_at lw_m5 196 rfl) rfl
theorem q1696 : (Jvm.Cond.castable "FewerMan" "java/lang/Object") ∈ lw_tbl := lw_at lw_m7 176 rfl
theorem in_X0 : ∀ w ∈ wsX00, w ∈ lw_all := lw_in wsX00 [270, 272, 274, 276, 278, 280, 282, 284, 286, 288, 290, 292, 294, 296, 298, 300, 302, 304, 306, 308, 310, 312, 314, 316, 318, 320, 322] (by decide +kernel) (by decide +kernel)
