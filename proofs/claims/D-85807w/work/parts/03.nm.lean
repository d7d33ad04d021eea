/-! FlashBoardModel -/
set_option maxRecDepth 100000
def RX12 : String := "FlashBoardModel"
def TX12 : u_T := fun k => match k with
  | 0 => ("FlashBoardModel", "thrown", "I", false)
  | 1 => ("FlashBoardModel", "flash", "[I", true)
  | 2 => ("FlashBoardModel", "buffer", "[I", true)
  | 3 => ("FlashBoardModel", "data", "[I", true)
  | 4 => ("FlashBoardModel", "rom", "[I", true)
  | 5 => ("FlashBoardModel", "isLaid", "[Z", true)
  | 6 => ("FlashBoardModel", "locks", "I", false)
  | 7 => ("FlashBoardModel", "fuse", "I", false)
  | 8 => ("FlashBoardModel", "pins", "I", false)
  | 9 => ("FlashBoardModel", "isOn", "Z", false)
  | 10 => ("FlashBoardModel", "sleeps", "Z", false)
  | 11 => ("FlashBoardModel", "isFresh", "Z", false)
  | 12 => ("FlashBoardModel", "pc", "I", false)
  | 13 => ("FlashBoardModel", "cycles", "I", false)
  | 14 => ("FlashBoardModel", "steps", "I", false)
  | 15 => ("FlashBoardModel", "entries", "I", false)
  | 16 => ("FlashBoardModel", "resets", "I", false)
  | 17 => ("FlashBoardModel", "busy", "I", false)
  | 18 => ("FlashBoardModel", "prescaler", "I", false)
  | 19 => ("FlashBoardModel", "count", "I", false)
  | 20 => ("FlashBoardModel", "romLeft", "I", false)
  | 21 => ("FlashBoardModel", "window57", "I", false)
  | 22 => ("FlashBoardModel", "window60", "I", false)
  | 23 => ("FlashBoardModel", "window55", "I", false)
  | 24 => ("FlashBoardModel", "window3f", "I", false)
  | 25 => ("FlashBoardModel", "waits", "I", false)
  | 26 => ("FlashBoardModel", "sends", "I", false)
  | 27 => ("FlashBoardModel", "sendsLeft", "I", false)
  | 28 => ("FlashBoardModel", "comes", "I", false)
  | 29 => ("FlashBoardModel", "comesLeft", "I", false)
  | 30 => ("FlashBoardModel", "first", "I", false)
  | 31 => ("FlashBoardModel", "second", "I", false)
  | 32 => ("FlashBoardModel", "received", "I", false)
  | 33 => ("FlashBoardModel", "host", "[I", true)
  | 34 => ("FlashBoardModel", "had", "[I", true)
  | 35 => ("FlashBoardModel", "hosts", "I", false)
  | 36 => ("FlashBoardModel", "sent", "I", false)
  | 37 => ("FlashBoardModel", "more", "I", false)
  | _ => ("FlashBoardModel", "here", "I", false)
def tyX12 : Nat → FieldType := fun k => match k with
  | 0 => .int
  | 1 => .array .int
  | 2 => .array .int
  | 3 => .array .int
  | 4 => .array .int
  | 5 => .array .boolean
  | 6 => .int
  | 7 => .int
  | 8 => .int
  | 9 => .boolean
  | 10 => .boolean
  | 11 => .boolean
  | 12 => .int
  | 13 => .int
  | 14 => .int
  | 15 => .int
  | 16 => .int
  | 17 => .int
  | 18 => .int
  | 19 => .int
  | 20 => .int
  | 21 => .int
  | 22 => .int
  | 23 => .int
  | 24 => .int
  | 25 => .int
  | 26 => .int
  | 27 => .int
  | 28 => .int
  | 29 => .int
  | 30 => .int
  | 31 => .int
  | 32 => .int
  | 33 => .array .int
  | 34 => .array .int
  | 35 => .int
  | 36 => .int
  | 37 => .int
  | _ => .int
abbrev wsX120 : List Cond := u_ws RX12 TX12 39
set_option maxRecDepth 100000 in
theorem nmX12 : ∀ a, a < 39 → ∀ b, b < 39 → a ≠ b → (TX12 a).2.1 ≠ (TX12 b).2.1 := by decide +kernel
set_option maxRecDepth 100000 in
theorem tyX12_ok : ∀ k, k < 39 → parseFieldDescriptor (TX12 k).2.2.1 = some (tyX12 k) := by decide +kernel
abbrev cX12_init : ByteArray := prog_13_method_1_code
def yX12_init : MethodName := ⟨RX12, "<init>", "()V"⟩
def dkwX12_init_7 : List UInt8 := [167, 255, 237, 42, 4, 182, 0, 56, 177]
abbrev dktX12_init_7 : List UInt8 := dkwX12_init_7 ++ []
def dkwX12_init_6 : List UInt8 := [182, 0, 46, 3, 60, 27, 17, 1, 0, 162, 0, 18, 42, 180, 0, 19, 27, 17, 0, 255, 79, 132, 1, 1]
abbrev dktX12_init_6 : List UInt8 := dkwX12_init_6 ++ dktX12_init_7
def dkwX12_init_5 : List UInt8 := [18, 50, 17, 6, 60, 182, 0, 46, 42, 18, 52, 17, 6, 120, 182, 0, 46, 42, 18, 54, 17, 6, 180]
abbrev dktX12_init_5 : List UInt8 := dkwX12_init_5 ++ dktX12_init_6
def dkwX12_init_4 : List UInt8 := [180, 0, 7, 27, 18, 43, 79, 132, 1, 1, 167, 255, 238, 42, 18, 44, 17, 6, 0, 182, 0, 46, 42]
abbrev dktX12_init_4 : List UInt8 := dkwX12_init_4 ++ dktX12_init_5
def dkwX12_init_3 : List UInt8 := [188, 10, 181, 0, 37, 42, 17, 3, 232, 188, 10, 181, 0, 40, 3, 60, 27, 17, 8, 0, 162, 0, 17, 42]
abbrev dktX12_init_3 : List UInt8 := dkwX12_init_3 ++ dktX12_init_4
def dkwX12_init_2 : List UInt8 := [181, 0, 22, 42, 16, 15, 181, 0, 26, 42, 4, 181, 0, 30, 42, 4, 181, 0, 33, 42, 17, 1, 44]
abbrev dktX12_init_2 : List UInt8 := dkwX12_init_2 ++ dktX12_init_3
def dkwX12_init_1 : List UInt8 := [17, 5, 0, 188, 10, 181, 0, 16, 42, 17, 1, 0, 188, 10, 181, 0, 19, 42, 16, 32, 188, 4]
abbrev dktX12_init_1 : List UInt8 := dkwX12_init_1 ++ dktX12_init_2
def dkwX12_init_0 : List UInt8 := [42, 183, 0, 1, 42, 17, 8, 0, 188, 10, 181, 0, 7, 42, 16, 32, 188, 10, 181, 0, 13, 42]
abbrev dktX12_init_0 : List UInt8 := dkwX12_init_0 ++ dktX12_init_1
theorem dksX12_init_0 : cX12_init.data.toList.drop 0 = dktX12_init_0 := by decide +kernel
theorem dksX12_init_1 : cX12_init.data.toList.drop 22 = dktX12_init_1 := dk_seg dksX12_init_0 22 rfl rfl
theorem dksX12_init_2 : cX12_init.data.toList.drop 44 = dktX12_init_2 := dk_seg dksX12_init_1 22 rfl rfl
theorem dksX12_init_3 : cX12_init.data.toList.drop 67 = dktX12_init_3 := dk_seg dksX12_init_2 23 rfl rfl
theorem dksX12_init_4 : cX12_init.data.toList.drop 91 = dktX12_init_4 := dk_seg dksX12_init_3 24 rfl rfl
theorem dksX12_init_5 : cX12_init.data.toList.drop 114 = dktX12_init_5 := dk_seg dksX12_init_4 23 rfl rfl
theorem dksX12_init_6 : cX12_init.data.toList.drop 137 = dktX12_init_6 := dk_seg dksX12_init_5 23 rfl rfl
theorem dksX12_init_7 : cX12_init.data.toList.drop 161 = dktX12_init_7 := dk_seg dksX12_init_6 24 rfl rfl
theorem dX12_init_0 : decode cX12_init 0 = .ok (.aload_n 0, 1) := dk_42 (dk_at dksX12_init_0 0 rfl rfl)
theorem dX12_init_1 : decode cX12_init 1 = .ok (.invokespecial 1, 3) := dk_183 0 1 (dk_at dksX12_init_0 1 rfl rfl)
theorem dX12_init_4 : decode cX12_init 4 = .ok (.aload_n 0, 1) := dk_42 (dk_at dksX12_init_0 4 rfl rfl)
theorem dX12_init_5 : decode cX12_init 5 = .ok (.sipush 2048, 3) := dk_17 8 0 (dk_at dksX12_init_0 5 rfl rfl)
theorem dX12_init_8 : decode cX12_init 8 = .ok (.newarray .int, 2) := dk_188_10 (dk_at dksX12_init_0 8 rfl rfl)
theorem dX12_init_10 : decode cX12_init 10 = .ok (.putfield 7, 3) := dk_181 0 7 (dk_at dksX12_init_0 10 rfl rfl)
theorem dX12_init_13 : decode cX12_init 13 = .ok (.aload_n 0, 1) := dk_42 (dk_at dksX12_init_0 13 rfl rfl)
theorem dX12_init_14 : decode cX12_init 14 = .ok (.bipush 32, 2) := dk_16 32 (dk_at dksX12_init_0 14 rfl rfl)
theorem dX12_init_16 : decode cX12_init 16 = .ok (.newarray .int, 2) := dk_188_10 (dk_at dksX12_init_0 16 rfl rfl)
theorem dX12_init_18 : decode cX12_init 18 = .ok (.putfield 13, 3) := dk_181 0 13 (dk_at dksX12_init_0 18 rfl rfl)
theorem dX12_init_21 : decode cX12_init 21 = .ok (.aload_n 0, 1) := dk_42 (dk_at dksX12_init_0 21 rfl rfl)
theorem dX12_init_22 : decode cX12_init 22 = .ok (.sipush 1280, 3) := dk_17 5 0 (dk_at dksX12_init_1 0 rfl rfl)
theorem dX12_init_25 : decode cX12_init 25 = .ok (.newarray .int, 2) := dk_188_10 (dk_at dksX12_init_1 3 rfl rfl)
theorem dX12_init_27 : decode cX12_init 27 = .ok (.putfield 16, 3) := dk_181 0 16 (dk_at dksX12_init_1 5 rfl rfl)
theorem dX12_init_30 : decode cX12_init 30 = .ok (.aload_n 0, 1) := dk_42 (dk_at dksX12_init_1 8 rfl rfl)
theorem dX12_init_31 : decode cX12_init 31 = .ok (.sipush 256, 3) := dk_17 1 0 (dk_at dksX12_init_1 9 rfl rfl)
theorem dX12_init_34 : decode cX12_init 34 = .ok (.newarray .int, 2) := dk_188_10 (dk_at dksX12_init_1 12 rfl rfl)
theorem dX12_init_36 : decode cX12_init 36 = .ok (.putfield 19, 3) := dk_181 0 19 (dk_at dksX12_init_1 14 rfl rfl)
theorem dX12_init_39 : decode cX12_init 39 = .ok (.aload_n 0, 1) := dk_42 (dk_at dksX12_init_1 17 rfl rfl)
theorem dX12_init_40 : decode cX12_init 40 = .ok (.bipush 32, 2) := dk_16 32 (dk_at dksX12_init_1 18 rfl rfl)
theorem dX12_init_42 : decode cX12_init 42 = .ok (.newarray .boolean, 2) := dk_188_4 (dk_at dksX12_init_1 20 rfl rfl)
theorem dX12_init_44 : decode cX12_init 44 = .ok (.putfield 22, 3) := dk_181 0 22 (dk_at dksX12_init_2 0 rfl rfl)
theorem dX12_init_47 : decode cX12_init 47 = .ok (.aload_n 0, 1) := dk_42 (dk_at dksX12_init_2 3 rfl rfl)
theorem dX12_init_48 : decode cX12_init 48 = .ok (.bipush 15, 2) := dk_16 15 (dk_at dksX12_init_2 4 rfl rfl)
theorem dX12_init_50 : decode cX12_init 50 = .ok (.putfield 26, 3) := dk_181 0 26 (dk_at dksX12_init_2 6 rfl rfl)
theorem dX12_init_53 : decode cX12_init 53 = .ok (.aload_n 0, 1) := dk_42 (dk_at dksX12_init_2 9 rfl rfl)
theorem dX12_init_54 : decode cX12_init 54 = .ok (.iconst 1, 1) := dk_4 (dk_at dksX12_init_2 10 rfl rfl)
theorem dX12_init_55 : decode cX12_init 55 = .ok (.putfield 30, 3) := dk_181 0 30 (dk_at dksX12_init_2 11 rfl rfl)
theorem dX12_init_58 : decode cX12_init 58 = .ok (.aload_n 0, 1) := dk_42 (dk_at dksX12_init_2 14 rfl rfl)
theorem dX12_init_59 : decode cX12_init 59 = .ok (.iconst 1, 1) := dk_4 (dk_at dksX12_init_2 15 rfl rfl)
theorem dX12_init_60 : decode cX12_init 60 = .ok (.putfield 33, 3) := dk_181 0 33 (dk_at dksX12_init_2 16 rfl rfl)
theorem dX12_init_63 : decode cX12_init 63 = .ok (.aload_n 0, 1) := dk_42 (dk_at dksX12_init_2 19 rfl rfl)
theorem dX12_init_64 : decode cX12_init 64 = .ok (.sipush 300, 3) := dk_17 1 44 (dk_at dksX12_init_2 20 rfl rfl)
theorem dX12_init_67 : decode cX12_init 67 = .ok (.newarray .int, 2) := dk_188_10 (dk_at dksX12_init_3 0 rfl rfl)
theorem dX12_init_69 : decode cX12_init 69 = .ok (.putfield 37, 3) := dk_181 0 37 (dk_at dksX12_init_3 2 rfl rfl)
theorem dX12_init_72 : decode cX12_init 72 = .ok (.aload_n 0, 1) := dk_42 (dk_at dksX12_init_3 5 rfl rfl)
theorem dX12_init_73 : decode cX12_init 73 = .ok (.sipush 1000, 3) := dk_17 3 232 (dk_at dksX12_init_3 6 rfl rfl)
theorem dX12_init_76 : decode cX12_init 76 = .ok (.newarray .int, 2) := dk_188_10 (dk_at dksX12_init_3 9 rfl rfl)
theorem dX12_init_78 : decode cX12_init 78 = .ok (.putfield 40, 3) := dk_181 0 40 (dk_at dksX12_init_3 11 rfl rfl)
theorem dX12_init_81 : decode cX12_init 81 = .ok (.iconst 0, 1) := dk_3 (dk_at dksX12_init_3 14 rfl rfl)
theorem dX12_init_82 : decode cX12_init 82 = .ok (.istore_n 1, 1) := dk_60 (dk_at dksX12_init_3 15 rfl rfl)
theorem dX12_init_83 : decode cX12_init 83 = .ok (.iload_n 1, 1) := dk_27 (dk_at dksX12_init_3 16 rfl rfl)
theorem dX12_init_84 : decode cX12_init 84 = .ok (.sipush 2048, 3) := dk_17 8 0 (dk_at dksX12_init_3 17 rfl rfl)
theorem dX12_init_87 : decode cX12_init 87 = .ok (.if_icmp .ge 17, 3) := dk_162 0 17 (dk_at dksX12_init_3 20 rfl rfl)
theorem dX12_init_90 : decode cX12_init 90 = .ok (.aload_n 0, 1) := dk_42 (dk_at dksX12_init_3 23 rfl rfl)
theorem dX12_init_91 : decode cX12_init 91 = .ok (.getfield 7, 3) := dk_180 0 7 (dk_at dksX12_init_4 0 rfl rfl)
theorem dX12_init_94 : decode cX12_init 94 = .ok (.iload_n 1, 1) := dk_27 (dk_at dksX12_init_4 3 rfl rfl)
theorem dX12_init_95 : decode cX12_init 95 = .ok (.ldc 43, 2) := dk_18 43 (dk_at dksX12_init_4 4 rfl rfl)
theorem dX12_init_97 : decode cX12_init 97 = .ok (.iastore, 1) := dk_79 (dk_at dksX12_init_4 6 rfl rfl)
theorem dX12_init_98 : decode cX12_init 98 = .ok (.iinc 1 1, 3) := dk_132 1 1 (dk_at dksX12_init_4 7 rfl rfl)
theorem dX12_init_101 : decode cX12_init 101 = .ok (.goto (-18), 3) := dk_167 255 238 (dk_at dksX12_init_4 10 rfl rfl)
theorem dX12_init_104 : decode cX12_init 104 = .ok (.aload_n 0, 1) := dk_42 (dk_at dksX12_init_4 13 rfl rfl)
theorem dX12_init_105 : decode cX12_init 105 = .ok (.ldc 44, 2) := dk_18 44 (dk_at dksX12_init_4 14 rfl rfl)
theorem dX12_init_107 : decode cX12_init 107 = .ok (.sipush 1536, 3) := dk_17 6 0 (dk_at dksX12_init_4 16 rfl rfl)
theorem dX12_init_110 : decode cX12_init 110 = .ok (.invokevirtual 46, 3) := dk_182 0 46 (dk_at dksX12_init_4 19 rfl rfl)
theorem dX12_init_113 : decode cX12_init 113 = .ok (.aload_n 0, 1) := dk_42 (dk_at dksX12_init_4 22 rfl rfl)
theorem dX12_init_114 : decode cX12_init 114 = .ok (.ldc 50, 2) := dk_18 50 (dk_at dksX12_init_5 0 rfl rfl)
theorem dX12_init_116 : decode cX12_init 116 = .ok (.sipush 1596, 3) := dk_17 6 60 (dk_at dksX12_init_5 2 rfl rfl)
theorem dX12_init_119 : decode cX12_init 119 = .ok (.invokevirtual 46, 3) := dk_182 0 46 (dk_at dksX12_init_5 5 rfl rfl)
theorem dX12_init_122 : decode cX12_init 122 = .ok (.aload_n 0, 1) := dk_42 (dk_at dksX12_init_5 8 rfl rfl)
theorem dX12_init_123 : decode cX12_init 123 = .ok (.ldc 52, 2) := dk_18 52 (dk_at dksX12_init_5 9 rfl rfl)
theorem dX12_init_125 : decode cX12_init 125 = .ok (.sipush 1656, 3) := dk_17 6 120 (dk_at dksX12_init_5 11 rfl rfl)
theorem dX12_init_128 : decode cX12_init 128 = .ok (.invokevirtual 46, 3) := dk_182 0 46 (dk_at dksX12_init_5 14 rfl rfl)
theorem dX12_init_131 : decode cX12_init 131 = .ok (.aload_n 0, 1) := dk_42 (dk_at dksX12_init_5 17 rfl rfl)
theorem dX12_init_132 : decode cX12_init 132 = .ok (.ldc 54, 2) := dk_18 54 (dk_at dksX12_init_5 18 rfl rfl)
theorem dX12_init_134 : decode cX12_init 134 = .ok (.sipush 1716, 3) := dk_17 6 180 (dk_at dksX12_init_5 20 rfl rfl)
theorem dX12_init_137 : decode cX12_init 137 = .ok (.invokevirtual 46, 3) := dk_182 0 46 (dk_at dksX12_init_6 0 rfl rfl)
theorem dX12_init_140 : decode cX12_init 140 = .ok (.iconst 0, 1) := dk_3 (dk_at dksX12_init_6 3 rfl rfl)
theorem dX12_init_141 : decode cX12_init 141 = .ok (.istore_n 1, 1) := dk_60 (dk_at dksX12_init_6 4 rfl rfl)
theorem dX12_init_142 : decode cX12_init 142 = .ok (.iload_n 1, 1) := dk_27 (dk_at dksX12_init_6 5 rfl rfl)
theorem dX12_init_143 : decode cX12_init 143 = .ok (.sipush 256, 3) := dk_17 1 0 (dk_at dksX12_init_6 6 rfl rfl)
theorem dX12_init_146 : decode cX12_init 146 = .ok (.if_icmp .ge 18, 3) := dk_162 0 18 (dk_at dksX12_init_6 9 rfl rfl)
theorem dX12_init_149 : decode cX12_init 149 = .ok (.aload_n 0, 1) := dk_42 (dk_at dksX12_init_6 12 rfl rfl)
theorem dX12_init_150 : decode cX12_init 150 = .ok (.getfield 19, 3) := dk_180 0 19 (dk_at dksX12_init_6 13 rfl rfl)
theorem dX12_init_153 : decode cX12_init 153 = .ok (.iload_n 1, 1) := dk_27 (dk_at dksX12_init_6 16 rfl rfl)
theorem dX12_init_154 : decode cX12_init 154 = .ok (.sipush 255, 3) := dk_17 0 255 (dk_at dksX12_init_6 17 rfl rfl)
theorem dX12_init_157 : decode cX12_init 157 = .ok (.iastore, 1) := dk_79 (dk_at dksX12_init_6 20 rfl rfl)
theorem dX12_init_158 : decode cX12_init 158 = .ok (.iinc 1 1, 3) := dk_132 1 1 (dk_at dksX12_init_6 21 rfl rfl)
theorem dX12_init_161 : decode cX12_init 161 = .ok (.goto (-19), 3) := dk_167 255 237 (dk_at dksX12_init_7 0 rfl rfl)
theorem dX12_init_164 : decode cX12_init 164 = .ok (.aload_n 0, 1) := dk_42 (dk_at dksX12_init_7 3 rfl rfl)
theorem dX12_init_165 : decode cX12_init 165 = .ok (.iconst 1, 1) := dk_4 (dk_at dksX12_init_7 4 rfl rfl)
theorem dX12_init_166 : decode cX12_init 166 = .ok (.invokevirtual 56, 3) := dk_182 0 56 (dk_at dksX12_init_7 5 rfl rfl)
theorem dX12_init_169 : decode cX12_init 169 = .ok (.return_, 1) := dk_177 (dk_at dksX12_init_7 8 rfl rfl)
abbrev cX12_lays : ByteArray := prog_13_method_2_code
def yX12_lays : MethodName := ⟨RX12, "lays", "(Ljava/lang/String;I)V"⟩
def dkwX12_lays_3 : List UInt8 := [177]
abbrev dktX12_lays_3 : List UInt8 := dkwX12_lays_3 ++ []
def dkwX12_lays_2 : List UInt8 := [96, 184, 0, 66, 7, 120, 128, 43, 8, 29, 104, 6, 96, 184, 0, 66, 128, 79, 132, 3, 1, 167, 255, 190]
abbrev dktX12_lays_2 : List UInt8 := dkwX12_lays_2 ++ dktX12_lays_3
def dkwX12_lays_1 : List UInt8 := [184, 0, 66, 16, 12, 120, 43, 8, 29, 104, 4, 96, 184, 0, 66, 16, 8, 120, 128, 43, 8, 29, 104, 5]
abbrev dktX12_lays_1 : List UInt8 := dkwX12_lays_1 ++ dktX12_lays_2
def dkwX12_lays_0 : List UInt8 := [3, 62, 8, 29, 104, 43, 182, 0, 60, 162, 0, 62, 42, 180, 0, 7, 28, 29, 96, 43, 8, 29, 104]
abbrev dktX12_lays_0 : List UInt8 := dkwX12_lays_0 ++ dktX12_lays_1
theorem dksX12_lays_0 : cX12_lays.data.toList.drop 0 = dktX12_lays_0 := by decide +kernel
theorem dksX12_lays_1 : cX12_lays.data.toList.drop 23 = dktX12_lays_1 := dk_seg dksX12_lays_0 23 rfl rfl
theorem dksX12_lays_2 : cX12_lays.data.toList.drop 47 = dktX12_lays_2 := dk_seg dksX12_lays_1 24 rfl rfl
theorem dksX12_lays_3 : cX12_lays.data.toList.drop 71 = dktX12_lays_3 := dk_seg dksX12_lays_2 24 rfl rfl
theorem dX12_lays_0 : decode cX12_lays 0 = .ok (.iconst 0, 1) := dk_3 (dk_at dksX12_lays_0 0 rfl rfl)
theorem dX12_lays_1 : decode cX12_lays 1 = .ok (.istore_n 3, 1) := dk_62 (dk_at dksX12_lays_0 1 rfl rfl)
theorem dX12_lays_2 : decode cX12_lays 2 = .ok (.iconst 5, 1) := dk_8 (dk_at dksX12_lays_0 2 rfl rfl)
theorem dX12_lays_3 : decode cX12_lays 3 = .ok (.iload_n 3, 1) := dk_29 (dk_at dksX12_lays_0 3 rfl rfl)
theorem dX12_lays_4 : decode cX12_lays 4 = .ok (.imul, 1) := dk_104 (dk_at dksX12_lays_0 4 rfl rfl)
theorem dX12_lays_5 : decode cX12_lays 5 = .ok (.aload_n 1, 1) := dk_43 (dk_at dksX12_lays_0 5 rfl rfl)
theorem dX12_lays_6 : decode cX12_lays 6 = .ok (.invokevirtual 60, 3) := dk_182 0 60 (dk_at dksX12_lays_0 6 rfl rfl)
theorem dX12_lays_9 : decode cX12_lays 9 = .ok (.if_icmp .ge 62, 3) := dk_162 0 62 (dk_at dksX12_lays_0 9 rfl rfl)
theorem dX12_lays_12 : decode cX12_lays 12 = .ok (.aload_n 0, 1) := dk_42 (dk_at dksX12_lays_0 12 rfl rfl)
theorem dX12_lays_13 : decode cX12_lays 13 = .ok (.getfield 7, 3) := dk_180 0 7 (dk_at dksX12_lays_0 13 rfl rfl)
theorem dX12_lays_16 : decode cX12_lays 16 = .ok (.iload_n 2, 1) := dk_28 (dk_at dksX12_lays_0 16 rfl rfl)
theorem dX12_lays_17 : decode cX12_lays 17 = .ok (.iload_n 3, 1) := dk_29 (dk_at dksX12_lays_0 17 rfl rfl)
theorem dX12_lays_18 : decode cX12_lays 18 = .ok (.iadd, 1) := dk_96 (dk_at dksX12_lays_0 18 rfl rfl)
theorem dX12_lays_19 : decode cX12_lays 19 = .ok (.aload_n 1, 1) := dk_43 (dk_at dksX12_lays_0 19 rfl rfl)
theorem dX12_lays_20 : decode cX12_lays 20 = .ok (.iconst 5, 1) := dk_8 (dk_at dksX12_lays_0 20 rfl rfl)
theorem dX12_lays_21 : decode cX12_lays 21 = .ok (.iload_n 3, 1) := dk_29 (dk_at dksX12_lays_0 21 rfl rfl)
theorem dX12_lays_22 : decode cX12_lays 22 = .ok (.imul, 1) := dk_104 (dk_at dksX12_lays_0 22 rfl rfl)
theorem dX12_lays_23 : decode cX12_lays 23 = .ok (.invokestatic 66, 3) := dk_184 0 66 (dk_at dksX12_lays_1 0 rfl rfl)
theorem dX12_lays_26 : decode cX12_lays 26 = .ok (.bipush 12, 2) := dk_16 12 (dk_at dksX12_lays_1 3 rfl rfl)
theorem dX12_lays_28 : decode cX12_lays 28 = .ok (.ishl, 1) := dk_120 (dk_at dksX12_lays_1 5 rfl rfl)
theorem dX12_lays_29 : decode cX12_lays 29 = .ok (.aload_n 1, 1) := dk_43 (dk_at dksX12_lays_1 6 rfl rfl)
theorem dX12_lays_30 : decode cX12_lays 30 = .ok (.iconst 5, 1) := dk_8 (dk_at dksX12_lays_1 7 rfl rfl)
theorem dX12_lays_31 : decode cX12_lays 31 = .ok (.iload_n 3, 1) := dk_29 (dk_at dksX12_lays_1 8 rfl rfl)
theorem dX12_lays_32 : decode cX12_lays 32 = .ok (.imul, 1) := dk_104 (dk_at dksX12_lays_1 9 rfl rfl)
theorem dX12_lays_33 : decode cX12_lays 33 = .ok (.iconst 1, 1) := dk_4 (dk_at dksX12_lays_1 10 rfl rfl)
theorem dX12_lays_34 : decode cX12_lays 34 = .ok (.iadd, 1) := dk_96 (dk_at dksX12_lays_1 11 rfl rfl)
theorem dX12_lays_35 : decode cX12_lays 35 = .ok (.invokestatic 66, 3) := dk_184 0 66 (dk_at dksX12_lays_1 12 rfl rfl)
theorem dX12_lays_38 : decode cX12_lays 38 = .ok (.bipush 8, 2) := dk_16 8 (dk_at dksX12_lays_1 15 rfl rfl)
theorem dX12_lays_40 : decode cX12_lays 40 = .ok (.ishl, 1) := dk_120 (dk_at dksX12_lays_1 17 rfl rfl)
theorem dX12_lays_41 : decode cX12_lays 41 = .ok (.ior, 1) := dk_128 (dk_at dksX12_lays_1 18 rfl rfl)
theorem dX12_lays_42 : decode cX12_lays 42 = .ok (.aload_n 1, 1) := dk_43 (dk_at dksX12_lays_1 19 rfl rfl)
theorem dX12_lays_43 : decode cX12_lays 43 = .ok (.iconst 5, 1) := dk_8 (dk_at dksX12_lays_1 20 rfl rfl)
theorem dX12_lays_44 : decode cX12_lays 44 = .ok (.iload_n 3, 1) := dk_29 (dk_at dksX12_lays_1 21 rfl rfl)
theorem dX12_lays_45 : decode cX12_lays 45 = .ok (.imul, 1) := dk_104 (dk_at dksX12_lays_1 22 rfl rfl)
theorem dX12_lays_46 : decode cX12_lays 46 = .ok (.iconst 2, 1) := dk_5 (dk_at dksX12_lays_1 23 rfl rfl)
theorem dX12_lays_47 : decode cX12_lays 47 = .ok (.iadd, 1) := dk_96 (dk_at dksX12_lays_2 0 rfl rfl)
theorem dX12_lays_48 : decode cX12_lays 48 = .ok (.invokestatic 66, 3) := dk_184 0 66 (dk_at dksX12_lays_2 1 rfl rfl)
theorem dX12_lays_51 : decode cX12_lays 51 = .ok (.iconst 4, 1) := dk_7 (dk_at dksX12_lays_2 4 rfl rfl)
theorem dX12_lays_52 : decode cX12_lays 52 = .ok (.ishl, 1) := dk_120 (dk_at dksX12_lays_2 5 rfl rfl)
theorem dX12_lays_53 : decode cX12_lays 53 = .ok (.ior, 1) := dk_128 (dk_at dksX12_lays_2 6 rfl rfl)
theorem dX12_lays_54 : decode cX12_lays 54 = .ok (.aload_n 1, 1) := dk_43 (dk_at dksX12_lays_2 7 rfl rfl)
theorem dX12_lays_55 : decode cX12_lays 55 = .ok (.iconst 5, 1) := dk_8 (dk_at dksX12_lays_2 8 rfl rfl)
theorem dX12_lays_56 : decode cX12_lays 56 = .ok (.iload_n 3, 1) := dk_29 (dk_at dksX12_lays_2 9 rfl rfl)
theorem dX12_lays_57 : decode cX12_lays 57 = .ok (.imul, 1) := dk_104 (dk_at dksX12_lays_2 10 rfl rfl)
theorem dX12_lays_58 : decode cX12_lays 58 = .ok (.iconst 3, 1) := dk_6 (dk_at dksX12_lays_2 11 rfl rfl)
theorem dX12_lays_59 : decode cX12_lays 59 = .ok (.iadd, 1) := dk_96 (dk_at dksX12_lays_2 12 rfl rfl)
theorem dX12_lays_60 : decode cX12_lays 60 = .ok (.invokestatic 66, 3) := dk_184 0 66 (dk_at dksX12_lays_2 13 rfl rfl)
theorem dX12_lays_63 : decode cX12_lays 63 = .ok (.ior, 1) := dk_128 (dk_at dksX12_lays_2 16 rfl rfl)
theorem dX12_lays_64 : decode cX12_lays 64 = .ok (.iastore, 1) := dk_79 (dk_at dksX12_lays_2 17 rfl rfl)
theorem dX12_lays_65 : decode cX12_lays 65 = .ok (.iinc 3 1, 3) := dk_132 3 1 (dk_at dksX12_lays_2 18 rfl rfl)
theorem dX12_lays_68 : decode cX12_lays 68 = .ok (.goto (-66), 3) := dk_167 255 190 (dk_at dksX12_lays_2 21 rfl rfl)
theorem dX12_lays_71 : decode cX12_lays 71 = .ok (.return_, 1) := dk_177 (dk_at dksX12_lays_3 0 rfl rfl)
abbrev cX12_digit : ByteArray := prog_13_method_3_code
def yX12_digit : MethodName := ⟨RX12, "digit", "(Ljava/lang/String;I)I"⟩
def dkwX12_digit_1 : List UInt8 := [16, 10, 96, 172]
abbrev dktX12_digit_1 : List UInt8 := dkwX12_digit_1 ++ []
def dkwX12_digit_0 : List UInt8 := [42, 27, 182, 0, 70, 61, 28, 16, 57, 163, 0, 10, 28, 16, 48, 100, 167, 0, 10, 28, 16, 65, 100]
abbrev dktX12_digit_0 : List UInt8 := dkwX12_digit_0 ++ dktX12_digit_1
theorem dksX12_digit_0 : cX12_digit.data.toList.drop 0 = dktX12_digit_0 := by decide +kernel
theorem dksX12_digit_1 : cX12_digit.data.toList.drop 23 = dktX12_digit_1 := dk_seg dksX12_digit_0 23 rfl rfl
theorem dX12_digit_0 : decode cX12_digit 0 = .ok (.aload_n 0, 1) := dk_42 (dk_at dksX12_digit_0 0 rfl rfl)
theorem dX12_digit_1 : decode cX12_digit 1 = .ok (.iload_n 1, 1) := dk_27 (dk_at dksX12_digit_0 1 rfl rfl)
theorem dX12_digit_2 : decode cX12_digit 2 = .ok (.invokevirtual 70, 3) := dk_182 0 70 (dk_at dksX12_digit_0 2 rfl rfl)
theorem dX12_digit_5 : decode cX12_digit 5 = .ok (.istore_n 2, 1) := dk_61 (dk_at dksX12_digit_0 5 rfl rfl)
theorem dX12_digit_6 : decode cX12_digit 6 = .ok (.iload_n 2, 1) := dk_28 (dk_at dksX12_digit_0 6 rfl rfl)
theorem dX12_digit_7 : decode cX12_digit 7 = .ok (.bipush 57, 2) := dk_16 57 (dk_at dksX12_digit_0 7 rfl rfl)
theorem dX12_digit_9 : decode cX12_digit 9 = .ok (.if_icmp .gt 10, 3) := dk_163 0 10 (dk_at dksX12_digit_0 9 rfl rfl)
theorem dX12_digit_12 : decode cX12_digit 12 = .ok (.iload_n 2, 1) := dk_28 (dk_at dksX12_digit_0 12 rfl rfl)
theorem dX12_digit_13 : decode cX12_digit 13 = .ok (.bipush 48, 2) := dk_16 48 (dk_at dksX12_digit_0 13 rfl rfl)
theorem dX12_digit_15 : decode cX12_digit 15 = .ok (.isub, 1) := dk_100 (dk_at dksX12_digit_0 15 rfl rfl)
theorem dX12_digit_16 : decode cX12_digit 16 = .ok (.goto 10, 3) := dk_167 0 10 (dk_at dksX12_digit_0 16 rfl rfl)
theorem dX12_digit_19 : decode cX12_digit 19 = .ok (.iload_n 2, 1) := dk_28 (dk_at dksX12_digit_0 19 rfl rfl)
theorem dX12_digit_20 : decode cX12_digit 20 = .ok (.bipush 65, 2) := dk_16 65 (dk_at dksX12_digit_0 20 rfl rfl)
theorem dX12_digit_22 : decode cX12_digit 22 = .ok (.isub, 1) := dk_100 (dk_at dksX12_digit_0 22 rfl rfl)
theorem dX12_digit_23 : decode cX12_digit 23 = .ok (.bipush 10, 2) := dk_16 10 (dk_at dksX12_digit_1 0 rfl rfl)
theorem dX12_digit_25 : decode cX12_digit 25 = .ok (.iadd, 1) := dk_96 (dk_at dksX12_digit_1 2 rfl rfl)
theorem dX12_digit_26 : decode cX12_digit 26 = .ok (.ireturn, 1) := dk_172 (dk_at dksX12_digit_1 3 rfl rfl)
abbrev cX12_restart : ByteArray := prog_13_method_6_code
def yX12_restart : MethodName := ⟨RX12, "restart", "(I)V"⟩
def dkwX12_restart_6 : List UInt8 := [42, 3, 181, 0, 119, 42, 182, 0, 122, 42, 182, 0, 125, 177]
abbrev dktX12_restart_6 : List UInt8 := dkwX12_restart_6 ++ []
def dkwX12_restart_5 : List UInt8 := [3, 181, 0, 104, 42, 3, 181, 0, 107, 42, 2, 181, 0, 110, 42, 3, 181, 0, 113, 42, 3, 181, 0, 116]
abbrev dktX12_restart_5 : List UInt8 := dkwX12_restart_5 ++ dktX12_restart_6
def dkwX12_restart_4 : List UInt8 := [181, 0, 89, 42, 3, 181, 0, 92, 42, 3, 181, 0, 95, 42, 3, 181, 0, 98, 42, 3, 181, 0, 101, 42]
abbrev dktX12_restart_4 : List UInt8 := dkwX12_restart_4 ++ dktX12_restart_5
def dkwX12_restart_3 : List UInt8 := [167, 0, 4, 3, 181, 0, 77, 42, 3, 181, 0, 80, 42, 3, 181, 0, 83, 42, 3, 181, 0, 86, 42, 3]
abbrev dktX12_restart_3 : List UInt8 := dkwX12_restart_3 ++ dktX12_restart_4
def dkwX12_restart_2 : List UInt8 := [4, 160, 0, 7, 4, 167, 0, 6, 28, 27, 128, 79, 42, 42, 180, 0, 30, 4, 160, 0, 9, 17, 6, 0]
abbrev dktX12_restart_2 : List UInt8 := dkwX12_restart_2 ++ dktX12_restart_3
def dkwX12_restart_1 : List UInt8 := [79, 132, 3, 1, 167, 255, 239, 42, 180, 0, 16, 17, 0, 192, 16, 32, 79, 42, 180, 0, 16, 16, 84, 27]
abbrev dktX12_restart_1 : List UInt8 := dkwX12_restart_1 ++ dktX12_restart_2
def dkwX12_restart_0 : List UInt8 := [42, 180, 0, 16, 16, 84, 46, 61, 16, 32, 62, 29, 17, 1, 0, 162, 0, 16, 42, 180, 0, 16, 29, 3]
abbrev dktX12_restart_0 : List UInt8 := dkwX12_restart_0 ++ dktX12_restart_1
theorem dksX12_restart_0 : cX12_restart.data.toList.drop 0 = dktX12_restart_0 := by decide +kernel
theorem dksX12_restart_1 : cX12_restart.data.toList.drop 24 = dktX12_restart_1 := dk_seg dksX12_restart_0 24 rfl rfl
theorem dksX12_restart_2 : cX12_restart.data.toList.drop 48 = dktX12_restart_2 := dk_seg dksX12_restart_1 24 rfl rfl
theorem dksX12_restart_3 : cX12_restart.data.toList.drop 72 = dktX12_restart_3 := dk_seg dksX12_restart_2 24 rfl rfl
theorem dksX12_restart_4 : cX12_restart.data.toList.drop 96 = dktX12_restart_4 := dk_seg dksX12_restart_3 24 rfl rfl
theorem dksX12_restart_5 : cX12_restart.data.toList.drop 120 = dktX12_restart_5 := dk_seg dksX12_restart_4 24 rfl rfl
theorem dksX12_restart_6 : cX12_restart.data.toList.drop 144 = dktX12_restart_6 := dk_seg dksX12_restart_5 24 rfl rfl
theorem dX12_restart_0 : decode cX12_restart 0 = .ok (.aload_n 0, 1) := dk_42 (dk_at dksX12_restart_0 0 rfl rfl)
theorem dX12_restart_1 : decode cX12_restart 1 = .ok (.getfield 16, 3) := dk_180 0 16 (dk_at dksX12_restart_0 1 rfl rfl)
theorem dX12_restart_4 : decode cX12_restart 4 = .ok (.bipush 84, 2) := dk_16 84 (dk_at dksX12_restart_0 4 rfl rfl)
theorem dX12_restart_6 : decode cX12_restart 6 = .ok (.iaload, 1) := dk_46 (dk_at dksX12_restart_0 6 rfl rfl)
theorem dX12_restart_7 : decode cX12_restart 7 = .ok (.istore_n 2, 1) := dk_61 (dk_at dksX12_restart_0 7 rfl rfl)
theorem dX12_restart_8 : decode cX12_restart 8 = .ok (.bipush 32, 2) := dk_16 32 (dk_at dksX12_restart_0 8 rfl rfl)
theorem dX12_restart_10 : decode cX12_restart 10 = .ok (.istore_n 3, 1) := dk_62 (dk_at dksX12_restart_0 10 rfl rfl)
theorem dX12_restart_11 : decode cX12_restart 11 = .ok (.iload_n 3, 1) := dk_29 (dk_at dksX12_restart_0 11 rfl rfl)
theorem dX12_restart_12 : decode cX12_restart 12 = .ok (.sipush 256, 3) := dk_17 1 0 (dk_at dksX12_restart_0 12 rfl rfl)
theorem dX12_restart_15 : decode cX12_restart 15 = .ok (.if_icmp .ge 16, 3) := dk_162 0 16 (dk_at dksX12_restart_0 15 rfl rfl)
theorem dX12_restart_18 : decode cX12_restart 18 = .ok (.aload_n 0, 1) := dk_42 (dk_at dksX12_restart_0 18 rfl rfl)
theorem dX12_restart_19 : decode cX12_restart 19 = .ok (.getfield 16, 3) := dk_180 0 16 (dk_at dksX12_restart_0 19 rfl rfl)
theorem dX12_restart_22 : decode cX12_restart 22 = .ok (.iload_n 3, 1) := dk_29 (dk_at dksX12_restart_0 22 rfl rfl)
theorem dX12_restart_23 : decode cX12_restart 23 = .ok (.iconst 0, 1) := dk_3 (dk_at dksX12_restart_0 23 rfl rfl)
theorem dX12_restart_24 : decode cX12_restart 24 = .ok (.iastore, 1) := dk_79 (dk_at dksX12_restart_1 0 rfl rfl)
theorem dX12_restart_25 : decode cX12_restart 25 = .ok (.iinc 3 1, 3) := dk_132 3 1 (dk_at dksX12_restart_1 1 rfl rfl)
theorem dX12_restart_28 : decode cX12_restart 28 = .ok (.goto (-17), 3) := dk_167 255 239 (dk_at dksX12_restart_1 4 rfl rfl)
theorem dX12_restart_31 : decode cX12_restart 31 = .ok (.aload_n 0, 1) := dk_42 (dk_at dksX12_restart_1 7 rfl rfl)
theorem dX12_restart_32 : decode cX12_restart 32 = .ok (.getfield 16, 3) := dk_180 0 16 (dk_at dksX12_restart_1 8 rfl rfl)
theorem dX12_restart_35 : decode cX12_restart 35 = .ok (.sipush 192, 3) := dk_17 0 192 (dk_at dksX12_restart_1 11 rfl rfl)
theorem dX12_restart_38 : decode cX12_restart 38 = .ok (.bipush 32, 2) := dk_16 32 (dk_at dksX12_restart_1 14 rfl rfl)
theorem dX12_restart_40 : decode cX12_restart 40 = .ok (.iastore, 1) := dk_79 (dk_at dksX12_restart_1 16 rfl rfl)
theorem dX12_restart_41 : decode cX12_restart 41 = .ok (.aload_n 0, 1) := dk_42 (dk_at dksX12_restart_1 17 rfl rfl)
theorem dX12_restart_42 : decode cX12_restart 42 = .ok (.getfield 16, 3) := dk_180 0 16 (dk_at dksX12_restart_1 18 rfl rfl)
theorem dX12_restart_45 : decode cX12_restart 45 = .ok (.bipush 84, 2) := dk_16 84 (dk_at dksX12_restart_1 21 rfl rfl)
theorem dX12_restart_47 : decode cX12_restart 47 = .ok (.iload_n 1, 1) := dk_27 (dk_at dksX12_restart_1 23 rfl rfl)
theorem dX12_restart_48 : decode cX12_restart 48 = .ok (.iconst 1, 1) := dk_4 (dk_at dksX12_restart_2 0 rfl rfl)
theorem dX12_restart_49 : decode cX12_restart 49 = .ok (.if_icmp .ne 7, 3) := dk_160 0 7 (dk_at dksX12_restart_2 1 rfl rfl)
theorem dX12_restart_52 : decode cX12_restart 52 = .ok (.iconst 1, 1) := dk_4 (dk_at dksX12_restart_2 4 rfl rfl)
theorem dX12_restart_53 : decode cX12_restart 53 = .ok (.goto 6, 3) := dk_167 0 6 (dk_at dksX12_restart_2 5 rfl rfl)
theorem dX12_restart_56 : decode cX12_restart 56 = .ok (.iload_n 2, 1) := dk_28 (dk_at dksX12_restart_2 8 rfl rfl)
theorem dX12_restart_57 : decode cX12_restart 57 = .ok (.iload_n 1, 1) := dk_27 (dk_at dksX12_restart_2 9 rfl rfl)
theorem dX12_restart_58 : decode cX12_restart 58 = .ok (.ior, 1) := dk_128 (dk_at dksX12_restart_2 10 rfl rfl)
theorem dX12_restart_59 : decode cX12_restart 59 = .ok (.iastore, 1) := dk_79 (dk_at dksX12_restart_2 11 rfl rfl)
theorem dX12_restart_60 : decode cX12_restart 60 = .ok (.aload_n 0, 1) := dk_42 (dk_at dksX12_restart_2 12 rfl rfl)
theorem dX12_restart_61 : decode cX12_restart 61 = .ok (.aload_n 0, 1) := dk_42 (dk_at dksX12_restart_2 13 rfl rfl)
theorem dX12_restart_62 : decode cX12_restart 62 = .ok (.getfield 30, 3) := dk_180 0 30 (dk_at dksX12_restart_2 14 rfl rfl)
theorem dX12_restart_65 : decode cX12_restart 65 = .ok (.iconst 1, 1) := dk_4 (dk_at dksX12_restart_2 17 rfl rfl)
theorem dX12_restart_66 : decode cX12_restart 66 = .ok (.if_icmp .ne 9, 3) := dk_160 0 9 (dk_at dksX12_restart_2 18 rfl rfl)
theorem dX12_restart_69 : decode cX12_restart 69 = .ok (.sipush 1536, 3) := dk_17 6 0 (dk_at dksX12_restart_2 21 rfl rfl)
theorem dX12_restart_72 : decode cX12_restart 72 = .ok (.goto 4, 3) := dk_167 0 4 (dk_at dksX12_restart_3 0 rfl rfl)
theorem dX12_restart_75 : decode cX12_restart 75 = .ok (.iconst 0, 1) := dk_3 (dk_at dksX12_restart_3 3 rfl rfl)
theorem dX12_restart_76 : decode cX12_restart 76 = .ok (.putfield 77, 3) := dk_181 0 77 (dk_at dksX12_restart_3 4 rfl rfl)
theorem dX12_restart_79 : decode cX12_restart 79 = .ok (.aload_n 0, 1) := dk_42 (dk_at dksX12_restart_3 7 rfl rfl)
theorem dX12_restart_80 : decode cX12_restart 80 = .ok (.iconst 0, 1) := dk_3 (dk_at dksX12_restart_3 8 rfl rfl)
theorem dX12_restart_81 : decode cX12_restart 81 = .ok (.putfield 80, 3) := dk_181 0 80 (dk_at dksX12_restart_3 9 rfl rfl)
theorem dX12_restart_84 : decode cX12_restart 84 = .ok (.aload_n 0, 1) := dk_42 (dk_at dksX12_restart_3 12 rfl rfl)
theorem dX12_restart_85 : decode cX12_restart 85 = .ok (.iconst 0, 1) := dk_3 (dk_at dksX12_restart_3 13 rfl rfl)
theorem dX12_restart_86 : decode cX12_restart 86 = .ok (.putfield 83, 3) := dk_181 0 83 (dk_at dksX12_restart_3 14 rfl rfl)
theorem dX12_restart_89 : decode cX12_restart 89 = .ok (.aload_n 0, 1) := dk_42 (dk_at dksX12_restart_3 17 rfl rfl)
theorem dX12_restart_90 : decode cX12_restart 90 = .ok (.iconst 0, 1) := dk_3 (dk_at dksX12_restart_3 18 rfl rfl)
theorem dX12_restart_91 : decode cX12_restart 91 = .ok (.putfield 86, 3) := dk_181 0 86 (dk_at dksX12_restart_3 19 rfl rfl)
theorem dX12_restart_94 : decode cX12_restart 94 = .ok (.aload_n 0, 1) := dk_42 (dk_at dksX12_restart_3 22 rfl rfl)
theorem dX12_restart_95 : decode cX12_restart 95 = .ok (.iconst 0, 1) := dk_3 (dk_at dksX12_restart_3 23 rfl rfl)
theorem dX12_restart_96 : decode cX12_restart 96 = .ok (.putfield 89, 3) := dk_181 0 89 (dk_at dksX12_restart_4 0 rfl rfl)
theorem dX12_restart_99 : decode cX12_restart 99 = .ok (.aload_n 0, 1) := dk_42 (dk_at dksX12_restart_4 3 rfl rfl)
theorem dX12_restart_100 : decode cX12_restart 100 = .ok (.iconst 0, 1) := dk_3 (dk_at dksX12_restart_4 4 rfl rfl)
theorem dX12_restart_101 : decode cX12_restart 101 = .ok (.putfield 92, 3) := dk_181 0 92 (dk_at dksX12_restart_4 5 rfl rfl)
theorem dX12_restart_104 : decode cX12_restart 104 = .ok (.aload_n 0, 1) := dk_42 (dk_at dksX12_restart_4 8 rfl rfl)
theorem dX12_restart_105 : decode cX12_restart 105 = .ok (.iconst 0, 1) := dk_3 (dk_at dksX12_restart_4 9 rfl rfl)
theorem dX12_restart_106 : decode cX12_restart 106 = .ok (.putfield 95, 3) := dk_181 0 95 (dk_at dksX12_restart_4 10 rfl rfl)
theorem dX12_restart_109 : decode cX12_restart 109 = .ok (.aload_n 0, 1) := dk_42 (dk_at dksX12_restart_4 13 rfl rfl)
theorem dX12_restart_110 : decode cX12_restart 110 = .ok (.iconst 0, 1) := dk_3 (dk_at dksX12_restart_4 14 rfl rfl)
theorem dX12_restart_111 : decode cX12_restart 111 = .ok (.putfield 98, 3) := dk_181 0 98 (dk_at dksX12_restart_4 15 rfl rfl)
theorem dX12_restart_114 : decode cX12_restart 114 = .ok (.aload_n 0, 1) := dk_42 (dk_at dksX12_restart_4 18 rfl rfl)
theorem dX12_restart_115 : decode cX12_restart 115 = .ok (.iconst 0, 1) := dk_3 (dk_at dksX12_restart_4 19 rfl rfl)
theorem dX12_restart_116 : decode cX12_restart 116 = .ok (.putfield 101, 3) := dk_181 0 101 (dk_at dksX12_restart_4 20 rfl rfl)
theorem dX12_restart_119 : decode cX12_restart 119 = .ok (.aload_n 0, 1) := dk_42 (dk_at dksX12_restart_4 23 rfl rfl)
theorem dX12_restart_120 : decode cX12_restart 120 = .ok (.iconst 0, 1) := dk_3 (dk_at dksX12_restart_5 0 rfl rfl)
theorem dX12_restart_121 : decode cX12_restart 121 = .ok (.putfield 104, 3) := dk_181 0 104 (dk_at dksX12_restart_5 1 rfl rfl)
theorem dX12_restart_124 : decode cX12_restart 124 = .ok (.aload_n 0, 1) := dk_42 (dk_at dksX12_restart_5 4 rfl rfl)
theorem dX12_restart_125 : decode cX12_restart 125 = .ok (.iconst 0, 1) := dk_3 (dk_at dksX12_restart_5 5 rfl rfl)
theorem dX12_restart_126 : decode cX12_restart 126 = .ok (.putfield 107, 3) := dk_181 0 107 (dk_at dksX12_restart_5 6 rfl rfl)
theorem dX12_restart_129 : decode cX12_restart 129 = .ok (.aload_n 0, 1) := dk_42 (dk_at dksX12_restart_5 9 rfl rfl)
theorem dX12_restart_130 : decode cX12_restart 130 = .ok (.iconst (-1), 1) := dk_2 (dk_at dksX12_restart_5 10 rfl rfl)
theorem dX12_restart_131 : decode cX12_restart 131 = .ok (.putfield 110, 3) := dk_181 0 110 (dk_at dksX12_restart_5 11 rfl rfl)
theorem dX12_restart_134 : decode cX12_restart 134 = .ok (.aload_n 0, 1) := dk_42 (dk_at dksX12_restart_5 14 rfl rfl)
theorem dX12_restart_135 : decode cX12_restart 135 = .ok (.iconst 0, 1) := dk_3 (dk_at dksX12_restart_5 15 rfl rfl)
theorem dX12_restart_136 : decode cX12_restart 136 = .ok (.putfield 113, 3) := dk_181 0 113 (dk_at dksX12_restart_5 16 rfl rfl)
theorem dX12_restart_139 : decode cX12_restart 139 = .ok (.aload_n 0, 1) := dk_42 (dk_at dksX12_restart_5 19 rfl rfl)
theorem dX12_restart_140 : decode cX12_restart 140 = .ok (.iconst 0, 1) := dk_3 (dk_at dksX12_restart_5 20 rfl rfl)
theorem dX12_restart_141 : decode cX12_restart 141 = .ok (.putfield 116, 3) := dk_181 0 116 (dk_at dksX12_restart_5 21 rfl rfl)
theorem dX12_restart_144 : decode cX12_restart 144 = .ok (.aload_n 0, 1) := dk_42 (dk_at dksX12_restart_6 0 rfl rfl)
theorem dX12_restart_145 : decode cX12_restart 145 = .ok (.iconst 0, 1) := dk_3 (dk_at dksX12_restart_6 1 rfl rfl)
theorem dX12_restart_146 : decode cX12_restart 146 = .ok (.putfield 119, 3) := dk_181 0 119 (dk_at dksX12_restart_6 2 rfl rfl)
theorem dX12_restart_149 : decode cX12_restart 149 = .ok (.aload_n 0, 1) := dk_42 (dk_at dksX12_restart_6 5 rfl rfl)
theorem dX12_restart_150 : decode cX12_restart 150 = .ok (.invokevirtual 122, 3) := dk_182 0 122 (dk_at dksX12_restart_6 6 rfl rfl)
theorem dX12_restart_153 : decode cX12_restart 153 = .ok (.aload_n 0, 1) := dk_42 (dk_at dksX12_restart_6 9 rfl rfl)
theorem dX12_restart_154 : decode cX12_restart 154 = .ok (.invokevirtual 125, 3) := dk_182 0 125 (dk_at dksX12_restart_6 10 rfl rfl)
theorem dX12_restart_157 : decode cX12_restart 157 = .ok (.return_, 1) := dk_177 (dk_at dksX12_restart_6 13 rfl rfl)
abbrev cX12_clearBuffer : ByteArray := prog_13_method_7_code
def yX12_clearBuffer : MethodName := ⟨RX12, "clearBuffer", "()V"⟩
def dkwX12_clearBuffer_0 : List UInt8 := [3, 60, 27, 16, 32, 162, 0, 16, 42, 180, 0, 22, 27, 3, 84, 132, 1, 1, 167, 255, 240, 177]
abbrev dktX12_clearBuffer_0 : List UInt8 := dkwX12_clearBuffer_0 ++ []
theorem dksX12_clearBuffer_0 : cX12_clearBuffer.data.toList.drop 0 = dktX12_clearBuffer_0 := by decide +kernel
theorem dX12_clearBuffer_0 : decode cX12_clearBuffer 0 = .ok (.iconst 0, 1) := dk_3 (dk_at dksX12_clearBuffer_0 0 rfl rfl)
theorem dX12_clearBuffer_1 : decode cX12_clearBuffer 1 = .ok (.istore_n 1, 1) := dk_60 (dk_at dksX12_clearBuffer_0 1 rfl rfl)
theorem dX12_clearBuffer_2 : decode cX12_clearBuffer 2 = .ok (.iload_n 1, 1) := dk_27 (dk_at dksX12_clearBuffer_0 2 rfl rfl)
theorem dX12_clearBuffer_3 : decode cX12_clearBuffer 3 = .ok (.bipush 32, 2) := dk_16 32 (dk_at dksX12_clearBuffer_0 3 rfl rfl)
theorem dX12_clearBuffer_5 : decode cX12_clearBuffer 5 = .ok (.if_icmp .ge 16, 3) := dk_162 0 16 (dk_at dksX12_clearBuffer_0 5 rfl rfl)
theorem dX12_clearBuffer_8 : decode cX12_clearBuffer 8 = .ok (.aload_n 0, 1) := dk_42 (dk_at dksX12_clearBuffer_0 8 rfl rfl)
theorem dX12_clearBuffer_9 : decode cX12_clearBuffer 9 = .ok (.getfield 22, 3) := dk_180 0 22 (dk_at dksX12_clearBuffer_0 9 rfl rfl)
theorem dX12_clearBuffer_12 : decode cX12_clearBuffer 12 = .ok (.iload_n 1, 1) := dk_27 (dk_at dksX12_clearBuffer_0 12 rfl rfl)
theorem dX12_clearBuffer_13 : decode cX12_clearBuffer 13 = .ok (.iconst 0, 1) := dk_3 (dk_at dksX12_clearBuffer_0 13 rfl rfl)
theorem dX12_clearBuffer_14 : decode cX12_clearBuffer 14 = .ok (.bastore, 1) := dk_84 (dk_at dksX12_clearBuffer_0 14 rfl rfl)
theorem dX12_clearBuffer_15 : decode cX12_clearBuffer 15 = .ok (.iinc 1 1, 3) := dk_132 1 1 (dk_at dksX12_clearBuffer_0 15 rfl rfl)
theorem dX12_clearBuffer_18 : decode cX12_clearBuffer 18 = .ok (.goto (-16), 3) := dk_167 255 240 (dk_at dksX12_clearBuffer_0 18 rfl rfl)
theorem dX12_clearBuffer_21 : decode cX12_clearBuffer 21 = .ok (.return_, 1) := dk_177 (dk_at dksX12_clearBuffer_0 21 rfl rfl)
abbrev cX12_holdDog : ByteArray := prog_13_method_8_code
def yX12_holdDog : MethodName := ⟨RX12, "holdDog", "()V"⟩
def dkwX12_holdDog_0 : List UInt8 := [42, 180, 0, 16, 16, 96, 92, 46, 42, 180, 0, 16, 16, 84, 46, 16, 8, 126, 128, 79, 177]
abbrev dktX12_holdDog_0 : List UInt8 := dkwX12_holdDog_0 ++ []
theorem dksX12_holdDog_0 : cX12_holdDog.data.toList.drop 0 = dktX12_holdDog_0 := by decide +kernel
theorem dX12_holdDog_0 : decode cX12_holdDog 0 = .ok (.aload_n 0, 1) := dk_42 (dk_at dksX12_holdDog_0 0 rfl rfl)
theorem dX12_holdDog_1 : decode cX12_holdDog 1 = .ok (.getfield 16, 3) := dk_180 0 16 (dk_at dksX12_holdDog_0 1 rfl rfl)
theorem dX12_holdDog_4 : decode cX12_holdDog 4 = .ok (.bipush 96, 2) := dk_16 96 (dk_at dksX12_holdDog_0 4 rfl rfl)
theorem dX12_holdDog_6 : decode cX12_holdDog 6 = .ok (.dup2, 1) := dk_92 (dk_at dksX12_holdDog_0 6 rfl rfl)
theorem dX12_holdDog_7 : decode cX12_holdDog 7 = .ok (.iaload, 1) := dk_46 (dk_at dksX12_holdDog_0 7 rfl rfl)
theorem dX12_holdDog_8 : decode cX12_holdDog 8 = .ok (.aload_n 0, 1) := dk_42 (dk_at dksX12_holdDog_0 8 rfl rfl)
theorem dX12_holdDog_9 : decode cX12_holdDog 9 = .ok (.getfield 16, 3) := dk_180 0 16 (dk_at dksX12_holdDog_0 9 rfl rfl)
theorem dX12_holdDog_12 : decode cX12_holdDog 12 = .ok (.bipush 84, 2) := dk_16 84 (dk_at dksX12_holdDog_0 12 rfl rfl)
theorem dX12_holdDog_14 : decode cX12_holdDog 14 = .ok (.iaload, 1) := dk_46 (dk_at dksX12_holdDog_0 14 rfl rfl)
theorem dX12_holdDog_15 : decode cX12_holdDog 15 = .ok (.bipush 8, 2) := dk_16 8 (dk_at dksX12_holdDog_0 15 rfl rfl)
theorem dX12_holdDog_17 : decode cX12_holdDog 17 = .ok (.iand, 1) := dk_126 (dk_at dksX12_holdDog_0 17 rfl rfl)
theorem dX12_holdDog_18 : decode cX12_holdDog 18 = .ok (.ior, 1) := dk_128 (dk_at dksX12_holdDog_0 18 rfl rfl)
theorem dX12_holdDog_19 : decode cX12_holdDog 19 = .ok (.iastore, 1) := dk_79 (dk_at dksX12_holdDog_0 19 rfl rfl)
theorem dX12_holdDog_20 : decode cX12_holdDog 20 = .ok (.return_, 1) := dk_177 (dk_at dksX12_holdDog_0 20 rfl rfl)
abbrev cX12_thrown : ByteArray := prog_13_method_4_code
def yX12_thrown : MethodName := ⟨RX12, "thrown", "()I"⟩
theorem dX12_thrown_0 : decode cX12_thrown 0 = .ok (.aload_n 0, 1) := by decide +kernel
theorem dX12_thrown_1 : decode cX12_thrown 1 = .ok (.getfield 74, 3) := by decide +kernel
theorem dX12_thrown_4 : decode cX12_thrown 4 = .ok (.ireturn, 1) := by decide +kernel
abbrev cX12_step : ByteArray := prog_13_method_67_code
def yX12_step : MethodName := ⟨RX12, "step", "()I"⟩
def dkwX12_step_0 : List UInt8 := [42, 3, 181, 0, 74, 42, 180, 0, 33, 153, 0, 10, 42, 182, 1, 100, 167, 0, 4, 3, 172]
abbrev dktX12_step_0 : List UInt8 := dkwX12_step_0 ++ []
theorem dksX12_step_0 : cX12_step.data.toList.drop 0 = dktX12_step_0 := by decide +kernel
theorem dX12_step_0 : decode cX12_step 0 = .ok (.aload_n 0, 1) := dk_42 (dk_at dksX12_step_0 0 rfl rfl)
theorem dX12_step_1 : decode cX12_step 1 = .ok (.iconst 0, 1) := dk_3 (dk_at dksX12_step_0 1 rfl rfl)
theorem dX12_step_2 : decode cX12_step 2 = .ok (.putfield 74, 3) := dk_181 0 74 (dk_at dksX12_step_0 2 rfl rfl)
theorem dX12_step_5 : decode cX12_step 5 = .ok (.aload_n 0, 1) := dk_42 (dk_at dksX12_step_0 5 rfl rfl)
theorem dX12_step_6 : decode cX12_step 6 = .ok (.getfield 33, 3) := dk_180 0 33 (dk_at dksX12_step_0 6 rfl rfl)
theorem dX12_step_9 : decode cX12_step 9 = .ok (.ifCond .eq 10, 3) := dk_153 0 10 (dk_at dksX12_step_0 9 rfl rfl)
theorem dX12_step_12 : decode cX12_step 12 = .ok (.aload_n 0, 1) := dk_42 (dk_at dksX12_step_0 12 rfl rfl)
theorem dX12_step_13 : decode cX12_step 13 = .ok (.invokevirtual 356, 3) := dk_182 1 100 (dk_at dksX12_step_0 13 rfl rfl)
theorem dX12_step_16 : decode cX12_step 16 = .ok (.goto 4, 3) := dk_167 0 4 (dk_at dksX12_step_0 16 rfl rfl)
theorem dX12_step_19 : decode cX12_step 19 = .ok (.iconst 0, 1) := dk_3 (dk_at dksX12_step_0 19 rfl rfl)
theorem dX12_step_20 : decode cX12_step 20 = .ok (.ireturn, 1) := dk_172 (dk_at dksX12_step_0 20 rfl rfl)
abbrev cX12_stepped : ByteArray := prog_13_method_27_code
def yX12_stepped : MethodName := ⟨RX12, "stepped", "()I"⟩
def dkwX12_stepped_4 : List UInt8 := [21, 4, 100, 172]
abbrev dktX12_stepped_4 : List UInt8 := dkwX12_stepped_4 ++ []
def dkwX12_stepped_3 : List UInt8 := [21, 5, 29, 162, 0, 16, 42, 182, 0, 225, 153, 0, 9, 132, 5, 1, 167, 255, 240, 42, 180, 0, 179]
abbrev dktX12_stepped_3 : List UInt8 := dkwX12_stepped_3 ++ dktX12_stepped_4
def dkwX12_stepped_2 : List UInt8 := [154, 0, 10, 42, 180, 0, 80, 154, 0, 8, 42, 182, 0, 222, 62, 42, 180, 0, 179, 54, 4, 3, 54, 5]
abbrev dktX12_stepped_2 : List UInt8 := dkwX12_stepped_2 ++ dktX12_stepped_3
def dkwX12_stepped_1 : List UInt8 := [181, 0, 83, 4, 62, 27, 153, 0, 17, 28, 154, 0, 13, 42, 27, 182, 0, 219, 7, 62, 167, 0, 19, 27]
abbrev dktX12_stepped_1 : List UInt8 := dkwX12_stepped_1 ++ dktX12_stepped_2
def dkwX12_stepped_0 : List UInt8 := [42, 89, 180, 0, 213, 4, 96, 181, 0, 213, 42, 182, 0, 216, 60, 42, 180, 0, 83, 61, 42, 3]
abbrev dktX12_stepped_0 : List UInt8 := dkwX12_stepped_0 ++ dktX12_stepped_1
theorem dksX12_stepped_0 : cX12_stepped.data.toList.drop 0 = dktX12_stepped_0 := by decide +kernel
theorem dksX12_stepped_1 : cX12_stepped.data.toList.drop 22 = dktX12_stepped_1 := dk_seg dksX12_stepped_0 22 rfl rfl
theorem dksX12_stepped_2 : cX12_stepped.data.toList.drop 46 = dktX12_stepped_2 := dk_seg dksX12_stepped_1 24 rfl rfl
theorem dksX12_stepped_3 : cX12_stepped.data.toList.drop 70 = dktX12_stepped_3 := dk_seg dksX12_stepped_2 24 rfl rfl
theorem dksX12_stepped_4 : cX12_stepped.data.toList.drop 93 = dktX12_stepped_4 := dk_seg dksX12_stepped_3 23 rfl rfl
theorem dX12_stepped_0 : decode cX12_stepped 0 = .ok (.aload_n 0, 1) := dk_42 (dk_at dksX12_stepped_0 0 rfl rfl)
theorem dX12_stepped_1 : decode cX12_stepped 1 = .ok (.dup, 1) := dk_89 (dk_at dksX12_stepped_0 1 rfl rfl)
theorem dX12_stepped_2 : decode cX12_stepped 2 = .ok (.getfield 213, 3) := dk_180 0 213 (dk_at dksX12_stepped_0 2 rfl rfl)
theorem dX12_stepped_5 : decode cX12_stepped 5 = .ok (.iconst 1, 1) := dk_4 (dk_at dksX12_stepped_0 5 rfl rfl)
theorem dX12_stepped_6 : decode cX12_stepped 6 = .ok (.iadd, 1) := dk_96 (dk_at dksX12_stepped_0 6 rfl rfl)
theorem dX12_stepped_7 : decode cX12_stepped 7 = .ok (.putfield 213, 3) := dk_181 0 213 (dk_at dksX12_stepped_0 7 rfl rfl)
theorem dX12_stepped_10 : decode cX12_stepped 10 = .ok (.aload_n 0, 1) := dk_42 (dk_at dksX12_stepped_0 10 rfl rfl)
theorem dX12_stepped_11 : decode cX12_stepped 11 = .ok (.invokevirtual 216, 3) := dk_182 0 216 (dk_at dksX12_stepped_0 11 rfl rfl)
theorem dX12_stepped_14 : decode cX12_stepped 14 = .ok (.istore_n 1, 1) := dk_60 (dk_at dksX12_stepped_0 14 rfl rfl)
theorem dX12_stepped_15 : decode cX12_stepped 15 = .ok (.aload_n 0, 1) := dk_42 (dk_at dksX12_stepped_0 15 rfl rfl)
theorem dX12_stepped_16 : decode cX12_stepped 16 = .ok (.getfield 83, 3) := dk_180 0 83 (dk_at dksX12_stepped_0 16 rfl rfl)
theorem dX12_stepped_19 : decode cX12_stepped 19 = .ok (.istore_n 2, 1) := dk_61 (dk_at dksX12_stepped_0 19 rfl rfl)
theorem dX12_stepped_20 : decode cX12_stepped 20 = .ok (.aload_n 0, 1) := dk_42 (dk_at dksX12_stepped_0 20 rfl rfl)
theorem dX12_stepped_21 : decode cX12_stepped 21 = .ok (.iconst 0, 1) := dk_3 (dk_at dksX12_stepped_0 21 rfl rfl)
theorem dX12_stepped_22 : decode cX12_stepped 22 = .ok (.putfield 83, 3) := dk_181 0 83 (dk_at dksX12_stepped_1 0 rfl rfl)
theorem dX12_stepped_25 : decode cX12_stepped 25 = .ok (.iconst 1, 1) := dk_4 (dk_at dksX12_stepped_1 3 rfl rfl)
theorem dX12_stepped_26 : decode cX12_stepped 26 = .ok (.istore_n 3, 1) := dk_62 (dk_at dksX12_stepped_1 4 rfl rfl)
theorem dX12_stepped_27 : decode cX12_stepped 27 = .ok (.iload_n 1, 1) := dk_27 (dk_at dksX12_stepped_1 5 rfl rfl)
theorem dX12_stepped_28 : decode cX12_stepped 28 = .ok (.ifCond .eq 17, 3) := dk_153 0 17 (dk_at dksX12_stepped_1 6 rfl rfl)
theorem dX12_stepped_31 : decode cX12_stepped 31 = .ok (.iload_n 2, 1) := dk_28 (dk_at dksX12_stepped_1 9 rfl rfl)
theorem dX12_stepped_32 : decode cX12_stepped 32 = .ok (.ifCond .ne 13, 3) := dk_154 0 13 (dk_at dksX12_stepped_1 10 rfl rfl)
theorem dX12_stepped_35 : decode cX12_stepped 35 = .ok (.aload_n 0, 1) := dk_42 (dk_at dksX12_stepped_1 13 rfl rfl)
theorem dX12_stepped_36 : decode cX12_stepped 36 = .ok (.iload_n 1, 1) := dk_27 (dk_at dksX12_stepped_1 14 rfl rfl)
theorem dX12_stepped_37 : decode cX12_stepped 37 = .ok (.invokevirtual 219, 3) := dk_182 0 219 (dk_at dksX12_stepped_1 15 rfl rfl)
theorem dX12_stepped_40 : decode cX12_stepped 40 = .ok (.iconst 4, 1) := dk_7 (dk_at dksX12_stepped_1 18 rfl rfl)
theorem dX12_stepped_41 : decode cX12_stepped 41 = .ok (.istore_n 3, 1) := dk_62 (dk_at dksX12_stepped_1 19 rfl rfl)
theorem dX12_stepped_42 : decode cX12_stepped 42 = .ok (.goto 19, 3) := dk_167 0 19 (dk_at dksX12_stepped_1 20 rfl rfl)
theorem dX12_stepped_45 : decode cX12_stepped 45 = .ok (.iload_n 1, 1) := dk_27 (dk_at dksX12_stepped_1 23 rfl rfl)
theorem dX12_stepped_46 : decode cX12_stepped 46 = .ok (.ifCond .ne 10, 3) := dk_154 0 10 (dk_at dksX12_stepped_2 0 rfl rfl)
theorem dX12_stepped_49 : decode cX12_stepped 49 = .ok (.aload_n 0, 1) := dk_42 (dk_at dksX12_stepped_2 3 rfl rfl)
theorem dX12_stepped_50 : decode cX12_stepped 50 = .ok (.getfield 80, 3) := dk_180 0 80 (dk_at dksX12_stepped_2 4 rfl rfl)
theorem dX12_stepped_53 : decode cX12_stepped 53 = .ok (.ifCond .ne 8, 3) := dk_154 0 8 (dk_at dksX12_stepped_2 7 rfl rfl)
theorem dX12_stepped_56 : decode cX12_stepped 56 = .ok (.aload_n 0, 1) := dk_42 (dk_at dksX12_stepped_2 10 rfl rfl)
theorem dX12_stepped_57 : decode cX12_stepped 57 = .ok (.invokevirtual 222, 3) := dk_182 0 222 (dk_at dksX12_stepped_2 11 rfl rfl)
theorem dX12_stepped_60 : decode cX12_stepped 60 = .ok (.istore_n 3, 1) := dk_62 (dk_at dksX12_stepped_2 14 rfl rfl)
theorem dX12_stepped_61 : decode cX12_stepped 61 = .ok (.aload_n 0, 1) := dk_42 (dk_at dksX12_stepped_2 15 rfl rfl)
theorem dX12_stepped_62 : decode cX12_stepped 62 = .ok (.getfield 179, 3) := dk_180 0 179 (dk_at dksX12_stepped_2 16 rfl rfl)
theorem dX12_stepped_65 : decode cX12_stepped 65 = .ok (.istore 4, 2) := dk_54 4 (dk_at dksX12_stepped_2 19 rfl rfl)
theorem dX12_stepped_67 : decode cX12_stepped 67 = .ok (.iconst 0, 1) := dk_3 (dk_at dksX12_stepped_2 21 rfl rfl)
theorem dX12_stepped_68 : decode cX12_stepped 68 = .ok (.istore 5, 2) := dk_54 5 (dk_at dksX12_stepped_2 22 rfl rfl)
theorem dX12_stepped_70 : decode cX12_stepped 70 = .ok (.iload 5, 2) := dk_21 5 (dk_at dksX12_stepped_3 0 rfl rfl)
theorem dX12_stepped_72 : decode cX12_stepped 72 = .ok (.iload_n 3, 1) := dk_29 (dk_at dksX12_stepped_3 2 rfl rfl)
theorem dX12_stepped_73 : decode cX12_stepped 73 = .ok (.if_icmp .ge 16, 3) := dk_162 0 16 (dk_at dksX12_stepped_3 3 rfl rfl)
theorem dX12_stepped_76 : decode cX12_stepped 76 = .ok (.aload_n 0, 1) := dk_42 (dk_at dksX12_stepped_3 6 rfl rfl)
theorem dX12_stepped_77 : decode cX12_stepped 77 = .ok (.invokevirtual 225, 3) := dk_182 0 225 (dk_at dksX12_stepped_3 7 rfl rfl)
theorem dX12_stepped_80 : decode cX12_stepped 80 = .ok (.ifCond .eq 9, 3) := dk_153 0 9 (dk_at dksX12_stepped_3 10 rfl rfl)
theorem dX12_stepped_83 : decode cX12_stepped 83 = .ok (.iinc 5 1, 3) := dk_132 5 1 (dk_at dksX12_stepped_3 13 rfl rfl)
theorem dX12_stepped_86 : decode cX12_stepped 86 = .ok (.goto (-16), 3) := dk_167 255 240 (dk_at dksX12_stepped_3 16 rfl rfl)
theorem dX12_stepped_89 : decode cX12_stepped 89 = .ok (.aload_n 0, 1) := dk_42 (dk_at dksX12_stepped_3 19 rfl rfl)
theorem dX12_stepped_90 : decode cX12_stepped 90 = .ok (.getfield 179, 3) := dk_180 0 179 (dk_at dksX12_stepped_3 20 rfl rfl)
theorem dX12_stepped_93 : decode cX12_stepped 93 = .ok (.iload 4, 2) := dk_21 4 (dk_at dksX12_stepped_4 0 rfl rfl)
theorem dX12_stepped_95 : decode cX12_stepped 95 = .ok (.isub, 1) := dk_100 (dk_at dksX12_stepped_4 2 rfl rfl)
theorem dX12_stepped_96 : decode cX12_stepped 96 = .ok (.ireturn, 1) := dk_172 (dk_at dksX12_stepped_4 3 rfl rfl)
abbrev cX12_awaited : ByteArray := prog_13_method_19_code
def yX12_awaited : MethodName := ⟨RX12, "awaited", "()I"⟩
def dkwX12_awaited_0 : List UInt8 := [42, 16, 7, 182, 0, 163, 153, 0, 10, 42, 182, 0, 166, 167, 0, 4, 3, 172]
abbrev dktX12_awaited_0 : List UInt8 := dkwX12_awaited_0 ++ []
theorem dksX12_awaited_0 : cX12_awaited.data.toList.drop 0 = dktX12_awaited_0 := by decide +kernel
theorem dX12_awaited_0 : decode cX12_awaited 0 = .ok (.aload_n 0, 1) := dk_42 (dk_at dksX12_awaited_0 0 rfl rfl)
theorem dX12_awaited_1 : decode cX12_awaited 1 = .ok (.bipush 7, 2) := dk_16 7 (dk_at dksX12_awaited_0 1 rfl rfl)
theorem dX12_awaited_3 : decode cX12_awaited 3 = .ok (.invokevirtual 163, 3) := dk_182 0 163 (dk_at dksX12_awaited_0 3 rfl rfl)
theorem dX12_awaited_6 : decode cX12_awaited 6 = .ok (.ifCond .eq 10, 3) := dk_153 0 10 (dk_at dksX12_awaited_0 6 rfl rfl)
theorem dX12_awaited_9 : decode cX12_awaited 9 = .ok (.aload_n 0, 1) := dk_42 (dk_at dksX12_awaited_0 9 rfl rfl)
theorem dX12_awaited_10 : decode cX12_awaited 10 = .ok (.invokevirtual 166, 3) := dk_182 0 166 (dk_at dksX12_awaited_0 10 rfl rfl)
theorem dX12_awaited_13 : decode cX12_awaited 13 = .ok (.goto 4, 3) := dk_167 0 4 (dk_at dksX12_awaited_0 13 rfl rfl)
theorem dX12_awaited_16 : decode cX12_awaited 16 = .ok (.iconst 0, 1) := dk_3 (dk_at dksX12_awaited_0 16 rfl rfl)
theorem dX12_awaited_17 : decode cX12_awaited 17 = .ok (.ireturn, 1) := dk_172 (dk_at dksX12_awaited_0 17 rfl rfl)
abbrev cX12_flag : ByteArray := prog_13_method_28_code
def yX12_flag : MethodName := ⟨RX12, "flag", "(I)Z"⟩
def dkwX12_flag_0 : List UInt8 := [42, 180, 0, 16, 16, 95, 46, 27, 122, 4, 126, 4, 160, 0, 7, 4, 167, 0, 4, 3, 172]
abbrev dktX12_flag_0 : List UInt8 := dkwX12_flag_0 ++ []
theorem dksX12_flag_0 : cX12_flag.data.toList.drop 0 = dktX12_flag_0 := by decide +kernel
theorem dX12_flag_0 : decode cX12_flag 0 = .ok (.aload_n 0, 1) := dk_42 (dk_at dksX12_flag_0 0 rfl rfl)
theorem dX12_flag_1 : decode cX12_flag 1 = .ok (.getfield 16, 3) := dk_180 0 16 (dk_at dksX12_flag_0 1 rfl rfl)
theorem dX12_flag_4 : decode cX12_flag 4 = .ok (.bipush 95, 2) := dk_16 95 (dk_at dksX12_flag_0 4 rfl rfl)
theorem dX12_flag_6 : decode cX12_flag 6 = .ok (.iaload, 1) := dk_46 (dk_at dksX12_flag_0 6 rfl rfl)
theorem dX12_flag_7 : decode cX12_flag 7 = .ok (.iload_n 1, 1) := dk_27 (dk_at dksX12_flag_0 7 rfl rfl)
theorem dX12_flag_8 : decode cX12_flag 8 = .ok (.ishr, 1) := dk_122 (dk_at dksX12_flag_0 8 rfl rfl)
theorem dX12_flag_9 : decode cX12_flag 9 = .ok (.iconst 1, 1) := dk_4 (dk_at dksX12_flag_0 9 rfl rfl)
theorem dX12_flag_10 : decode cX12_flag 10 = .ok (.iand, 1) := dk_126 (dk_at dksX12_flag_0 10 rfl rfl)
theorem dX12_flag_11 : decode cX12_flag 11 = .ok (.iconst 1, 1) := dk_4 (dk_at dksX12_flag_0 11 rfl rfl)
theorem dX12_flag_12 : decode cX12_flag 12 = .ok (.if_icmp .ne 7, 3) := dk_160 0 7 (dk_at dksX12_flag_0 12 rfl rfl)
theorem dX12_flag_15 : decode cX12_flag 15 = .ok (.iconst 1, 1) := dk_4 (dk_at dksX12_flag_0 15 rfl rfl)
theorem dX12_flag_16 : decode cX12_flag 16 = .ok (.goto 4, 3) := dk_167 0 4 (dk_at dksX12_flag_0 16 rfl rfl)
theorem dX12_flag_19 : decode cX12_flag 19 = .ok (.iconst 0, 1) := dk_3 (dk_at dksX12_flag_0 19 rfl rfl)
theorem dX12_flag_20 : decode cX12_flag 20 = .ok (.ireturn, 1) := dk_172 (dk_at dksX12_flag_0 20 rfl rfl)
abbrev cX12_interrupt : ByteArray := prog_13_method_18_code
def yX12_interrupt : MethodName := ⟨RX12, "interrupt", "()I"⟩
def dkwX12_interrupt_5 : List UInt8 := [42, 180, 0, 16, 16, 87, 46, 17, 0, 129, 126, 17, 0, 128, 160, 0, 8, 16, 8, 167, 0, 4, 3, 172]
abbrev dktX12_interrupt_5 : List UInt8 := dkwX12_interrupt_5 ++ []
def dkwX12_interrupt_4 : List UInt8 := [153, 0, 6, 16, 6, 172, 42, 180, 0, 16, 16, 63, 46, 16, 10, 126, 16, 8, 160, 0, 6, 16, 7, 172]
abbrev dktX12_interrupt_4 : List UInt8 := dkwX12_interrupt_4 ++ dktX12_interrupt_5
def dkwX12_interrupt_3 : List UInt8 := [29, 17, 0, 128, 126, 153, 0, 5, 7, 172, 29, 16, 32, 126, 153, 0, 5, 8, 172, 29, 16, 64, 126]
abbrev dktX12_interrupt_3 : List UInt8 := dkwX12_interrupt_3 ++ dktX12_interrupt_4
def dkwX12_interrupt_2 : List UInt8 := [17, 0, 192, 160, 0, 5, 4, 172, 28, 5, 126, 153, 0, 5, 5, 172, 28, 4, 126, 153, 0, 5, 6, 172]
abbrev dktX12_interrupt_2 : List UInt8 := dkwX12_interrupt_2 ++ dktX12_interrupt_3
def dkwX12_interrupt_1 : List UInt8 := [42, 180, 0, 16, 17, 0, 192, 46, 42, 180, 0, 16, 17, 0, 193, 46, 126, 62, 27, 17, 0, 192, 126]
abbrev dktX12_interrupt_1 : List UInt8 := dkwX12_interrupt_1 ++ dktX12_interrupt_2
def dkwX12_interrupt_0 : List UInt8 := [42, 180, 0, 16, 16, 96, 46, 60, 42, 180, 0, 16, 16, 53, 46, 42, 180, 0, 16, 16, 110, 46, 126, 61]
abbrev dktX12_interrupt_0 : List UInt8 := dkwX12_interrupt_0 ++ dktX12_interrupt_1
theorem dksX12_interrupt_0 : cX12_interrupt.data.toList.drop 0 = dktX12_interrupt_0 := by decide +kernel
theorem dksX12_interrupt_1 : cX12_interrupt.data.toList.drop 24 = dktX12_interrupt_1 := dk_seg dksX12_interrupt_0 24 rfl rfl
theorem dksX12_interrupt_2 : cX12_interrupt.data.toList.drop 47 = dktX12_interrupt_2 := dk_seg dksX12_interrupt_1 23 rfl rfl
theorem dksX12_interrupt_3 : cX12_interrupt.data.toList.drop 71 = dktX12_interrupt_3 := dk_seg dksX12_interrupt_2 24 rfl rfl
theorem dksX12_interrupt_4 : cX12_interrupt.data.toList.drop 94 = dktX12_interrupt_4 := dk_seg dksX12_interrupt_3 23 rfl rfl
theorem dksX12_interrupt_5 : cX12_interrupt.data.toList.drop 118 = dktX12_interrupt_5 := dk_seg dksX12_interrupt_4 24 rfl rfl
theorem dX12_interrupt_0 : decode cX12_interrupt 0 = .ok (.aload_n 0, 1) := dk_42 (dk_at dksX12_interrupt_0 0 rfl rfl)
theorem dX12_interrupt_1 : decode cX12_interrupt 1 = .ok (.getfield 16, 3) := dk_180 0 16 (dk_at dksX12_interrupt_0 1 rfl rfl)
theorem dX12_interrupt_4 : decode cX12_interrupt 4 = .ok (.bipush 96, 2) := dk_16 96 (dk_at dksX12_interrupt_0 4 rfl rfl)
theorem dX12_interrupt_6 : decode cX12_interrupt 6 = .ok (.iaload, 1) := dk_46 (dk_at dksX12_interrupt_0 6 rfl rfl)
theorem dX12_interrupt_7 : decode cX12_interrupt 7 = .ok (.istore_n 1, 1) := dk_60 (dk_at dksX12_interrupt_0 7 rfl rfl)
theorem dX12_interrupt_8 : decode cX12_interrupt 8 = .ok (.aload_n 0, 1) := dk_42 (dk_at dksX12_interrupt_0 8 rfl rfl)
theorem dX12_interrupt_9 : decode cX12_interrupt 9 = .ok (.getfield 16, 3) := dk_180 0 16 (dk_at dksX12_interrupt_0 9 rfl rfl)
theorem dX12_interrupt_12 : decode cX12_interrupt 12 = .ok (.bipush 53, 2) := dk_16 53 (dk_at dksX12_interrupt_0 12 rfl rfl)
theorem dX12_interrupt_14 : decode cX12_interrupt 14 = .ok (.iaload, 1) := dk_46 (dk_at dksX12_interrupt_0 14 rfl rfl)
theorem dX12_interrupt_15 : decode cX12_interrupt 15 = .ok (.aload_n 0, 1) := dk_42 (dk_at dksX12_interrupt_0 15 rfl rfl)
theorem dX12_interrupt_16 : decode cX12_interrupt 16 = .ok (.getfield 16, 3) := dk_180 0 16 (dk_at dksX12_interrupt_0 16 rfl rfl)
theorem dX12_interrupt_19 : decode cX12_interrupt 19 = .ok (.bipush 110, 2) := dk_16 110 (dk_at dksX12_interrupt_0 19 rfl rfl)
theorem dX12_interrupt_21 : decode cX12_interrupt 21 = .ok (.iaload, 1) := dk_46 (dk_at dksX12_interrupt_0 21 rfl rfl)
theorem dX12_interrupt_22 : decode cX12_interrupt 22 = .ok (.iand, 1) := dk_126 (dk_at dksX12_interrupt_0 22 rfl rfl)
theorem dX12_interrupt_23 : decode cX12_interrupt 23 = .ok (.istore_n 2, 1) := dk_61 (dk_at dksX12_interrupt_0 23 rfl rfl)
theorem dX12_interrupt_24 : decode cX12_interrupt 24 = .ok (.aload_n 0, 1) := dk_42 (dk_at dksX12_interrupt_1 0 rfl rfl)
theorem dX12_interrupt_25 : decode cX12_interrupt 25 = .ok (.getfield 16, 3) := dk_180 0 16 (dk_at dksX12_interrupt_1 1 rfl rfl)
theorem dX12_interrupt_28 : decode cX12_interrupt 28 = .ok (.sipush 192, 3) := dk_17 0 192 (dk_at dksX12_interrupt_1 4 rfl rfl)
theorem dX12_interrupt_31 : decode cX12_interrupt 31 = .ok (.iaload, 1) := dk_46 (dk_at dksX12_interrupt_1 7 rfl rfl)
theorem dX12_interrupt_32 : decode cX12_interrupt 32 = .ok (.aload_n 0, 1) := dk_42 (dk_at dksX12_interrupt_1 8 rfl rfl)
theorem dX12_interrupt_33 : decode cX12_interrupt 33 = .ok (.getfield 16, 3) := dk_180 0 16 (dk_at dksX12_interrupt_1 9 rfl rfl)
theorem dX12_interrupt_36 : decode cX12_interrupt 36 = .ok (.sipush 193, 3) := dk_17 0 193 (dk_at dksX12_interrupt_1 12 rfl rfl)
theorem dX12_interrupt_39 : decode cX12_interrupt 39 = .ok (.iaload, 1) := dk_46 (dk_at dksX12_interrupt_1 15 rfl rfl)
theorem dX12_interrupt_40 : decode cX12_interrupt 40 = .ok (.iand, 1) := dk_126 (dk_at dksX12_interrupt_1 16 rfl rfl)
theorem dX12_interrupt_41 : decode cX12_interrupt 41 = .ok (.istore_n 3, 1) := dk_62 (dk_at dksX12_interrupt_1 17 rfl rfl)
theorem dX12_interrupt_42 : decode cX12_interrupt 42 = .ok (.iload_n 1, 1) := dk_27 (dk_at dksX12_interrupt_1 18 rfl rfl)
theorem dX12_interrupt_43 : decode cX12_interrupt 43 = .ok (.sipush 192, 3) := dk_17 0 192 (dk_at dksX12_interrupt_1 19 rfl rfl)
theorem dX12_interrupt_46 : decode cX12_interrupt 46 = .ok (.iand, 1) := dk_126 (dk_at dksX12_interrupt_1 22 rfl rfl)
theorem dX12_interrupt_47 : decode cX12_interrupt 47 = .ok (.sipush 192, 3) := dk_17 0 192 (dk_at dksX12_interrupt_2 0 rfl rfl)
theorem dX12_interrupt_50 : decode cX12_interrupt 50 = .ok (.if_icmp .ne 5, 3) := dk_160 0 5 (dk_at dksX12_interrupt_2 3 rfl rfl)
theorem dX12_interrupt_53 : decode cX12_interrupt 53 = .ok (.iconst 1, 1) := dk_4 (dk_at dksX12_interrupt_2 6 rfl rfl)
theorem dX12_interrupt_54 : decode cX12_interrupt 54 = .ok (.ireturn, 1) := dk_172 (dk_at dksX12_interrupt_2 7 rfl rfl)
theorem dX12_interrupt_55 : decode cX12_interrupt 55 = .ok (.iload_n 2, 1) := dk_28 (dk_at dksX12_interrupt_2 8 rfl rfl)
theorem dX12_interrupt_56 : decode cX12_interrupt 56 = .ok (.iconst 2, 1) := dk_5 (dk_at dksX12_interrupt_2 9 rfl rfl)
theorem dX12_interrupt_57 : decode cX12_interrupt 57 = .ok (.iand, 1) := dk_126 (dk_at dksX12_interrupt_2 10 rfl rfl)
theorem dX12_interrupt_58 : decode cX12_interrupt 58 = .ok (.ifCond .eq 5, 3) := dk_153 0 5 (dk_at dksX12_interrupt_2 11 rfl rfl)
theorem dX12_interrupt_61 : decode cX12_interrupt 61 = .ok (.iconst 2, 1) := dk_5 (dk_at dksX12_interrupt_2 14 rfl rfl)
theorem dX12_interrupt_62 : decode cX12_interrupt 62 = .ok (.ireturn, 1) := dk_172 (dk_at dksX12_interrupt_2 15 rfl rfl)
theorem dX12_interrupt_63 : decode cX12_interrupt 63 = .ok (.iload_n 2, 1) := dk_28 (dk_at dksX12_interrupt_2 16 rfl rfl)
theorem dX12_interrupt_64 : decode cX12_interrupt 64 = .ok (.iconst 1, 1) := dk_4 (dk_at dksX12_interrupt_2 17 rfl rfl)
theorem dX12_interrupt_65 : decode cX12_interrupt 65 = .ok (.iand, 1) := dk_126 (dk_at dksX12_interrupt_2 18 rfl rfl)
theorem dX12_interrupt_66 : decode cX12_interrupt 66 = .ok (.ifCond .eq 5, 3) := dk_153 0 5 (dk_at dksX12_interrupt_2 19 rfl rfl)
theorem dX12_interrupt_69 : decode cX12_interrupt 69 = .ok (.iconst 3, 1) := dk_6 (dk_at dksX12_interrupt_2 22 rfl rfl)
theorem dX12_interrupt_70 : decode cX12_interrupt 70 = .ok (.ireturn, 1) := dk_172 (dk_at dksX12_interrupt_2 23 rfl rfl)
theorem dX12_interrupt_71 : decode cX12_interrupt 71 = .ok (.iload_n 3, 1) := dk_29 (dk_at dksX12_interrupt_3 0 rfl rfl)
theorem dX12_interrupt_72 : decode cX12_interrupt 72 = .ok (.sipush 128, 3) := dk_17 0 128 (dk_at dksX12_interrupt_3 1 rfl rfl)
theorem dX12_interrupt_75 : decode cX12_interrupt 75 = .ok (.iand, 1) := dk_126 (dk_at dksX12_interrupt_3 4 rfl rfl)
theorem dX12_interrupt_76 : decode cX12_interrupt 76 = .ok (.ifCond .eq 5, 3) := dk_153 0 5 (dk_at dksX12_interrupt_3 5 rfl rfl)
theorem dX12_interrupt_79 : decode cX12_interrupt 79 = .ok (.iconst 4, 1) := dk_7 (dk_at dksX12_interrupt_3 8 rfl rfl)
theorem dX12_interrupt_80 : decode cX12_interrupt 80 = .ok (.ireturn, 1) := dk_172 (dk_at dksX12_interrupt_3 9 rfl rfl)
theorem dX12_interrupt_81 : decode cX12_interrupt 81 = .ok (.iload_n 3, 1) := dk_29 (dk_at dksX12_interrupt_3 10 rfl rfl)
theorem dX12_interrupt_82 : decode cX12_interrupt 82 = .ok (.bipush 32, 2) := dk_16 32 (dk_at dksX12_interrupt_3 11 rfl rfl)
theorem dX12_interrupt_84 : decode cX12_interrupt 84 = .ok (.iand, 1) := dk_126 (dk_at dksX12_interrupt_3 13 rfl rfl)
theorem dX12_interrupt_85 : decode cX12_interrupt 85 = .ok (.ifCond .eq 5, 3) := dk_153 0 5 (dk_at dksX12_interrupt_3 14 rfl rfl)
theorem dX12_interrupt_88 : decode cX12_interrupt 88 = .ok (.iconst 5, 1) := dk_8 (dk_at dksX12_interrupt_3 17 rfl rfl)
theorem dX12_interrupt_89 : decode cX12_interrupt 89 = .ok (.ireturn, 1) := dk_172 (dk_at dksX12_interrupt_3 18 rfl rfl)
theorem dX12_interrupt_90 : decode cX12_interrupt 90 = .ok (.iload_n 3, 1) := dk_29 (dk_at dksX12_interrupt_3 19 rfl rfl)
theorem dX12_interrupt_91 : decode cX12_interrupt 91 = .ok (.bipush 64, 2) := dk_16 64 (dk_at dksX12_interrupt_3 20 rfl rfl)
theorem dX12_interrupt_93 : decode cX12_interrupt 93 = .ok (.iand, 1) := dk_126 (dk_at dksX12_interrupt_3 22 rfl rfl)
theorem dX12_interrupt_94 : decode cX12_interrupt 94 = .ok (.ifCond .eq 6, 3) := dk_153 0 6 (dk_at dksX12_interrupt_4 0 rfl rfl)
theorem dX12_interrupt_97 : decode cX12_interrupt 97 = .ok (.bipush 6, 2) := dk_16 6 (dk_at dksX12_interrupt_4 3 rfl rfl)
theorem dX12_interrupt_99 : decode cX12_interrupt 99 = .ok (.ireturn, 1) := dk_172 (dk_at dksX12_interrupt_4 5 rfl rfl)
theorem dX12_interrupt_100 : decode cX12_interrupt 100 = .ok (.aload_n 0, 1) := dk_42 (dk_at dksX12_interrupt_4 6 rfl rfl)
theorem dX12_interrupt_101 : decode cX12_interrupt 101 = .ok (.getfield 16, 3) := dk_180 0 16 (dk_at dksX12_interrupt_4 7 rfl rfl)
theorem dX12_interrupt_104 : decode cX12_interrupt 104 = .ok (.bipush 63, 2) := dk_16 63 (dk_at dksX12_interrupt_4 10 rfl rfl)
theorem dX12_interrupt_106 : decode cX12_interrupt 106 = .ok (.iaload, 1) := dk_46 (dk_at dksX12_interrupt_4 12 rfl rfl)
theorem dX12_interrupt_107 : decode cX12_interrupt 107 = .ok (.bipush 10, 2) := dk_16 10 (dk_at dksX12_interrupt_4 13 rfl rfl)
theorem dX12_interrupt_109 : decode cX12_interrupt 109 = .ok (.iand, 1) := dk_126 (dk_at dksX12_interrupt_4 15 rfl rfl)
theorem dX12_interrupt_110 : decode cX12_interrupt 110 = .ok (.bipush 8, 2) := dk_16 8 (dk_at dksX12_interrupt_4 16 rfl rfl)
theorem dX12_interrupt_112 : decode cX12_interrupt 112 = .ok (.if_icmp .ne 6, 3) := dk_160 0 6 (dk_at dksX12_interrupt_4 18 rfl rfl)
theorem dX12_interrupt_115 : decode cX12_interrupt 115 = .ok (.bipush 7, 2) := dk_16 7 (dk_at dksX12_interrupt_4 21 rfl rfl)
theorem dX12_interrupt_117 : decode cX12_interrupt 117 = .ok (.ireturn, 1) := dk_172 (dk_at dksX12_interrupt_4 23 rfl rfl)
theorem dX12_interrupt_118 : decode cX12_interrupt 118 = .ok (.aload_n 0, 1) := dk_42 (dk_at dksX12_interrupt_5 0 rfl rfl)
theorem dX12_interrupt_119 : decode cX12_interrupt 119 = .ok (.getfield 16, 3) := dk_180 0 16 (dk_at dksX12_interrupt_5 1 rfl rfl)
theorem dX12_interrupt_122 : decode cX12_interrupt 122 = .ok (.bipush 87, 2) := dk_16 87 (dk_at dksX12_interrupt_5 4 rfl rfl)
theorem dX12_interrupt_124 : decode cX12_interrupt 124 = .ok (.iaload, 1) := dk_46 (dk_at dksX12_interrupt_5 6 rfl rfl)
theorem dX12_interrupt_125 : decode cX12_interrupt 125 = .ok (.sipush 129, 3) := dk_17 0 129 (dk_at dksX12_interrupt_5 7 rfl rfl)
theorem dX12_interrupt_128 : decode cX12_interrupt 128 = .ok (.iand, 1) := dk_126 (dk_at dksX12_interrupt_5 10 rfl rfl)
theorem dX12_interrupt_129 : decode cX12_interrupt 129 = .ok (.sipush 128, 3) := dk_17 0 128 (dk_at dksX12_interrupt_5 11 rfl rfl)
theorem dX12_interrupt_132 : decode cX12_interrupt 132 = .ok (.if_icmp .ne 8, 3) := dk_160 0 8 (dk_at dksX12_interrupt_5 14 rfl rfl)
theorem dX12_interrupt_135 : decode cX12_interrupt 135 = .ok (.bipush 8, 2) := dk_16 8 (dk_at dksX12_interrupt_5 17 rfl rfl)
theorem dX12_interrupt_137 : decode cX12_interrupt 137 = .ok (.goto 4, 3) := dk_167 0 4 (dk_at dksX12_interrupt_5 19 rfl rfl)
theorem dX12_interrupt_140 : decode cX12_interrupt 140 = .ok (.iconst 0, 1) := dk_3 (dk_at dksX12_interrupt_5 22 rfl rfl)
theorem dX12_interrupt_141 : decode cX12_interrupt 141 = .ok (.ireturn, 1) := dk_172 (dk_at dksX12_interrupt_5 23 rfl rfl)
abbrev cX12_enter : ByteArray := prog_13_method_20_code
def yX12_enter : MethodName := ⟨RX12, "enter", "(I)V"⟩
def dkwX12_enter_6 : List UInt8 := [180, 0, 176, 4, 96, 181, 0, 176, 177]
abbrev dktX12_enter_6 : List UInt8 := dkwX12_enter_6 ++ []
def dkwX12_enter_5 : List UInt8 := [180, 0, 16, 16, 85, 46, 5, 126, 153, 0, 9, 17, 6, 0, 167, 0, 4, 3, 96, 181, 0, 77, 42, 89]
abbrev dktX12_enter_5 : List UInt8 := dkwX12_enter_5 ++ dktX12_enter_6
def dkwX12_enter_4 : List UInt8 := [17, 0, 192, 92, 46, 17, 0, 191, 126, 79, 42, 16, 7, 3, 182, 0, 172, 42, 5, 27, 104, 42]
abbrev dktX12_enter_4 : List UInt8 := dkwX12_enter_4 ++ dktX12_enter_5
def dkwX12_enter_3 : List UInt8 := [180, 0, 16, 16, 53, 92, 46, 17, 0, 254, 126, 79, 27, 16, 6, 160, 0, 17, 42, 180, 0, 16]
abbrev dktX12_enter_3 : List UInt8 := dkwX12_enter_3 ++ dktX12_enter_4
def dkwX12_enter_2 : List UInt8 := [27, 5, 160, 0, 16, 42, 180, 0, 16, 16, 53, 92, 46, 17, 0, 253, 126, 79, 27, 6, 160, 0, 16, 42]
abbrev dktX12_enter_2 : List UInt8 := dkwX12_enter_2 ++ dktX12_enter_3
def dkwX12_enter_1 : List UInt8 := [92, 46, 42, 180, 0, 16, 16, 96, 46, 16, 8, 126, 153, 0, 8, 16, 63, 167, 0, 5, 16, 127, 126, 79]
abbrev dktX12_enter_1 : List UInt8 := dkwX12_enter_1 ++ dktX12_enter_2
def dkwX12_enter_0 : List UInt8 := [42, 3, 181, 0, 80, 42, 42, 180, 0, 77, 182, 0, 169, 27, 4, 160, 0, 33, 42, 180, 0, 16, 16, 96]
abbrev dktX12_enter_0 : List UInt8 := dkwX12_enter_0 ++ dktX12_enter_1
theorem dksX12_enter_0 : cX12_enter.data.toList.drop 0 = dktX12_enter_0 := by decide +kernel
theorem dksX12_enter_1 : cX12_enter.data.toList.drop 24 = dktX12_enter_1 := dk_seg dksX12_enter_0 24 rfl rfl
theorem dksX12_enter_2 : cX12_enter.data.toList.drop 48 = dktX12_enter_2 := dk_seg dksX12_enter_1 24 rfl rfl
theorem dksX12_enter_3 : cX12_enter.data.toList.drop 72 = dktX12_enter_3 := dk_seg dksX12_enter_2 24 rfl rfl
theorem dksX12_enter_4 : cX12_enter.data.toList.drop 94 = dktX12_enter_4 := dk_seg dksX12_enter_3 22 rfl rfl
theorem dksX12_enter_5 : cX12_enter.data.toList.drop 116 = dktX12_enter_5 := dk_seg dksX12_enter_4 22 rfl rfl
theorem dksX12_enter_6 : cX12_enter.data.toList.drop 140 = dktX12_enter_6 := dk_seg dksX12_enter_5 24 rfl rfl
theorem dX12_enter_0 : decode cX12_enter 0 = .ok (.aload_n 0, 1) := dk_42 (dk_at dksX12_enter_0 0 rfl rfl)
theorem dX12_enter_1 : decode cX12_enter 1 = .ok (.iconst 0, 1) := dk_3 (dk_at dksX12_enter_0 1 rfl rfl)
theorem dX12_enter_2 : decode cX12_enter 2 = .ok (.putfield 80, 3) := dk_181 0 80 (dk_at dksX12_enter_0 2 rfl rfl)
theorem dX12_enter_5 : decode cX12_enter 5 = .ok (.aload_n 0, 1) := dk_42 (dk_at dksX12_enter_0 5 rfl rfl)
theorem dX12_enter_6 : decode cX12_enter 6 = .ok (.aload_n 0, 1) := dk_42 (dk_at dksX12_enter_0 6 rfl rfl)
theorem dX12_enter_7 : decode cX12_enter 7 = .ok (.getfield 77, 3) := dk_180 0 77 (dk_at dksX12_enter_0 7 rfl rfl)
theorem dX12_enter_10 : decode cX12_enter 10 = .ok (.invokevirtual 169, 3) := dk_182 0 169 (dk_at dksX12_enter_0 10 rfl rfl)
theorem dX12_enter_13 : decode cX12_enter 13 = .ok (.iload_n 1, 1) := dk_27 (dk_at dksX12_enter_0 13 rfl rfl)
theorem dX12_enter_14 : decode cX12_enter 14 = .ok (.iconst 1, 1) := dk_4 (dk_at dksX12_enter_0 14 rfl rfl)
theorem dX12_enter_15 : decode cX12_enter 15 = .ok (.if_icmp .ne 33, 3) := dk_160 0 33 (dk_at dksX12_enter_0 15 rfl rfl)
theorem dX12_enter_18 : decode cX12_enter 18 = .ok (.aload_n 0, 1) := dk_42 (dk_at dksX12_enter_0 18 rfl rfl)
theorem dX12_enter_19 : decode cX12_enter 19 = .ok (.getfield 16, 3) := dk_180 0 16 (dk_at dksX12_enter_0 19 rfl rfl)
theorem dX12_enter_22 : decode cX12_enter 22 = .ok (.bipush 96, 2) := dk_16 96 (dk_at dksX12_enter_0 22 rfl rfl)
theorem dX12_enter_24 : decode cX12_enter 24 = .ok (.dup2, 1) := dk_92 (dk_at dksX12_enter_1 0 rfl rfl)
theorem dX12_enter_25 : decode cX12_enter 25 = .ok (.iaload, 1) := dk_46 (dk_at dksX12_enter_1 1 rfl rfl)
theorem dX12_enter_26 : decode cX12_enter 26 = .ok (.aload_n 0, 1) := dk_42 (dk_at dksX12_enter_1 2 rfl rfl)
theorem dX12_enter_27 : decode cX12_enter 27 = .ok (.getfield 16, 3) := dk_180 0 16 (dk_at dksX12_enter_1 3 rfl rfl)
theorem dX12_enter_30 : decode cX12_enter 30 = .ok (.bipush 96, 2) := dk_16 96 (dk_at dksX12_enter_1 6 rfl rfl)
theorem dX12_enter_32 : decode cX12_enter 32 = .ok (.iaload, 1) := dk_46 (dk_at dksX12_enter_1 8 rfl rfl)
theorem dX12_enter_33 : decode cX12_enter 33 = .ok (.bipush 8, 2) := dk_16 8 (dk_at dksX12_enter_1 9 rfl rfl)
theorem dX12_enter_35 : decode cX12_enter 35 = .ok (.iand, 1) := dk_126 (dk_at dksX12_enter_1 11 rfl rfl)
theorem dX12_enter_36 : decode cX12_enter 36 = .ok (.ifCond .eq 8, 3) := dk_153 0 8 (dk_at dksX12_enter_1 12 rfl rfl)
theorem dX12_enter_39 : decode cX12_enter 39 = .ok (.bipush 63, 2) := dk_16 63 (dk_at dksX12_enter_1 15 rfl rfl)
theorem dX12_enter_41 : decode cX12_enter 41 = .ok (.goto 5, 3) := dk_167 0 5 (dk_at dksX12_enter_1 17 rfl rfl)
theorem dX12_enter_44 : decode cX12_enter 44 = .ok (.bipush 127, 2) := dk_16 127 (dk_at dksX12_enter_1 20 rfl rfl)
theorem dX12_enter_46 : decode cX12_enter 46 = .ok (.iand, 1) := dk_126 (dk_at dksX12_enter_1 22 rfl rfl)
theorem dX12_enter_47 : decode cX12_enter 47 = .ok (.iastore, 1) := dk_79 (dk_at dksX12_enter_1 23 rfl rfl)
theorem dX12_enter_48 : decode cX12_enter 48 = .ok (.iload_n 1, 1) := dk_27 (dk_at dksX12_enter_2 0 rfl rfl)
theorem dX12_enter_49 : decode cX12_enter 49 = .ok (.iconst 2, 1) := dk_5 (dk_at dksX12_enter_2 1 rfl rfl)
theorem dX12_enter_50 : decode cX12_enter 50 = .ok (.if_icmp .ne 16, 3) := dk_160 0 16 (dk_at dksX12_enter_2 2 rfl rfl)
theorem dX12_enter_53 : decode cX12_enter 53 = .ok (.aload_n 0, 1) := dk_42 (dk_at dksX12_enter_2 5 rfl rfl)
theorem dX12_enter_54 : decode cX12_enter 54 = .ok (.getfield 16, 3) := dk_180 0 16 (dk_at dksX12_enter_2 6 rfl rfl)
theorem dX12_enter_57 : decode cX12_enter 57 = .ok (.bipush 53, 2) := dk_16 53 (dk_at dksX12_enter_2 9 rfl rfl)
theorem dX12_enter_59 : decode cX12_enter 59 = .ok (.dup2, 1) := dk_92 (dk_at dksX12_enter_2 11 rfl rfl)
theorem dX12_enter_60 : decode cX12_enter 60 = .ok (.iaload, 1) := dk_46 (dk_at dksX12_enter_2 12 rfl rfl)
theorem dX12_enter_61 : decode cX12_enter 61 = .ok (.sipush 253, 3) := dk_17 0 253 (dk_at dksX12_enter_2 13 rfl rfl)
theorem dX12_enter_64 : decode cX12_enter 64 = .ok (.iand, 1) := dk_126 (dk_at dksX12_enter_2 16 rfl rfl)
theorem dX12_enter_65 : decode cX12_enter 65 = .ok (.iastore, 1) := dk_79 (dk_at dksX12_enter_2 17 rfl rfl)
theorem dX12_enter_66 : decode cX12_enter 66 = .ok (.iload_n 1, 1) := dk_27 (dk_at dksX12_enter_2 18 rfl rfl)
theorem dX12_enter_67 : decode cX12_enter 67 = .ok (.iconst 3, 1) := dk_6 (dk_at dksX12_enter_2 19 rfl rfl)
theorem dX12_enter_68 : decode cX12_enter 68 = .ok (.if_icmp .ne 16, 3) := dk_160 0 16 (dk_at dksX12_enter_2 20 rfl rfl)
theorem dX12_enter_71 : decode cX12_enter 71 = .ok (.aload_n 0, 1) := dk_42 (dk_at dksX12_enter_2 23 rfl rfl)
theorem dX12_enter_72 : decode cX12_enter 72 = .ok (.getfield 16, 3) := dk_180 0 16 (dk_at dksX12_enter_3 0 rfl rfl)
theorem dX12_enter_75 : decode cX12_enter 75 = .ok (.bipush 53, 2) := dk_16 53 (dk_at dksX12_enter_3 3 rfl rfl)
theorem dX12_enter_77 : decode cX12_enter 77 = .ok (.dup2, 1) := dk_92 (dk_at dksX12_enter_3 5 rfl rfl)
theorem dX12_enter_78 : decode cX12_enter 78 = .ok (.iaload, 1) := dk_46 (dk_at dksX12_enter_3 6 rfl rfl)
theorem dX12_enter_79 : decode cX12_enter 79 = .ok (.sipush 254, 3) := dk_17 0 254 (dk_at dksX12_enter_3 7 rfl rfl)
theorem dX12_enter_82 : decode cX12_enter 82 = .ok (.iand, 1) := dk_126 (dk_at dksX12_enter_3 10 rfl rfl)
theorem dX12_enter_83 : decode cX12_enter 83 = .ok (.iastore, 1) := dk_79 (dk_at dksX12_enter_3 11 rfl rfl)
theorem dX12_enter_84 : decode cX12_enter 84 = .ok (.iload_n 1, 1) := dk_27 (dk_at dksX12_enter_3 12 rfl rfl)
theorem dX12_enter_85 : decode cX12_enter 85 = .ok (.bipush 6, 2) := dk_16 6 (dk_at dksX12_enter_3 13 rfl rfl)
theorem dX12_enter_87 : decode cX12_enter 87 = .ok (.if_icmp .ne 17, 3) := dk_160 0 17 (dk_at dksX12_enter_3 15 rfl rfl)
theorem dX12_enter_90 : decode cX12_enter 90 = .ok (.aload_n 0, 1) := dk_42 (dk_at dksX12_enter_3 18 rfl rfl)
theorem dX12_enter_91 : decode cX12_enter 91 = .ok (.getfield 16, 3) := dk_180 0 16 (dk_at dksX12_enter_3 19 rfl rfl)
theorem dX12_enter_94 : decode cX12_enter 94 = .ok (.sipush 192, 3) := dk_17 0 192 (dk_at dksX12_enter_4 0 rfl rfl)
theorem dX12_enter_97 : decode cX12_enter 97 = .ok (.dup2, 1) := dk_92 (dk_at dksX12_enter_4 3 rfl rfl)
theorem dX12_enter_98 : decode cX12_enter 98 = .ok (.iaload, 1) := dk_46 (dk_at dksX12_enter_4 4 rfl rfl)
theorem dX12_enter_99 : decode cX12_enter 99 = .ok (.sipush 191, 3) := dk_17 0 191 (dk_at dksX12_enter_4 5 rfl rfl)
theorem dX12_enter_102 : decode cX12_enter 102 = .ok (.iand, 1) := dk_126 (dk_at dksX12_enter_4 8 rfl rfl)
theorem dX12_enter_103 : decode cX12_enter 103 = .ok (.iastore, 1) := dk_79 (dk_at dksX12_enter_4 9 rfl rfl)
theorem dX12_enter_104 : decode cX12_enter 104 = .ok (.aload_n 0, 1) := dk_42 (dk_at dksX12_enter_4 10 rfl rfl)
theorem dX12_enter_105 : decode cX12_enter 105 = .ok (.bipush 7, 2) := dk_16 7 (dk_at dksX12_enter_4 11 rfl rfl)
theorem dX12_enter_107 : decode cX12_enter 107 = .ok (.iconst 0, 1) := dk_3 (dk_at dksX12_enter_4 13 rfl rfl)
theorem dX12_enter_108 : decode cX12_enter 108 = .ok (.invokevirtual 172, 3) := dk_182 0 172 (dk_at dksX12_enter_4 14 rfl rfl)
theorem dX12_enter_111 : decode cX12_enter 111 = .ok (.aload_n 0, 1) := dk_42 (dk_at dksX12_enter_4 17 rfl rfl)
theorem dX12_enter_112 : decode cX12_enter 112 = .ok (.iconst 2, 1) := dk_5 (dk_at dksX12_enter_4 18 rfl rfl)
theorem dX12_enter_113 : decode cX12_enter 113 = .ok (.iload_n 1, 1) := dk_27 (dk_at dksX12_enter_4 19 rfl rfl)
theorem dX12_enter_114 : decode cX12_enter 114 = .ok (.imul, 1) := dk_104 (dk_at dksX12_enter_4 20 rfl rfl)
theorem dX12_enter_115 : decode cX12_enter 115 = .ok (.aload_n 0, 1) := dk_42 (dk_at dksX12_enter_4 21 rfl rfl)
theorem dX12_enter_116 : decode cX12_enter 116 = .ok (.getfield 16, 3) := dk_180 0 16 (dk_at dksX12_enter_5 0 rfl rfl)
theorem dX12_enter_119 : decode cX12_enter 119 = .ok (.bipush 85, 2) := dk_16 85 (dk_at dksX12_enter_5 3 rfl rfl)
theorem dX12_enter_121 : decode cX12_enter 121 = .ok (.iaload, 1) := dk_46 (dk_at dksX12_enter_5 5 rfl rfl)
theorem dX12_enter_122 : decode cX12_enter 122 = .ok (.iconst 2, 1) := dk_5 (dk_at dksX12_enter_5 6 rfl rfl)
theorem dX12_enter_123 : decode cX12_enter 123 = .ok (.iand, 1) := dk_126 (dk_at dksX12_enter_5 7 rfl rfl)
theorem dX12_enter_124 : decode cX12_enter 124 = .ok (.ifCond .eq 9, 3) := dk_153 0 9 (dk_at dksX12_enter_5 8 rfl rfl)
theorem dX12_enter_127 : decode cX12_enter 127 = .ok (.sipush 1536, 3) := dk_17 6 0 (dk_at dksX12_enter_5 11 rfl rfl)
theorem dX12_enter_130 : decode cX12_enter 130 = .ok (.goto 4, 3) := dk_167 0 4 (dk_at dksX12_enter_5 14 rfl rfl)
theorem dX12_enter_133 : decode cX12_enter 133 = .ok (.iconst 0, 1) := dk_3 (dk_at dksX12_enter_5 17 rfl rfl)
theorem dX12_enter_134 : decode cX12_enter 134 = .ok (.iadd, 1) := dk_96 (dk_at dksX12_enter_5 18 rfl rfl)
theorem dX12_enter_135 : decode cX12_enter 135 = .ok (.putfield 77, 3) := dk_181 0 77 (dk_at dksX12_enter_5 19 rfl rfl)
theorem dX12_enter_138 : decode cX12_enter 138 = .ok (.aload_n 0, 1) := dk_42 (dk_at dksX12_enter_5 22 rfl rfl)
theorem dX12_enter_139 : decode cX12_enter 139 = .ok (.dup, 1) := dk_89 (dk_at dksX12_enter_5 23 rfl rfl)
theorem dX12_enter_140 : decode cX12_enter 140 = .ok (.getfield 176, 3) := dk_180 0 176 (dk_at dksX12_enter_6 0 rfl rfl)
theorem dX12_enter_143 : decode cX12_enter 143 = .ok (.iconst 1, 1) := dk_4 (dk_at dksX12_enter_6 3 rfl rfl)
theorem dX12_enter_144 : decode cX12_enter 144 = .ok (.iadd, 1) := dk_96 (dk_at dksX12_enter_6 4 rfl rfl)
theorem dX12_enter_145 : decode cX12_enter 145 = .ok (.putfield 176, 3) := dk_181 0 176 (dk_at dksX12_enter_6 5 rfl rfl)
theorem dX12_enter_148 : decode cX12_enter 148 = .ok (.return_, 1) := dk_177 (dk_at dksX12_enter_6 8 rfl rfl)
abbrev cX12_pushPlace : ByteArray := prog_13_method_36_code
def yX12_pushPlace : MethodName := ⟨RX12, "pushPlace", "(I)V"⟩
def dkwX12_pushPlace_0 : List UInt8 := [42, 27, 17, 0, 255, 126, 182, 0, 244, 42, 27, 16, 8, 122, 182, 0, 244, 177]
abbrev dktX12_pushPlace_0 : List UInt8 := dkwX12_pushPlace_0 ++ []
theorem dksX12_pushPlace_0 : cX12_pushPlace.data.toList.drop 0 = dktX12_pushPlace_0 := by decide +kernel
theorem dX12_pushPlace_0 : decode cX12_pushPlace 0 = .ok (.aload_n 0, 1) := dk_42 (dk_at dksX12_pushPlace_0 0 rfl rfl)
theorem dX12_pushPlace_1 : decode cX12_pushPlace 1 = .ok (.iload_n 1, 1) := dk_27 (dk_at dksX12_pushPlace_0 1 rfl rfl)
theorem dX12_pushPlace_2 : decode cX12_pushPlace 2 = .ok (.sipush 255, 3) := dk_17 0 255 (dk_at dksX12_pushPlace_0 2 rfl rfl)
theorem dX12_pushPlace_5 : decode cX12_pushPlace 5 = .ok (.iand, 1) := dk_126 (dk_at dksX12_pushPlace_0 5 rfl rfl)
theorem dX12_pushPlace_6 : decode cX12_pushPlace 6 = .ok (.invokevirtual 244, 3) := dk_182 0 244 (dk_at dksX12_pushPlace_0 6 rfl rfl)
theorem dX12_pushPlace_9 : decode cX12_pushPlace 9 = .ok (.aload_n 0, 1) := dk_42 (dk_at dksX12_pushPlace_0 9 rfl rfl)
theorem dX12_pushPlace_10 : decode cX12_pushPlace 10 = .ok (.iload_n 1, 1) := dk_27 (dk_at dksX12_pushPlace_0 10 rfl rfl)
theorem dX12_pushPlace_11 : decode cX12_pushPlace 11 = .ok (.bipush 8, 2) := dk_16 8 (dk_at dksX12_pushPlace_0 11 rfl rfl)
theorem dX12_pushPlace_13 : decode cX12_pushPlace 13 = .ok (.ishr, 1) := dk_122 (dk_at dksX12_pushPlace_0 13 rfl rfl)
theorem dX12_pushPlace_14 : decode cX12_pushPlace 14 = .ok (.invokevirtual 244, 3) := dk_182 0 244 (dk_at dksX12_pushPlace_0 14 rfl rfl)
theorem dX12_pushPlace_17 : decode cX12_pushPlace 17 = .ok (.return_, 1) := dk_177 (dk_at dksX12_pushPlace_0 17 rfl rfl)
abbrev cX12_push : ByteArray := prog_13_method_34_code
def yX12_push : MethodName := ⟨RX12, "push", "(I)V"⟩
def dkwX12_push_0 : List UInt8 := [42, 16, 93, 182, 0, 231, 61, 42, 28, 27, 182, 0, 234, 42, 16, 93, 28, 4, 100, 182, 0, 238, 177]
abbrev dktX12_push_0 : List UInt8 := dkwX12_push_0 ++ []
theorem dksX12_push_0 : cX12_push.data.toList.drop 0 = dktX12_push_0 := by decide +kernel
theorem dX12_push_0 : decode cX12_push 0 = .ok (.aload_n 0, 1) := dk_42 (dk_at dksX12_push_0 0 rfl rfl)
theorem dX12_push_1 : decode cX12_push 1 = .ok (.bipush 93, 2) := dk_16 93 (dk_at dksX12_push_0 1 rfl rfl)
theorem dX12_push_3 : decode cX12_push 3 = .ok (.invokevirtual 231, 3) := dk_182 0 231 (dk_at dksX12_push_0 3 rfl rfl)
theorem dX12_push_6 : decode cX12_push 6 = .ok (.istore_n 2, 1) := dk_61 (dk_at dksX12_push_0 6 rfl rfl)
theorem dX12_push_7 : decode cX12_push 7 = .ok (.aload_n 0, 1) := dk_42 (dk_at dksX12_push_0 7 rfl rfl)
theorem dX12_push_8 : decode cX12_push 8 = .ok (.iload_n 2, 1) := dk_28 (dk_at dksX12_push_0 8 rfl rfl)
theorem dX12_push_9 : decode cX12_push 9 = .ok (.iload_n 1, 1) := dk_27 (dk_at dksX12_push_0 9 rfl rfl)
theorem dX12_push_10 : decode cX12_push 10 = .ok (.invokevirtual 234, 3) := dk_182 0 234 (dk_at dksX12_push_0 10 rfl rfl)
theorem dX12_push_13 : decode cX12_push 13 = .ok (.aload_n 0, 1) := dk_42 (dk_at dksX12_push_0 13 rfl rfl)
theorem dX12_push_14 : decode cX12_push 14 = .ok (.bipush 93, 2) := dk_16 93 (dk_at dksX12_push_0 14 rfl rfl)
theorem dX12_push_16 : decode cX12_push 16 = .ok (.iload_n 2, 1) := dk_28 (dk_at dksX12_push_0 16 rfl rfl)
theorem dX12_push_17 : decode cX12_push 17 = .ok (.iconst 1, 1) := dk_4 (dk_at dksX12_push_0 17 rfl rfl)
theorem dX12_push_18 : decode cX12_push 18 = .ok (.isub, 1) := dk_100 (dk_at dksX12_push_0 18 rfl rfl)
theorem dX12_push_19 : decode cX12_push 19 = .ok (.invokevirtual 238, 3) := dk_182 0 238 (dk_at dksX12_push_0 19 rfl rfl)
theorem dX12_push_22 : decode cX12_push 22 = .ok (.return_, 1) := dk_177 (dk_at dksX12_push_0 22 rfl rfl)
abbrev cX12_pointer : ByteArray := prog_13_method_32_code
def yX12_pointer : MethodName := ⟨RX12, "pointer", "(I)I"⟩
def dkwX12_pointer_0 : List UInt8 := [42, 180, 0, 16, 27, 46, 42, 180, 0, 16, 27, 4, 96, 46, 16, 8, 120, 128, 172]
abbrev dktX12_pointer_0 : List UInt8 := dkwX12_pointer_0 ++ []
theorem dksX12_pointer_0 : cX12_pointer.data.toList.drop 0 = dktX12_pointer_0 := by decide +kernel
theorem dX12_pointer_0 : decode cX12_pointer 0 = .ok (.aload_n 0, 1) := dk_42 (dk_at dksX12_pointer_0 0 rfl rfl)
theorem dX12_pointer_1 : decode cX12_pointer 1 = .ok (.getfield 16, 3) := dk_180 0 16 (dk_at dksX12_pointer_0 1 rfl rfl)
theorem dX12_pointer_4 : decode cX12_pointer 4 = .ok (.iload_n 1, 1) := dk_27 (dk_at dksX12_pointer_0 4 rfl rfl)
theorem dX12_pointer_5 : decode cX12_pointer 5 = .ok (.iaload, 1) := dk_46 (dk_at dksX12_pointer_0 5 rfl rfl)
theorem dX12_pointer_6 : decode cX12_pointer 6 = .ok (.aload_n 0, 1) := dk_42 (dk_at dksX12_pointer_0 6 rfl rfl)
theorem dX12_pointer_7 : decode cX12_pointer 7 = .ok (.getfield 16, 3) := dk_180 0 16 (dk_at dksX12_pointer_0 7 rfl rfl)
theorem dX12_pointer_10 : decode cX12_pointer 10 = .ok (.iload_n 1, 1) := dk_27 (dk_at dksX12_pointer_0 10 rfl rfl)
theorem dX12_pointer_11 : decode cX12_pointer 11 = .ok (.iconst 1, 1) := dk_4 (dk_at dksX12_pointer_0 11 rfl rfl)
theorem dX12_pointer_12 : decode cX12_pointer 12 = .ok (.iadd, 1) := dk_96 (dk_at dksX12_pointer_0 12 rfl rfl)
theorem dX12_pointer_13 : decode cX12_pointer 13 = .ok (.iaload, 1) := dk_46 (dk_at dksX12_pointer_0 13 rfl rfl)
theorem dX12_pointer_14 : decode cX12_pointer 14 = .ok (.bipush 8, 2) := dk_16 8 (dk_at dksX12_pointer_0 14 rfl rfl)
theorem dX12_pointer_16 : decode cX12_pointer 16 = .ok (.ishl, 1) := dk_120 (dk_at dksX12_pointer_0 16 rfl rfl)
theorem dX12_pointer_17 : decode cX12_pointer 17 = .ok (.ior, 1) := dk_128 (dk_at dksX12_pointer_0 17 rfl rfl)
theorem dX12_pointer_18 : decode cX12_pointer 18 = .ok (.ireturn, 1) := dk_172 (dk_at dksX12_pointer_0 18 rfl rfl)
abbrev cX12_store : ByteArray := prog_13_method_13_code
def yX12_store : MethodName := ⟨RX12, "store", "(II)V"⟩
def dkwX12_store_12 : List UInt8 := [17, 0, 192, 92, 46, 17, 0, 223, 126, 79, 167, 0, 3, 177]
abbrev dktX12_store_12 : List UInt8 := dkwX12_store_12 ++ []
def dkwX12_store_11 : List UInt8 := [180, 0, 16, 17, 0, 192, 46, 16, 32, 126, 153, 0, 25, 42, 28, 181, 0, 110, 42, 180, 0, 16]
abbrev dktX12_store_11 : List UInt8 := dkwX12_store_11 ++ dktX12_store_12
def dkwX12_store_10 : List UInt8 := [92, 46, 16, 32, 128, 79, 167, 0, 53, 42, 180, 0, 16, 17, 0, 193, 46, 16, 8, 126, 153, 0, 39, 42]
abbrev dktX12_store_10 : List UInt8 := dkwX12_store_10 ++ dktX12_store_11
def dkwX12_store_9 : List UInt8 := [128, 79, 167, 0, 81, 28, 16, 8, 126, 154, 0, 74, 42, 2, 181, 0, 110, 42, 180, 0, 16, 17, 0, 192]
abbrev dktX12_store_9 : List UInt8 := dkwX12_store_9 ++ dktX12_store_10
def dkwX12_store_8 : List UInt8 := [17, 0, 192, 46, 28, 16, 64, 126, 153, 0, 9, 17, 0, 189, 167, 0, 6, 17, 0, 253, 126, 28, 5, 126]
abbrev dktX12_store_8 : List UInt8 := dkwX12_store_8 ++ dktX12_store_9
def dkwX12_store_7 : List UInt8 := [167, 0, 129, 42, 28, 182, 0, 157, 167, 0, 121, 42, 180, 0, 16, 17, 0, 192, 42, 180, 0, 16]
abbrev dktX12_store_7 : List UInt8 := dkwX12_store_7 ++ dktX12_store_8
def dkwX12_store_6 : List UInt8 := [17, 0, 244, 128, 126, 79, 167, 0, 145, 42, 28, 182, 0, 151, 167, 0, 137, 42, 28, 182, 0, 154]
abbrev dktX12_store_6 : List UInt8 := dkwX12_store_6 ++ dktX12_store_7
def dkwX12_store_5 : List UInt8 := [154, 0, 173, 42, 180, 0, 16, 27, 28, 79, 167, 0, 163, 42, 180, 0, 16, 16, 84, 92, 46, 28]
abbrev dktX12_store_5 : List UInt8 := dkwX12_store_5 ++ dktX12_store_6
def dkwX12_store_4 : List UInt8 := [130, 126, 79, 167, 0, 193, 42, 28, 182, 0, 148, 167, 0, 185, 42, 180, 0, 16, 16, 63, 46, 5, 126]
abbrev dktX12_store_4 : List UInt8 := dkwX12_store_4 ++ dktX12_store_5
def dkwX12_store_3 : List UInt8 := [42, 180, 0, 16, 16, 37, 92, 46, 28, 130, 79, 167, 0, 209, 42, 180, 0, 16, 16, 53, 92, 46, 28, 2]
abbrev dktX12_store_3 : List UInt8 := dkwX12_store_3 ++ dktX12_store_4
def dkwX12_store_2 : List UInt8 := [171, 0, 0, 1, 69, 0, 0, 0, 12, 0, 0, 0, 35, 0, 0, 0, 105, 0, 0, 0, 53, 0, 0, 0, 119, 0, 0, 0, 63, 0, 0, 0, 135, 0, 0, 0, 64, 0, 0, 0, 143, 0, 0, 0, 65, 0, 0, 0, 143, 0, 0, 0, 84, 0, 0, 0, 165, 0, 0, 0, 85, 0, 0, 0, 183, 0, 0, 0, 87, 0, 0, 0, 191, 0, 0, 0, 96, 0, 0, 0, 199, 0, 0, 0, 192, 0, 0, 0, 207, 0, 0, 0, 193, 0, 0, 0, 247, 0, 0, 0, 198, 0, 0, 1, 19]
abbrev dktX12_store_2 : List UInt8 := dkwX12_store_2 ++ dktX12_store_3
def dkwX12_store_1 : List UInt8 := [28, 79, 27]
abbrev dktX12_store_1 : List UInt8 := dkwX12_store_1 ++ dktX12_store_2
def dkwX12_store_0 : List UInt8 := [27, 155, 0, 10, 27, 17, 5, 0, 161, 0, 4, 177, 27, 184, 0, 144, 153, 0, 10, 42, 180, 0, 16, 27]
abbrev dktX12_store_0 : List UInt8 := dkwX12_store_0 ++ dktX12_store_1
theorem dksX12_store_0 : cX12_store.data.toList.drop 0 = dktX12_store_0 := by decide +kernel
theorem dksX12_store_1 : cX12_store.data.toList.drop 24 = dktX12_store_1 := dk_seg dksX12_store_0 24 rfl rfl
theorem dksX12_store_2 : cX12_store.data.toList.drop 27 = dktX12_store_2 := dk_seg dksX12_store_1 3 rfl rfl
theorem dksX12_store_3 : cX12_store.data.toList.drop 132 = dktX12_store_3 := dk_seg dksX12_store_2 105 rfl rfl
theorem dksX12_store_4 : cX12_store.data.toList.drop 156 = dktX12_store_4 := dk_seg dksX12_store_3 24 rfl rfl
theorem dksX12_store_5 : cX12_store.data.toList.drop 179 = dktX12_store_5 := dk_seg dksX12_store_4 23 rfl rfl
theorem dksX12_store_6 : cX12_store.data.toList.drop 201 = dktX12_store_6 := dk_seg dksX12_store_5 22 rfl rfl
theorem dksX12_store_7 : cX12_store.data.toList.drop 223 = dktX12_store_7 := dk_seg dksX12_store_6 22 rfl rfl
theorem dksX12_store_8 : cX12_store.data.toList.drop 245 = dktX12_store_8 := dk_seg dksX12_store_7 22 rfl rfl
theorem dksX12_store_9 : cX12_store.data.toList.drop 269 = dktX12_store_9 := dk_seg dksX12_store_8 24 rfl rfl
theorem dksX12_store_10 : cX12_store.data.toList.drop 293 = dktX12_store_10 := dk_seg dksX12_store_9 24 rfl rfl
theorem dksX12_store_11 : cX12_store.data.toList.drop 317 = dktX12_store_11 := dk_seg dksX12_store_10 24 rfl rfl
theorem dksX12_store_12 : cX12_store.data.toList.drop 339 = dktX12_store_12 := dk_seg dksX12_store_11 22 rfl rfl
theorem dX12_store_0 : decode cX12_store 0 = .ok (.iload_n 1, 1) := dk_27 (dk_at dksX12_store_0 0 rfl rfl)
theorem dX12_store_1 : decode cX12_store 1 = .ok (.ifCond .lt 10, 3) := dk_155 0 10 (dk_at dksX12_store_0 1 rfl rfl)
theorem dX12_store_4 : decode cX12_store 4 = .ok (.iload_n 1, 1) := dk_27 (dk_at dksX12_store_0 4 rfl rfl)
theorem dX12_store_5 : decode cX12_store 5 = .ok (.sipush 1280, 3) := dk_17 5 0 (dk_at dksX12_store_0 5 rfl rfl)
theorem dX12_store_8 : decode cX12_store 8 = .ok (.if_icmp .lt 4, 3) := dk_161 0 4 (dk_at dksX12_store_0 8 rfl rfl)
theorem dX12_store_11 : decode cX12_store 11 = .ok (.return_, 1) := dk_177 (dk_at dksX12_store_0 11 rfl rfl)
theorem dX12_store_12 : decode cX12_store 12 = .ok (.iload_n 1, 1) := dk_27 (dk_at dksX12_store_0 12 rfl rfl)
theorem dX12_store_13 : decode cX12_store 13 = .ok (.invokestatic 144, 3) := dk_184 0 144 (dk_at dksX12_store_0 13 rfl rfl)
theorem dX12_store_16 : decode cX12_store 16 = .ok (.ifCond .eq 10, 3) := dk_153 0 10 (dk_at dksX12_store_0 16 rfl rfl)
theorem dX12_store_19 : decode cX12_store 19 = .ok (.aload_n 0, 1) := dk_42 (dk_at dksX12_store_0 19 rfl rfl)
theorem dX12_store_20 : decode cX12_store 20 = .ok (.getfield 16, 3) := dk_180 0 16 (dk_at dksX12_store_0 20 rfl rfl)
theorem dX12_store_23 : decode cX12_store 23 = .ok (.iload_n 1, 1) := dk_27 (dk_at dksX12_store_0 23 rfl rfl)
theorem dX12_store_24 : decode cX12_store 24 = .ok (.iload_n 2, 1) := dk_28 (dk_at dksX12_store_1 0 rfl rfl)
theorem dX12_store_25 : decode cX12_store 25 = .ok (.iastore, 1) := dk_79 (dk_at dksX12_store_1 1 rfl rfl)
theorem dX12_store_26 : decode cX12_store 26 = .ok (.iload_n 1, 1) := dk_27 (dk_at dksX12_store_1 2 rfl rfl)
theorem dX12_store_27 : decode cX12_store 27 = .ok (.lookupswitch 325 #[(35, 105), (53, 119), (63, 135), (64, 143), (65, 143), (84, 165), (85, 183), (87, 191), (96, 199), (192, 207), (193, 247), (198, 275)], 105) := by decide +kernel
theorem dX12_store_132 : decode cX12_store 132 = .ok (.aload_n 0, 1) := dk_42 (dk_at dksX12_store_3 0 rfl rfl)
theorem dX12_store_133 : decode cX12_store 133 = .ok (.getfield 16, 3) := dk_180 0 16 (dk_at dksX12_store_3 1 rfl rfl)
theorem dX12_store_136 : decode cX12_store 136 = .ok (.bipush 37, 2) := dk_16 37 (dk_at dksX12_store_3 4 rfl rfl)
theorem dX12_store_138 : decode cX12_store 138 = .ok (.dup2, 1) := dk_92 (dk_at dksX12_store_3 6 rfl rfl)
theorem dX12_store_139 : decode cX12_store 139 = .ok (.iaload, 1) := dk_46 (dk_at dksX12_store_3 7 rfl rfl)
theorem dX12_store_140 : decode cX12_store 140 = .ok (.iload_n 2, 1) := dk_28 (dk_at dksX12_store_3 8 rfl rfl)
theorem dX12_store_141 : decode cX12_store 141 = .ok (.ixor, 1) := dk_130 (dk_at dksX12_store_3 9 rfl rfl)
theorem dX12_store_142 : decode cX12_store 142 = .ok (.iastore, 1) := dk_79 (dk_at dksX12_store_3 10 rfl rfl)
theorem dX12_store_143 : decode cX12_store 143 = .ok (.goto 209, 3) := dk_167 0 209 (dk_at dksX12_store_3 11 rfl rfl)
theorem dX12_store_146 : decode cX12_store 146 = .ok (.aload_n 0, 1) := dk_42 (dk_at dksX12_store_3 14 rfl rfl)
theorem dX12_store_147 : decode cX12_store 147 = .ok (.getfield 16, 3) := dk_180 0 16 (dk_at dksX12_store_3 15 rfl rfl)
theorem dX12_store_150 : decode cX12_store 150 = .ok (.bipush 53, 2) := dk_16 53 (dk_at dksX12_store_3 18 rfl rfl)
theorem dX12_store_152 : decode cX12_store 152 = .ok (.dup2, 1) := dk_92 (dk_at dksX12_store_3 20 rfl rfl)
theorem dX12_store_153 : decode cX12_store 153 = .ok (.iaload, 1) := dk_46 (dk_at dksX12_store_3 21 rfl rfl)
theorem dX12_store_154 : decode cX12_store 154 = .ok (.iload_n 2, 1) := dk_28 (dk_at dksX12_store_3 22 rfl rfl)
theorem dX12_store_155 : decode cX12_store 155 = .ok (.iconst (-1), 1) := dk_2 (dk_at dksX12_store_3 23 rfl rfl)
theorem dX12_store_156 : decode cX12_store 156 = .ok (.ixor, 1) := dk_130 (dk_at dksX12_store_4 0 rfl rfl)
theorem dX12_store_157 : decode cX12_store 157 = .ok (.iand, 1) := dk_126 (dk_at dksX12_store_4 1 rfl rfl)
theorem dX12_store_158 : decode cX12_store 158 = .ok (.iastore, 1) := dk_79 (dk_at dksX12_store_4 2 rfl rfl)
theorem dX12_store_159 : decode cX12_store 159 = .ok (.goto 193, 3) := dk_167 0 193 (dk_at dksX12_store_4 3 rfl rfl)
theorem dX12_store_162 : decode cX12_store 162 = .ok (.aload_n 0, 1) := dk_42 (dk_at dksX12_store_4 6 rfl rfl)
theorem dX12_store_163 : decode cX12_store 163 = .ok (.iload_n 2, 1) := dk_28 (dk_at dksX12_store_4 7 rfl rfl)
theorem dX12_store_164 : decode cX12_store 164 = .ok (.invokevirtual 148, 3) := dk_182 0 148 (dk_at dksX12_store_4 8 rfl rfl)
theorem dX12_store_167 : decode cX12_store 167 = .ok (.goto 185, 3) := dk_167 0 185 (dk_at dksX12_store_4 11 rfl rfl)
theorem dX12_store_170 : decode cX12_store 170 = .ok (.aload_n 0, 1) := dk_42 (dk_at dksX12_store_4 14 rfl rfl)
theorem dX12_store_171 : decode cX12_store 171 = .ok (.getfield 16, 3) := dk_180 0 16 (dk_at dksX12_store_4 15 rfl rfl)
theorem dX12_store_174 : decode cX12_store 174 = .ok (.bipush 63, 2) := dk_16 63 (dk_at dksX12_store_4 18 rfl rfl)
theorem dX12_store_176 : decode cX12_store 176 = .ok (.iaload, 1) := dk_46 (dk_at dksX12_store_4 20 rfl rfl)
theorem dX12_store_177 : decode cX12_store 177 = .ok (.iconst 2, 1) := dk_5 (dk_at dksX12_store_4 21 rfl rfl)
theorem dX12_store_178 : decode cX12_store 178 = .ok (.iand, 1) := dk_126 (dk_at dksX12_store_4 22 rfl rfl)
theorem dX12_store_179 : decode cX12_store 179 = .ok (.ifCond .ne 173, 3) := dk_154 0 173 (dk_at dksX12_store_5 0 rfl rfl)
theorem dX12_store_182 : decode cX12_store 182 = .ok (.aload_n 0, 1) := dk_42 (dk_at dksX12_store_5 3 rfl rfl)
theorem dX12_store_183 : decode cX12_store 183 = .ok (.getfield 16, 3) := dk_180 0 16 (dk_at dksX12_store_5 4 rfl rfl)
theorem dX12_store_186 : decode cX12_store 186 = .ok (.iload_n 1, 1) := dk_27 (dk_at dksX12_store_5 7 rfl rfl)
theorem dX12_store_187 : decode cX12_store 187 = .ok (.iload_n 2, 1) := dk_28 (dk_at dksX12_store_5 8 rfl rfl)
theorem dX12_store_188 : decode cX12_store 188 = .ok (.iastore, 1) := dk_79 (dk_at dksX12_store_5 9 rfl rfl)
theorem dX12_store_189 : decode cX12_store 189 = .ok (.goto 163, 3) := dk_167 0 163 (dk_at dksX12_store_5 10 rfl rfl)
theorem dX12_store_192 : decode cX12_store 192 = .ok (.aload_n 0, 1) := dk_42 (dk_at dksX12_store_5 13 rfl rfl)
theorem dX12_store_193 : decode cX12_store 193 = .ok (.getfield 16, 3) := dk_180 0 16 (dk_at dksX12_store_5 14 rfl rfl)
theorem dX12_store_196 : decode cX12_store 196 = .ok (.bipush 84, 2) := dk_16 84 (dk_at dksX12_store_5 17 rfl rfl)
theorem dX12_store_198 : decode cX12_store 198 = .ok (.dup2, 1) := dk_92 (dk_at dksX12_store_5 19 rfl rfl)
theorem dX12_store_199 : decode cX12_store 199 = .ok (.iaload, 1) := dk_46 (dk_at dksX12_store_5 20 rfl rfl)
theorem dX12_store_200 : decode cX12_store 200 = .ok (.iload_n 2, 1) := dk_28 (dk_at dksX12_store_5 21 rfl rfl)
theorem dX12_store_201 : decode cX12_store 201 = .ok (.sipush 244, 3) := dk_17 0 244 (dk_at dksX12_store_6 0 rfl rfl)
theorem dX12_store_204 : decode cX12_store 204 = .ok (.ior, 1) := dk_128 (dk_at dksX12_store_6 3 rfl rfl)
theorem dX12_store_205 : decode cX12_store 205 = .ok (.iand, 1) := dk_126 (dk_at dksX12_store_6 4 rfl rfl)
theorem dX12_store_206 : decode cX12_store 206 = .ok (.iastore, 1) := dk_79 (dk_at dksX12_store_6 5 rfl rfl)
theorem dX12_store_207 : decode cX12_store 207 = .ok (.goto 145, 3) := dk_167 0 145 (dk_at dksX12_store_6 6 rfl rfl)
theorem dX12_store_210 : decode cX12_store 210 = .ok (.aload_n 0, 1) := dk_42 (dk_at dksX12_store_6 9 rfl rfl)
theorem dX12_store_211 : decode cX12_store 211 = .ok (.iload_n 2, 1) := dk_28 (dk_at dksX12_store_6 10 rfl rfl)
theorem dX12_store_212 : decode cX12_store 212 = .ok (.invokevirtual 151, 3) := dk_182 0 151 (dk_at dksX12_store_6 11 rfl rfl)
theorem dX12_store_215 : decode cX12_store 215 = .ok (.goto 137, 3) := dk_167 0 137 (dk_at dksX12_store_6 14 rfl rfl)
theorem dX12_store_218 : decode cX12_store 218 = .ok (.aload_n 0, 1) := dk_42 (dk_at dksX12_store_6 17 rfl rfl)
theorem dX12_store_219 : decode cX12_store 219 = .ok (.iload_n 2, 1) := dk_28 (dk_at dksX12_store_6 18 rfl rfl)
theorem dX12_store_220 : decode cX12_store 220 = .ok (.invokevirtual 154, 3) := dk_182 0 154 (dk_at dksX12_store_6 19 rfl rfl)
theorem dX12_store_223 : decode cX12_store 223 = .ok (.goto 129, 3) := dk_167 0 129 (dk_at dksX12_store_7 0 rfl rfl)
theorem dX12_store_226 : decode cX12_store 226 = .ok (.aload_n 0, 1) := dk_42 (dk_at dksX12_store_7 3 rfl rfl)
theorem dX12_store_227 : decode cX12_store 227 = .ok (.iload_n 2, 1) := dk_28 (dk_at dksX12_store_7 4 rfl rfl)
theorem dX12_store_228 : decode cX12_store 228 = .ok (.invokevirtual 157, 3) := dk_182 0 157 (dk_at dksX12_store_7 5 rfl rfl)
theorem dX12_store_231 : decode cX12_store 231 = .ok (.goto 121, 3) := dk_167 0 121 (dk_at dksX12_store_7 8 rfl rfl)
theorem dX12_store_234 : decode cX12_store 234 = .ok (.aload_n 0, 1) := dk_42 (dk_at dksX12_store_7 11 rfl rfl)
theorem dX12_store_235 : decode cX12_store 235 = .ok (.getfield 16, 3) := dk_180 0 16 (dk_at dksX12_store_7 12 rfl rfl)
theorem dX12_store_238 : decode cX12_store 238 = .ok (.sipush 192, 3) := dk_17 0 192 (dk_at dksX12_store_7 15 rfl rfl)
theorem dX12_store_241 : decode cX12_store 241 = .ok (.aload_n 0, 1) := dk_42 (dk_at dksX12_store_7 18 rfl rfl)
theorem dX12_store_242 : decode cX12_store 242 = .ok (.getfield 16, 3) := dk_180 0 16 (dk_at dksX12_store_7 19 rfl rfl)
theorem dX12_store_245 : decode cX12_store 245 = .ok (.sipush 192, 3) := dk_17 0 192 (dk_at dksX12_store_8 0 rfl rfl)
theorem dX12_store_248 : decode cX12_store 248 = .ok (.iaload, 1) := dk_46 (dk_at dksX12_store_8 3 rfl rfl)
theorem dX12_store_249 : decode cX12_store 249 = .ok (.iload_n 2, 1) := dk_28 (dk_at dksX12_store_8 4 rfl rfl)
theorem dX12_store_250 : decode cX12_store 250 = .ok (.bipush 64, 2) := dk_16 64 (dk_at dksX12_store_8 5 rfl rfl)
theorem dX12_store_252 : decode cX12_store 252 = .ok (.iand, 1) := dk_126 (dk_at dksX12_store_8 7 rfl rfl)
theorem dX12_store_253 : decode cX12_store 253 = .ok (.ifCond .eq 9, 3) := dk_153 0 9 (dk_at dksX12_store_8 8 rfl rfl)
theorem dX12_store_256 : decode cX12_store 256 = .ok (.sipush 189, 3) := dk_17 0 189 (dk_at dksX12_store_8 11 rfl rfl)
theorem dX12_store_259 : decode cX12_store 259 = .ok (.goto 6, 3) := dk_167 0 6 (dk_at dksX12_store_8 14 rfl rfl)
theorem dX12_store_262 : decode cX12_store 262 = .ok (.sipush 253, 3) := dk_17 0 253 (dk_at dksX12_store_8 17 rfl rfl)
theorem dX12_store_265 : decode cX12_store 265 = .ok (.iand, 1) := dk_126 (dk_at dksX12_store_8 20 rfl rfl)
theorem dX12_store_266 : decode cX12_store 266 = .ok (.iload_n 2, 1) := dk_28 (dk_at dksX12_store_8 21 rfl rfl)
theorem dX12_store_267 : decode cX12_store 267 = .ok (.iconst 2, 1) := dk_5 (dk_at dksX12_store_8 22 rfl rfl)
theorem dX12_store_268 : decode cX12_store 268 = .ok (.iand, 1) := dk_126 (dk_at dksX12_store_8 23 rfl rfl)
theorem dX12_store_269 : decode cX12_store 269 = .ok (.ior, 1) := dk_128 (dk_at dksX12_store_9 0 rfl rfl)
theorem dX12_store_270 : decode cX12_store 270 = .ok (.iastore, 1) := dk_79 (dk_at dksX12_store_9 1 rfl rfl)
theorem dX12_store_271 : decode cX12_store 271 = .ok (.goto 81, 3) := dk_167 0 81 (dk_at dksX12_store_9 2 rfl rfl)
theorem dX12_store_274 : decode cX12_store 274 = .ok (.iload_n 2, 1) := dk_28 (dk_at dksX12_store_9 5 rfl rfl)
theorem dX12_store_275 : decode cX12_store 275 = .ok (.bipush 8, 2) := dk_16 8 (dk_at dksX12_store_9 6 rfl rfl)
theorem dX12_store_277 : decode cX12_store 277 = .ok (.iand, 1) := dk_126 (dk_at dksX12_store_9 8 rfl rfl)
theorem dX12_store_278 : decode cX12_store 278 = .ok (.ifCond .ne 74, 3) := dk_154 0 74 (dk_at dksX12_store_9 9 rfl rfl)
theorem dX12_store_281 : decode cX12_store 281 = .ok (.aload_n 0, 1) := dk_42 (dk_at dksX12_store_9 12 rfl rfl)
theorem dX12_store_282 : decode cX12_store 282 = .ok (.iconst (-1), 1) := dk_2 (dk_at dksX12_store_9 13 rfl rfl)
theorem dX12_store_283 : decode cX12_store 283 = .ok (.putfield 110, 3) := dk_181 0 110 (dk_at dksX12_store_9 14 rfl rfl)
theorem dX12_store_286 : decode cX12_store 286 = .ok (.aload_n 0, 1) := dk_42 (dk_at dksX12_store_9 17 rfl rfl)
theorem dX12_store_287 : decode cX12_store 287 = .ok (.getfield 16, 3) := dk_180 0 16 (dk_at dksX12_store_9 18 rfl rfl)
theorem dX12_store_290 : decode cX12_store 290 = .ok (.sipush 192, 3) := dk_17 0 192 (dk_at dksX12_store_9 21 rfl rfl)
theorem dX12_store_293 : decode cX12_store 293 = .ok (.dup2, 1) := dk_92 (dk_at dksX12_store_10 0 rfl rfl)
theorem dX12_store_294 : decode cX12_store 294 = .ok (.iaload, 1) := dk_46 (dk_at dksX12_store_10 1 rfl rfl)
theorem dX12_store_295 : decode cX12_store 295 = .ok (.bipush 32, 2) := dk_16 32 (dk_at dksX12_store_10 2 rfl rfl)
theorem dX12_store_297 : decode cX12_store 297 = .ok (.ior, 1) := dk_128 (dk_at dksX12_store_10 4 rfl rfl)
theorem dX12_store_298 : decode cX12_store 298 = .ok (.iastore, 1) := dk_79 (dk_at dksX12_store_10 5 rfl rfl)
theorem dX12_store_299 : decode cX12_store 299 = .ok (.goto 53, 3) := dk_167 0 53 (dk_at dksX12_store_10 6 rfl rfl)
theorem dX12_store_302 : decode cX12_store 302 = .ok (.aload_n 0, 1) := dk_42 (dk_at dksX12_store_10 9 rfl rfl)
theorem dX12_store_303 : decode cX12_store 303 = .ok (.getfield 16, 3) := dk_180 0 16 (dk_at dksX12_store_10 10 rfl rfl)
theorem dX12_store_306 : decode cX12_store 306 = .ok (.sipush 193, 3) := dk_17 0 193 (dk_at dksX12_store_10 13 rfl rfl)
theorem dX12_store_309 : decode cX12_store 309 = .ok (.iaload, 1) := dk_46 (dk_at dksX12_store_10 16 rfl rfl)
theorem dX12_store_310 : decode cX12_store 310 = .ok (.bipush 8, 2) := dk_16 8 (dk_at dksX12_store_10 17 rfl rfl)
theorem dX12_store_312 : decode cX12_store 312 = .ok (.iand, 1) := dk_126 (dk_at dksX12_store_10 19 rfl rfl)
theorem dX12_store_313 : decode cX12_store 313 = .ok (.ifCond .eq 39, 3) := dk_153 0 39 (dk_at dksX12_store_10 20 rfl rfl)
theorem dX12_store_316 : decode cX12_store 316 = .ok (.aload_n 0, 1) := dk_42 (dk_at dksX12_store_10 23 rfl rfl)
theorem dX12_store_317 : decode cX12_store 317 = .ok (.getfield 16, 3) := dk_180 0 16 (dk_at dksX12_store_11 0 rfl rfl)
theorem dX12_store_320 : decode cX12_store 320 = .ok (.sipush 192, 3) := dk_17 0 192 (dk_at dksX12_store_11 3 rfl rfl)
theorem dX12_store_323 : decode cX12_store 323 = .ok (.iaload, 1) := dk_46 (dk_at dksX12_store_11 6 rfl rfl)
theorem dX12_store_324 : decode cX12_store 324 = .ok (.bipush 32, 2) := dk_16 32 (dk_at dksX12_store_11 7 rfl rfl)
theorem dX12_store_326 : decode cX12_store 326 = .ok (.iand, 1) := dk_126 (dk_at dksX12_store_11 9 rfl rfl)
theorem dX12_store_327 : decode cX12_store 327 = .ok (.ifCond .eq 25, 3) := dk_153 0 25 (dk_at dksX12_store_11 10 rfl rfl)
theorem dX12_store_330 : decode cX12_store 330 = .ok (.aload_n 0, 1) := dk_42 (dk_at dksX12_store_11 13 rfl rfl)
theorem dX12_store_331 : decode cX12_store 331 = .ok (.iload_n 2, 1) := dk_28 (dk_at dksX12_store_11 14 rfl rfl)
theorem dX12_store_332 : decode cX12_store 332 = .ok (.putfield 110, 3) := dk_181 0 110 (dk_at dksX12_store_11 15 rfl rfl)
theorem dX12_store_335 : decode cX12_store 335 = .ok (.aload_n 0, 1) := dk_42 (dk_at dksX12_store_11 18 rfl rfl)
theorem dX12_store_336 : decode cX12_store 336 = .ok (.getfield 16, 3) := dk_180 0 16 (dk_at dksX12_store_11 19 rfl rfl)
theorem dX12_store_339 : decode cX12_store 339 = .ok (.sipush 192, 3) := dk_17 0 192 (dk_at dksX12_store_12 0 rfl rfl)
theorem dX12_store_342 : decode cX12_store 342 = .ok (.dup2, 1) := dk_92 (dk_at dksX12_store_12 3 rfl rfl)
theorem dX12_store_343 : decode cX12_store 343 = .ok (.iaload, 1) := dk_46 (dk_at dksX12_store_12 4 rfl rfl)
theorem dX12_store_344 : decode cX12_store 344 = .ok (.sipush 223, 3) := dk_17 0 223 (dk_at dksX12_store_12 5 rfl rfl)
theorem dX12_store_347 : decode cX12_store 347 = .ok (.iand, 1) := dk_126 (dk_at dksX12_store_12 8 rfl rfl)
theorem dX12_store_348 : decode cX12_store 348 = .ok (.iastore, 1) := dk_79 (dk_at dksX12_store_12 9 rfl rfl)
theorem dX12_store_349 : decode cX12_store 349 = .ok (.goto 3, 3) := dk_167 0 3 (dk_at dksX12_store_12 10 rfl rfl)
theorem dX12_store_352 : decode cX12_store 352 = .ok (.return_, 1) := dk_177 (dk_at dksX12_store_12 13 rfl rfl)
abbrev cX12_holds : ByteArray := prog_13_method_12_code
def yX12_holds : MethodName := ⟨RX12, "holds", "(I)Z"⟩
def dkwX12_holds_3 : List UInt8 := [167, 0, 4, 3, 172]
abbrev dktX12_holds_3 : List UInt8 := dkwX12_holds_3 ++ []
def dkwX12_holds_2 : List UInt8 := [4, 172, 26, 16, 32, 161, 0, 17, 26, 17, 1, 0, 161, 0, 14, 26, 17, 5, 0, 162, 0, 7, 4]
abbrev dktX12_holds_2 : List UInt8 := dkwX12_holds_2 ++ dktX12_holds_3
def dkwX12_holds_1 : List UInt8 := [171, 0, 0, 0, 0, 0, 149, 0, 0, 0, 17, 0, 0, 0, 36, 0, 0, 0, 147, 0, 0, 0, 37, 0, 0, 0, 147, 0, 0, 0, 62, 0, 0, 0, 147, 0, 0, 0, 68, 0, 0, 0, 147, 0, 0, 0, 69, 0, 0, 0, 147, 0, 0, 0, 70, 0, 0, 0, 147, 0, 0, 0, 71, 0, 0, 0, 147, 0, 0, 0, 74, 0, 0, 0, 147, 0, 0, 0, 75, 0, 0, 0, 147, 0, 0, 0, 93, 0, 0, 0, 147, 0, 0, 0, 94, 0, 0, 0, 147, 0, 0, 0, 95, 0, 0, 0, 147, 0, 0, 0, 110, 0, 0, 0, 147, 0, 0, 0, 193, 0, 0, 0, 147, 0, 0, 0, 194, 0, 0, 0, 147, 0, 0, 0, 196, 0, 0, 0, 147, 0, 0, 0, 197, 0, 0, 0, 147]
abbrev dktX12_holds_1 : List UInt8 := dkwX12_holds_1 ++ dktX12_holds_2
def dkwX12_holds_0 : List UInt8 := [26]
abbrev dktX12_holds_0 : List UInt8 := dkwX12_holds_0 ++ dktX12_holds_1
theorem dksX12_holds_0 : cX12_holds.data.toList.drop 0 = dktX12_holds_0 := by decide +kernel
theorem dksX12_holds_1 : cX12_holds.data.toList.drop 1 = dktX12_holds_1 := dk_seg dksX12_holds_0 1 rfl rfl
theorem dksX12_holds_2 : cX12_holds.data.toList.drop 148 = dktX12_holds_2 := dk_seg dksX12_holds_1 147 rfl rfl
theorem dksX12_holds_3 : cX12_holds.data.toList.drop 171 = dktX12_holds_3 := dk_seg dksX12_holds_2 23 rfl rfl
theorem dX12_holds_0 : decode cX12_holds 0 = .ok (.iload_n 0, 1) := dk_26 (dk_at dksX12_holds_0 0 rfl rfl)
theorem dX12_holds_1 : decode cX12_holds 1 = .ok (.lookupswitch 149 #[(36, 147), (37, 147), (62, 147), (68, 147), (69, 147), (70, 147), (71, 147), (74, 147), (75, 147), (93, 147), (94, 147), (95, 147), (110, 147), (193, 147), (194, 147), (196, 147), (197, 147)], 147) := by decide +kernel
theorem dX12_holds_148 : decode cX12_holds 148 = .ok (.iconst 1, 1) := dk_4 (dk_at dksX12_holds_2 0 rfl rfl)
theorem dX12_holds_149 : decode cX12_holds 149 = .ok (.ireturn, 1) := dk_172 (dk_at dksX12_holds_2 1 rfl rfl)
theorem dX12_holds_150 : decode cX12_holds 150 = .ok (.iload_n 0, 1) := dk_26 (dk_at dksX12_holds_2 2 rfl rfl)
theorem dX12_holds_151 : decode cX12_holds 151 = .ok (.bipush 32, 2) := dk_16 32 (dk_at dksX12_holds_2 3 rfl rfl)
theorem dX12_holds_153 : decode cX12_holds 153 = .ok (.if_icmp .lt 17, 3) := dk_161 0 17 (dk_at dksX12_holds_2 5 rfl rfl)
theorem dX12_holds_156 : decode cX12_holds 156 = .ok (.iload_n 0, 1) := dk_26 (dk_at dksX12_holds_2 8 rfl rfl)
theorem dX12_holds_157 : decode cX12_holds 157 = .ok (.sipush 256, 3) := dk_17 1 0 (dk_at dksX12_holds_2 9 rfl rfl)
theorem dX12_holds_160 : decode cX12_holds 160 = .ok (.if_icmp .lt 14, 3) := dk_161 0 14 (dk_at dksX12_holds_2 12 rfl rfl)
theorem dX12_holds_163 : decode cX12_holds 163 = .ok (.iload_n 0, 1) := dk_26 (dk_at dksX12_holds_2 15 rfl rfl)
theorem dX12_holds_164 : decode cX12_holds 164 = .ok (.sipush 1280, 3) := dk_17 5 0 (dk_at dksX12_holds_2 16 rfl rfl)
theorem dX12_holds_167 : decode cX12_holds 167 = .ok (.if_icmp .ge 7, 3) := dk_162 0 7 (dk_at dksX12_holds_2 19 rfl rfl)
theorem dX12_holds_170 : decode cX12_holds 170 = .ok (.iconst 1, 1) := dk_4 (dk_at dksX12_holds_2 22 rfl rfl)
theorem dX12_holds_171 : decode cX12_holds 171 = .ok (.goto 4, 3) := dk_167 0 4 (dk_at dksX12_holds_3 0 rfl rfl)
theorem dX12_holds_174 : decode cX12_holds 174 = .ok (.iconst 0, 1) := dk_3 (dk_at dksX12_holds_3 3 rfl rfl)
theorem dX12_holds_175 : decode cX12_holds 175 = .ok (.ireturn, 1) := dk_172 (dk_at dksX12_holds_3 4 rfl rfl)
abbrev cX12_storeRom : ByteArray := prog_13_method_14_code
def yX12_storeRom : MethodName := ⟨RX12, "storeRom", "(I)V"⟩
def dkwX12_storeRom_7 : List UInt8 := [180, 0, 19, 42, 180, 0, 16, 16, 65, 46, 46, 79, 42, 89, 180, 0, 160, 7, 96, 181, 0, 160, 177]
abbrev dktX12_storeRom_7 : List UInt8 := dkwX12_storeRom_7 ++ []
def dkwX12_storeRom_6 : List UInt8 := [153, 0, 44, 42, 180, 0, 16, 16, 63, 46, 5, 126, 154, 0, 32, 42, 180, 0, 16, 16, 64, 42]
abbrev dktX12_storeRom_6 : List UInt8 := dkwX12_storeRom_6 ++ dktX12_storeRom_7
def dkwX12_storeRom_5 : List UInt8 := [17, 0, 251, 126, 5, 128, 79, 42, 3, 181, 0, 107, 42, 17, 13, 72, 181, 0, 95, 27, 4, 126]
abbrev dktX12_storeRom_5 : List UInt8 := dkwX12_storeRom_5 ++ dktX12_storeRom_6
def dkwX12_storeRom_4 : List UInt8 := [16, 65, 46, 42, 180, 0, 16, 16, 64, 46, 79, 42, 180, 0, 16, 16, 63, 42, 180, 0, 16, 16, 63, 46]
abbrev dktX12_storeRom_4 : List UInt8 := dkwX12_storeRom_4 ++ dktX12_storeRom_5
def dkwX12_storeRom_3 : List UInt8 := [153, 0, 66, 42, 180, 0, 16, 16, 63, 46, 5, 126, 154, 0, 54, 42, 180, 0, 19, 42, 180, 0, 16]
abbrev dktX12_storeRom_3 : List UInt8 := dkwX12_storeRom_3 ++ dktX12_storeRom_4
def dkwX12_storeRom_2 : List UInt8 := [180, 0, 16, 16, 63, 92, 46, 7, 128, 79, 42, 7, 181, 0, 107, 27, 5, 126, 153, 0, 70, 28]
abbrev dktX12_storeRom_2 : List UInt8 := dkwX12_storeRom_2 ++ dktX12_storeRom_3
def dkwX12_storeRom_1 : List UInt8 := [42, 180, 0, 16, 16, 63, 46, 17, 0, 247, 126, 27, 16, 8, 126, 128, 79, 27, 7, 126, 153, 0, 19, 42]
abbrev dktX12_storeRom_1 : List UInt8 := dkwX12_storeRom_1 ++ dktX12_storeRom_2
def dkwX12_storeRom_0 : List UInt8 := [42, 180, 0, 16, 16, 63, 46, 7, 126, 153, 0, 7, 4, 167, 0, 4, 3, 61, 42, 180, 0, 16, 16, 63]
abbrev dktX12_storeRom_0 : List UInt8 := dkwX12_storeRom_0 ++ dktX12_storeRom_1
theorem dksX12_storeRom_0 : cX12_storeRom.data.toList.drop 0 = dktX12_storeRom_0 := by decide +kernel
theorem dksX12_storeRom_1 : cX12_storeRom.data.toList.drop 24 = dktX12_storeRom_1 := dk_seg dksX12_storeRom_0 24 rfl rfl
theorem dksX12_storeRom_2 : cX12_storeRom.data.toList.drop 48 = dktX12_storeRom_2 := dk_seg dksX12_storeRom_1 24 rfl rfl
theorem dksX12_storeRom_3 : cX12_storeRom.data.toList.drop 70 = dktX12_storeRom_3 := dk_seg dksX12_storeRom_2 22 rfl rfl
theorem dksX12_storeRom_4 : cX12_storeRom.data.toList.drop 93 = dktX12_storeRom_4 := dk_seg dksX12_storeRom_3 23 rfl rfl
theorem dksX12_storeRom_5 : cX12_storeRom.data.toList.drop 117 = dktX12_storeRom_5 := dk_seg dksX12_storeRom_4 24 rfl rfl
theorem dksX12_storeRom_6 : cX12_storeRom.data.toList.drop 139 = dktX12_storeRom_6 := dk_seg dksX12_storeRom_5 22 rfl rfl
theorem dksX12_storeRom_7 : cX12_storeRom.data.toList.drop 161 = dktX12_storeRom_7 := dk_seg dksX12_storeRom_6 22 rfl rfl
theorem dX12_storeRom_0 : decode cX12_storeRom 0 = .ok (.aload_n 0, 1) := dk_42 (dk_at dksX12_storeRom_0 0 rfl rfl)
theorem dX12_storeRom_1 : decode cX12_storeRom 1 = .ok (.getfield 16, 3) := dk_180 0 16 (dk_at dksX12_storeRom_0 1 rfl rfl)
theorem dX12_storeRom_4 : decode cX12_storeRom 4 = .ok (.bipush 63, 2) := dk_16 63 (dk_at dksX12_storeRom_0 4 rfl rfl)
theorem dX12_storeRom_6 : decode cX12_storeRom 6 = .ok (.iaload, 1) := dk_46 (dk_at dksX12_storeRom_0 6 rfl rfl)
theorem dX12_storeRom_7 : decode cX12_storeRom 7 = .ok (.iconst 4, 1) := dk_7 (dk_at dksX12_storeRom_0 7 rfl rfl)
theorem dX12_storeRom_8 : decode cX12_storeRom 8 = .ok (.iand, 1) := dk_126 (dk_at dksX12_storeRom_0 8 rfl rfl)
theorem dX12_storeRom_9 : decode cX12_storeRom 9 = .ok (.ifCond .eq 7, 3) := dk_153 0 7 (dk_at dksX12_storeRom_0 9 rfl rfl)
theorem dX12_storeRom_12 : decode cX12_storeRom 12 = .ok (.iconst 1, 1) := dk_4 (dk_at dksX12_storeRom_0 12 rfl rfl)
theorem dX12_storeRom_13 : decode cX12_storeRom 13 = .ok (.goto 4, 3) := dk_167 0 4 (dk_at dksX12_storeRom_0 13 rfl rfl)
theorem dX12_storeRom_16 : decode cX12_storeRom 16 = .ok (.iconst 0, 1) := dk_3 (dk_at dksX12_storeRom_0 16 rfl rfl)
theorem dX12_storeRom_17 : decode cX12_storeRom 17 = .ok (.istore_n 2, 1) := dk_61 (dk_at dksX12_storeRom_0 17 rfl rfl)
theorem dX12_storeRom_18 : decode cX12_storeRom 18 = .ok (.aload_n 0, 1) := dk_42 (dk_at dksX12_storeRom_0 18 rfl rfl)
theorem dX12_storeRom_19 : decode cX12_storeRom 19 = .ok (.getfield 16, 3) := dk_180 0 16 (dk_at dksX12_storeRom_0 19 rfl rfl)
theorem dX12_storeRom_22 : decode cX12_storeRom 22 = .ok (.bipush 63, 2) := dk_16 63 (dk_at dksX12_storeRom_0 22 rfl rfl)
theorem dX12_storeRom_24 : decode cX12_storeRom 24 = .ok (.aload_n 0, 1) := dk_42 (dk_at dksX12_storeRom_1 0 rfl rfl)
theorem dX12_storeRom_25 : decode cX12_storeRom 25 = .ok (.getfield 16, 3) := dk_180 0 16 (dk_at dksX12_storeRom_1 1 rfl rfl)
theorem dX12_storeRom_28 : decode cX12_storeRom 28 = .ok (.bipush 63, 2) := dk_16 63 (dk_at dksX12_storeRom_1 4 rfl rfl)
theorem dX12_storeRom_30 : decode cX12_storeRom 30 = .ok (.iaload, 1) := dk_46 (dk_at dksX12_storeRom_1 6 rfl rfl)
theorem dX12_storeRom_31 : decode cX12_storeRom 31 = .ok (.sipush 247, 3) := dk_17 0 247 (dk_at dksX12_storeRom_1 7 rfl rfl)
theorem dX12_storeRom_34 : decode cX12_storeRom 34 = .ok (.iand, 1) := dk_126 (dk_at dksX12_storeRom_1 10 rfl rfl)
theorem dX12_storeRom_35 : decode cX12_storeRom 35 = .ok (.iload_n 1, 1) := dk_27 (dk_at dksX12_storeRom_1 11 rfl rfl)
theorem dX12_storeRom_36 : decode cX12_storeRom 36 = .ok (.bipush 8, 2) := dk_16 8 (dk_at dksX12_storeRom_1 12 rfl rfl)
theorem dX12_storeRom_38 : decode cX12_storeRom 38 = .ok (.iand, 1) := dk_126 (dk_at dksX12_storeRom_1 14 rfl rfl)
theorem dX12_storeRom_39 : decode cX12_storeRom 39 = .ok (.ior, 1) := dk_128 (dk_at dksX12_storeRom_1 15 rfl rfl)
theorem dX12_storeRom_40 : decode cX12_storeRom 40 = .ok (.iastore, 1) := dk_79 (dk_at dksX12_storeRom_1 16 rfl rfl)
theorem dX12_storeRom_41 : decode cX12_storeRom 41 = .ok (.iload_n 1, 1) := dk_27 (dk_at dksX12_storeRom_1 17 rfl rfl)
theorem dX12_storeRom_42 : decode cX12_storeRom 42 = .ok (.iconst 4, 1) := dk_7 (dk_at dksX12_storeRom_1 18 rfl rfl)
theorem dX12_storeRom_43 : decode cX12_storeRom 43 = .ok (.iand, 1) := dk_126 (dk_at dksX12_storeRom_1 19 rfl rfl)
theorem dX12_storeRom_44 : decode cX12_storeRom 44 = .ok (.ifCond .eq 19, 3) := dk_153 0 19 (dk_at dksX12_storeRom_1 20 rfl rfl)
theorem dX12_storeRom_47 : decode cX12_storeRom 47 = .ok (.aload_n 0, 1) := dk_42 (dk_at dksX12_storeRom_1 23 rfl rfl)
theorem dX12_storeRom_48 : decode cX12_storeRom 48 = .ok (.getfield 16, 3) := dk_180 0 16 (dk_at dksX12_storeRom_2 0 rfl rfl)
theorem dX12_storeRom_51 : decode cX12_storeRom 51 = .ok (.bipush 63, 2) := dk_16 63 (dk_at dksX12_storeRom_2 3 rfl rfl)
theorem dX12_storeRom_53 : decode cX12_storeRom 53 = .ok (.dup2, 1) := dk_92 (dk_at dksX12_storeRom_2 5 rfl rfl)
theorem dX12_storeRom_54 : decode cX12_storeRom 54 = .ok (.iaload, 1) := dk_46 (dk_at dksX12_storeRom_2 6 rfl rfl)
theorem dX12_storeRom_55 : decode cX12_storeRom 55 = .ok (.iconst 4, 1) := dk_7 (dk_at dksX12_storeRom_2 7 rfl rfl)
theorem dX12_storeRom_56 : decode cX12_storeRom 56 = .ok (.ior, 1) := dk_128 (dk_at dksX12_storeRom_2 8 rfl rfl)
theorem dX12_storeRom_57 : decode cX12_storeRom 57 = .ok (.iastore, 1) := dk_79 (dk_at dksX12_storeRom_2 9 rfl rfl)
theorem dX12_storeRom_58 : decode cX12_storeRom 58 = .ok (.aload_n 0, 1) := dk_42 (dk_at dksX12_storeRom_2 10 rfl rfl)
theorem dX12_storeRom_59 : decode cX12_storeRom 59 = .ok (.iconst 4, 1) := dk_7 (dk_at dksX12_storeRom_2 11 rfl rfl)
theorem dX12_storeRom_60 : decode cX12_storeRom 60 = .ok (.putfield 107, 3) := dk_181 0 107 (dk_at dksX12_storeRom_2 12 rfl rfl)
theorem dX12_storeRom_63 : decode cX12_storeRom 63 = .ok (.iload_n 1, 1) := dk_27 (dk_at dksX12_storeRom_2 15 rfl rfl)
theorem dX12_storeRom_64 : decode cX12_storeRom 64 = .ok (.iconst 2, 1) := dk_5 (dk_at dksX12_storeRom_2 16 rfl rfl)
theorem dX12_storeRom_65 : decode cX12_storeRom 65 = .ok (.iand, 1) := dk_126 (dk_at dksX12_storeRom_2 17 rfl rfl)
theorem dX12_storeRom_66 : decode cX12_storeRom 66 = .ok (.ifCond .eq 70, 3) := dk_153 0 70 (dk_at dksX12_storeRom_2 18 rfl rfl)
theorem dX12_storeRom_69 : decode cX12_storeRom 69 = .ok (.iload_n 2, 1) := dk_28 (dk_at dksX12_storeRom_2 21 rfl rfl)
theorem dX12_storeRom_70 : decode cX12_storeRom 70 = .ok (.ifCond .eq 66, 3) := dk_153 0 66 (dk_at dksX12_storeRom_3 0 rfl rfl)
theorem dX12_storeRom_73 : decode cX12_storeRom 73 = .ok (.aload_n 0, 1) := dk_42 (dk_at dksX12_storeRom_3 3 rfl rfl)
theorem dX12_storeRom_74 : decode cX12_storeRom 74 = .ok (.getfield 16, 3) := dk_180 0 16 (dk_at dksX12_storeRom_3 4 rfl rfl)
theorem dX12_storeRom_77 : decode cX12_storeRom 77 = .ok (.bipush 63, 2) := dk_16 63 (dk_at dksX12_storeRom_3 7 rfl rfl)
theorem dX12_storeRom_79 : decode cX12_storeRom 79 = .ok (.iaload, 1) := dk_46 (dk_at dksX12_storeRom_3 9 rfl rfl)
theorem dX12_storeRom_80 : decode cX12_storeRom 80 = .ok (.iconst 2, 1) := dk_5 (dk_at dksX12_storeRom_3 10 rfl rfl)
theorem dX12_storeRom_81 : decode cX12_storeRom 81 = .ok (.iand, 1) := dk_126 (dk_at dksX12_storeRom_3 11 rfl rfl)
theorem dX12_storeRom_82 : decode cX12_storeRom 82 = .ok (.ifCond .ne 54, 3) := dk_154 0 54 (dk_at dksX12_storeRom_3 12 rfl rfl)
theorem dX12_storeRom_85 : decode cX12_storeRom 85 = .ok (.aload_n 0, 1) := dk_42 (dk_at dksX12_storeRom_3 15 rfl rfl)
theorem dX12_storeRom_86 : decode cX12_storeRom 86 = .ok (.getfield 19, 3) := dk_180 0 19 (dk_at dksX12_storeRom_3 16 rfl rfl)
theorem dX12_storeRom_89 : decode cX12_storeRom 89 = .ok (.aload_n 0, 1) := dk_42 (dk_at dksX12_storeRom_3 19 rfl rfl)
theorem dX12_storeRom_90 : decode cX12_storeRom 90 = .ok (.getfield 16, 3) := dk_180 0 16 (dk_at dksX12_storeRom_3 20 rfl rfl)
theorem dX12_storeRom_93 : decode cX12_storeRom 93 = .ok (.bipush 65, 2) := dk_16 65 (dk_at dksX12_storeRom_4 0 rfl rfl)
theorem dX12_storeRom_95 : decode cX12_storeRom 95 = .ok (.iaload, 1) := dk_46 (dk_at dksX12_storeRom_4 2 rfl rfl)
theorem dX12_storeRom_96 : decode cX12_storeRom 96 = .ok (.aload_n 0, 1) := dk_42 (dk_at dksX12_storeRom_4 3 rfl rfl)
theorem dX12_storeRom_97 : decode cX12_storeRom 97 = .ok (.getfield 16, 3) := dk_180 0 16 (dk_at dksX12_storeRom_4 4 rfl rfl)
theorem dX12_storeRom_100 : decode cX12_storeRom 100 = .ok (.bipush 64, 2) := dk_16 64 (dk_at dksX12_storeRom_4 7 rfl rfl)
theorem dX12_storeRom_102 : decode cX12_storeRom 102 = .ok (.iaload, 1) := dk_46 (dk_at dksX12_storeRom_4 9 rfl rfl)
theorem dX12_storeRom_103 : decode cX12_storeRom 103 = .ok (.iastore, 1) := dk_79 (dk_at dksX12_storeRom_4 10 rfl rfl)
theorem dX12_storeRom_104 : decode cX12_storeRom 104 = .ok (.aload_n 0, 1) := dk_42 (dk_at dksX12_storeRom_4 11 rfl rfl)
theorem dX12_storeRom_105 : decode cX12_storeRom 105 = .ok (.getfield 16, 3) := dk_180 0 16 (dk_at dksX12_storeRom_4 12 rfl rfl)
theorem dX12_storeRom_108 : decode cX12_storeRom 108 = .ok (.bipush 63, 2) := dk_16 63 (dk_at dksX12_storeRom_4 15 rfl rfl)
theorem dX12_storeRom_110 : decode cX12_storeRom 110 = .ok (.aload_n 0, 1) := dk_42 (dk_at dksX12_storeRom_4 17 rfl rfl)
theorem dX12_storeRom_111 : decode cX12_storeRom 111 = .ok (.getfield 16, 3) := dk_180 0 16 (dk_at dksX12_storeRom_4 18 rfl rfl)
theorem dX12_storeRom_114 : decode cX12_storeRom 114 = .ok (.bipush 63, 2) := dk_16 63 (dk_at dksX12_storeRom_4 21 rfl rfl)
theorem dX12_storeRom_116 : decode cX12_storeRom 116 = .ok (.iaload, 1) := dk_46 (dk_at dksX12_storeRom_4 23 rfl rfl)
theorem dX12_storeRom_117 : decode cX12_storeRom 117 = .ok (.sipush 251, 3) := dk_17 0 251 (dk_at dksX12_storeRom_5 0 rfl rfl)
theorem dX12_storeRom_120 : decode cX12_storeRom 120 = .ok (.iand, 1) := dk_126 (dk_at dksX12_storeRom_5 3 rfl rfl)
theorem dX12_storeRom_121 : decode cX12_storeRom 121 = .ok (.iconst 2, 1) := dk_5 (dk_at dksX12_storeRom_5 4 rfl rfl)
theorem dX12_storeRom_122 : decode cX12_storeRom 122 = .ok (.ior, 1) := dk_128 (dk_at dksX12_storeRom_5 5 rfl rfl)
theorem dX12_storeRom_123 : decode cX12_storeRom 123 = .ok (.iastore, 1) := dk_79 (dk_at dksX12_storeRom_5 6 rfl rfl)
theorem dX12_storeRom_124 : decode cX12_storeRom 124 = .ok (.aload_n 0, 1) := dk_42 (dk_at dksX12_storeRom_5 7 rfl rfl)
theorem dX12_storeRom_125 : decode cX12_storeRom 125 = .ok (.iconst 0, 1) := dk_3 (dk_at dksX12_storeRom_5 8 rfl rfl)
theorem dX12_storeRom_126 : decode cX12_storeRom 126 = .ok (.putfield 107, 3) := dk_181 0 107 (dk_at dksX12_storeRom_5 9 rfl rfl)
theorem dX12_storeRom_129 : decode cX12_storeRom 129 = .ok (.aload_n 0, 1) := dk_42 (dk_at dksX12_storeRom_5 12 rfl rfl)
theorem dX12_storeRom_130 : decode cX12_storeRom 130 = .ok (.sipush 3400, 3) := dk_17 13 72 (dk_at dksX12_storeRom_5 13 rfl rfl)
theorem dX12_storeRom_133 : decode cX12_storeRom 133 = .ok (.putfield 95, 3) := dk_181 0 95 (dk_at dksX12_storeRom_5 16 rfl rfl)
theorem dX12_storeRom_136 : decode cX12_storeRom 136 = .ok (.iload_n 1, 1) := dk_27 (dk_at dksX12_storeRom_5 19 rfl rfl)
theorem dX12_storeRom_137 : decode cX12_storeRom 137 = .ok (.iconst 1, 1) := dk_4 (dk_at dksX12_storeRom_5 20 rfl rfl)
theorem dX12_storeRom_138 : decode cX12_storeRom 138 = .ok (.iand, 1) := dk_126 (dk_at dksX12_storeRom_5 21 rfl rfl)
theorem dX12_storeRom_139 : decode cX12_storeRom 139 = .ok (.ifCond .eq 44, 3) := dk_153 0 44 (dk_at dksX12_storeRom_6 0 rfl rfl)
theorem dX12_storeRom_142 : decode cX12_storeRom 142 = .ok (.aload_n 0, 1) := dk_42 (dk_at dksX12_storeRom_6 3 rfl rfl)
theorem dX12_storeRom_143 : decode cX12_storeRom 143 = .ok (.getfield 16, 3) := dk_180 0 16 (dk_at dksX12_storeRom_6 4 rfl rfl)
theorem dX12_storeRom_146 : decode cX12_storeRom 146 = .ok (.bipush 63, 2) := dk_16 63 (dk_at dksX12_storeRom_6 7 rfl rfl)
theorem dX12_storeRom_148 : decode cX12_storeRom 148 = .ok (.iaload, 1) := dk_46 (dk_at dksX12_storeRom_6 9 rfl rfl)
theorem dX12_storeRom_149 : decode cX12_storeRom 149 = .ok (.iconst 2, 1) := dk_5 (dk_at dksX12_storeRom_6 10 rfl rfl)
theorem dX12_storeRom_150 : decode cX12_storeRom 150 = .ok (.iand, 1) := dk_126 (dk_at dksX12_storeRom_6 11 rfl rfl)
theorem dX12_storeRom_151 : decode cX12_storeRom 151 = .ok (.ifCond .ne 32, 3) := dk_154 0 32 (dk_at dksX12_storeRom_6 12 rfl rfl)
theorem dX12_storeRom_154 : decode cX12_storeRom 154 = .ok (.aload_n 0, 1) := dk_42 (dk_at dksX12_storeRom_6 15 rfl rfl)
theorem dX12_storeRom_155 : decode cX12_storeRom 155 = .ok (.getfield 16, 3) := dk_180 0 16 (dk_at dksX12_storeRom_6 16 rfl rfl)
theorem dX12_storeRom_158 : decode cX12_storeRom 158 = .ok (.bipush 64, 2) := dk_16 64 (dk_at dksX12_storeRom_6 19 rfl rfl)
theorem dX12_storeRom_160 : decode cX12_storeRom 160 = .ok (.aload_n 0, 1) := dk_42 (dk_at dksX12_storeRom_6 21 rfl rfl)
theorem dX12_storeRom_161 : decode cX12_storeRom 161 = .ok (.getfield 19, 3) := dk_180 0 19 (dk_at dksX12_storeRom_7 0 rfl rfl)
theorem dX12_storeRom_164 : decode cX12_storeRom 164 = .ok (.aload_n 0, 1) := dk_42 (dk_at dksX12_storeRom_7 3 rfl rfl)
theorem dX12_storeRom_165 : decode cX12_storeRom 165 = .ok (.getfield 16, 3) := dk_180 0 16 (dk_at dksX12_storeRom_7 4 rfl rfl)
theorem dX12_storeRom_168 : decode cX12_storeRom 168 = .ok (.bipush 65, 2) := dk_16 65 (dk_at dksX12_storeRom_7 7 rfl rfl)
theorem dX12_storeRom_170 : decode cX12_storeRom 170 = .ok (.iaload, 1) := dk_46 (dk_at dksX12_storeRom_7 9 rfl rfl)
theorem dX12_storeRom_171 : decode cX12_storeRom 171 = .ok (.iaload, 1) := dk_46 (dk_at dksX12_storeRom_7 10 rfl rfl)
theorem dX12_storeRom_172 : decode cX12_storeRom 172 = .ok (.iastore, 1) := dk_79 (dk_at dksX12_storeRom_7 11 rfl rfl)
theorem dX12_storeRom_173 : decode cX12_storeRom 173 = .ok (.aload_n 0, 1) := dk_42 (dk_at dksX12_storeRom_7 12 rfl rfl)
theorem dX12_storeRom_174 : decode cX12_storeRom 174 = .ok (.dup, 1) := dk_89 (dk_at dksX12_storeRom_7 13 rfl rfl)
theorem dX12_storeRom_175 : decode cX12_storeRom 175 = .ok (.getfield 160, 3) := dk_180 0 160 (dk_at dksX12_storeRom_7 14 rfl rfl)
theorem dX12_storeRom_178 : decode cX12_storeRom 178 = .ok (.iconst 4, 1) := dk_7 (dk_at dksX12_storeRom_7 17 rfl rfl)
theorem dX12_storeRom_179 : decode cX12_storeRom 179 = .ok (.iadd, 1) := dk_96 (dk_at dksX12_storeRom_7 18 rfl rfl)
theorem dX12_storeRom_180 : decode cX12_storeRom 180 = .ok (.putfield 160, 3) := dk_181 0 160 (dk_at dksX12_storeRom_7 19 rfl rfl)
theorem dX12_storeRom_183 : decode cX12_storeRom 183 = .ok (.return_, 1) := dk_177 (dk_at dksX12_storeRom_7 22 rfl rfl)
abbrev cX12_storeVectors : ByteArray := prog_13_method_15_code
def yX12_storeVectors : MethodName := ⟨RX12, "storeVectors", "(I)V"⟩
def dkwX12_storeVectors_2 : List UInt8 := [181, 0, 104, 177]
abbrev dktX12_storeVectors_2 : List UInt8 := dkwX12_storeVectors_2 ++ []
def dkwX12_storeVectors_1 : List UInt8 := [180, 0, 16, 16, 85, 46, 4, 126, 153, 0, 18, 42, 180, 0, 16, 16, 85, 27, 5, 126, 79, 42, 3]
abbrev dktX12_storeVectors_1 : List UInt8 := dkwX12_storeVectors_1 ++ dktX12_storeVectors_2
def dkwX12_storeVectors_0 : List UInt8 := [27, 4, 126, 153, 0, 20, 42, 180, 0, 16, 16, 85, 92, 46, 4, 128, 79, 42, 7, 181, 0, 104, 177, 42]
abbrev dktX12_storeVectors_0 : List UInt8 := dkwX12_storeVectors_0 ++ dktX12_storeVectors_1
theorem dksX12_storeVectors_0 : cX12_storeVectors.data.toList.drop 0 = dktX12_storeVectors_0 := by decide +kernel
theorem dksX12_storeVectors_1 : cX12_storeVectors.data.toList.drop 24 = dktX12_storeVectors_1 := dk_seg dksX12_storeVectors_0 24 rfl rfl
theorem dksX12_storeVectors_2 : cX12_storeVectors.data.toList.drop 47 = dktX12_storeVectors_2 := dk_seg dksX12_storeVectors_1 23 rfl rfl
theorem dX12_storeVectors_0 : decode cX12_storeVectors 0 = .ok (.iload_n 1, 1) := dk_27 (dk_at dksX12_storeVectors_0 0 rfl rfl)
theorem dX12_storeVectors_1 : decode cX12_storeVectors 1 = .ok (.iconst 1, 1) := dk_4 (dk_at dksX12_storeVectors_0 1 rfl rfl)
theorem dX12_storeVectors_2 : decode cX12_storeVectors 2 = .ok (.iand, 1) := dk_126 (dk_at dksX12_storeVectors_0 2 rfl rfl)
theorem dX12_storeVectors_3 : decode cX12_storeVectors 3 = .ok (.ifCond .eq 20, 3) := dk_153 0 20 (dk_at dksX12_storeVectors_0 3 rfl rfl)
theorem dX12_storeVectors_6 : decode cX12_storeVectors 6 = .ok (.aload_n 0, 1) := dk_42 (dk_at dksX12_storeVectors_0 6 rfl rfl)
theorem dX12_storeVectors_7 : decode cX12_storeVectors 7 = .ok (.getfield 16, 3) := dk_180 0 16 (dk_at dksX12_storeVectors_0 7 rfl rfl)
theorem dX12_storeVectors_10 : decode cX12_storeVectors 10 = .ok (.bipush 85, 2) := dk_16 85 (dk_at dksX12_storeVectors_0 10 rfl rfl)
theorem dX12_storeVectors_12 : decode cX12_storeVectors 12 = .ok (.dup2, 1) := dk_92 (dk_at dksX12_storeVectors_0 12 rfl rfl)
theorem dX12_storeVectors_13 : decode cX12_storeVectors 13 = .ok (.iaload, 1) := dk_46 (dk_at dksX12_storeVectors_0 13 rfl rfl)
theorem dX12_storeVectors_14 : decode cX12_storeVectors 14 = .ok (.iconst 1, 1) := dk_4 (dk_at dksX12_storeVectors_0 14 rfl rfl)
theorem dX12_storeVectors_15 : decode cX12_storeVectors 15 = .ok (.ior, 1) := dk_128 (dk_at dksX12_storeVectors_0 15 rfl rfl)
theorem dX12_storeVectors_16 : decode cX12_storeVectors 16 = .ok (.iastore, 1) := dk_79 (dk_at dksX12_storeVectors_0 16 rfl rfl)
theorem dX12_storeVectors_17 : decode cX12_storeVectors 17 = .ok (.aload_n 0, 1) := dk_42 (dk_at dksX12_storeVectors_0 17 rfl rfl)
theorem dX12_storeVectors_18 : decode cX12_storeVectors 18 = .ok (.iconst 4, 1) := dk_7 (dk_at dksX12_storeVectors_0 18 rfl rfl)
theorem dX12_storeVectors_19 : decode cX12_storeVectors 19 = .ok (.putfield 104, 3) := dk_181 0 104 (dk_at dksX12_storeVectors_0 19 rfl rfl)
theorem dX12_storeVectors_22 : decode cX12_storeVectors 22 = .ok (.return_, 1) := dk_177 (dk_at dksX12_storeVectors_0 22 rfl rfl)
theorem dX12_storeVectors_23 : decode cX12_storeVectors 23 = .ok (.aload_n 0, 1) := dk_42 (dk_at dksX12_storeVectors_0 23 rfl rfl)
theorem dX12_storeVectors_24 : decode cX12_storeVectors 24 = .ok (.getfield 16, 3) := dk_180 0 16 (dk_at dksX12_storeVectors_1 0 rfl rfl)
theorem dX12_storeVectors_27 : decode cX12_storeVectors 27 = .ok (.bipush 85, 2) := dk_16 85 (dk_at dksX12_storeVectors_1 3 rfl rfl)
theorem dX12_storeVectors_29 : decode cX12_storeVectors 29 = .ok (.iaload, 1) := dk_46 (dk_at dksX12_storeVectors_1 5 rfl rfl)
theorem dX12_storeVectors_30 : decode cX12_storeVectors 30 = .ok (.iconst 1, 1) := dk_4 (dk_at dksX12_storeVectors_1 6 rfl rfl)
theorem dX12_storeVectors_31 : decode cX12_storeVectors 31 = .ok (.iand, 1) := dk_126 (dk_at dksX12_storeVectors_1 7 rfl rfl)
theorem dX12_storeVectors_32 : decode cX12_storeVectors 32 = .ok (.ifCond .eq 18, 3) := dk_153 0 18 (dk_at dksX12_storeVectors_1 8 rfl rfl)
theorem dX12_storeVectors_35 : decode cX12_storeVectors 35 = .ok (.aload_n 0, 1) := dk_42 (dk_at dksX12_storeVectors_1 11 rfl rfl)
theorem dX12_storeVectors_36 : decode cX12_storeVectors 36 = .ok (.getfield 16, 3) := dk_180 0 16 (dk_at dksX12_storeVectors_1 12 rfl rfl)
theorem dX12_storeVectors_39 : decode cX12_storeVectors 39 = .ok (.bipush 85, 2) := dk_16 85 (dk_at dksX12_storeVectors_1 15 rfl rfl)
theorem dX12_storeVectors_41 : decode cX12_storeVectors 41 = .ok (.iload_n 1, 1) := dk_27 (dk_at dksX12_storeVectors_1 17 rfl rfl)
theorem dX12_storeVectors_42 : decode cX12_storeVectors 42 = .ok (.iconst 2, 1) := dk_5 (dk_at dksX12_storeVectors_1 18 rfl rfl)
theorem dX12_storeVectors_43 : decode cX12_storeVectors 43 = .ok (.iand, 1) := dk_126 (dk_at dksX12_storeVectors_1 19 rfl rfl)
theorem dX12_storeVectors_44 : decode cX12_storeVectors 44 = .ok (.iastore, 1) := dk_79 (dk_at dksX12_storeVectors_1 20 rfl rfl)
theorem dX12_storeVectors_45 : decode cX12_storeVectors 45 = .ok (.aload_n 0, 1) := dk_42 (dk_at dksX12_storeVectors_1 21 rfl rfl)
theorem dX12_storeVectors_46 : decode cX12_storeVectors 46 = .ok (.iconst 0, 1) := dk_3 (dk_at dksX12_storeVectors_1 22 rfl rfl)
theorem dX12_storeVectors_47 : decode cX12_storeVectors 47 = .ok (.putfield 104, 3) := dk_181 0 104 (dk_at dksX12_storeVectors_2 0 rfl rfl)
theorem dX12_storeVectors_50 : decode cX12_storeVectors 50 = .ok (.return_, 1) := dk_177 (dk_at dksX12_storeVectors_2 3 rfl rfl)
abbrev cX12_storeFlash : ByteArray := prog_13_method_16_code
def yX12_storeFlash : MethodName := ⟨RX12, "storeFlash", "(I)V"⟩
def dkwX12_storeFlash_2 : List UInt8 := [17, 0, 159, 126, 128, 79, 42, 27, 4, 126, 153, 0, 7, 7, 167, 0, 4, 3, 181, 0, 98, 177]
abbrev dktX12_storeFlash_2 : List UInt8 := dkwX12_storeFlash_2 ++ []
def dkwX12_storeFlash_1 : List UInt8 := [17, 0, 128, 126, 128, 79, 177, 42, 180, 0, 16, 16, 87, 42, 180, 0, 16, 16, 87, 46, 16, 96, 126, 27]
abbrev dktX12_storeFlash_1 : List UInt8 := dkwX12_storeFlash_1 ++ dktX12_storeFlash_2
def dkwX12_storeFlash_0 : List UInt8 := [42, 180, 0, 86, 158, 0, 27, 42, 180, 0, 16, 16, 87, 42, 180, 0, 16, 16, 87, 46, 16, 127, 126, 27]
abbrev dktX12_storeFlash_0 : List UInt8 := dkwX12_storeFlash_0 ++ dktX12_storeFlash_1
theorem dksX12_storeFlash_0 : cX12_storeFlash.data.toList.drop 0 = dktX12_storeFlash_0 := by decide +kernel
theorem dksX12_storeFlash_1 : cX12_storeFlash.data.toList.drop 24 = dktX12_storeFlash_1 := dk_seg dksX12_storeFlash_0 24 rfl rfl
theorem dksX12_storeFlash_2 : cX12_storeFlash.data.toList.drop 48 = dktX12_storeFlash_2 := dk_seg dksX12_storeFlash_1 24 rfl rfl
theorem dX12_storeFlash_0 : decode cX12_storeFlash 0 = .ok (.aload_n 0, 1) := dk_42 (dk_at dksX12_storeFlash_0 0 rfl rfl)
theorem dX12_storeFlash_1 : decode cX12_storeFlash 1 = .ok (.getfield 86, 3) := dk_180 0 86 (dk_at dksX12_storeFlash_0 1 rfl rfl)
theorem dX12_storeFlash_4 : decode cX12_storeFlash 4 = .ok (.ifCond .le 27, 3) := dk_158 0 27 (dk_at dksX12_storeFlash_0 4 rfl rfl)
theorem dX12_storeFlash_7 : decode cX12_storeFlash 7 = .ok (.aload_n 0, 1) := dk_42 (dk_at dksX12_storeFlash_0 7 rfl rfl)
theorem dX12_storeFlash_8 : decode cX12_storeFlash 8 = .ok (.getfield 16, 3) := dk_180 0 16 (dk_at dksX12_storeFlash_0 8 rfl rfl)
theorem dX12_storeFlash_11 : decode cX12_storeFlash 11 = .ok (.bipush 87, 2) := dk_16 87 (dk_at dksX12_storeFlash_0 11 rfl rfl)
theorem dX12_storeFlash_13 : decode cX12_storeFlash 13 = .ok (.aload_n 0, 1) := dk_42 (dk_at dksX12_storeFlash_0 13 rfl rfl)
theorem dX12_storeFlash_14 : decode cX12_storeFlash 14 = .ok (.getfield 16, 3) := dk_180 0 16 (dk_at dksX12_storeFlash_0 14 rfl rfl)
theorem dX12_storeFlash_17 : decode cX12_storeFlash 17 = .ok (.bipush 87, 2) := dk_16 87 (dk_at dksX12_storeFlash_0 17 rfl rfl)
theorem dX12_storeFlash_19 : decode cX12_storeFlash 19 = .ok (.iaload, 1) := dk_46 (dk_at dksX12_storeFlash_0 19 rfl rfl)
theorem dX12_storeFlash_20 : decode cX12_storeFlash 20 = .ok (.bipush 127, 2) := dk_16 127 (dk_at dksX12_storeFlash_0 20 rfl rfl)
theorem dX12_storeFlash_22 : decode cX12_storeFlash 22 = .ok (.iand, 1) := dk_126 (dk_at dksX12_storeFlash_0 22 rfl rfl)
theorem dX12_storeFlash_23 : decode cX12_storeFlash 23 = .ok (.iload_n 1, 1) := dk_27 (dk_at dksX12_storeFlash_0 23 rfl rfl)
theorem dX12_storeFlash_24 : decode cX12_storeFlash 24 = .ok (.sipush 128, 3) := dk_17 0 128 (dk_at dksX12_storeFlash_1 0 rfl rfl)
theorem dX12_storeFlash_27 : decode cX12_storeFlash 27 = .ok (.iand, 1) := dk_126 (dk_at dksX12_storeFlash_1 3 rfl rfl)
theorem dX12_storeFlash_28 : decode cX12_storeFlash 28 = .ok (.ior, 1) := dk_128 (dk_at dksX12_storeFlash_1 4 rfl rfl)
theorem dX12_storeFlash_29 : decode cX12_storeFlash 29 = .ok (.iastore, 1) := dk_79 (dk_at dksX12_storeFlash_1 5 rfl rfl)
theorem dX12_storeFlash_30 : decode cX12_storeFlash 30 = .ok (.return_, 1) := dk_177 (dk_at dksX12_storeFlash_1 6 rfl rfl)
theorem dX12_storeFlash_31 : decode cX12_storeFlash 31 = .ok (.aload_n 0, 1) := dk_42 (dk_at dksX12_storeFlash_1 7 rfl rfl)
theorem dX12_storeFlash_32 : decode cX12_storeFlash 32 = .ok (.getfield 16, 3) := dk_180 0 16 (dk_at dksX12_storeFlash_1 8 rfl rfl)
theorem dX12_storeFlash_35 : decode cX12_storeFlash 35 = .ok (.bipush 87, 2) := dk_16 87 (dk_at dksX12_storeFlash_1 11 rfl rfl)
theorem dX12_storeFlash_37 : decode cX12_storeFlash 37 = .ok (.aload_n 0, 1) := dk_42 (dk_at dksX12_storeFlash_1 13 rfl rfl)
theorem dX12_storeFlash_38 : decode cX12_storeFlash 38 = .ok (.getfield 16, 3) := dk_180 0 16 (dk_at dksX12_storeFlash_1 14 rfl rfl)
theorem dX12_storeFlash_41 : decode cX12_storeFlash 41 = .ok (.bipush 87, 2) := dk_16 87 (dk_at dksX12_storeFlash_1 17 rfl rfl)
theorem dX12_storeFlash_43 : decode cX12_storeFlash 43 = .ok (.iaload, 1) := dk_46 (dk_at dksX12_storeFlash_1 19 rfl rfl)
theorem dX12_storeFlash_44 : decode cX12_storeFlash 44 = .ok (.bipush 96, 2) := dk_16 96 (dk_at dksX12_storeFlash_1 20 rfl rfl)
theorem dX12_storeFlash_46 : decode cX12_storeFlash 46 = .ok (.iand, 1) := dk_126 (dk_at dksX12_storeFlash_1 22 rfl rfl)
theorem dX12_storeFlash_47 : decode cX12_storeFlash 47 = .ok (.iload_n 1, 1) := dk_27 (dk_at dksX12_storeFlash_1 23 rfl rfl)
theorem dX12_storeFlash_48 : decode cX12_storeFlash 48 = .ok (.sipush 159, 3) := dk_17 0 159 (dk_at dksX12_storeFlash_2 0 rfl rfl)
theorem dX12_storeFlash_51 : decode cX12_storeFlash 51 = .ok (.iand, 1) := dk_126 (dk_at dksX12_storeFlash_2 3 rfl rfl)
theorem dX12_storeFlash_52 : decode cX12_storeFlash 52 = .ok (.ior, 1) := dk_128 (dk_at dksX12_storeFlash_2 4 rfl rfl)
theorem dX12_storeFlash_53 : decode cX12_storeFlash 53 = .ok (.iastore, 1) := dk_79 (dk_at dksX12_storeFlash_2 5 rfl rfl)
theorem dX12_storeFlash_54 : decode cX12_storeFlash 54 = .ok (.aload_n 0, 1) := dk_42 (dk_at dksX12_storeFlash_2 6 rfl rfl)
theorem dX12_storeFlash_55 : decode cX12_storeFlash 55 = .ok (.iload_n 1, 1) := dk_27 (dk_at dksX12_storeFlash_2 7 rfl rfl)
theorem dX12_storeFlash_56 : decode cX12_storeFlash 56 = .ok (.iconst 1, 1) := dk_4 (dk_at dksX12_storeFlash_2 8 rfl rfl)
theorem dX12_storeFlash_57 : decode cX12_storeFlash 57 = .ok (.iand, 1) := dk_126 (dk_at dksX12_storeFlash_2 9 rfl rfl)
theorem dX12_storeFlash_58 : decode cX12_storeFlash 58 = .ok (.ifCond .eq 7, 3) := dk_153 0 7 (dk_at dksX12_storeFlash_2 10 rfl rfl)
theorem dX12_storeFlash_61 : decode cX12_storeFlash 61 = .ok (.iconst 4, 1) := dk_7 (dk_at dksX12_storeFlash_2 13 rfl rfl)
theorem dX12_storeFlash_62 : decode cX12_storeFlash 62 = .ok (.goto 4, 3) := dk_167 0 4 (dk_at dksX12_storeFlash_2 14 rfl rfl)
theorem dX12_storeFlash_65 : decode cX12_storeFlash 65 = .ok (.iconst 0, 1) := dk_3 (dk_at dksX12_storeFlash_2 17 rfl rfl)
theorem dX12_storeFlash_66 : decode cX12_storeFlash 66 = .ok (.putfield 98, 3) := dk_181 0 98 (dk_at dksX12_storeFlash_2 18 rfl rfl)
theorem dX12_storeFlash_69 : decode cX12_storeFlash 69 = .ok (.return_, 1) := dk_177 (dk_at dksX12_storeFlash_2 21 rfl rfl)
abbrev cX12_storeDog : ByteArray := prog_13_method_17_code
def yX12_storeDog : MethodName := ⟨RX12, "storeDog", "(I)V"⟩
def dkwX12_storeDog_4 : List UInt8 := [28, 79, 42, 182, 0, 125, 177]
abbrev dktX12_storeDog_4 : List UInt8 := dkwX12_storeDog_4 ++ []
def dkwX12_storeDog_3 : List UInt8 := [16, 24, 126, 16, 24, 160, 0, 13, 28, 16, 16, 128, 61, 42, 7, 181, 0, 101, 42, 180, 0, 16, 16, 96]
abbrev dktX12_storeDog_3 : List UInt8 := dkwX12_storeDog_3 ++ dktX12_storeDog_4
def dkwX12_storeDog_2 : List UInt8 := [154, 0, 22, 28, 17, 0, 192, 126, 27, 16, 47, 126, 128, 61, 42, 3, 181, 0, 101, 167, 0, 22, 27]
abbrev dktX12_storeDog_2 : List UInt8 := dkwX12_storeDog_2 ++ dktX12_storeDog_3
def dkwX12_storeDog_1 : List UInt8 := [61, 28, 17, 0, 191, 126, 27, 16, 64, 126, 128, 61, 28, 16, 16, 126, 153, 0, 29, 27, 16, 16, 126]
abbrev dktX12_storeDog_1 : List UInt8 := dkwX12_storeDog_1 ++ dktX12_storeDog_2
def dkwX12_storeDog_0 : List UInt8 := [42, 180, 0, 16, 16, 96, 46, 27, 17, 0, 128, 126, 153, 0, 8, 16, 127, 167, 0, 6, 17, 0, 255, 126]
abbrev dktX12_storeDog_0 : List UInt8 := dkwX12_storeDog_0 ++ dktX12_storeDog_1
theorem dksX12_storeDog_0 : cX12_storeDog.data.toList.drop 0 = dktX12_storeDog_0 := by decide +kernel
theorem dksX12_storeDog_1 : cX12_storeDog.data.toList.drop 24 = dktX12_storeDog_1 := dk_seg dksX12_storeDog_0 24 rfl rfl
theorem dksX12_storeDog_2 : cX12_storeDog.data.toList.drop 47 = dktX12_storeDog_2 := dk_seg dksX12_storeDog_1 23 rfl rfl
theorem dksX12_storeDog_3 : cX12_storeDog.data.toList.drop 70 = dktX12_storeDog_3 := dk_seg dksX12_storeDog_2 23 rfl rfl
theorem dksX12_storeDog_4 : cX12_storeDog.data.toList.drop 94 = dktX12_storeDog_4 := dk_seg dksX12_storeDog_3 24 rfl rfl
theorem dX12_storeDog_0 : decode cX12_storeDog 0 = .ok (.aload_n 0, 1) := dk_42 (dk_at dksX12_storeDog_0 0 rfl rfl)
theorem dX12_storeDog_1 : decode cX12_storeDog 1 = .ok (.getfield 16, 3) := dk_180 0 16 (dk_at dksX12_storeDog_0 1 rfl rfl)
theorem dX12_storeDog_4 : decode cX12_storeDog 4 = .ok (.bipush 96, 2) := dk_16 96 (dk_at dksX12_storeDog_0 4 rfl rfl)
theorem dX12_storeDog_6 : decode cX12_storeDog 6 = .ok (.iaload, 1) := dk_46 (dk_at dksX12_storeDog_0 6 rfl rfl)
theorem dX12_storeDog_7 : decode cX12_storeDog 7 = .ok (.iload_n 1, 1) := dk_27 (dk_at dksX12_storeDog_0 7 rfl rfl)
theorem dX12_storeDog_8 : decode cX12_storeDog 8 = .ok (.sipush 128, 3) := dk_17 0 128 (dk_at dksX12_storeDog_0 8 rfl rfl)
theorem dX12_storeDog_11 : decode cX12_storeDog 11 = .ok (.iand, 1) := dk_126 (dk_at dksX12_storeDog_0 11 rfl rfl)
theorem dX12_storeDog_12 : decode cX12_storeDog 12 = .ok (.ifCond .eq 8, 3) := dk_153 0 8 (dk_at dksX12_storeDog_0 12 rfl rfl)
theorem dX12_storeDog_15 : decode cX12_storeDog 15 = .ok (.bipush 127, 2) := dk_16 127 (dk_at dksX12_storeDog_0 15 rfl rfl)
theorem dX12_storeDog_17 : decode cX12_storeDog 17 = .ok (.goto 6, 3) := dk_167 0 6 (dk_at dksX12_storeDog_0 17 rfl rfl)
theorem dX12_storeDog_20 : decode cX12_storeDog 20 = .ok (.sipush 255, 3) := dk_17 0 255 (dk_at dksX12_storeDog_0 20 rfl rfl)
theorem dX12_storeDog_23 : decode cX12_storeDog 23 = .ok (.iand, 1) := dk_126 (dk_at dksX12_storeDog_0 23 rfl rfl)
theorem dX12_storeDog_24 : decode cX12_storeDog 24 = .ok (.istore_n 2, 1) := dk_61 (dk_at dksX12_storeDog_1 0 rfl rfl)
theorem dX12_storeDog_25 : decode cX12_storeDog 25 = .ok (.iload_n 2, 1) := dk_28 (dk_at dksX12_storeDog_1 1 rfl rfl)
theorem dX12_storeDog_26 : decode cX12_storeDog 26 = .ok (.sipush 191, 3) := dk_17 0 191 (dk_at dksX12_storeDog_1 2 rfl rfl)
theorem dX12_storeDog_29 : decode cX12_storeDog 29 = .ok (.iand, 1) := dk_126 (dk_at dksX12_storeDog_1 5 rfl rfl)
theorem dX12_storeDog_30 : decode cX12_storeDog 30 = .ok (.iload_n 1, 1) := dk_27 (dk_at dksX12_storeDog_1 6 rfl rfl)
theorem dX12_storeDog_31 : decode cX12_storeDog 31 = .ok (.bipush 64, 2) := dk_16 64 (dk_at dksX12_storeDog_1 7 rfl rfl)
theorem dX12_storeDog_33 : decode cX12_storeDog 33 = .ok (.iand, 1) := dk_126 (dk_at dksX12_storeDog_1 9 rfl rfl)
theorem dX12_storeDog_34 : decode cX12_storeDog 34 = .ok (.ior, 1) := dk_128 (dk_at dksX12_storeDog_1 10 rfl rfl)
theorem dX12_storeDog_35 : decode cX12_storeDog 35 = .ok (.istore_n 2, 1) := dk_61 (dk_at dksX12_storeDog_1 11 rfl rfl)
theorem dX12_storeDog_36 : decode cX12_storeDog 36 = .ok (.iload_n 2, 1) := dk_28 (dk_at dksX12_storeDog_1 12 rfl rfl)
theorem dX12_storeDog_37 : decode cX12_storeDog 37 = .ok (.bipush 16, 2) := dk_16 16 (dk_at dksX12_storeDog_1 13 rfl rfl)
theorem dX12_storeDog_39 : decode cX12_storeDog 39 = .ok (.iand, 1) := dk_126 (dk_at dksX12_storeDog_1 15 rfl rfl)
theorem dX12_storeDog_40 : decode cX12_storeDog 40 = .ok (.ifCond .eq 29, 3) := dk_153 0 29 (dk_at dksX12_storeDog_1 16 rfl rfl)
theorem dX12_storeDog_43 : decode cX12_storeDog 43 = .ok (.iload_n 1, 1) := dk_27 (dk_at dksX12_storeDog_1 19 rfl rfl)
theorem dX12_storeDog_44 : decode cX12_storeDog 44 = .ok (.bipush 16, 2) := dk_16 16 (dk_at dksX12_storeDog_1 20 rfl rfl)
theorem dX12_storeDog_46 : decode cX12_storeDog 46 = .ok (.iand, 1) := dk_126 (dk_at dksX12_storeDog_1 22 rfl rfl)
theorem dX12_storeDog_47 : decode cX12_storeDog 47 = .ok (.ifCond .ne 22, 3) := dk_154 0 22 (dk_at dksX12_storeDog_2 0 rfl rfl)
theorem dX12_storeDog_50 : decode cX12_storeDog 50 = .ok (.iload_n 2, 1) := dk_28 (dk_at dksX12_storeDog_2 3 rfl rfl)
theorem dX12_storeDog_51 : decode cX12_storeDog 51 = .ok (.sipush 192, 3) := dk_17 0 192 (dk_at dksX12_storeDog_2 4 rfl rfl)
theorem dX12_storeDog_54 : decode cX12_storeDog 54 = .ok (.iand, 1) := dk_126 (dk_at dksX12_storeDog_2 7 rfl rfl)
theorem dX12_storeDog_55 : decode cX12_storeDog 55 = .ok (.iload_n 1, 1) := dk_27 (dk_at dksX12_storeDog_2 8 rfl rfl)
theorem dX12_storeDog_56 : decode cX12_storeDog 56 = .ok (.bipush 47, 2) := dk_16 47 (dk_at dksX12_storeDog_2 9 rfl rfl)
theorem dX12_storeDog_58 : decode cX12_storeDog 58 = .ok (.iand, 1) := dk_126 (dk_at dksX12_storeDog_2 11 rfl rfl)
theorem dX12_storeDog_59 : decode cX12_storeDog 59 = .ok (.ior, 1) := dk_128 (dk_at dksX12_storeDog_2 12 rfl rfl)
theorem dX12_storeDog_60 : decode cX12_storeDog 60 = .ok (.istore_n 2, 1) := dk_61 (dk_at dksX12_storeDog_2 13 rfl rfl)
theorem dX12_storeDog_61 : decode cX12_storeDog 61 = .ok (.aload_n 0, 1) := dk_42 (dk_at dksX12_storeDog_2 14 rfl rfl)
theorem dX12_storeDog_62 : decode cX12_storeDog 62 = .ok (.iconst 0, 1) := dk_3 (dk_at dksX12_storeDog_2 15 rfl rfl)
theorem dX12_storeDog_63 : decode cX12_storeDog 63 = .ok (.putfield 101, 3) := dk_181 0 101 (dk_at dksX12_storeDog_2 16 rfl rfl)
theorem dX12_storeDog_66 : decode cX12_storeDog 66 = .ok (.goto 22, 3) := dk_167 0 22 (dk_at dksX12_storeDog_2 19 rfl rfl)
theorem dX12_storeDog_69 : decode cX12_storeDog 69 = .ok (.iload_n 1, 1) := dk_27 (dk_at dksX12_storeDog_2 22 rfl rfl)
theorem dX12_storeDog_70 : decode cX12_storeDog 70 = .ok (.bipush 24, 2) := dk_16 24 (dk_at dksX12_storeDog_3 0 rfl rfl)
theorem dX12_storeDog_72 : decode cX12_storeDog 72 = .ok (.iand, 1) := dk_126 (dk_at dksX12_storeDog_3 2 rfl rfl)
theorem dX12_storeDog_73 : decode cX12_storeDog 73 = .ok (.bipush 24, 2) := dk_16 24 (dk_at dksX12_storeDog_3 3 rfl rfl)
theorem dX12_storeDog_75 : decode cX12_storeDog 75 = .ok (.if_icmp .ne 13, 3) := dk_160 0 13 (dk_at dksX12_storeDog_3 5 rfl rfl)
theorem dX12_storeDog_78 : decode cX12_storeDog 78 = .ok (.iload_n 2, 1) := dk_28 (dk_at dksX12_storeDog_3 8 rfl rfl)
theorem dX12_storeDog_79 : decode cX12_storeDog 79 = .ok (.bipush 16, 2) := dk_16 16 (dk_at dksX12_storeDog_3 9 rfl rfl)
theorem dX12_storeDog_81 : decode cX12_storeDog 81 = .ok (.ior, 1) := dk_128 (dk_at dksX12_storeDog_3 11 rfl rfl)
theorem dX12_storeDog_82 : decode cX12_storeDog 82 = .ok (.istore_n 2, 1) := dk_61 (dk_at dksX12_storeDog_3 12 rfl rfl)
theorem dX12_storeDog_83 : decode cX12_storeDog 83 = .ok (.aload_n 0, 1) := dk_42 (dk_at dksX12_storeDog_3 13 rfl rfl)
theorem dX12_storeDog_84 : decode cX12_storeDog 84 = .ok (.iconst 4, 1) := dk_7 (dk_at dksX12_storeDog_3 14 rfl rfl)
theorem dX12_storeDog_85 : decode cX12_storeDog 85 = .ok (.putfield 101, 3) := dk_181 0 101 (dk_at dksX12_storeDog_3 15 rfl rfl)
theorem dX12_storeDog_88 : decode cX12_storeDog 88 = .ok (.aload_n 0, 1) := dk_42 (dk_at dksX12_storeDog_3 18 rfl rfl)
theorem dX12_storeDog_89 : decode cX12_storeDog 89 = .ok (.getfield 16, 3) := dk_180 0 16 (dk_at dksX12_storeDog_3 19 rfl rfl)
theorem dX12_storeDog_92 : decode cX12_storeDog 92 = .ok (.bipush 96, 2) := dk_16 96 (dk_at dksX12_storeDog_3 22 rfl rfl)
theorem dX12_storeDog_94 : decode cX12_storeDog 94 = .ok (.iload_n 2, 1) := dk_28 (dk_at dksX12_storeDog_4 0 rfl rfl)
theorem dX12_storeDog_95 : decode cX12_storeDog 95 = .ok (.iastore, 1) := dk_79 (dk_at dksX12_storeDog_4 1 rfl rfl)
theorem dX12_storeDog_96 : decode cX12_storeDog 96 = .ok (.aload_n 0, 1) := dk_42 (dk_at dksX12_storeDog_4 2 rfl rfl)
theorem dX12_storeDog_97 : decode cX12_storeDog 97 = .ok (.invokevirtual 125, 3) := dk_182 0 125 (dk_at dksX12_storeDog_4 3 rfl rfl)
theorem dX12_storeDog_100 : decode cX12_storeDog 100 = .ok (.return_, 1) := dk_177 (dk_at dksX12_storeDog_4 6 rfl rfl)
abbrev cX12_setPointer : ByteArray := prog_13_method_33_code
def yX12_setPointer : MethodName := ⟨RX12, "setPointer", "(II)V"⟩
def dkwX12_setPointer_1 : List UInt8 := [17, 0, 255, 126, 79, 177]
abbrev dktX12_setPointer_1 : List UInt8 := dkwX12_setPointer_1 ++ []
def dkwX12_setPointer_0 : List UInt8 := [42, 180, 0, 16, 27, 28, 17, 0, 255, 126, 79, 42, 180, 0, 16, 27, 4, 96, 28, 16, 8, 122]
abbrev dktX12_setPointer_0 : List UInt8 := dkwX12_setPointer_0 ++ dktX12_setPointer_1
theorem dksX12_setPointer_0 : cX12_setPointer.data.toList.drop 0 = dktX12_setPointer_0 := by decide +kernel
theorem dksX12_setPointer_1 : cX12_setPointer.data.toList.drop 22 = dktX12_setPointer_1 := dk_seg dksX12_setPointer_0 22 rfl rfl
theorem dX12_setPointer_0 : decode cX12_setPointer 0 = .ok (.aload_n 0, 1) := dk_42 (dk_at dksX12_setPointer_0 0 rfl rfl)
theorem dX12_setPointer_1 : decode cX12_setPointer 1 = .ok (.getfield 16, 3) := dk_180 0 16 (dk_at dksX12_setPointer_0 1 rfl rfl)
theorem dX12_setPointer_4 : decode cX12_setPointer 4 = .ok (.iload_n 1, 1) := dk_27 (dk_at dksX12_setPointer_0 4 rfl rfl)
theorem dX12_setPointer_5 : decode cX12_setPointer 5 = .ok (.iload_n 2, 1) := dk_28 (dk_at dksX12_setPointer_0 5 rfl rfl)
theorem dX12_setPointer_6 : decode cX12_setPointer 6 = .ok (.sipush 255, 3) := dk_17 0 255 (dk_at dksX12_setPointer_0 6 rfl rfl)
theorem dX12_setPointer_9 : decode cX12_setPointer 9 = .ok (.iand, 1) := dk_126 (dk_at dksX12_setPointer_0 9 rfl rfl)
theorem dX12_setPointer_10 : decode cX12_setPointer 10 = .ok (.iastore, 1) := dk_79 (dk_at dksX12_setPointer_0 10 rfl rfl)
theorem dX12_setPointer_11 : decode cX12_setPointer 11 = .ok (.aload_n 0, 1) := dk_42 (dk_at dksX12_setPointer_0 11 rfl rfl)
theorem dX12_setPointer_12 : decode cX12_setPointer 12 = .ok (.getfield 16, 3) := dk_180 0 16 (dk_at dksX12_setPointer_0 12 rfl rfl)
theorem dX12_setPointer_15 : decode cX12_setPointer 15 = .ok (.iload_n 1, 1) := dk_27 (dk_at dksX12_setPointer_0 15 rfl rfl)
theorem dX12_setPointer_16 : decode cX12_setPointer 16 = .ok (.iconst 1, 1) := dk_4 (dk_at dksX12_setPointer_0 16 rfl rfl)
theorem dX12_setPointer_17 : decode cX12_setPointer 17 = .ok (.iadd, 1) := dk_96 (dk_at dksX12_setPointer_0 17 rfl rfl)
theorem dX12_setPointer_18 : decode cX12_setPointer 18 = .ok (.iload_n 2, 1) := dk_28 (dk_at dksX12_setPointer_0 18 rfl rfl)
theorem dX12_setPointer_19 : decode cX12_setPointer 19 = .ok (.bipush 8, 2) := dk_16 8 (dk_at dksX12_setPointer_0 19 rfl rfl)
theorem dX12_setPointer_21 : decode cX12_setPointer 21 = .ok (.ishr, 1) := dk_122 (dk_at dksX12_setPointer_0 21 rfl rfl)
theorem dX12_setPointer_22 : decode cX12_setPointer 22 = .ok (.sipush 255, 3) := dk_17 0 255 (dk_at dksX12_setPointer_1 0 rfl rfl)
theorem dX12_setPointer_25 : decode cX12_setPointer 25 = .ok (.iand, 1) := dk_126 (dk_at dksX12_setPointer_1 3 rfl rfl)
theorem dX12_setPointer_26 : decode cX12_setPointer 26 = .ok (.iastore, 1) := dk_79 (dk_at dksX12_setPointer_1 4 rfl rfl)
theorem dX12_setPointer_27 : decode cX12_setPointer 27 = .ok (.return_, 1) := dk_177 (dk_at dksX12_setPointer_1 5 rfl rfl)
abbrev cX12_setFlag : ByteArray := prog_13_method_29_code
def yX12_setFlag : MethodName := ⟨RX12, "setFlag", "(IZ)V"⟩
def dkwX12_setFlag_1 : List UInt8 := [42, 180, 0, 16, 16, 95, 46, 4, 27, 120, 2, 130, 126, 79, 177]
abbrev dktX12_setFlag_1 : List UInt8 := dkwX12_setFlag_1 ++ []
def dkwX12_setFlag_0 : List UInt8 := [42, 180, 0, 16, 16, 95, 28, 153, 0, 17, 42, 180, 0, 16, 16, 95, 46, 4, 27, 120, 128, 167, 0, 16]
abbrev dktX12_setFlag_0 : List UInt8 := dkwX12_setFlag_0 ++ dktX12_setFlag_1
theorem dksX12_setFlag_0 : cX12_setFlag.data.toList.drop 0 = dktX12_setFlag_0 := by decide +kernel
theorem dksX12_setFlag_1 : cX12_setFlag.data.toList.drop 24 = dktX12_setFlag_1 := dk_seg dksX12_setFlag_0 24 rfl rfl
theorem dX12_setFlag_0 : decode cX12_setFlag 0 = .ok (.aload_n 0, 1) := dk_42 (dk_at dksX12_setFlag_0 0 rfl rfl)
theorem dX12_setFlag_1 : decode cX12_setFlag 1 = .ok (.getfield 16, 3) := dk_180 0 16 (dk_at dksX12_setFlag_0 1 rfl rfl)
theorem dX12_setFlag_4 : decode cX12_setFlag 4 = .ok (.bipush 95, 2) := dk_16 95 (dk_at dksX12_setFlag_0 4 rfl rfl)
theorem dX12_setFlag_6 : decode cX12_setFlag 6 = .ok (.iload_n 2, 1) := dk_28 (dk_at dksX12_setFlag_0 6 rfl rfl)
theorem dX12_setFlag_7 : decode cX12_setFlag 7 = .ok (.ifCond .eq 17, 3) := dk_153 0 17 (dk_at dksX12_setFlag_0 7 rfl rfl)
theorem dX12_setFlag_10 : decode cX12_setFlag 10 = .ok (.aload_n 0, 1) := dk_42 (dk_at dksX12_setFlag_0 10 rfl rfl)
theorem dX12_setFlag_11 : decode cX12_setFlag 11 = .ok (.getfield 16, 3) := dk_180 0 16 (dk_at dksX12_setFlag_0 11 rfl rfl)
theorem dX12_setFlag_14 : decode cX12_setFlag 14 = .ok (.bipush 95, 2) := dk_16 95 (dk_at dksX12_setFlag_0 14 rfl rfl)
theorem dX12_setFlag_16 : decode cX12_setFlag 16 = .ok (.iaload, 1) := dk_46 (dk_at dksX12_setFlag_0 16 rfl rfl)
theorem dX12_setFlag_17 : decode cX12_setFlag 17 = .ok (.iconst 1, 1) := dk_4 (dk_at dksX12_setFlag_0 17 rfl rfl)
theorem dX12_setFlag_18 : decode cX12_setFlag 18 = .ok (.iload_n 1, 1) := dk_27 (dk_at dksX12_setFlag_0 18 rfl rfl)
theorem dX12_setFlag_19 : decode cX12_setFlag 19 = .ok (.ishl, 1) := dk_120 (dk_at dksX12_setFlag_0 19 rfl rfl)
theorem dX12_setFlag_20 : decode cX12_setFlag 20 = .ok (.ior, 1) := dk_128 (dk_at dksX12_setFlag_0 20 rfl rfl)
theorem dX12_setFlag_21 : decode cX12_setFlag 21 = .ok (.goto 16, 3) := dk_167 0 16 (dk_at dksX12_setFlag_0 21 rfl rfl)
theorem dX12_setFlag_24 : decode cX12_setFlag 24 = .ok (.aload_n 0, 1) := dk_42 (dk_at dksX12_setFlag_1 0 rfl rfl)
theorem dX12_setFlag_25 : decode cX12_setFlag 25 = .ok (.getfield 16, 3) := dk_180 0 16 (dk_at dksX12_setFlag_1 1 rfl rfl)
theorem dX12_setFlag_28 : decode cX12_setFlag 28 = .ok (.bipush 95, 2) := dk_16 95 (dk_at dksX12_setFlag_1 4 rfl rfl)
theorem dX12_setFlag_30 : decode cX12_setFlag 30 = .ok (.iaload, 1) := dk_46 (dk_at dksX12_setFlag_1 6 rfl rfl)
theorem dX12_setFlag_31 : decode cX12_setFlag 31 = .ok (.iconst 1, 1) := dk_4 (dk_at dksX12_setFlag_1 7 rfl rfl)
theorem dX12_setFlag_32 : decode cX12_setFlag 32 = .ok (.iload_n 1, 1) := dk_27 (dk_at dksX12_setFlag_1 8 rfl rfl)
theorem dX12_setFlag_33 : decode cX12_setFlag 33 = .ok (.ishl, 1) := dk_120 (dk_at dksX12_setFlag_1 9 rfl rfl)
theorem dX12_setFlag_34 : decode cX12_setFlag 34 = .ok (.iconst (-1), 1) := dk_2 (dk_at dksX12_setFlag_1 10 rfl rfl)
theorem dX12_setFlag_35 : decode cX12_setFlag 35 = .ok (.ixor, 1) := dk_130 (dk_at dksX12_setFlag_1 11 rfl rfl)
theorem dX12_setFlag_36 : decode cX12_setFlag 36 = .ok (.iand, 1) := dk_126 (dk_at dksX12_setFlag_1 12 rfl rfl)
theorem dX12_setFlag_37 : decode cX12_setFlag 37 = .ok (.iastore, 1) := dk_79 (dk_at dksX12_setFlag_1 13 rfl rfl)
theorem dX12_setFlag_38 : decode cX12_setFlag 38 = .ok (.return_, 1) := dk_177 (dk_at dksX12_setFlag_1 14 rfl rfl)
abbrev cX12_instruction : ByteArray := prog_13_method_44_code
def yX12_instruction : MethodName := ⟨RX12, "instruction", "()I"⟩
def dkwX12_instruction_6 : List UInt8 := [96, 172]
abbrev dktX12_instruction_6 : List UInt8 := dkwX12_instruction_6 ++ []
def dkwX12_instruction_5 : List UInt8 := [16, 15, 160, 0, 11, 42, 27, 182, 1, 23, 167, 0, 8, 42, 27, 182, 1, 26, 61, 28, 42, 180, 0, 160]
abbrev dktX12_instruction_5 : List UInt8 := dkwX12_instruction_5 ++ dktX12_instruction_6
def dkwX12_instruction_4 : List UInt8 := [167, 0, 42, 27, 16, 12, 122, 16, 11, 160, 0, 11, 42, 27, 182, 1, 20, 167, 0, 25, 27, 16, 12, 122]
abbrev dktX12_instruction_4 : List UInt8 := dkwX12_instruction_4 ++ dktX12_instruction_5
def dkwX12_instruction_3 : List UInt8 := [182, 1, 12, 167, 0, 61, 27, 19, 1, 15, 126, 19, 1, 16, 160, 0, 11, 42, 27, 182, 1, 17]
abbrev dktX12_instruction_3 : List UInt8 := dkwX12_instruction_3 ++ dktX12_instruction_4
def dkwX12_instruction_2 : List UInt8 := [16, 14, 160, 0, 11, 42, 27, 182, 1, 9, 167, 0, 78, 27, 16, 12, 122, 16, 9, 160, 0, 11, 42, 27]
abbrev dktX12_instruction_2 : List UInt8 := dkwX12_instruction_2 ++ dktX12_instruction_3
def dkwX12_instruction_1 : List UInt8 := [162, 0, 11, 42, 27, 182, 1, 6, 167, 0, 104, 27, 16, 12, 122, 16, 8, 161, 0, 12, 27, 16, 12, 122]
abbrev dktX12_instruction_1 : List UInt8 := dkwX12_instruction_1 ++ dktX12_instruction_2
def dkwX12_instruction_0 : List UInt8 := [42, 42, 180, 0, 77, 181, 1, 0, 42, 3, 181, 0, 160, 42, 182, 1, 3, 60, 27, 16, 10, 122, 16, 12]
abbrev dktX12_instruction_0 : List UInt8 := dkwX12_instruction_0 ++ dktX12_instruction_1
theorem dksX12_instruction_0 : cX12_instruction.data.toList.drop 0 = dktX12_instruction_0 := by decide +kernel
theorem dksX12_instruction_1 : cX12_instruction.data.toList.drop 24 = dktX12_instruction_1 := dk_seg dksX12_instruction_0 24 rfl rfl
theorem dksX12_instruction_2 : cX12_instruction.data.toList.drop 48 = dktX12_instruction_2 := dk_seg dksX12_instruction_1 24 rfl rfl
theorem dksX12_instruction_3 : cX12_instruction.data.toList.drop 72 = dktX12_instruction_3 := dk_seg dksX12_instruction_2 24 rfl rfl
theorem dksX12_instruction_4 : cX12_instruction.data.toList.drop 94 = dktX12_instruction_4 := dk_seg dksX12_instruction_3 22 rfl rfl
theorem dksX12_instruction_5 : cX12_instruction.data.toList.drop 118 = dktX12_instruction_5 := dk_seg dksX12_instruction_4 24 rfl rfl
theorem dksX12_instruction_6 : cX12_instruction.data.toList.drop 142 = dktX12_instruction_6 := dk_seg dksX12_instruction_5 24 rfl rfl
theorem dX12_instruction_0 : decode cX12_instruction 0 = .ok (.aload_n 0, 1) := dk_42 (dk_at dksX12_instruction_0 0 rfl rfl)
theorem dX12_instruction_1 : decode cX12_instruction 1 = .ok (.aload_n 0, 1) := dk_42 (dk_at dksX12_instruction_0 1 rfl rfl)
theorem dX12_instruction_2 : decode cX12_instruction 2 = .ok (.getfield 77, 3) := dk_180 0 77 (dk_at dksX12_instruction_0 2 rfl rfl)
theorem dX12_instruction_5 : decode cX12_instruction 5 = .ok (.putfield 256, 3) := dk_181 1 0 (dk_at dksX12_instruction_0 5 rfl rfl)
theorem dX12_instruction_8 : decode cX12_instruction 8 = .ok (.aload_n 0, 1) := dk_42 (dk_at dksX12_instruction_0 8 rfl rfl)
theorem dX12_instruction_9 : decode cX12_instruction 9 = .ok (.iconst 0, 1) := dk_3 (dk_at dksX12_instruction_0 9 rfl rfl)
theorem dX12_instruction_10 : decode cX12_instruction 10 = .ok (.putfield 160, 3) := dk_181 0 160 (dk_at dksX12_instruction_0 10 rfl rfl)
theorem dX12_instruction_13 : decode cX12_instruction 13 = .ok (.aload_n 0, 1) := dk_42 (dk_at dksX12_instruction_0 13 rfl rfl)
theorem dX12_instruction_14 : decode cX12_instruction 14 = .ok (.invokevirtual 259, 3) := dk_182 1 3 (dk_at dksX12_instruction_0 14 rfl rfl)
theorem dX12_instruction_17 : decode cX12_instruction 17 = .ok (.istore_n 1, 1) := dk_60 (dk_at dksX12_instruction_0 17 rfl rfl)
theorem dX12_instruction_18 : decode cX12_instruction 18 = .ok (.iload_n 1, 1) := dk_27 (dk_at dksX12_instruction_0 18 rfl rfl)
theorem dX12_instruction_19 : decode cX12_instruction 19 = .ok (.bipush 10, 2) := dk_16 10 (dk_at dksX12_instruction_0 19 rfl rfl)
theorem dX12_instruction_21 : decode cX12_instruction 21 = .ok (.ishr, 1) := dk_122 (dk_at dksX12_instruction_0 21 rfl rfl)
theorem dX12_instruction_22 : decode cX12_instruction 22 = .ok (.bipush 12, 2) := dk_16 12 (dk_at dksX12_instruction_0 22 rfl rfl)
theorem dX12_instruction_24 : decode cX12_instruction 24 = .ok (.if_icmp .ge 11, 3) := dk_162 0 11 (dk_at dksX12_instruction_1 0 rfl rfl)
theorem dX12_instruction_27 : decode cX12_instruction 27 = .ok (.aload_n 0, 1) := dk_42 (dk_at dksX12_instruction_1 3 rfl rfl)
theorem dX12_instruction_28 : decode cX12_instruction 28 = .ok (.iload_n 1, 1) := dk_27 (dk_at dksX12_instruction_1 4 rfl rfl)
theorem dX12_instruction_29 : decode cX12_instruction 29 = .ok (.invokevirtual 262, 3) := dk_182 1 6 (dk_at dksX12_instruction_1 5 rfl rfl)
theorem dX12_instruction_32 : decode cX12_instruction 32 = .ok (.goto 104, 3) := dk_167 0 104 (dk_at dksX12_instruction_1 8 rfl rfl)
theorem dX12_instruction_35 : decode cX12_instruction 35 = .ok (.iload_n 1, 1) := dk_27 (dk_at dksX12_instruction_1 11 rfl rfl)
theorem dX12_instruction_36 : decode cX12_instruction 36 = .ok (.bipush 12, 2) := dk_16 12 (dk_at dksX12_instruction_1 12 rfl rfl)
theorem dX12_instruction_38 : decode cX12_instruction 38 = .ok (.ishr, 1) := dk_122 (dk_at dksX12_instruction_1 14 rfl rfl)
theorem dX12_instruction_39 : decode cX12_instruction 39 = .ok (.bipush 8, 2) := dk_16 8 (dk_at dksX12_instruction_1 15 rfl rfl)
theorem dX12_instruction_41 : decode cX12_instruction 41 = .ok (.if_icmp .lt 12, 3) := dk_161 0 12 (dk_at dksX12_instruction_1 17 rfl rfl)
theorem dX12_instruction_44 : decode cX12_instruction 44 = .ok (.iload_n 1, 1) := dk_27 (dk_at dksX12_instruction_1 20 rfl rfl)
theorem dX12_instruction_45 : decode cX12_instruction 45 = .ok (.bipush 12, 2) := dk_16 12 (dk_at dksX12_instruction_1 21 rfl rfl)
theorem dX12_instruction_47 : decode cX12_instruction 47 = .ok (.ishr, 1) := dk_122 (dk_at dksX12_instruction_1 23 rfl rfl)
theorem dX12_instruction_48 : decode cX12_instruction 48 = .ok (.bipush 14, 2) := dk_16 14 (dk_at dksX12_instruction_2 0 rfl rfl)
theorem dX12_instruction_50 : decode cX12_instruction 50 = .ok (.if_icmp .ne 11, 3) := dk_160 0 11 (dk_at dksX12_instruction_2 2 rfl rfl)
theorem dX12_instruction_53 : decode cX12_instruction 53 = .ok (.aload_n 0, 1) := dk_42 (dk_at dksX12_instruction_2 5 rfl rfl)
theorem dX12_instruction_54 : decode cX12_instruction 54 = .ok (.iload_n 1, 1) := dk_27 (dk_at dksX12_instruction_2 6 rfl rfl)
theorem dX12_instruction_55 : decode cX12_instruction 55 = .ok (.invokevirtual 265, 3) := dk_182 1 9 (dk_at dksX12_instruction_2 7 rfl rfl)
theorem dX12_instruction_58 : decode cX12_instruction 58 = .ok (.goto 78, 3) := dk_167 0 78 (dk_at dksX12_instruction_2 10 rfl rfl)
theorem dX12_instruction_61 : decode cX12_instruction 61 = .ok (.iload_n 1, 1) := dk_27 (dk_at dksX12_instruction_2 13 rfl rfl)
theorem dX12_instruction_62 : decode cX12_instruction 62 = .ok (.bipush 12, 2) := dk_16 12 (dk_at dksX12_instruction_2 14 rfl rfl)
theorem dX12_instruction_64 : decode cX12_instruction 64 = .ok (.ishr, 1) := dk_122 (dk_at dksX12_instruction_2 16 rfl rfl)
theorem dX12_instruction_65 : decode cX12_instruction 65 = .ok (.bipush 9, 2) := dk_16 9 (dk_at dksX12_instruction_2 17 rfl rfl)
theorem dX12_instruction_67 : decode cX12_instruction 67 = .ok (.if_icmp .ne 11, 3) := dk_160 0 11 (dk_at dksX12_instruction_2 19 rfl rfl)
theorem dX12_instruction_70 : decode cX12_instruction 70 = .ok (.aload_n 0, 1) := dk_42 (dk_at dksX12_instruction_2 22 rfl rfl)
theorem dX12_instruction_71 : decode cX12_instruction 71 = .ok (.iload_n 1, 1) := dk_27 (dk_at dksX12_instruction_2 23 rfl rfl)
theorem dX12_instruction_72 : decode cX12_instruction 72 = .ok (.invokevirtual 268, 3) := dk_182 1 12 (dk_at dksX12_instruction_3 0 rfl rfl)
theorem dX12_instruction_75 : decode cX12_instruction 75 = .ok (.goto 61, 3) := dk_167 0 61 (dk_at dksX12_instruction_3 3 rfl rfl)
theorem dX12_instruction_78 : decode cX12_instruction 78 = .ok (.iload_n 1, 1) := dk_27 (dk_at dksX12_instruction_3 6 rfl rfl)
theorem dX12_instruction_79 : decode cX12_instruction 79 = .ok (.ldc_w 271, 3) := dk_19 1 15 (dk_at dksX12_instruction_3 7 rfl rfl)
theorem dX12_instruction_82 : decode cX12_instruction 82 = .ok (.iand, 1) := dk_126 (dk_at dksX12_instruction_3 10 rfl rfl)
theorem dX12_instruction_83 : decode cX12_instruction 83 = .ok (.ldc_w 272, 3) := dk_19 1 16 (dk_at dksX12_instruction_3 11 rfl rfl)
theorem dX12_instruction_86 : decode cX12_instruction 86 = .ok (.if_icmp .ne 11, 3) := dk_160 0 11 (dk_at dksX12_instruction_3 14 rfl rfl)
theorem dX12_instruction_89 : decode cX12_instruction 89 = .ok (.aload_n 0, 1) := dk_42 (dk_at dksX12_instruction_3 17 rfl rfl)
theorem dX12_instruction_90 : decode cX12_instruction 90 = .ok (.iload_n 1, 1) := dk_27 (dk_at dksX12_instruction_3 18 rfl rfl)
theorem dX12_instruction_91 : decode cX12_instruction 91 = .ok (.invokevirtual 273, 3) := dk_182 1 17 (dk_at dksX12_instruction_3 19 rfl rfl)
theorem dX12_instruction_94 : decode cX12_instruction 94 = .ok (.goto 42, 3) := dk_167 0 42 (dk_at dksX12_instruction_4 0 rfl rfl)
theorem dX12_instruction_97 : decode cX12_instruction 97 = .ok (.iload_n 1, 1) := dk_27 (dk_at dksX12_instruction_4 3 rfl rfl)
theorem dX12_instruction_98 : decode cX12_instruction 98 = .ok (.bipush 12, 2) := dk_16 12 (dk_at dksX12_instruction_4 4 rfl rfl)
theorem dX12_instruction_100 : decode cX12_instruction 100 = .ok (.ishr, 1) := dk_122 (dk_at dksX12_instruction_4 6 rfl rfl)
theorem dX12_instruction_101 : decode cX12_instruction 101 = .ok (.bipush 11, 2) := dk_16 11 (dk_at dksX12_instruction_4 7 rfl rfl)
theorem dX12_instruction_103 : decode cX12_instruction 103 = .ok (.if_icmp .ne 11, 3) := dk_160 0 11 (dk_at dksX12_instruction_4 9 rfl rfl)
theorem dX12_instruction_106 : decode cX12_instruction 106 = .ok (.aload_n 0, 1) := dk_42 (dk_at dksX12_instruction_4 12 rfl rfl)
theorem dX12_instruction_107 : decode cX12_instruction 107 = .ok (.iload_n 1, 1) := dk_27 (dk_at dksX12_instruction_4 13 rfl rfl)
theorem dX12_instruction_108 : decode cX12_instruction 108 = .ok (.invokevirtual 276, 3) := dk_182 1 20 (dk_at dksX12_instruction_4 14 rfl rfl)
theorem dX12_instruction_111 : decode cX12_instruction 111 = .ok (.goto 25, 3) := dk_167 0 25 (dk_at dksX12_instruction_4 17 rfl rfl)
theorem dX12_instruction_114 : decode cX12_instruction 114 = .ok (.iload_n 1, 1) := dk_27 (dk_at dksX12_instruction_4 20 rfl rfl)
theorem dX12_instruction_115 : decode cX12_instruction 115 = .ok (.bipush 12, 2) := dk_16 12 (dk_at dksX12_instruction_4 21 rfl rfl)
theorem dX12_instruction_117 : decode cX12_instruction 117 = .ok (.ishr, 1) := dk_122 (dk_at dksX12_instruction_4 23 rfl rfl)
theorem dX12_instruction_118 : decode cX12_instruction 118 = .ok (.bipush 15, 2) := dk_16 15 (dk_at dksX12_instruction_5 0 rfl rfl)
theorem dX12_instruction_120 : decode cX12_instruction 120 = .ok (.if_icmp .ne 11, 3) := dk_160 0 11 (dk_at dksX12_instruction_5 2 rfl rfl)
theorem dX12_instruction_123 : decode cX12_instruction 123 = .ok (.aload_n 0, 1) := dk_42 (dk_at dksX12_instruction_5 5 rfl rfl)
theorem dX12_instruction_124 : decode cX12_instruction 124 = .ok (.iload_n 1, 1) := dk_27 (dk_at dksX12_instruction_5 6 rfl rfl)
theorem dX12_instruction_125 : decode cX12_instruction 125 = .ok (.invokevirtual 279, 3) := dk_182 1 23 (dk_at dksX12_instruction_5 7 rfl rfl)
theorem dX12_instruction_128 : decode cX12_instruction 128 = .ok (.goto 8, 3) := dk_167 0 8 (dk_at dksX12_instruction_5 10 rfl rfl)
theorem dX12_instruction_131 : decode cX12_instruction 131 = .ok (.aload_n 0, 1) := dk_42 (dk_at dksX12_instruction_5 13 rfl rfl)
theorem dX12_instruction_132 : decode cX12_instruction 132 = .ok (.iload_n 1, 1) := dk_27 (dk_at dksX12_instruction_5 14 rfl rfl)
theorem dX12_instruction_133 : decode cX12_instruction 133 = .ok (.invokevirtual 282, 3) := dk_182 1 26 (dk_at dksX12_instruction_5 15 rfl rfl)
theorem dX12_instruction_136 : decode cX12_instruction 136 = .ok (.istore_n 2, 1) := dk_61 (dk_at dksX12_instruction_5 18 rfl rfl)
theorem dX12_instruction_137 : decode cX12_instruction 137 = .ok (.iload_n 2, 1) := dk_28 (dk_at dksX12_instruction_5 19 rfl rfl)
theorem dX12_instruction_138 : decode cX12_instruction 138 = .ok (.aload_n 0, 1) := dk_42 (dk_at dksX12_instruction_5 20 rfl rfl)
theorem dX12_instruction_139 : decode cX12_instruction 139 = .ok (.getfield 160, 3) := dk_180 0 160 (dk_at dksX12_instruction_5 21 rfl rfl)
theorem dX12_instruction_142 : decode cX12_instruction 142 = .ok (.iadd, 1) := dk_96 (dk_at dksX12_instruction_6 0 rfl rfl)
theorem dX12_instruction_143 : decode cX12_instruction 143 = .ok (.ireturn, 1) := dk_172 (dk_at dksX12_instruction_6 1 rfl rfl)
abbrev cX12_next : ByteArray := prog_13_method_31_code
def yX12_next : MethodName := ⟨RX12, "next", "()I"⟩
def dkwX12_next_1 : List UInt8 := [172]
abbrev dktX12_next_1 : List UInt8 := dkwX12_next_1 ++ []
def dkwX12_next_0 : List UInt8 := [42, 42, 180, 0, 77, 182, 0, 228, 60, 42, 42, 180, 0, 77, 4, 96, 17, 7, 255, 126, 181, 0, 77, 27]
abbrev dktX12_next_0 : List UInt8 := dkwX12_next_0 ++ dktX12_next_1
theorem dksX12_next_0 : cX12_next.data.toList.drop 0 = dktX12_next_0 := by decide +kernel
theorem dksX12_next_1 : cX12_next.data.toList.drop 24 = dktX12_next_1 := dk_seg dksX12_next_0 24 rfl rfl
theorem dX12_next_0 : decode cX12_next 0 = .ok (.aload_n 0, 1) := dk_42 (dk_at dksX12_next_0 0 rfl rfl)
theorem dX12_next_1 : decode cX12_next 1 = .ok (.aload_n 0, 1) := dk_42 (dk_at dksX12_next_0 1 rfl rfl)
theorem dX12_next_2 : decode cX12_next 2 = .ok (.getfield 77, 3) := dk_180 0 77 (dk_at dksX12_next_0 2 rfl rfl)
theorem dX12_next_5 : decode cX12_next 5 = .ok (.invokevirtual 228, 3) := dk_182 0 228 (dk_at dksX12_next_0 5 rfl rfl)
theorem dX12_next_8 : decode cX12_next 8 = .ok (.istore_n 1, 1) := dk_60 (dk_at dksX12_next_0 8 rfl rfl)
theorem dX12_next_9 : decode cX12_next 9 = .ok (.aload_n 0, 1) := dk_42 (dk_at dksX12_next_0 9 rfl rfl)
theorem dX12_next_10 : decode cX12_next 10 = .ok (.aload_n 0, 1) := dk_42 (dk_at dksX12_next_0 10 rfl rfl)
theorem dX12_next_11 : decode cX12_next 11 = .ok (.getfield 77, 3) := dk_180 0 77 (dk_at dksX12_next_0 11 rfl rfl)
theorem dX12_next_14 : decode cX12_next 14 = .ok (.iconst 1, 1) := dk_4 (dk_at dksX12_next_0 14 rfl rfl)
theorem dX12_next_15 : decode cX12_next 15 = .ok (.iadd, 1) := dk_96 (dk_at dksX12_next_0 15 rfl rfl)
theorem dX12_next_16 : decode cX12_next 16 = .ok (.sipush 2047, 3) := dk_17 7 255 (dk_at dksX12_next_0 16 rfl rfl)
theorem dX12_next_19 : decode cX12_next 19 = .ok (.iand, 1) := dk_126 (dk_at dksX12_next_0 19 rfl rfl)
theorem dX12_next_20 : decode cX12_next 20 = .ok (.putfield 77, 3) := dk_181 0 77 (dk_at dksX12_next_0 20 rfl rfl)
theorem dX12_next_23 : decode cX12_next 23 = .ok (.iload_n 1, 1) := dk_27 (dk_at dksX12_next_0 23 rfl rfl)
theorem dX12_next_24 : decode cX12_next 24 = .ok (.ireturn, 1) := dk_172 (dk_at dksX12_next_1 0 rfl rfl)
abbrev cX12_code : ByteArray := prog_13_method_30_code
def yX12_code : MethodName := ⟨RX12, "code", "(I)I"⟩
def dkwX12_code_1 : List UInt8 := [153, 0, 8, 18, 43, 167, 0, 9, 42, 180, 0, 7, 28, 46, 172]
abbrev dktX12_code_1 : List UInt8 := dkwX12_code_1 ++ []
def dkwX12_code_0 : List UInt8 := [27, 17, 7, 255, 126, 61, 28, 17, 6, 0, 162, 0, 21, 42, 180, 0, 16, 16, 87, 46, 16, 64, 126]
abbrev dktX12_code_0 : List UInt8 := dkwX12_code_0 ++ dktX12_code_1
theorem dksX12_code_0 : cX12_code.data.toList.drop 0 = dktX12_code_0 := by decide +kernel
theorem dksX12_code_1 : cX12_code.data.toList.drop 23 = dktX12_code_1 := dk_seg dksX12_code_0 23 rfl rfl
theorem dX12_code_0 : decode cX12_code 0 = .ok (.iload_n 1, 1) := dk_27 (dk_at dksX12_code_0 0 rfl rfl)
theorem dX12_code_1 : decode cX12_code 1 = .ok (.sipush 2047, 3) := dk_17 7 255 (dk_at dksX12_code_0 1 rfl rfl)
theorem dX12_code_4 : decode cX12_code 4 = .ok (.iand, 1) := dk_126 (dk_at dksX12_code_0 4 rfl rfl)
theorem dX12_code_5 : decode cX12_code 5 = .ok (.istore_n 2, 1) := dk_61 (dk_at dksX12_code_0 5 rfl rfl)
theorem dX12_code_6 : decode cX12_code 6 = .ok (.iload_n 2, 1) := dk_28 (dk_at dksX12_code_0 6 rfl rfl)
theorem dX12_code_7 : decode cX12_code 7 = .ok (.sipush 1536, 3) := dk_17 6 0 (dk_at dksX12_code_0 7 rfl rfl)
theorem dX12_code_10 : decode cX12_code 10 = .ok (.if_icmp .ge 21, 3) := dk_162 0 21 (dk_at dksX12_code_0 10 rfl rfl)
theorem dX12_code_13 : decode cX12_code 13 = .ok (.aload_n 0, 1) := dk_42 (dk_at dksX12_code_0 13 rfl rfl)
theorem dX12_code_14 : decode cX12_code 14 = .ok (.getfield 16, 3) := dk_180 0 16 (dk_at dksX12_code_0 14 rfl rfl)
theorem dX12_code_17 : decode cX12_code 17 = .ok (.bipush 87, 2) := dk_16 87 (dk_at dksX12_code_0 17 rfl rfl)
theorem dX12_code_19 : decode cX12_code 19 = .ok (.iaload, 1) := dk_46 (dk_at dksX12_code_0 19 rfl rfl)
theorem dX12_code_20 : decode cX12_code 20 = .ok (.bipush 64, 2) := dk_16 64 (dk_at dksX12_code_0 20 rfl rfl)
theorem dX12_code_22 : decode cX12_code 22 = .ok (.iand, 1) := dk_126 (dk_at dksX12_code_0 22 rfl rfl)
theorem dX12_code_23 : decode cX12_code 23 = .ok (.ifCond .eq 8, 3) := dk_153 0 8 (dk_at dksX12_code_1 0 rfl rfl)
theorem dX12_code_26 : decode cX12_code 26 = .ok (.ldc 43, 2) := dk_18 43 (dk_at dksX12_code_1 3 rfl rfl)
theorem dX12_code_28 : decode cX12_code 28 = .ok (.goto 9, 3) := dk_167 0 9 (dk_at dksX12_code_1 5 rfl rfl)
theorem dX12_code_31 : decode cX12_code 31 = .ok (.aload_n 0, 1) := dk_42 (dk_at dksX12_code_1 8 rfl rfl)
theorem dX12_code_32 : decode cX12_code 32 = .ok (.getfield 7, 3) := dk_180 0 7 (dk_at dksX12_code_1 9 rfl rfl)
theorem dX12_code_35 : decode cX12_code 35 = .ok (.iload_n 2, 1) := dk_28 (dk_at dksX12_code_1 12 rfl rfl)
theorem dX12_code_36 : decode cX12_code 36 = .ok (.iaload, 1) := dk_46 (dk_at dksX12_code_1 13 rfl rfl)
theorem dX12_code_37 : decode cX12_code 37 = .ok (.ireturn, 1) := dk_172 (dk_at dksX12_code_1 14 rfl rfl)
abbrev cX12_ofTwo : ByteArray := prog_13_method_46_code
def yX12_ofTwo : MethodName := ⟨RX12, "ofTwo", "(I)I"⟩
def dkwX12_ofTwo_11 : List UInt8 := [79, 4, 172]
abbrev dktX12_ofTwo_11 : List UInt8 := dkwX12_ofTwo_11 ++ []
def dkwX12_ofTwo_10 : List UInt8 := [42, 180, 0, 16, 28, 42, 21, 4, 21, 5, 128, 182, 1, 46, 79, 4, 172, 42, 180, 0, 16, 28, 21, 5]
abbrev dktX12_ofTwo_10 : List UInt8 := dkwX12_ofTwo_10 ++ dktX12_ofTwo_11
def dkwX12_ofTwo_9 : List UInt8 := [126, 182, 1, 46, 79, 4, 172, 42, 180, 0, 16, 28, 42, 21, 4, 21, 5, 130, 182, 1, 46, 79, 4, 172]
abbrev dktX12_ofTwo_9 : List UInt8 := dkwX12_ofTwo_9 ++ dktX12_ofTwo_10
def dkwX12_ofTwo_8 : List UInt8 := [21, 4, 21, 5, 42, 182, 1, 32, 182, 1, 39, 79, 4, 172, 42, 180, 0, 16, 28, 42, 21, 4, 21, 5]
abbrev dktX12_ofTwo_8 : List UInt8 := dkwX12_ofTwo_8 ++ dktX12_ofTwo_9
def dkwX12_ofTwo_7 : List UInt8 := [180, 0, 16, 28, 42, 21, 4, 21, 5, 3, 3, 182, 1, 35, 79, 4, 172, 42, 180, 0, 16, 28, 42]
abbrev dktX12_ofTwo_7 : List UInt8 := dkwX12_ofTwo_7 ++ dktX12_ofTwo_8
def dkwX12_ofTwo_6 : List UInt8 := [182, 1, 43, 96, 167, 0, 4, 4, 172, 42, 21, 4, 21, 5, 3, 3, 182, 1, 35, 87, 4, 172, 42]
abbrev dktX12_ofTwo_6 : List UInt8 := dkwX12_ofTwo_6 ++ dktX12_ofTwo_7
def dkwX12_ofTwo_5 : List UInt8 := [28, 42, 21, 4, 21, 5, 3, 182, 1, 39, 79, 4, 172, 21, 4, 21, 5, 160, 0, 12, 4, 42]
abbrev dktX12_ofTwo_5 : List UInt8 := dkwX12_ofTwo_5 ++ dktX12_ofTwo_6
def dkwX12_ofTwo_4 : List UInt8 := [180, 0, 16, 28, 42, 21, 4, 21, 5, 42, 182, 1, 32, 4, 182, 1, 35, 79, 4, 172, 42, 180, 0, 16]
abbrev dktX12_ofTwo_4 : List UInt8 := dkwX12_ofTwo_4 ++ dktX12_ofTwo_5
def dkwX12_ofTwo_3 : List UInt8 := [42, 27, 182, 1, 29, 172, 42, 21, 4, 21, 5, 42, 182, 1, 32, 4, 182, 1, 35, 87, 4, 172, 42]
abbrev dktX12_ofTwo_3 : List UInt8 := dkwX12_ofTwo_3 ++ dktX12_ofTwo_4
def dkwX12_ofTwo_2 : List UInt8 := [170, 0, 0, 0, 237, 0, 0, 0, 0, 0, 0, 0, 10, 0, 0, 0, 57, 0, 0, 0, 63, 0, 0, 0, 79, 0, 0, 0, 100, 0, 0, 0, 117, 0, 0, 0, 135, 0, 0, 0, 148, 0, 0, 0, 166, 0, 0, 0, 186, 0, 0, 0, 203, 0, 0, 0, 220]
abbrev dktX12_ofTwo_2 : List UInt8 := dkwX12_ofTwo_2 ++ dktX12_ofTwo_3
def dkwX12_ofTwo_1 : List UInt8 := [46, 54, 4, 42, 180, 0, 16, 29, 46, 54, 5, 27, 16, 10, 122]
abbrev dktX12_ofTwo_1 : List UInt8 := dkwX12_ofTwo_1 ++ dktX12_ofTwo_2
def dkwX12_ofTwo_0 : List UInt8 := [27, 7, 122, 16, 31, 126, 61, 27, 16, 15, 126, 27, 8, 122, 16, 16, 126, 128, 62, 42, 180, 0, 16, 28]
abbrev dktX12_ofTwo_0 : List UInt8 := dkwX12_ofTwo_0 ++ dktX12_ofTwo_1
theorem dksX12_ofTwo_0 : cX12_ofTwo.data.toList.drop 0 = dktX12_ofTwo_0 := by decide +kernel
theorem dksX12_ofTwo_1 : cX12_ofTwo.data.toList.drop 24 = dktX12_ofTwo_1 := dk_seg dksX12_ofTwo_0 24 rfl rfl
theorem dksX12_ofTwo_2 : cX12_ofTwo.data.toList.drop 39 = dktX12_ofTwo_2 := dk_seg dksX12_ofTwo_1 15 rfl rfl
theorem dksX12_ofTwo_3 : cX12_ofTwo.data.toList.drop 96 = dktX12_ofTwo_3 := dk_seg dksX12_ofTwo_2 57 rfl rfl
theorem dksX12_ofTwo_4 : cX12_ofTwo.data.toList.drop 119 = dktX12_ofTwo_4 := dk_seg dksX12_ofTwo_3 23 rfl rfl
theorem dksX12_ofTwo_5 : cX12_ofTwo.data.toList.drop 143 = dktX12_ofTwo_5 := dk_seg dksX12_ofTwo_4 24 rfl rfl
theorem dksX12_ofTwo_6 : cX12_ofTwo.data.toList.drop 165 = dktX12_ofTwo_6 := dk_seg dksX12_ofTwo_5 22 rfl rfl
theorem dksX12_ofTwo_7 : cX12_ofTwo.data.toList.drop 188 = dktX12_ofTwo_7 := dk_seg dksX12_ofTwo_6 23 rfl rfl
theorem dksX12_ofTwo_8 : cX12_ofTwo.data.toList.drop 211 = dktX12_ofTwo_8 := dk_seg dksX12_ofTwo_7 23 rfl rfl
theorem dksX12_ofTwo_9 : cX12_ofTwo.data.toList.drop 235 = dktX12_ofTwo_9 := dk_seg dksX12_ofTwo_8 24 rfl rfl
theorem dksX12_ofTwo_10 : cX12_ofTwo.data.toList.drop 259 = dktX12_ofTwo_10 := dk_seg dksX12_ofTwo_9 24 rfl rfl
theorem dksX12_ofTwo_11 : cX12_ofTwo.data.toList.drop 283 = dktX12_ofTwo_11 := dk_seg dksX12_ofTwo_10 24 rfl rfl
theorem dX12_ofTwo_0 : decode cX12_ofTwo 0 = .ok (.iload_n 1, 1) := dk_27 (dk_at dksX12_ofTwo_0 0 rfl rfl)
theorem dX12_ofTwo_1 : decode cX12_ofTwo 1 = .ok (.iconst 4, 1) := dk_7 (dk_at dksX12_ofTwo_0 1 rfl rfl)
theorem dX12_ofTwo_2 : decode cX12_ofTwo 2 = .ok (.ishr, 1) := dk_122 (dk_at dksX12_ofTwo_0 2 rfl rfl)
theorem dX12_ofTwo_3 : decode cX12_ofTwo 3 = .ok (.bipush 31, 2) := dk_16 31 (dk_at dksX12_ofTwo_0 3 rfl rfl)
theorem dX12_ofTwo_5 : decode cX12_ofTwo 5 = .ok (.iand, 1) := dk_126 (dk_at dksX12_ofTwo_0 5 rfl rfl)
theorem dX12_ofTwo_6 : decode cX12_ofTwo 6 = .ok (.istore_n 2, 1) := dk_61 (dk_at dksX12_ofTwo_0 6 rfl rfl)
theorem dX12_ofTwo_7 : decode cX12_ofTwo 7 = .ok (.iload_n 1, 1) := dk_27 (dk_at dksX12_ofTwo_0 7 rfl rfl)
theorem dX12_ofTwo_8 : decode cX12_ofTwo 8 = .ok (.bipush 15, 2) := dk_16 15 (dk_at dksX12_ofTwo_0 8 rfl rfl)
theorem dX12_ofTwo_10 : decode cX12_ofTwo 10 = .ok (.iand, 1) := dk_126 (dk_at dksX12_ofTwo_0 10 rfl rfl)
theorem dX12_ofTwo_11 : decode cX12_ofTwo 11 = .ok (.iload_n 1, 1) := dk_27 (dk_at dksX12_ofTwo_0 11 rfl rfl)
theorem dX12_ofTwo_12 : decode cX12_ofTwo 12 = .ok (.iconst 5, 1) := dk_8 (dk_at dksX12_ofTwo_0 12 rfl rfl)
theorem dX12_ofTwo_13 : decode cX12_ofTwo 13 = .ok (.ishr, 1) := dk_122 (dk_at dksX12_ofTwo_0 13 rfl rfl)
theorem dX12_ofTwo_14 : decode cX12_ofTwo 14 = .ok (.bipush 16, 2) := dk_16 16 (dk_at dksX12_ofTwo_0 14 rfl rfl)
theorem dX12_ofTwo_16 : decode cX12_ofTwo 16 = .ok (.iand, 1) := dk_126 (dk_at dksX12_ofTwo_0 16 rfl rfl)
theorem dX12_ofTwo_17 : decode cX12_ofTwo 17 = .ok (.ior, 1) := dk_128 (dk_at dksX12_ofTwo_0 17 rfl rfl)
theorem dX12_ofTwo_18 : decode cX12_ofTwo 18 = .ok (.istore_n 3, 1) := dk_62 (dk_at dksX12_ofTwo_0 18 rfl rfl)
theorem dX12_ofTwo_19 : decode cX12_ofTwo 19 = .ok (.aload_n 0, 1) := dk_42 (dk_at dksX12_ofTwo_0 19 rfl rfl)
theorem dX12_ofTwo_20 : decode cX12_ofTwo 20 = .ok (.getfield 16, 3) := dk_180 0 16 (dk_at dksX12_ofTwo_0 20 rfl rfl)
theorem dX12_ofTwo_23 : decode cX12_ofTwo 23 = .ok (.iload_n 2, 1) := dk_28 (dk_at dksX12_ofTwo_0 23 rfl rfl)
theorem dX12_ofTwo_24 : decode cX12_ofTwo 24 = .ok (.iaload, 1) := dk_46 (dk_at dksX12_ofTwo_1 0 rfl rfl)
theorem dX12_ofTwo_25 : decode cX12_ofTwo 25 = .ok (.istore 4, 2) := dk_54 4 (dk_at dksX12_ofTwo_1 1 rfl rfl)
theorem dX12_ofTwo_27 : decode cX12_ofTwo 27 = .ok (.aload_n 0, 1) := dk_42 (dk_at dksX12_ofTwo_1 3 rfl rfl)
theorem dX12_ofTwo_28 : decode cX12_ofTwo 28 = .ok (.getfield 16, 3) := dk_180 0 16 (dk_at dksX12_ofTwo_1 4 rfl rfl)
theorem dX12_ofTwo_31 : decode cX12_ofTwo 31 = .ok (.iload_n 3, 1) := dk_29 (dk_at dksX12_ofTwo_1 7 rfl rfl)
theorem dX12_ofTwo_32 : decode cX12_ofTwo 32 = .ok (.iaload, 1) := dk_46 (dk_at dksX12_ofTwo_1 8 rfl rfl)
theorem dX12_ofTwo_33 : decode cX12_ofTwo 33 = .ok (.istore 5, 2) := dk_54 5 (dk_at dksX12_ofTwo_1 9 rfl rfl)
theorem dX12_ofTwo_35 : decode cX12_ofTwo 35 = .ok (.iload_n 1, 1) := dk_27 (dk_at dksX12_ofTwo_1 11 rfl rfl)
theorem dX12_ofTwo_36 : decode cX12_ofTwo 36 = .ok (.bipush 10, 2) := dk_16 10 (dk_at dksX12_ofTwo_1 12 rfl rfl)
theorem dX12_ofTwo_38 : decode cX12_ofTwo 38 = .ok (.ishr, 1) := dk_122 (dk_at dksX12_ofTwo_1 14 rfl rfl)
theorem dX12_ofTwo_39 : decode cX12_ofTwo 39 = .ok (.tableswitch 237 0 10 #[57, 63, 79, 100, 117, 135, 148, 166, 186, 203, 220], 57) := by decide +kernel
theorem dX12_ofTwo_96 : decode cX12_ofTwo 96 = .ok (.aload_n 0, 1) := dk_42 (dk_at dksX12_ofTwo_3 0 rfl rfl)
theorem dX12_ofTwo_97 : decode cX12_ofTwo 97 = .ok (.iload_n 1, 1) := dk_27 (dk_at dksX12_ofTwo_3 1 rfl rfl)
theorem dX12_ofTwo_98 : decode cX12_ofTwo 98 = .ok (.invokevirtual 285, 3) := dk_182 1 29 (dk_at dksX12_ofTwo_3 2 rfl rfl)
theorem dX12_ofTwo_101 : decode cX12_ofTwo 101 = .ok (.ireturn, 1) := dk_172 (dk_at dksX12_ofTwo_3 5 rfl rfl)
theorem dX12_ofTwo_102 : decode cX12_ofTwo 102 = .ok (.aload_n 0, 1) := dk_42 (dk_at dksX12_ofTwo_3 6 rfl rfl)
theorem dX12_ofTwo_103 : decode cX12_ofTwo 103 = .ok (.iload 4, 2) := dk_21 4 (dk_at dksX12_ofTwo_3 7 rfl rfl)
theorem dX12_ofTwo_105 : decode cX12_ofTwo 105 = .ok (.iload 5, 2) := dk_21 5 (dk_at dksX12_ofTwo_3 9 rfl rfl)
theorem dX12_ofTwo_107 : decode cX12_ofTwo 107 = .ok (.aload_n 0, 1) := dk_42 (dk_at dksX12_ofTwo_3 11 rfl rfl)
theorem dX12_ofTwo_108 : decode cX12_ofTwo 108 = .ok (.invokevirtual 288, 3) := dk_182 1 32 (dk_at dksX12_ofTwo_3 12 rfl rfl)
theorem dX12_ofTwo_111 : decode cX12_ofTwo 111 = .ok (.iconst 1, 1) := dk_4 (dk_at dksX12_ofTwo_3 15 rfl rfl)
theorem dX12_ofTwo_112 : decode cX12_ofTwo 112 = .ok (.invokevirtual 291, 3) := dk_182 1 35 (dk_at dksX12_ofTwo_3 16 rfl rfl)
theorem dX12_ofTwo_115 : decode cX12_ofTwo 115 = .ok (.pop, 1) := dk_87 (dk_at dksX12_ofTwo_3 19 rfl rfl)
theorem dX12_ofTwo_116 : decode cX12_ofTwo 116 = .ok (.iconst 1, 1) := dk_4 (dk_at dksX12_ofTwo_3 20 rfl rfl)
theorem dX12_ofTwo_117 : decode cX12_ofTwo 117 = .ok (.ireturn, 1) := dk_172 (dk_at dksX12_ofTwo_3 21 rfl rfl)
theorem dX12_ofTwo_118 : decode cX12_ofTwo 118 = .ok (.aload_n 0, 1) := dk_42 (dk_at dksX12_ofTwo_3 22 rfl rfl)
theorem dX12_ofTwo_119 : decode cX12_ofTwo 119 = .ok (.getfield 16, 3) := dk_180 0 16 (dk_at dksX12_ofTwo_4 0 rfl rfl)
theorem dX12_ofTwo_122 : decode cX12_ofTwo 122 = .ok (.iload_n 2, 1) := dk_28 (dk_at dksX12_ofTwo_4 3 rfl rfl)
theorem dX12_ofTwo_123 : decode cX12_ofTwo 123 = .ok (.aload_n 0, 1) := dk_42 (dk_at dksX12_ofTwo_4 4 rfl rfl)
theorem dX12_ofTwo_124 : decode cX12_ofTwo 124 = .ok (.iload 4, 2) := dk_21 4 (dk_at dksX12_ofTwo_4 5 rfl rfl)
theorem dX12_ofTwo_126 : decode cX12_ofTwo 126 = .ok (.iload 5, 2) := dk_21 5 (dk_at dksX12_ofTwo_4 7 rfl rfl)
theorem dX12_ofTwo_128 : decode cX12_ofTwo 128 = .ok (.aload_n 0, 1) := dk_42 (dk_at dksX12_ofTwo_4 9 rfl rfl)
theorem dX12_ofTwo_129 : decode cX12_ofTwo 129 = .ok (.invokevirtual 288, 3) := dk_182 1 32 (dk_at dksX12_ofTwo_4 10 rfl rfl)
theorem dX12_ofTwo_132 : decode cX12_ofTwo 132 = .ok (.iconst 1, 1) := dk_4 (dk_at dksX12_ofTwo_4 13 rfl rfl)
theorem dX12_ofTwo_133 : decode cX12_ofTwo 133 = .ok (.invokevirtual 291, 3) := dk_182 1 35 (dk_at dksX12_ofTwo_4 14 rfl rfl)
theorem dX12_ofTwo_136 : decode cX12_ofTwo 136 = .ok (.iastore, 1) := dk_79 (dk_at dksX12_ofTwo_4 17 rfl rfl)
theorem dX12_ofTwo_137 : decode cX12_ofTwo 137 = .ok (.iconst 1, 1) := dk_4 (dk_at dksX12_ofTwo_4 18 rfl rfl)
theorem dX12_ofTwo_138 : decode cX12_ofTwo 138 = .ok (.ireturn, 1) := dk_172 (dk_at dksX12_ofTwo_4 19 rfl rfl)
theorem dX12_ofTwo_139 : decode cX12_ofTwo 139 = .ok (.aload_n 0, 1) := dk_42 (dk_at dksX12_ofTwo_4 20 rfl rfl)
theorem dX12_ofTwo_140 : decode cX12_ofTwo 140 = .ok (.getfield 16, 3) := dk_180 0 16 (dk_at dksX12_ofTwo_4 21 rfl rfl)
theorem dX12_ofTwo_143 : decode cX12_ofTwo 143 = .ok (.iload_n 2, 1) := dk_28 (dk_at dksX12_ofTwo_5 0 rfl rfl)
theorem dX12_ofTwo_144 : decode cX12_ofTwo 144 = .ok (.aload_n 0, 1) := dk_42 (dk_at dksX12_ofTwo_5 1 rfl rfl)
theorem dX12_ofTwo_145 : decode cX12_ofTwo 145 = .ok (.iload 4, 2) := dk_21 4 (dk_at dksX12_ofTwo_5 2 rfl rfl)
theorem dX12_ofTwo_147 : decode cX12_ofTwo 147 = .ok (.iload 5, 2) := dk_21 5 (dk_at dksX12_ofTwo_5 4 rfl rfl)
theorem dX12_ofTwo_149 : decode cX12_ofTwo 149 = .ok (.iconst 0, 1) := dk_3 (dk_at dksX12_ofTwo_5 6 rfl rfl)
theorem dX12_ofTwo_150 : decode cX12_ofTwo 150 = .ok (.invokevirtual 295, 3) := dk_182 1 39 (dk_at dksX12_ofTwo_5 7 rfl rfl)
theorem dX12_ofTwo_153 : decode cX12_ofTwo 153 = .ok (.iastore, 1) := dk_79 (dk_at dksX12_ofTwo_5 10 rfl rfl)
theorem dX12_ofTwo_154 : decode cX12_ofTwo 154 = .ok (.iconst 1, 1) := dk_4 (dk_at dksX12_ofTwo_5 11 rfl rfl)
theorem dX12_ofTwo_155 : decode cX12_ofTwo 155 = .ok (.ireturn, 1) := dk_172 (dk_at dksX12_ofTwo_5 12 rfl rfl)
theorem dX12_ofTwo_156 : decode cX12_ofTwo 156 = .ok (.iload 4, 2) := dk_21 4 (dk_at dksX12_ofTwo_5 13 rfl rfl)
theorem dX12_ofTwo_158 : decode cX12_ofTwo 158 = .ok (.iload 5, 2) := dk_21 5 (dk_at dksX12_ofTwo_5 15 rfl rfl)
theorem dX12_ofTwo_160 : decode cX12_ofTwo 160 = .ok (.if_icmp .ne 12, 3) := dk_160 0 12 (dk_at dksX12_ofTwo_5 17 rfl rfl)
theorem dX12_ofTwo_163 : decode cX12_ofTwo 163 = .ok (.iconst 1, 1) := dk_4 (dk_at dksX12_ofTwo_5 20 rfl rfl)
theorem dX12_ofTwo_164 : decode cX12_ofTwo 164 = .ok (.aload_n 0, 1) := dk_42 (dk_at dksX12_ofTwo_5 21 rfl rfl)
theorem dX12_ofTwo_165 : decode cX12_ofTwo 165 = .ok (.invokevirtual 299, 3) := dk_182 1 43 (dk_at dksX12_ofTwo_6 0 rfl rfl)
theorem dX12_ofTwo_168 : decode cX12_ofTwo 168 = .ok (.iadd, 1) := dk_96 (dk_at dksX12_ofTwo_6 3 rfl rfl)
theorem dX12_ofTwo_169 : decode cX12_ofTwo 169 = .ok (.goto 4, 3) := dk_167 0 4 (dk_at dksX12_ofTwo_6 4 rfl rfl)
theorem dX12_ofTwo_172 : decode cX12_ofTwo 172 = .ok (.iconst 1, 1) := dk_4 (dk_at dksX12_ofTwo_6 7 rfl rfl)
theorem dX12_ofTwo_173 : decode cX12_ofTwo 173 = .ok (.ireturn, 1) := dk_172 (dk_at dksX12_ofTwo_6 8 rfl rfl)
theorem dX12_ofTwo_174 : decode cX12_ofTwo 174 = .ok (.aload_n 0, 1) := dk_42 (dk_at dksX12_ofTwo_6 9 rfl rfl)
theorem dX12_ofTwo_175 : decode cX12_ofTwo 175 = .ok (.iload 4, 2) := dk_21 4 (dk_at dksX12_ofTwo_6 10 rfl rfl)
theorem dX12_ofTwo_177 : decode cX12_ofTwo 177 = .ok (.iload 5, 2) := dk_21 5 (dk_at dksX12_ofTwo_6 12 rfl rfl)
theorem dX12_ofTwo_179 : decode cX12_ofTwo 179 = .ok (.iconst 0, 1) := dk_3 (dk_at dksX12_ofTwo_6 14 rfl rfl)
theorem dX12_ofTwo_180 : decode cX12_ofTwo 180 = .ok (.iconst 0, 1) := dk_3 (dk_at dksX12_ofTwo_6 15 rfl rfl)
theorem dX12_ofTwo_181 : decode cX12_ofTwo 181 = .ok (.invokevirtual 291, 3) := dk_182 1 35 (dk_at dksX12_ofTwo_6 16 rfl rfl)
theorem dX12_ofTwo_184 : decode cX12_ofTwo 184 = .ok (.pop, 1) := dk_87 (dk_at dksX12_ofTwo_6 19 rfl rfl)
theorem dX12_ofTwo_185 : decode cX12_ofTwo 185 = .ok (.iconst 1, 1) := dk_4 (dk_at dksX12_ofTwo_6 20 rfl rfl)
theorem dX12_ofTwo_186 : decode cX12_ofTwo 186 = .ok (.ireturn, 1) := dk_172 (dk_at dksX12_ofTwo_6 21 rfl rfl)
theorem dX12_ofTwo_187 : decode cX12_ofTwo 187 = .ok (.aload_n 0, 1) := dk_42 (dk_at dksX12_ofTwo_6 22 rfl rfl)
theorem dX12_ofTwo_188 : decode cX12_ofTwo 188 = .ok (.getfield 16, 3) := dk_180 0 16 (dk_at dksX12_ofTwo_7 0 rfl rfl)
theorem dX12_ofTwo_191 : decode cX12_ofTwo 191 = .ok (.iload_n 2, 1) := dk_28 (dk_at dksX12_ofTwo_7 3 rfl rfl)
theorem dX12_ofTwo_192 : decode cX12_ofTwo 192 = .ok (.aload_n 0, 1) := dk_42 (dk_at dksX12_ofTwo_7 4 rfl rfl)
theorem dX12_ofTwo_193 : decode cX12_ofTwo 193 = .ok (.iload 4, 2) := dk_21 4 (dk_at dksX12_ofTwo_7 5 rfl rfl)
theorem dX12_ofTwo_195 : decode cX12_ofTwo 195 = .ok (.iload 5, 2) := dk_21 5 (dk_at dksX12_ofTwo_7 7 rfl rfl)
theorem dX12_ofTwo_197 : decode cX12_ofTwo 197 = .ok (.iconst 0, 1) := dk_3 (dk_at dksX12_ofTwo_7 9 rfl rfl)
theorem dX12_ofTwo_198 : decode cX12_ofTwo 198 = .ok (.iconst 0, 1) := dk_3 (dk_at dksX12_ofTwo_7 10 rfl rfl)
theorem dX12_ofTwo_199 : decode cX12_ofTwo 199 = .ok (.invokevirtual 291, 3) := dk_182 1 35 (dk_at dksX12_ofTwo_7 11 rfl rfl)
theorem dX12_ofTwo_202 : decode cX12_ofTwo 202 = .ok (.iastore, 1) := dk_79 (dk_at dksX12_ofTwo_7 14 rfl rfl)
theorem dX12_ofTwo_203 : decode cX12_ofTwo 203 = .ok (.iconst 1, 1) := dk_4 (dk_at dksX12_ofTwo_7 15 rfl rfl)
theorem dX12_ofTwo_204 : decode cX12_ofTwo 204 = .ok (.ireturn, 1) := dk_172 (dk_at dksX12_ofTwo_7 16 rfl rfl)
theorem dX12_ofTwo_205 : decode cX12_ofTwo 205 = .ok (.aload_n 0, 1) := dk_42 (dk_at dksX12_ofTwo_7 17 rfl rfl)
theorem dX12_ofTwo_206 : decode cX12_ofTwo 206 = .ok (.getfield 16, 3) := dk_180 0 16 (dk_at dksX12_ofTwo_7 18 rfl rfl)
theorem dX12_ofTwo_209 : decode cX12_ofTwo 209 = .ok (.iload_n 2, 1) := dk_28 (dk_at dksX12_ofTwo_7 21 rfl rfl)
theorem dX12_ofTwo_210 : decode cX12_ofTwo 210 = .ok (.aload_n 0, 1) := dk_42 (dk_at dksX12_ofTwo_7 22 rfl rfl)
theorem dX12_ofTwo_211 : decode cX12_ofTwo 211 = .ok (.iload 4, 2) := dk_21 4 (dk_at dksX12_ofTwo_8 0 rfl rfl)
theorem dX12_ofTwo_213 : decode cX12_ofTwo 213 = .ok (.iload 5, 2) := dk_21 5 (dk_at dksX12_ofTwo_8 2 rfl rfl)
theorem dX12_ofTwo_215 : decode cX12_ofTwo 215 = .ok (.aload_n 0, 1) := dk_42 (dk_at dksX12_ofTwo_8 4 rfl rfl)
theorem dX12_ofTwo_216 : decode cX12_ofTwo 216 = .ok (.invokevirtual 288, 3) := dk_182 1 32 (dk_at dksX12_ofTwo_8 5 rfl rfl)
theorem dX12_ofTwo_219 : decode cX12_ofTwo 219 = .ok (.invokevirtual 295, 3) := dk_182 1 39 (dk_at dksX12_ofTwo_8 8 rfl rfl)
theorem dX12_ofTwo_222 : decode cX12_ofTwo 222 = .ok (.iastore, 1) := dk_79 (dk_at dksX12_ofTwo_8 11 rfl rfl)
theorem dX12_ofTwo_223 : decode cX12_ofTwo 223 = .ok (.iconst 1, 1) := dk_4 (dk_at dksX12_ofTwo_8 12 rfl rfl)
theorem dX12_ofTwo_224 : decode cX12_ofTwo 224 = .ok (.ireturn, 1) := dk_172 (dk_at dksX12_ofTwo_8 13 rfl rfl)
theorem dX12_ofTwo_225 : decode cX12_ofTwo 225 = .ok (.aload_n 0, 1) := dk_42 (dk_at dksX12_ofTwo_8 14 rfl rfl)
theorem dX12_ofTwo_226 : decode cX12_ofTwo 226 = .ok (.getfield 16, 3) := dk_180 0 16 (dk_at dksX12_ofTwo_8 15 rfl rfl)
theorem dX12_ofTwo_229 : decode cX12_ofTwo 229 = .ok (.iload_n 2, 1) := dk_28 (dk_at dksX12_ofTwo_8 18 rfl rfl)
theorem dX12_ofTwo_230 : decode cX12_ofTwo 230 = .ok (.aload_n 0, 1) := dk_42 (dk_at dksX12_ofTwo_8 19 rfl rfl)
theorem dX12_ofTwo_231 : decode cX12_ofTwo 231 = .ok (.iload 4, 2) := dk_21 4 (dk_at dksX12_ofTwo_8 20 rfl rfl)
theorem dX12_ofTwo_233 : decode cX12_ofTwo 233 = .ok (.iload 5, 2) := dk_21 5 (dk_at dksX12_ofTwo_8 22 rfl rfl)
theorem dX12_ofTwo_235 : decode cX12_ofTwo 235 = .ok (.iand, 1) := dk_126 (dk_at dksX12_ofTwo_9 0 rfl rfl)
theorem dX12_ofTwo_236 : decode cX12_ofTwo 236 = .ok (.invokevirtual 302, 3) := dk_182 1 46 (dk_at dksX12_ofTwo_9 1 rfl rfl)
theorem dX12_ofTwo_239 : decode cX12_ofTwo 239 = .ok (.iastore, 1) := dk_79 (dk_at dksX12_ofTwo_9 4 rfl rfl)
theorem dX12_ofTwo_240 : decode cX12_ofTwo 240 = .ok (.iconst 1, 1) := dk_4 (dk_at dksX12_ofTwo_9 5 rfl rfl)
theorem dX12_ofTwo_241 : decode cX12_ofTwo 241 = .ok (.ireturn, 1) := dk_172 (dk_at dksX12_ofTwo_9 6 rfl rfl)
theorem dX12_ofTwo_242 : decode cX12_ofTwo 242 = .ok (.aload_n 0, 1) := dk_42 (dk_at dksX12_ofTwo_9 7 rfl rfl)
theorem dX12_ofTwo_243 : decode cX12_ofTwo 243 = .ok (.getfield 16, 3) := dk_180 0 16 (dk_at dksX12_ofTwo_9 8 rfl rfl)
theorem dX12_ofTwo_246 : decode cX12_ofTwo 246 = .ok (.iload_n 2, 1) := dk_28 (dk_at dksX12_ofTwo_9 11 rfl rfl)
theorem dX12_ofTwo_247 : decode cX12_ofTwo 247 = .ok (.aload_n 0, 1) := dk_42 (dk_at dksX12_ofTwo_9 12 rfl rfl)
theorem dX12_ofTwo_248 : decode cX12_ofTwo 248 = .ok (.iload 4, 2) := dk_21 4 (dk_at dksX12_ofTwo_9 13 rfl rfl)
theorem dX12_ofTwo_250 : decode cX12_ofTwo 250 = .ok (.iload 5, 2) := dk_21 5 (dk_at dksX12_ofTwo_9 15 rfl rfl)
theorem dX12_ofTwo_252 : decode cX12_ofTwo 252 = .ok (.ixor, 1) := dk_130 (dk_at dksX12_ofTwo_9 17 rfl rfl)
theorem dX12_ofTwo_253 : decode cX12_ofTwo 253 = .ok (.invokevirtual 302, 3) := dk_182 1 46 (dk_at dksX12_ofTwo_9 18 rfl rfl)
theorem dX12_ofTwo_256 : decode cX12_ofTwo 256 = .ok (.iastore, 1) := dk_79 (dk_at dksX12_ofTwo_9 21 rfl rfl)
theorem dX12_ofTwo_257 : decode cX12_ofTwo 257 = .ok (.iconst 1, 1) := dk_4 (dk_at dksX12_ofTwo_9 22 rfl rfl)
theorem dX12_ofTwo_258 : decode cX12_ofTwo 258 = .ok (.ireturn, 1) := dk_172 (dk_at dksX12_ofTwo_9 23 rfl rfl)
theorem dX12_ofTwo_259 : decode cX12_ofTwo 259 = .ok (.aload_n 0, 1) := dk_42 (dk_at dksX12_ofTwo_10 0 rfl rfl)
theorem dX12_ofTwo_260 : decode cX12_ofTwo 260 = .ok (.getfield 16, 3) := dk_180 0 16 (dk_at dksX12_ofTwo_10 1 rfl rfl)
theorem dX12_ofTwo_263 : decode cX12_ofTwo 263 = .ok (.iload_n 2, 1) := dk_28 (dk_at dksX12_ofTwo_10 4 rfl rfl)
theorem dX12_ofTwo_264 : decode cX12_ofTwo 264 = .ok (.aload_n 0, 1) := dk_42 (dk_at dksX12_ofTwo_10 5 rfl rfl)
theorem dX12_ofTwo_265 : decode cX12_ofTwo 265 = .ok (.iload 4, 2) := dk_21 4 (dk_at dksX12_ofTwo_10 6 rfl rfl)
theorem dX12_ofTwo_267 : decode cX12_ofTwo 267 = .ok (.iload 5, 2) := dk_21 5 (dk_at dksX12_ofTwo_10 8 rfl rfl)
theorem dX12_ofTwo_269 : decode cX12_ofTwo 269 = .ok (.ior, 1) := dk_128 (dk_at dksX12_ofTwo_10 10 rfl rfl)
theorem dX12_ofTwo_270 : decode cX12_ofTwo 270 = .ok (.invokevirtual 302, 3) := dk_182 1 46 (dk_at dksX12_ofTwo_10 11 rfl rfl)
theorem dX12_ofTwo_273 : decode cX12_ofTwo 273 = .ok (.iastore, 1) := dk_79 (dk_at dksX12_ofTwo_10 14 rfl rfl)
theorem dX12_ofTwo_274 : decode cX12_ofTwo 274 = .ok (.iconst 1, 1) := dk_4 (dk_at dksX12_ofTwo_10 15 rfl rfl)
theorem dX12_ofTwo_275 : decode cX12_ofTwo 275 = .ok (.ireturn, 1) := dk_172 (dk_at dksX12_ofTwo_10 16 rfl rfl)
theorem dX12_ofTwo_276 : decode cX12_ofTwo 276 = .ok (.aload_n 0, 1) := dk_42 (dk_at dksX12_ofTwo_10 17 rfl rfl)
theorem dX12_ofTwo_277 : decode cX12_ofTwo 277 = .ok (.getfield 16, 3) := dk_180 0 16 (dk_at dksX12_ofTwo_10 18 rfl rfl)
theorem dX12_ofTwo_280 : decode cX12_ofTwo 280 = .ok (.iload_n 2, 1) := dk_28 (dk_at dksX12_ofTwo_10 21 rfl rfl)
theorem dX12_ofTwo_281 : decode cX12_ofTwo 281 = .ok (.iload 5, 2) := dk_21 5 (dk_at dksX12_ofTwo_10 22 rfl rfl)
theorem dX12_ofTwo_283 : decode cX12_ofTwo 283 = .ok (.iastore, 1) := dk_79 (dk_at dksX12_ofTwo_11 0 rfl rfl)
theorem dX12_ofTwo_284 : decode cX12_ofTwo 284 = .ok (.iconst 1, 1) := dk_4 (dk_at dksX12_ofTwo_11 1 rfl rfl)
theorem dX12_ofTwo_285 : decode cX12_ofTwo 285 = .ok (.ireturn, 1) := dk_172 (dk_at dksX12_ofTwo_11 2 rfl rfl)
abbrev cX12_moves : ByteArray := prog_13_method_47_code
def yX12_moves : MethodName := ⟨RX12, "moves", "(I)I"⟩
def dkwX12_moves_9 : List UInt8 := [182, 1, 49, 5, 172, 4, 172]
abbrev dktX12_moves_9 : List UInt8 := dkwX12_moves_9 ++ []
def dkwX12_moves_8 : List UInt8 := [160, 0, 11, 21, 7, 184, 0, 250, 167, 0, 5, 21, 7, 104, 21, 8, 153, 0, 7, 4, 167, 0, 4, 3]
abbrev dktX12_moves_8 : List UInt8 := dkwX12_moves_8 ++ dktX12_moves_9
def dkwX12_moves_7 : List UInt8 := [128, 54, 8, 42, 21, 8, 4, 160, 0, 8, 21, 6, 167, 0, 8, 21, 6, 184, 0, 250, 21, 8, 5]
abbrev dktX12_moves_7 : List UInt8 := dkwX12_moves_7 ++ dktX12_moves_8
def dkwX12_moves_6 : List UInt8 := [180, 0, 16, 16, 16, 29, 16, 7, 126, 96, 46, 54, 7, 27, 16, 6, 122, 5, 126, 27, 6, 122, 4, 126]
abbrev dktX12_moves_6 : List UInt8 := dkwX12_moves_6 ++ dktX12_moves_7
def dkwX12_moves_5 : List UInt8 := [104, 3, 182, 1, 49, 5, 172, 42, 180, 0, 16, 16, 16, 28, 16, 7, 126, 96, 46, 54, 6, 42]
abbrev dktX12_moves_5 : List UInt8 := dkwX12_moves_5 ++ dktX12_moves_6
def dkwX12_moves_4 : List UInt8 := [42, 180, 0, 16, 16, 16, 28, 96, 46, 184, 0, 250, 42, 180, 0, 16, 16, 16, 29, 96, 46, 184, 0, 250]
abbrev dktX12_moves_4 : List UInt8 := dkwX12_moves_4 ++ dktX12_moves_5
def dkwX12_moves_3 : List UInt8 := [180, 0, 16, 5, 28, 104, 21, 4, 79, 42, 180, 0, 16, 5, 28, 104, 4, 96, 21, 5, 79, 4, 172, 42]
abbrev dktX12_moves_3 : List UInt8 := dkwX12_moves_3 ++ dktX12_moves_4
def dkwX12_moves_2 : List UInt8 := [42, 180, 0, 16, 5, 29, 104, 46, 54, 4, 42, 180, 0, 16, 5, 29, 104, 4, 96, 46, 54, 5, 42]
abbrev dktX12_moves_2 : List UInt8 := dkwX12_moves_2 ++ dktX12_moves_3
def dkwX12_moves_1 : List UInt8 := [170, 0, 0, 0, 0, 0, 0, 197, 0, 0, 0, 1, 0, 0, 0, 3, 0, 0, 0, 28, 0, 0, 0, 74, 0, 0, 0, 106]
abbrev dktX12_moves_1 : List UInt8 := dkwX12_moves_1 ++ dktX12_moves_2
def dkwX12_moves_0 : List UInt8 := [27, 7, 122, 16, 15, 126, 61, 27, 16, 15, 126, 62, 27, 16, 8, 122]
abbrev dktX12_moves_0 : List UInt8 := dkwX12_moves_0 ++ dktX12_moves_1
theorem dksX12_moves_0 : cX12_moves.data.toList.drop 0 = dktX12_moves_0 := by decide +kernel
theorem dksX12_moves_1 : cX12_moves.data.toList.drop 16 = dktX12_moves_1 := dk_seg dksX12_moves_0 16 rfl rfl
theorem dksX12_moves_2 : cX12_moves.data.toList.drop 44 = dktX12_moves_2 := dk_seg dksX12_moves_1 28 rfl rfl
theorem dksX12_moves_3 : cX12_moves.data.toList.drop 67 = dktX12_moves_3 := dk_seg dksX12_moves_2 23 rfl rfl
theorem dksX12_moves_4 : cX12_moves.data.toList.drop 91 = dktX12_moves_4 := dk_seg dksX12_moves_3 24 rfl rfl
theorem dksX12_moves_5 : cX12_moves.data.toList.drop 115 = dktX12_moves_5 := dk_seg dksX12_moves_4 24 rfl rfl
theorem dksX12_moves_6 : cX12_moves.data.toList.drop 137 = dktX12_moves_6 := dk_seg dksX12_moves_5 22 rfl rfl
theorem dksX12_moves_7 : cX12_moves.data.toList.drop 161 = dktX12_moves_7 := dk_seg dksX12_moves_6 24 rfl rfl
theorem dksX12_moves_8 : cX12_moves.data.toList.drop 184 = dktX12_moves_8 := dk_seg dksX12_moves_7 23 rfl rfl
theorem dksX12_moves_9 : cX12_moves.data.toList.drop 208 = dktX12_moves_9 := dk_seg dksX12_moves_8 24 rfl rfl
theorem dX12_moves_0 : decode cX12_moves 0 = .ok (.iload_n 1, 1) := dk_27 (dk_at dksX12_moves_0 0 rfl rfl)
theorem dX12_moves_1 : decode cX12_moves 1 = .ok (.iconst 4, 1) := dk_7 (dk_at dksX12_moves_0 1 rfl rfl)
theorem dX12_moves_2 : decode cX12_moves 2 = .ok (.ishr, 1) := dk_122 (dk_at dksX12_moves_0 2 rfl rfl)
theorem dX12_moves_3 : decode cX12_moves 3 = .ok (.bipush 15, 2) := dk_16 15 (dk_at dksX12_moves_0 3 rfl rfl)
theorem dX12_moves_5 : decode cX12_moves 5 = .ok (.iand, 1) := dk_126 (dk_at dksX12_moves_0 5 rfl rfl)
theorem dX12_moves_6 : decode cX12_moves 6 = .ok (.istore_n 2, 1) := dk_61 (dk_at dksX12_moves_0 6 rfl rfl)
theorem dX12_moves_7 : decode cX12_moves 7 = .ok (.iload_n 1, 1) := dk_27 (dk_at dksX12_moves_0 7 rfl rfl)
theorem dX12_moves_8 : decode cX12_moves 8 = .ok (.bipush 15, 2) := dk_16 15 (dk_at dksX12_moves_0 8 rfl rfl)
theorem dX12_moves_10 : decode cX12_moves 10 = .ok (.iand, 1) := dk_126 (dk_at dksX12_moves_0 10 rfl rfl)
theorem dX12_moves_11 : decode cX12_moves 11 = .ok (.istore_n 3, 1) := dk_62 (dk_at dksX12_moves_0 11 rfl rfl)
theorem dX12_moves_12 : decode cX12_moves 12 = .ok (.iload_n 1, 1) := dk_27 (dk_at dksX12_moves_0 12 rfl rfl)
theorem dX12_moves_13 : decode cX12_moves 13 = .ok (.bipush 8, 2) := dk_16 8 (dk_at dksX12_moves_0 13 rfl rfl)
theorem dX12_moves_15 : decode cX12_moves 15 = .ok (.ishr, 1) := dk_122 (dk_at dksX12_moves_0 15 rfl rfl)
theorem dX12_moves_16 : decode cX12_moves 16 = .ok (.tableswitch 197 1 3 #[28, 74, 106], 28) := by decide +kernel
theorem dX12_moves_44 : decode cX12_moves 44 = .ok (.aload_n 0, 1) := dk_42 (dk_at dksX12_moves_2 0 rfl rfl)
theorem dX12_moves_45 : decode cX12_moves 45 = .ok (.getfield 16, 3) := dk_180 0 16 (dk_at dksX12_moves_2 1 rfl rfl)
theorem dX12_moves_48 : decode cX12_moves 48 = .ok (.iconst 2, 1) := dk_5 (dk_at dksX12_moves_2 4 rfl rfl)
theorem dX12_moves_49 : decode cX12_moves 49 = .ok (.iload_n 3, 1) := dk_29 (dk_at dksX12_moves_2 5 rfl rfl)
theorem dX12_moves_50 : decode cX12_moves 50 = .ok (.imul, 1) := dk_104 (dk_at dksX12_moves_2 6 rfl rfl)
theorem dX12_moves_51 : decode cX12_moves 51 = .ok (.iaload, 1) := dk_46 (dk_at dksX12_moves_2 7 rfl rfl)
theorem dX12_moves_52 : decode cX12_moves 52 = .ok (.istore 4, 2) := dk_54 4 (dk_at dksX12_moves_2 8 rfl rfl)
theorem dX12_moves_54 : decode cX12_moves 54 = .ok (.aload_n 0, 1) := dk_42 (dk_at dksX12_moves_2 10 rfl rfl)
theorem dX12_moves_55 : decode cX12_moves 55 = .ok (.getfield 16, 3) := dk_180 0 16 (dk_at dksX12_moves_2 11 rfl rfl)
theorem dX12_moves_58 : decode cX12_moves 58 = .ok (.iconst 2, 1) := dk_5 (dk_at dksX12_moves_2 14 rfl rfl)
theorem dX12_moves_59 : decode cX12_moves 59 = .ok (.iload_n 3, 1) := dk_29 (dk_at dksX12_moves_2 15 rfl rfl)
theorem dX12_moves_60 : decode cX12_moves 60 = .ok (.imul, 1) := dk_104 (dk_at dksX12_moves_2 16 rfl rfl)
theorem dX12_moves_61 : decode cX12_moves 61 = .ok (.iconst 1, 1) := dk_4 (dk_at dksX12_moves_2 17 rfl rfl)
theorem dX12_moves_62 : decode cX12_moves 62 = .ok (.iadd, 1) := dk_96 (dk_at dksX12_moves_2 18 rfl rfl)
theorem dX12_moves_63 : decode cX12_moves 63 = .ok (.iaload, 1) := dk_46 (dk_at dksX12_moves_2 19 rfl rfl)
theorem dX12_moves_64 : decode cX12_moves 64 = .ok (.istore 5, 2) := dk_54 5 (dk_at dksX12_moves_2 20 rfl rfl)
theorem dX12_moves_66 : decode cX12_moves 66 = .ok (.aload_n 0, 1) := dk_42 (dk_at dksX12_moves_2 22 rfl rfl)
theorem dX12_moves_67 : decode cX12_moves 67 = .ok (.getfield 16, 3) := dk_180 0 16 (dk_at dksX12_moves_3 0 rfl rfl)
theorem dX12_moves_70 : decode cX12_moves 70 = .ok (.iconst 2, 1) := dk_5 (dk_at dksX12_moves_3 3 rfl rfl)
theorem dX12_moves_71 : decode cX12_moves 71 = .ok (.iload_n 2, 1) := dk_28 (dk_at dksX12_moves_3 4 rfl rfl)
theorem dX12_moves_72 : decode cX12_moves 72 = .ok (.imul, 1) := dk_104 (dk_at dksX12_moves_3 5 rfl rfl)
theorem dX12_moves_73 : decode cX12_moves 73 = .ok (.iload 4, 2) := dk_21 4 (dk_at dksX12_moves_3 6 rfl rfl)
theorem dX12_moves_75 : decode cX12_moves 75 = .ok (.iastore, 1) := dk_79 (dk_at dksX12_moves_3 8 rfl rfl)
theorem dX12_moves_76 : decode cX12_moves 76 = .ok (.aload_n 0, 1) := dk_42 (dk_at dksX12_moves_3 9 rfl rfl)
theorem dX12_moves_77 : decode cX12_moves 77 = .ok (.getfield 16, 3) := dk_180 0 16 (dk_at dksX12_moves_3 10 rfl rfl)
theorem dX12_moves_80 : decode cX12_moves 80 = .ok (.iconst 2, 1) := dk_5 (dk_at dksX12_moves_3 13 rfl rfl)
theorem dX12_moves_81 : decode cX12_moves 81 = .ok (.iload_n 2, 1) := dk_28 (dk_at dksX12_moves_3 14 rfl rfl)
theorem dX12_moves_82 : decode cX12_moves 82 = .ok (.imul, 1) := dk_104 (dk_at dksX12_moves_3 15 rfl rfl)
theorem dX12_moves_83 : decode cX12_moves 83 = .ok (.iconst 1, 1) := dk_4 (dk_at dksX12_moves_3 16 rfl rfl)
theorem dX12_moves_84 : decode cX12_moves 84 = .ok (.iadd, 1) := dk_96 (dk_at dksX12_moves_3 17 rfl rfl)
theorem dX12_moves_85 : decode cX12_moves 85 = .ok (.iload 5, 2) := dk_21 5 (dk_at dksX12_moves_3 18 rfl rfl)
theorem dX12_moves_87 : decode cX12_moves 87 = .ok (.iastore, 1) := dk_79 (dk_at dksX12_moves_3 20 rfl rfl)
theorem dX12_moves_88 : decode cX12_moves 88 = .ok (.iconst 1, 1) := dk_4 (dk_at dksX12_moves_3 21 rfl rfl)
theorem dX12_moves_89 : decode cX12_moves 89 = .ok (.ireturn, 1) := dk_172 (dk_at dksX12_moves_3 22 rfl rfl)
theorem dX12_moves_90 : decode cX12_moves 90 = .ok (.aload_n 0, 1) := dk_42 (dk_at dksX12_moves_3 23 rfl rfl)
theorem dX12_moves_91 : decode cX12_moves 91 = .ok (.aload_n 0, 1) := dk_42 (dk_at dksX12_moves_4 0 rfl rfl)
theorem dX12_moves_92 : decode cX12_moves 92 = .ok (.getfield 16, 3) := dk_180 0 16 (dk_at dksX12_moves_4 1 rfl rfl)
theorem dX12_moves_95 : decode cX12_moves 95 = .ok (.bipush 16, 2) := dk_16 16 (dk_at dksX12_moves_4 4 rfl rfl)
theorem dX12_moves_97 : decode cX12_moves 97 = .ok (.iload_n 2, 1) := dk_28 (dk_at dksX12_moves_4 6 rfl rfl)
theorem dX12_moves_98 : decode cX12_moves 98 = .ok (.iadd, 1) := dk_96 (dk_at dksX12_moves_4 7 rfl rfl)
theorem dX12_moves_99 : decode cX12_moves 99 = .ok (.iaload, 1) := dk_46 (dk_at dksX12_moves_4 8 rfl rfl)
theorem dX12_moves_100 : decode cX12_moves 100 = .ok (.invokestatic 250, 3) := dk_184 0 250 (dk_at dksX12_moves_4 9 rfl rfl)
theorem dX12_moves_103 : decode cX12_moves 103 = .ok (.aload_n 0, 1) := dk_42 (dk_at dksX12_moves_4 12 rfl rfl)
theorem dX12_moves_104 : decode cX12_moves 104 = .ok (.getfield 16, 3) := dk_180 0 16 (dk_at dksX12_moves_4 13 rfl rfl)
theorem dX12_moves_107 : decode cX12_moves 107 = .ok (.bipush 16, 2) := dk_16 16 (dk_at dksX12_moves_4 16 rfl rfl)
theorem dX12_moves_109 : decode cX12_moves 109 = .ok (.iload_n 3, 1) := dk_29 (dk_at dksX12_moves_4 18 rfl rfl)
theorem dX12_moves_110 : decode cX12_moves 110 = .ok (.iadd, 1) := dk_96 (dk_at dksX12_moves_4 19 rfl rfl)
theorem dX12_moves_111 : decode cX12_moves 111 = .ok (.iaload, 1) := dk_46 (dk_at dksX12_moves_4 20 rfl rfl)
theorem dX12_moves_112 : decode cX12_moves 112 = .ok (.invokestatic 250, 3) := dk_184 0 250 (dk_at dksX12_moves_4 21 rfl rfl)
theorem dX12_moves_115 : decode cX12_moves 115 = .ok (.imul, 1) := dk_104 (dk_at dksX12_moves_5 0 rfl rfl)
theorem dX12_moves_116 : decode cX12_moves 116 = .ok (.iconst 0, 1) := dk_3 (dk_at dksX12_moves_5 1 rfl rfl)
theorem dX12_moves_117 : decode cX12_moves 117 = .ok (.invokevirtual 305, 3) := dk_182 1 49 (dk_at dksX12_moves_5 2 rfl rfl)
theorem dX12_moves_120 : decode cX12_moves 120 = .ok (.iconst 2, 1) := dk_5 (dk_at dksX12_moves_5 5 rfl rfl)
theorem dX12_moves_121 : decode cX12_moves 121 = .ok (.ireturn, 1) := dk_172 (dk_at dksX12_moves_5 6 rfl rfl)
theorem dX12_moves_122 : decode cX12_moves 122 = .ok (.aload_n 0, 1) := dk_42 (dk_at dksX12_moves_5 7 rfl rfl)
theorem dX12_moves_123 : decode cX12_moves 123 = .ok (.getfield 16, 3) := dk_180 0 16 (dk_at dksX12_moves_5 8 rfl rfl)
theorem dX12_moves_126 : decode cX12_moves 126 = .ok (.bipush 16, 2) := dk_16 16 (dk_at dksX12_moves_5 11 rfl rfl)
theorem dX12_moves_128 : decode cX12_moves 128 = .ok (.iload_n 2, 1) := dk_28 (dk_at dksX12_moves_5 13 rfl rfl)
theorem dX12_moves_129 : decode cX12_moves 129 = .ok (.bipush 7, 2) := dk_16 7 (dk_at dksX12_moves_5 14 rfl rfl)
theorem dX12_moves_131 : decode cX12_moves 131 = .ok (.iand, 1) := dk_126 (dk_at dksX12_moves_5 16 rfl rfl)
theorem dX12_moves_132 : decode cX12_moves 132 = .ok (.iadd, 1) := dk_96 (dk_at dksX12_moves_5 17 rfl rfl)
theorem dX12_moves_133 : decode cX12_moves 133 = .ok (.iaload, 1) := dk_46 (dk_at dksX12_moves_5 18 rfl rfl)
theorem dX12_moves_134 : decode cX12_moves 134 = .ok (.istore 6, 2) := dk_54 6 (dk_at dksX12_moves_5 19 rfl rfl)
theorem dX12_moves_136 : decode cX12_moves 136 = .ok (.aload_n 0, 1) := dk_42 (dk_at dksX12_moves_5 21 rfl rfl)
theorem dX12_moves_137 : decode cX12_moves 137 = .ok (.getfield 16, 3) := dk_180 0 16 (dk_at dksX12_moves_6 0 rfl rfl)
theorem dX12_moves_140 : decode cX12_moves 140 = .ok (.bipush 16, 2) := dk_16 16 (dk_at dksX12_moves_6 3 rfl rfl)
theorem dX12_moves_142 : decode cX12_moves 142 = .ok (.iload_n 3, 1) := dk_29 (dk_at dksX12_moves_6 5 rfl rfl)
theorem dX12_moves_143 : decode cX12_moves 143 = .ok (.bipush 7, 2) := dk_16 7 (dk_at dksX12_moves_6 6 rfl rfl)
theorem dX12_moves_145 : decode cX12_moves 145 = .ok (.iand, 1) := dk_126 (dk_at dksX12_moves_6 8 rfl rfl)
theorem dX12_moves_146 : decode cX12_moves 146 = .ok (.iadd, 1) := dk_96 (dk_at dksX12_moves_6 9 rfl rfl)
theorem dX12_moves_147 : decode cX12_moves 147 = .ok (.iaload, 1) := dk_46 (dk_at dksX12_moves_6 10 rfl rfl)
theorem dX12_moves_148 : decode cX12_moves 148 = .ok (.istore 7, 2) := dk_54 7 (dk_at dksX12_moves_6 11 rfl rfl)
theorem dX12_moves_150 : decode cX12_moves 150 = .ok (.iload_n 1, 1) := dk_27 (dk_at dksX12_moves_6 13 rfl rfl)
theorem dX12_moves_151 : decode cX12_moves 151 = .ok (.bipush 6, 2) := dk_16 6 (dk_at dksX12_moves_6 14 rfl rfl)
theorem dX12_moves_153 : decode cX12_moves 153 = .ok (.ishr, 1) := dk_122 (dk_at dksX12_moves_6 16 rfl rfl)
theorem dX12_moves_154 : decode cX12_moves 154 = .ok (.iconst 2, 1) := dk_5 (dk_at dksX12_moves_6 17 rfl rfl)
theorem dX12_moves_155 : decode cX12_moves 155 = .ok (.iand, 1) := dk_126 (dk_at dksX12_moves_6 18 rfl rfl)
theorem dX12_moves_156 : decode cX12_moves 156 = .ok (.iload_n 1, 1) := dk_27 (dk_at dksX12_moves_6 19 rfl rfl)
theorem dX12_moves_157 : decode cX12_moves 157 = .ok (.iconst 3, 1) := dk_6 (dk_at dksX12_moves_6 20 rfl rfl)
theorem dX12_moves_158 : decode cX12_moves 158 = .ok (.ishr, 1) := dk_122 (dk_at dksX12_moves_6 21 rfl rfl)
theorem dX12_moves_159 : decode cX12_moves 159 = .ok (.iconst 1, 1) := dk_4 (dk_at dksX12_moves_6 22 rfl rfl)
theorem dX12_moves_160 : decode cX12_moves 160 = .ok (.iand, 1) := dk_126 (dk_at dksX12_moves_6 23 rfl rfl)
theorem dX12_moves_161 : decode cX12_moves 161 = .ok (.ior, 1) := dk_128 (dk_at dksX12_moves_7 0 rfl rfl)
theorem dX12_moves_162 : decode cX12_moves 162 = .ok (.istore 8, 2) := dk_54 8 (dk_at dksX12_moves_7 1 rfl rfl)
theorem dX12_moves_164 : decode cX12_moves 164 = .ok (.aload_n 0, 1) := dk_42 (dk_at dksX12_moves_7 3 rfl rfl)
theorem dX12_moves_165 : decode cX12_moves 165 = .ok (.iload 8, 2) := dk_21 8 (dk_at dksX12_moves_7 4 rfl rfl)
theorem dX12_moves_167 : decode cX12_moves 167 = .ok (.iconst 1, 1) := dk_4 (dk_at dksX12_moves_7 6 rfl rfl)
theorem dX12_moves_168 : decode cX12_moves 168 = .ok (.if_icmp .ne 8, 3) := dk_160 0 8 (dk_at dksX12_moves_7 7 rfl rfl)
theorem dX12_moves_171 : decode cX12_moves 171 = .ok (.iload 6, 2) := dk_21 6 (dk_at dksX12_moves_7 10 rfl rfl)
theorem dX12_moves_173 : decode cX12_moves 173 = .ok (.goto 8, 3) := dk_167 0 8 (dk_at dksX12_moves_7 12 rfl rfl)
theorem dX12_moves_176 : decode cX12_moves 176 = .ok (.iload 6, 2) := dk_21 6 (dk_at dksX12_moves_7 15 rfl rfl)
theorem dX12_moves_178 : decode cX12_moves 178 = .ok (.invokestatic 250, 3) := dk_184 0 250 (dk_at dksX12_moves_7 17 rfl rfl)
theorem dX12_moves_181 : decode cX12_moves 181 = .ok (.iload 8, 2) := dk_21 8 (dk_at dksX12_moves_7 20 rfl rfl)
theorem dX12_moves_183 : decode cX12_moves 183 = .ok (.iconst 2, 1) := dk_5 (dk_at dksX12_moves_7 22 rfl rfl)
theorem dX12_moves_184 : decode cX12_moves 184 = .ok (.if_icmp .ne 11, 3) := dk_160 0 11 (dk_at dksX12_moves_8 0 rfl rfl)
theorem dX12_moves_187 : decode cX12_moves 187 = .ok (.iload 7, 2) := dk_21 7 (dk_at dksX12_moves_8 3 rfl rfl)
theorem dX12_moves_189 : decode cX12_moves 189 = .ok (.invokestatic 250, 3) := dk_184 0 250 (dk_at dksX12_moves_8 5 rfl rfl)
theorem dX12_moves_192 : decode cX12_moves 192 = .ok (.goto 5, 3) := dk_167 0 5 (dk_at dksX12_moves_8 8 rfl rfl)
theorem dX12_moves_195 : decode cX12_moves 195 = .ok (.iload 7, 2) := dk_21 7 (dk_at dksX12_moves_8 11 rfl rfl)
theorem dX12_moves_197 : decode cX12_moves 197 = .ok (.imul, 1) := dk_104 (dk_at dksX12_moves_8 13 rfl rfl)
theorem dX12_moves_198 : decode cX12_moves 198 = .ok (.iload 8, 2) := dk_21 8 (dk_at dksX12_moves_8 14 rfl rfl)
theorem dX12_moves_200 : decode cX12_moves 200 = .ok (.ifCond .eq 7, 3) := dk_153 0 7 (dk_at dksX12_moves_8 16 rfl rfl)
theorem dX12_moves_203 : decode cX12_moves 203 = .ok (.iconst 1, 1) := dk_4 (dk_at dksX12_moves_8 19 rfl rfl)
theorem dX12_moves_204 : decode cX12_moves 204 = .ok (.goto 4, 3) := dk_167 0 4 (dk_at dksX12_moves_8 20 rfl rfl)
theorem dX12_moves_207 : decode cX12_moves 207 = .ok (.iconst 0, 1) := dk_3 (dk_at dksX12_moves_8 23 rfl rfl)
theorem dX12_moves_208 : decode cX12_moves 208 = .ok (.invokevirtual 305, 3) := dk_182 1 49 (dk_at dksX12_moves_9 0 rfl rfl)
theorem dX12_moves_211 : decode cX12_moves 211 = .ok (.iconst 2, 1) := dk_5 (dk_at dksX12_moves_9 3 rfl rfl)
theorem dX12_moves_212 : decode cX12_moves 212 = .ok (.ireturn, 1) := dk_172 (dk_at dksX12_moves_9 4 rfl rfl)
theorem dX12_moves_213 : decode cX12_moves 213 = .ok (.iconst 1, 1) := dk_4 (dk_at dksX12_moves_9 5 rfl rfl)
theorem dX12_moves_214 : decode cX12_moves 214 = .ok (.ireturn, 1) := dk_172 (dk_at dksX12_moves_9 6 rfl rfl)
abbrev cX12_signed : ByteArray := prog_13_method_39_code
def yX12_signed : MethodName := ⟨RX12, "signed", "(I)I"⟩
def dkwX12_signed_0 : List UInt8 := [26, 17, 0, 128, 161, 0, 11, 26, 17, 1, 0, 100, 167, 0, 4, 26, 172]
abbrev dktX12_signed_0 : List UInt8 := dkwX12_signed_0 ++ []
theorem dksX12_signed_0 : cX12_signed.data.toList.drop 0 = dktX12_signed_0 := by decide +kernel
theorem dX12_signed_0 : decode cX12_signed 0 = .ok (.iload_n 0, 1) := dk_26 (dk_at dksX12_signed_0 0 rfl rfl)
theorem dX12_signed_1 : decode cX12_signed 1 = .ok (.sipush 128, 3) := dk_17 0 128 (dk_at dksX12_signed_0 1 rfl rfl)
theorem dX12_signed_4 : decode cX12_signed 4 = .ok (.if_icmp .lt 11, 3) := dk_161 0 11 (dk_at dksX12_signed_0 4 rfl rfl)
theorem dX12_signed_7 : decode cX12_signed 7 = .ok (.iload_n 0, 1) := dk_26 (dk_at dksX12_signed_0 7 rfl rfl)
theorem dX12_signed_8 : decode cX12_signed 8 = .ok (.sipush 256, 3) := dk_17 1 0 (dk_at dksX12_signed_0 8 rfl rfl)
theorem dX12_signed_11 : decode cX12_signed 11 = .ok (.isub, 1) := dk_100 (dk_at dksX12_signed_0 11 rfl rfl)
theorem dX12_signed_12 : decode cX12_signed 12 = .ok (.goto 4, 3) := dk_167 0 4 (dk_at dksX12_signed_0 12 rfl rfl)
theorem dX12_signed_15 : decode cX12_signed 15 = .ok (.iload_n 0, 1) := dk_26 (dk_at dksX12_signed_0 15 rfl rfl)
theorem dX12_signed_16 : decode cX12_signed 16 = .ok (.ireturn, 1) := dk_172 (dk_at dksX12_signed_0 16 rfl rfl)
abbrev cX12_product : ByteArray := prog_13_method_45_code
def yX12_product : MethodName := ⟨RX12, "product", "(IZ)V"⟩
def dkwX12_product_2 : List UInt8 := [167, 0, 4, 3, 182, 0, 172, 177]
abbrev dktX12_product_2 : List UInt8 := dkwX12_product_2 ++ []
def dkwX12_product_1 : List UInt8 := [104, 167, 0, 4, 27, 18, 43, 126, 62, 42, 3, 29, 182, 0, 238, 42, 4, 29, 154, 0, 7, 4]
abbrev dktX12_product_1 : List UInt8 := dkwX12_product_1 ++ dktX12_product_2
def dkwX12_product_0 : List UInt8 := [42, 3, 27, 19, 1, 16, 126, 153, 0, 7, 4, 167, 0, 4, 3, 182, 0, 172, 28, 153, 0, 9, 5, 27]
abbrev dktX12_product_0 : List UInt8 := dkwX12_product_0 ++ dktX12_product_1
theorem dksX12_product_0 : cX12_product.data.toList.drop 0 = dktX12_product_0 := by decide +kernel
theorem dksX12_product_1 : cX12_product.data.toList.drop 24 = dktX12_product_1 := dk_seg dksX12_product_0 24 rfl rfl
theorem dksX12_product_2 : cX12_product.data.toList.drop 46 = dktX12_product_2 := dk_seg dksX12_product_1 22 rfl rfl
theorem dX12_product_0 : decode cX12_product 0 = .ok (.aload_n 0, 1) := dk_42 (dk_at dksX12_product_0 0 rfl rfl)
theorem dX12_product_1 : decode cX12_product 1 = .ok (.iconst 0, 1) := dk_3 (dk_at dksX12_product_0 1 rfl rfl)
theorem dX12_product_2 : decode cX12_product 2 = .ok (.iload_n 1, 1) := dk_27 (dk_at dksX12_product_0 2 rfl rfl)
theorem dX12_product_3 : decode cX12_product 3 = .ok (.ldc_w 272, 3) := dk_19 1 16 (dk_at dksX12_product_0 3 rfl rfl)
theorem dX12_product_6 : decode cX12_product 6 = .ok (.iand, 1) := dk_126 (dk_at dksX12_product_0 6 rfl rfl)
theorem dX12_product_7 : decode cX12_product 7 = .ok (.ifCond .eq 7, 3) := dk_153 0 7 (dk_at dksX12_product_0 7 rfl rfl)
theorem dX12_product_10 : decode cX12_product 10 = .ok (.iconst 1, 1) := dk_4 (dk_at dksX12_product_0 10 rfl rfl)
theorem dX12_product_11 : decode cX12_product 11 = .ok (.goto 4, 3) := dk_167 0 4 (dk_at dksX12_product_0 11 rfl rfl)
theorem dX12_product_14 : decode cX12_product 14 = .ok (.iconst 0, 1) := dk_3 (dk_at dksX12_product_0 14 rfl rfl)
theorem dX12_product_15 : decode cX12_product 15 = .ok (.invokevirtual 172, 3) := dk_182 0 172 (dk_at dksX12_product_0 15 rfl rfl)
theorem dX12_product_18 : decode cX12_product 18 = .ok (.iload_n 2, 1) := dk_28 (dk_at dksX12_product_0 18 rfl rfl)
theorem dX12_product_19 : decode cX12_product 19 = .ok (.ifCond .eq 9, 3) := dk_153 0 9 (dk_at dksX12_product_0 19 rfl rfl)
theorem dX12_product_22 : decode cX12_product 22 = .ok (.iconst 2, 1) := dk_5 (dk_at dksX12_product_0 22 rfl rfl)
theorem dX12_product_23 : decode cX12_product 23 = .ok (.iload_n 1, 1) := dk_27 (dk_at dksX12_product_0 23 rfl rfl)
theorem dX12_product_24 : decode cX12_product 24 = .ok (.imul, 1) := dk_104 (dk_at dksX12_product_1 0 rfl rfl)
theorem dX12_product_25 : decode cX12_product 25 = .ok (.goto 4, 3) := dk_167 0 4 (dk_at dksX12_product_1 1 rfl rfl)
theorem dX12_product_28 : decode cX12_product 28 = .ok (.iload_n 1, 1) := dk_27 (dk_at dksX12_product_1 4 rfl rfl)
theorem dX12_product_29 : decode cX12_product 29 = .ok (.ldc 43, 2) := dk_18 43 (dk_at dksX12_product_1 5 rfl rfl)
theorem dX12_product_31 : decode cX12_product 31 = .ok (.iand, 1) := dk_126 (dk_at dksX12_product_1 7 rfl rfl)
theorem dX12_product_32 : decode cX12_product 32 = .ok (.istore_n 3, 1) := dk_62 (dk_at dksX12_product_1 8 rfl rfl)
theorem dX12_product_33 : decode cX12_product 33 = .ok (.aload_n 0, 1) := dk_42 (dk_at dksX12_product_1 9 rfl rfl)
theorem dX12_product_34 : decode cX12_product 34 = .ok (.iconst 0, 1) := dk_3 (dk_at dksX12_product_1 10 rfl rfl)
theorem dX12_product_35 : decode cX12_product 35 = .ok (.iload_n 3, 1) := dk_29 (dk_at dksX12_product_1 11 rfl rfl)
theorem dX12_product_36 : decode cX12_product 36 = .ok (.invokevirtual 238, 3) := dk_182 0 238 (dk_at dksX12_product_1 12 rfl rfl)
theorem dX12_product_39 : decode cX12_product 39 = .ok (.aload_n 0, 1) := dk_42 (dk_at dksX12_product_1 15 rfl rfl)
theorem dX12_product_40 : decode cX12_product 40 = .ok (.iconst 1, 1) := dk_4 (dk_at dksX12_product_1 16 rfl rfl)
theorem dX12_product_41 : decode cX12_product 41 = .ok (.iload_n 3, 1) := dk_29 (dk_at dksX12_product_1 17 rfl rfl)
theorem dX12_product_42 : decode cX12_product 42 = .ok (.ifCond .ne 7, 3) := dk_154 0 7 (dk_at dksX12_product_1 18 rfl rfl)
theorem dX12_product_45 : decode cX12_product 45 = .ok (.iconst 1, 1) := dk_4 (dk_at dksX12_product_1 21 rfl rfl)
theorem dX12_product_46 : decode cX12_product 46 = .ok (.goto 4, 3) := dk_167 0 4 (dk_at dksX12_product_2 0 rfl rfl)
theorem dX12_product_49 : decode cX12_product 49 = .ok (.iconst 0, 1) := dk_3 (dk_at dksX12_product_2 3 rfl rfl)
theorem dX12_product_50 : decode cX12_product 50 = .ok (.invokevirtual 172, 3) := dk_182 0 172 (dk_at dksX12_product_2 4 rfl rfl)
theorem dX12_product_53 : decode cX12_product 53 = .ok (.return_, 1) := dk_177 (dk_at dksX12_product_2 7 rfl rfl)
abbrev cX12_carry : ByteArray := prog_13_method_43_code
def yX12_carry : MethodName := ⟨RX12, "carry", "()I"⟩
def dkwX12_carry_0 : List UInt8 := [42, 180, 0, 16, 16, 95, 46, 4, 126, 172]
abbrev dktX12_carry_0 : List UInt8 := dkwX12_carry_0 ++ []
theorem dksX12_carry_0 : cX12_carry.data.toList.drop 0 = dktX12_carry_0 := by decide +kernel
theorem dX12_carry_0 : decode cX12_carry 0 = .ok (.aload_n 0, 1) := dk_42 (dk_at dksX12_carry_0 0 rfl rfl)
theorem dX12_carry_1 : decode cX12_carry 1 = .ok (.getfield 16, 3) := dk_180 0 16 (dk_at dksX12_carry_0 1 rfl rfl)
theorem dX12_carry_4 : decode cX12_carry 4 = .ok (.bipush 95, 2) := dk_16 95 (dk_at dksX12_carry_0 4 rfl rfl)
theorem dX12_carry_6 : decode cX12_carry 6 = .ok (.iaload, 1) := dk_46 (dk_at dksX12_carry_0 6 rfl rfl)
theorem dX12_carry_7 : decode cX12_carry 7 = .ok (.iconst 1, 1) := dk_4 (dk_at dksX12_carry_0 7 rfl rfl)
theorem dX12_carry_8 : decode cX12_carry 8 = .ok (.iand, 1) := dk_126 (dk_at dksX12_carry_0 8 rfl rfl)
theorem dX12_carry_9 : decode cX12_carry 9 = .ok (.ireturn, 1) := dk_172 (dk_at dksX12_carry_0 9 rfl rfl)
abbrev cX12_subtract : ByteArray := prog_13_method_41_code
def yX12_subtract : MethodName := ⟨RX12, "subtract", "(IIIZ)I"⟩
def dkwX12_subtract_5 : List UInt8 := [153, 0, 7, 4, 167, 0, 4, 3, 182, 0, 172, 21, 6, 172]
abbrev dktX12_subtract_5 : List UInt8 := dkwX12_subtract_5 ++ []
def dkwX12_subtract_4 : List UInt8 := [182, 0, 172, 42, 21, 6, 182, 0, 253, 21, 4, 153, 0, 23, 42, 4, 21, 6, 154, 0, 12, 21, 5]
abbrev dktX12_subtract_4 : List UInt8 := dkwX12_subtract_4 ++ dktX12_subtract_5
def dkwX12_subtract_3 : List UInt8 := [182, 0, 172, 42, 6, 21, 7, 16, 128, 161, 0, 10, 21, 7, 16, 127, 164, 0, 7, 4, 167, 0, 4, 3]
abbrev dktX12_subtract_3 : List UInt8 := dkwX12_subtract_3 ++ dktX12_subtract_4
def dkwX12_subtract_2 : List UInt8 := [4, 167, 0, 4, 3, 182, 0, 172, 42, 3, 27, 28, 100, 29, 100, 156, 0, 7, 4, 167, 0, 4, 3]
abbrev dktX12_subtract_2 : List UInt8 := dkwX12_subtract_2 ++ dktX12_subtract_3
def dkwX12_subtract_1 : List UInt8 := [184, 0, 250, 100, 29, 100, 54, 7, 42, 8, 27, 16, 15, 126, 28, 16, 15, 126, 100, 29, 100, 156, 0, 7]
abbrev dktX12_subtract_1 : List UInt8 := dkwX12_subtract_1 ++ dktX12_subtract_2
def dkwX12_subtract_0 : List UInt8 := [42, 4, 182, 0, 163, 54, 5, 27, 28, 100, 29, 100, 17, 0, 255, 126, 54, 6, 27, 184, 0, 250, 28]
abbrev dktX12_subtract_0 : List UInt8 := dkwX12_subtract_0 ++ dktX12_subtract_1
theorem dksX12_subtract_0 : cX12_subtract.data.toList.drop 0 = dktX12_subtract_0 := by decide +kernel
theorem dksX12_subtract_1 : cX12_subtract.data.toList.drop 23 = dktX12_subtract_1 := dk_seg dksX12_subtract_0 23 rfl rfl
theorem dksX12_subtract_2 : cX12_subtract.data.toList.drop 47 = dktX12_subtract_2 := dk_seg dksX12_subtract_1 24 rfl rfl
theorem dksX12_subtract_3 : cX12_subtract.data.toList.drop 70 = dktX12_subtract_3 := dk_seg dksX12_subtract_2 23 rfl rfl
theorem dksX12_subtract_4 : cX12_subtract.data.toList.drop 94 = dktX12_subtract_4 := dk_seg dksX12_subtract_3 24 rfl rfl
theorem dksX12_subtract_5 : cX12_subtract.data.toList.drop 117 = dktX12_subtract_5 := dk_seg dksX12_subtract_4 23 rfl rfl
theorem dX12_subtract_0 : decode cX12_subtract 0 = .ok (.aload_n 0, 1) := dk_42 (dk_at dksX12_subtract_0 0 rfl rfl)
theorem dX12_subtract_1 : decode cX12_subtract 1 = .ok (.iconst 1, 1) := dk_4 (dk_at dksX12_subtract_0 1 rfl rfl)
theorem dX12_subtract_2 : decode cX12_subtract 2 = .ok (.invokevirtual 163, 3) := dk_182 0 163 (dk_at dksX12_subtract_0 2 rfl rfl)
theorem dX12_subtract_5 : decode cX12_subtract 5 = .ok (.istore 5, 2) := dk_54 5 (dk_at dksX12_subtract_0 5 rfl rfl)
theorem dX12_subtract_7 : decode cX12_subtract 7 = .ok (.iload_n 1, 1) := dk_27 (dk_at dksX12_subtract_0 7 rfl rfl)
theorem dX12_subtract_8 : decode cX12_subtract 8 = .ok (.iload_n 2, 1) := dk_28 (dk_at dksX12_subtract_0 8 rfl rfl)
theorem dX12_subtract_9 : decode cX12_subtract 9 = .ok (.isub, 1) := dk_100 (dk_at dksX12_subtract_0 9 rfl rfl)
theorem dX12_subtract_10 : decode cX12_subtract 10 = .ok (.iload_n 3, 1) := dk_29 (dk_at dksX12_subtract_0 10 rfl rfl)
theorem dX12_subtract_11 : decode cX12_subtract 11 = .ok (.isub, 1) := dk_100 (dk_at dksX12_subtract_0 11 rfl rfl)
theorem dX12_subtract_12 : decode cX12_subtract 12 = .ok (.sipush 255, 3) := dk_17 0 255 (dk_at dksX12_subtract_0 12 rfl rfl)
theorem dX12_subtract_15 : decode cX12_subtract 15 = .ok (.iand, 1) := dk_126 (dk_at dksX12_subtract_0 15 rfl rfl)
theorem dX12_subtract_16 : decode cX12_subtract 16 = .ok (.istore 6, 2) := dk_54 6 (dk_at dksX12_subtract_0 16 rfl rfl)
theorem dX12_subtract_18 : decode cX12_subtract 18 = .ok (.iload_n 1, 1) := dk_27 (dk_at dksX12_subtract_0 18 rfl rfl)
theorem dX12_subtract_19 : decode cX12_subtract 19 = .ok (.invokestatic 250, 3) := dk_184 0 250 (dk_at dksX12_subtract_0 19 rfl rfl)
theorem dX12_subtract_22 : decode cX12_subtract 22 = .ok (.iload_n 2, 1) := dk_28 (dk_at dksX12_subtract_0 22 rfl rfl)
theorem dX12_subtract_23 : decode cX12_subtract 23 = .ok (.invokestatic 250, 3) := dk_184 0 250 (dk_at dksX12_subtract_1 0 rfl rfl)
theorem dX12_subtract_26 : decode cX12_subtract 26 = .ok (.isub, 1) := dk_100 (dk_at dksX12_subtract_1 3 rfl rfl)
theorem dX12_subtract_27 : decode cX12_subtract 27 = .ok (.iload_n 3, 1) := dk_29 (dk_at dksX12_subtract_1 4 rfl rfl)
theorem dX12_subtract_28 : decode cX12_subtract 28 = .ok (.isub, 1) := dk_100 (dk_at dksX12_subtract_1 5 rfl rfl)
theorem dX12_subtract_29 : decode cX12_subtract 29 = .ok (.istore 7, 2) := dk_54 7 (dk_at dksX12_subtract_1 6 rfl rfl)
theorem dX12_subtract_31 : decode cX12_subtract 31 = .ok (.aload_n 0, 1) := dk_42 (dk_at dksX12_subtract_1 8 rfl rfl)
theorem dX12_subtract_32 : decode cX12_subtract 32 = .ok (.iconst 5, 1) := dk_8 (dk_at dksX12_subtract_1 9 rfl rfl)
theorem dX12_subtract_33 : decode cX12_subtract 33 = .ok (.iload_n 1, 1) := dk_27 (dk_at dksX12_subtract_1 10 rfl rfl)
theorem dX12_subtract_34 : decode cX12_subtract 34 = .ok (.bipush 15, 2) := dk_16 15 (dk_at dksX12_subtract_1 11 rfl rfl)
theorem dX12_subtract_36 : decode cX12_subtract 36 = .ok (.iand, 1) := dk_126 (dk_at dksX12_subtract_1 13 rfl rfl)
theorem dX12_subtract_37 : decode cX12_subtract 37 = .ok (.iload_n 2, 1) := dk_28 (dk_at dksX12_subtract_1 14 rfl rfl)
theorem dX12_subtract_38 : decode cX12_subtract 38 = .ok (.bipush 15, 2) := dk_16 15 (dk_at dksX12_subtract_1 15 rfl rfl)
theorem dX12_subtract_40 : decode cX12_subtract 40 = .ok (.iand, 1) := dk_126 (dk_at dksX12_subtract_1 17 rfl rfl)
theorem dX12_subtract_41 : decode cX12_subtract 41 = .ok (.isub, 1) := dk_100 (dk_at dksX12_subtract_1 18 rfl rfl)
theorem dX12_subtract_42 : decode cX12_subtract 42 = .ok (.iload_n 3, 1) := dk_29 (dk_at dksX12_subtract_1 19 rfl rfl)
theorem dX12_subtract_43 : decode cX12_subtract 43 = .ok (.isub, 1) := dk_100 (dk_at dksX12_subtract_1 20 rfl rfl)
theorem dX12_subtract_44 : decode cX12_subtract 44 = .ok (.ifCond .ge 7, 3) := dk_156 0 7 (dk_at dksX12_subtract_1 21 rfl rfl)
theorem dX12_subtract_47 : decode cX12_subtract 47 = .ok (.iconst 1, 1) := dk_4 (dk_at dksX12_subtract_2 0 rfl rfl)
theorem dX12_subtract_48 : decode cX12_subtract 48 = .ok (.goto 4, 3) := dk_167 0 4 (dk_at dksX12_subtract_2 1 rfl rfl)
theorem dX12_subtract_51 : decode cX12_subtract 51 = .ok (.iconst 0, 1) := dk_3 (dk_at dksX12_subtract_2 4 rfl rfl)
theorem dX12_subtract_52 : decode cX12_subtract 52 = .ok (.invokevirtual 172, 3) := dk_182 0 172 (dk_at dksX12_subtract_2 5 rfl rfl)
theorem dX12_subtract_55 : decode cX12_subtract 55 = .ok (.aload_n 0, 1) := dk_42 (dk_at dksX12_subtract_2 8 rfl rfl)
theorem dX12_subtract_56 : decode cX12_subtract 56 = .ok (.iconst 0, 1) := dk_3 (dk_at dksX12_subtract_2 9 rfl rfl)
theorem dX12_subtract_57 : decode cX12_subtract 57 = .ok (.iload_n 1, 1) := dk_27 (dk_at dksX12_subtract_2 10 rfl rfl)
theorem dX12_subtract_58 : decode cX12_subtract 58 = .ok (.iload_n 2, 1) := dk_28 (dk_at dksX12_subtract_2 11 rfl rfl)
theorem dX12_subtract_59 : decode cX12_subtract 59 = .ok (.isub, 1) := dk_100 (dk_at dksX12_subtract_2 12 rfl rfl)
theorem dX12_subtract_60 : decode cX12_subtract 60 = .ok (.iload_n 3, 1) := dk_29 (dk_at dksX12_subtract_2 13 rfl rfl)
theorem dX12_subtract_61 : decode cX12_subtract 61 = .ok (.isub, 1) := dk_100 (dk_at dksX12_subtract_2 14 rfl rfl)
theorem dX12_subtract_62 : decode cX12_subtract 62 = .ok (.ifCond .ge 7, 3) := dk_156 0 7 (dk_at dksX12_subtract_2 15 rfl rfl)
theorem dX12_subtract_65 : decode cX12_subtract 65 = .ok (.iconst 1, 1) := dk_4 (dk_at dksX12_subtract_2 18 rfl rfl)
theorem dX12_subtract_66 : decode cX12_subtract 66 = .ok (.goto 4, 3) := dk_167 0 4 (dk_at dksX12_subtract_2 19 rfl rfl)
theorem dX12_subtract_69 : decode cX12_subtract 69 = .ok (.iconst 0, 1) := dk_3 (dk_at dksX12_subtract_2 22 rfl rfl)
theorem dX12_subtract_70 : decode cX12_subtract 70 = .ok (.invokevirtual 172, 3) := dk_182 0 172 (dk_at dksX12_subtract_3 0 rfl rfl)
theorem dX12_subtract_73 : decode cX12_subtract 73 = .ok (.aload_n 0, 1) := dk_42 (dk_at dksX12_subtract_3 3 rfl rfl)
theorem dX12_subtract_74 : decode cX12_subtract 74 = .ok (.iconst 3, 1) := dk_6 (dk_at dksX12_subtract_3 4 rfl rfl)
theorem dX12_subtract_75 : decode cX12_subtract 75 = .ok (.iload 7, 2) := dk_21 7 (dk_at dksX12_subtract_3 5 rfl rfl)
theorem dX12_subtract_77 : decode cX12_subtract 77 = .ok (.bipush (-128), 2) := dk_16 128 (dk_at dksX12_subtract_3 7 rfl rfl)
theorem dX12_subtract_79 : decode cX12_subtract 79 = .ok (.if_icmp .lt 10, 3) := dk_161 0 10 (dk_at dksX12_subtract_3 9 rfl rfl)
theorem dX12_subtract_82 : decode cX12_subtract 82 = .ok (.iload 7, 2) := dk_21 7 (dk_at dksX12_subtract_3 12 rfl rfl)
theorem dX12_subtract_84 : decode cX12_subtract 84 = .ok (.bipush 127, 2) := dk_16 127 (dk_at dksX12_subtract_3 14 rfl rfl)
theorem dX12_subtract_86 : decode cX12_subtract 86 = .ok (.if_icmp .le 7, 3) := dk_164 0 7 (dk_at dksX12_subtract_3 16 rfl rfl)
theorem dX12_subtract_89 : decode cX12_subtract 89 = .ok (.iconst 1, 1) := dk_4 (dk_at dksX12_subtract_3 19 rfl rfl)
theorem dX12_subtract_90 : decode cX12_subtract 90 = .ok (.goto 4, 3) := dk_167 0 4 (dk_at dksX12_subtract_3 20 rfl rfl)
theorem dX12_subtract_93 : decode cX12_subtract 93 = .ok (.iconst 0, 1) := dk_3 (dk_at dksX12_subtract_3 23 rfl rfl)
theorem dX12_subtract_94 : decode cX12_subtract 94 = .ok (.invokevirtual 172, 3) := dk_182 0 172 (dk_at dksX12_subtract_4 0 rfl rfl)
theorem dX12_subtract_97 : decode cX12_subtract 97 = .ok (.aload_n 0, 1) := dk_42 (dk_at dksX12_subtract_4 3 rfl rfl)
theorem dX12_subtract_98 : decode cX12_subtract 98 = .ok (.iload 6, 2) := dk_21 6 (dk_at dksX12_subtract_4 4 rfl rfl)
theorem dX12_subtract_100 : decode cX12_subtract 100 = .ok (.invokevirtual 253, 3) := dk_182 0 253 (dk_at dksX12_subtract_4 6 rfl rfl)
theorem dX12_subtract_103 : decode cX12_subtract 103 = .ok (.iload 4, 2) := dk_21 4 (dk_at dksX12_subtract_4 9 rfl rfl)
theorem dX12_subtract_105 : decode cX12_subtract 105 = .ok (.ifCond .eq 23, 3) := dk_153 0 23 (dk_at dksX12_subtract_4 11 rfl rfl)
theorem dX12_subtract_108 : decode cX12_subtract 108 = .ok (.aload_n 0, 1) := dk_42 (dk_at dksX12_subtract_4 14 rfl rfl)
theorem dX12_subtract_109 : decode cX12_subtract 109 = .ok (.iconst 1, 1) := dk_4 (dk_at dksX12_subtract_4 15 rfl rfl)
theorem dX12_subtract_110 : decode cX12_subtract 110 = .ok (.iload 6, 2) := dk_21 6 (dk_at dksX12_subtract_4 16 rfl rfl)
theorem dX12_subtract_112 : decode cX12_subtract 112 = .ok (.ifCond .ne 12, 3) := dk_154 0 12 (dk_at dksX12_subtract_4 18 rfl rfl)
theorem dX12_subtract_115 : decode cX12_subtract 115 = .ok (.iload 5, 2) := dk_21 5 (dk_at dksX12_subtract_4 21 rfl rfl)
theorem dX12_subtract_117 : decode cX12_subtract 117 = .ok (.ifCond .eq 7, 3) := dk_153 0 7 (dk_at dksX12_subtract_5 0 rfl rfl)
theorem dX12_subtract_120 : decode cX12_subtract 120 = .ok (.iconst 1, 1) := dk_4 (dk_at dksX12_subtract_5 3 rfl rfl)
theorem dX12_subtract_121 : decode cX12_subtract 121 = .ok (.goto 4, 3) := dk_167 0 4 (dk_at dksX12_subtract_5 4 rfl rfl)
theorem dX12_subtract_124 : decode cX12_subtract 124 = .ok (.iconst 0, 1) := dk_3 (dk_at dksX12_subtract_5 7 rfl rfl)
theorem dX12_subtract_125 : decode cX12_subtract 125 = .ok (.invokevirtual 172, 3) := dk_182 0 172 (dk_at dksX12_subtract_5 8 rfl rfl)
theorem dX12_subtract_128 : decode cX12_subtract 128 = .ok (.iload 6, 2) := dk_21 6 (dk_at dksX12_subtract_5 11 rfl rfl)
theorem dX12_subtract_130 : decode cX12_subtract 130 = .ok (.ireturn, 1) := dk_172 (dk_at dksX12_subtract_5 13 rfl rfl)
abbrev cX12_zero : ByteArray := prog_13_method_38_code
def yX12_zero : MethodName := ⟨RX12, "zero", "(I)V"⟩
def dkwX12_zero_2 : List UInt8 := [167, 0, 4, 3, 182, 0, 172, 177]
abbrev dktX12_zero_2 : List UInt8 := dkwX12_zero_2 ++ []
def dkwX12_zero_1 : List UInt8 := [167, 0, 4, 3, 182, 0, 172, 42, 7, 42, 5, 182, 0, 163, 42, 6, 182, 0, 163, 159, 0, 7, 4]
abbrev dktX12_zero_1 : List UInt8 := dkwX12_zero_1 ++ dktX12_zero_2
def dkwX12_zero_0 : List UInt8 := [42, 5, 27, 17, 0, 128, 161, 0, 7, 4, 167, 0, 4, 3, 182, 0, 172, 42, 4, 27, 154, 0, 7, 4]
abbrev dktX12_zero_0 : List UInt8 := dkwX12_zero_0 ++ dktX12_zero_1
theorem dksX12_zero_0 : cX12_zero.data.toList.drop 0 = dktX12_zero_0 := by decide +kernel
theorem dksX12_zero_1 : cX12_zero.data.toList.drop 24 = dktX12_zero_1 := dk_seg dksX12_zero_0 24 rfl rfl
theorem dksX12_zero_2 : cX12_zero.data.toList.drop 47 = dktX12_zero_2 := dk_seg dksX12_zero_1 23 rfl rfl
theorem dX12_zero_0 : decode cX12_zero 0 = .ok (.aload_n 0, 1) := dk_42 (dk_at dksX12_zero_0 0 rfl rfl)
theorem dX12_zero_1 : decode cX12_zero 1 = .ok (.iconst 2, 1) := dk_5 (dk_at dksX12_zero_0 1 rfl rfl)
theorem dX12_zero_2 : decode cX12_zero 2 = .ok (.iload_n 1, 1) := dk_27 (dk_at dksX12_zero_0 2 rfl rfl)
theorem dX12_zero_3 : decode cX12_zero 3 = .ok (.sipush 128, 3) := dk_17 0 128 (dk_at dksX12_zero_0 3 rfl rfl)
theorem dX12_zero_6 : decode cX12_zero 6 = .ok (.if_icmp .lt 7, 3) := dk_161 0 7 (dk_at dksX12_zero_0 6 rfl rfl)
theorem dX12_zero_9 : decode cX12_zero 9 = .ok (.iconst 1, 1) := dk_4 (dk_at dksX12_zero_0 9 rfl rfl)
theorem dX12_zero_10 : decode cX12_zero 10 = .ok (.goto 4, 3) := dk_167 0 4 (dk_at dksX12_zero_0 10 rfl rfl)
theorem dX12_zero_13 : decode cX12_zero 13 = .ok (.iconst 0, 1) := dk_3 (dk_at dksX12_zero_0 13 rfl rfl)
theorem dX12_zero_14 : decode cX12_zero 14 = .ok (.invokevirtual 172, 3) := dk_182 0 172 (dk_at dksX12_zero_0 14 rfl rfl)
theorem dX12_zero_17 : decode cX12_zero 17 = .ok (.aload_n 0, 1) := dk_42 (dk_at dksX12_zero_0 17 rfl rfl)
theorem dX12_zero_18 : decode cX12_zero 18 = .ok (.iconst 1, 1) := dk_4 (dk_at dksX12_zero_0 18 rfl rfl)
theorem dX12_zero_19 : decode cX12_zero 19 = .ok (.iload_n 1, 1) := dk_27 (dk_at dksX12_zero_0 19 rfl rfl)
theorem dX12_zero_20 : decode cX12_zero 20 = .ok (.ifCond .ne 7, 3) := dk_154 0 7 (dk_at dksX12_zero_0 20 rfl rfl)
theorem dX12_zero_23 : decode cX12_zero 23 = .ok (.iconst 1, 1) := dk_4 (dk_at dksX12_zero_0 23 rfl rfl)
theorem dX12_zero_24 : decode cX12_zero 24 = .ok (.goto 4, 3) := dk_167 0 4 (dk_at dksX12_zero_1 0 rfl rfl)
theorem dX12_zero_27 : decode cX12_zero 27 = .ok (.iconst 0, 1) := dk_3 (dk_at dksX12_zero_1 3 rfl rfl)
theorem dX12_zero_28 : decode cX12_zero 28 = .ok (.invokevirtual 172, 3) := dk_182 0 172 (dk_at dksX12_zero_1 4 rfl rfl)
theorem dX12_zero_31 : decode cX12_zero 31 = .ok (.aload_n 0, 1) := dk_42 (dk_at dksX12_zero_1 7 rfl rfl)
theorem dX12_zero_32 : decode cX12_zero 32 = .ok (.iconst 4, 1) := dk_7 (dk_at dksX12_zero_1 8 rfl rfl)
theorem dX12_zero_33 : decode cX12_zero 33 = .ok (.aload_n 0, 1) := dk_42 (dk_at dksX12_zero_1 9 rfl rfl)
theorem dX12_zero_34 : decode cX12_zero 34 = .ok (.iconst 2, 1) := dk_5 (dk_at dksX12_zero_1 10 rfl rfl)
theorem dX12_zero_35 : decode cX12_zero 35 = .ok (.invokevirtual 163, 3) := dk_182 0 163 (dk_at dksX12_zero_1 11 rfl rfl)
theorem dX12_zero_38 : decode cX12_zero 38 = .ok (.aload_n 0, 1) := dk_42 (dk_at dksX12_zero_1 14 rfl rfl)
theorem dX12_zero_39 : decode cX12_zero 39 = .ok (.iconst 3, 1) := dk_6 (dk_at dksX12_zero_1 15 rfl rfl)
theorem dX12_zero_40 : decode cX12_zero 40 = .ok (.invokevirtual 163, 3) := dk_182 0 163 (dk_at dksX12_zero_1 16 rfl rfl)
theorem dX12_zero_43 : decode cX12_zero 43 = .ok (.if_icmp .eq 7, 3) := dk_159 0 7 (dk_at dksX12_zero_1 19 rfl rfl)
theorem dX12_zero_46 : decode cX12_zero 46 = .ok (.iconst 1, 1) := dk_4 (dk_at dksX12_zero_1 22 rfl rfl)
theorem dX12_zero_47 : decode cX12_zero 47 = .ok (.goto 4, 3) := dk_167 0 4 (dk_at dksX12_zero_2 0 rfl rfl)
theorem dX12_zero_50 : decode cX12_zero 50 = .ok (.iconst 0, 1) := dk_3 (dk_at dksX12_zero_2 3 rfl rfl)
theorem dX12_zero_51 : decode cX12_zero 51 = .ok (.invokevirtual 172, 3) := dk_182 0 172 (dk_at dksX12_zero_2 4 rfl rfl)
theorem dX12_zero_54 : decode cX12_zero 54 = .ok (.return_, 1) := dk_177 (dk_at dksX12_zero_2 7 rfl rfl)
abbrev cX12_add : ByteArray := prog_13_method_40_code
def yX12_add : MethodName := ⟨RX12, "add", "(III)I"⟩
def dkwX12_add_4 : List UInt8 := [42, 21, 4, 182, 0, 253, 21, 4, 172]
abbrev dktX12_add_4 : List UInt8 := dkwX12_add_4 ++ []
def dkwX12_add_3 : List UInt8 := [42, 6, 21, 5, 16, 128, 161, 0, 10, 21, 5, 16, 127, 164, 0, 7, 4, 167, 0, 4, 3, 182, 0, 172]
abbrev dktX12_add_3 : List UInt8 := dkwX12_add_3 ++ dktX12_add_4
def dkwX12_add_2 : List UInt8 := [182, 0, 172, 42, 3, 27, 28, 96, 29, 96, 17, 0, 255, 164, 0, 7, 4, 167, 0, 4, 3, 182, 0, 172]
abbrev dktX12_add_2 : List UInt8 := dkwX12_add_2 ++ dktX12_add_3
def dkwX12_add_1 : List UInt8 := [42, 8, 27, 16, 15, 126, 28, 16, 15, 126, 96, 29, 96, 16, 15, 164, 0, 7, 4, 167, 0, 4, 3]
abbrev dktX12_add_1 : List UInt8 := dkwX12_add_1 ++ dktX12_add_2
def dkwX12_add_0 : List UInt8 := [27, 28, 96, 29, 96, 17, 0, 255, 126, 54, 4, 27, 184, 0, 250, 28, 184, 0, 250, 96, 29, 96, 54, 5]
abbrev dktX12_add_0 : List UInt8 := dkwX12_add_0 ++ dktX12_add_1
theorem dksX12_add_0 : cX12_add.data.toList.drop 0 = dktX12_add_0 := by decide +kernel
theorem dksX12_add_1 : cX12_add.data.toList.drop 24 = dktX12_add_1 := dk_seg dksX12_add_0 24 rfl rfl
theorem dksX12_add_2 : cX12_add.data.toList.drop 47 = dktX12_add_2 := dk_seg dksX12_add_1 23 rfl rfl
theorem dksX12_add_3 : cX12_add.data.toList.drop 71 = dktX12_add_3 := dk_seg dksX12_add_2 24 rfl rfl
theorem dksX12_add_4 : cX12_add.data.toList.drop 95 = dktX12_add_4 := dk_seg dksX12_add_3 24 rfl rfl
theorem dX12_add_0 : decode cX12_add 0 = .ok (.iload_n 1, 1) := dk_27 (dk_at dksX12_add_0 0 rfl rfl)
theorem dX12_add_1 : decode cX12_add 1 = .ok (.iload_n 2, 1) := dk_28 (dk_at dksX12_add_0 1 rfl rfl)
theorem dX12_add_2 : decode cX12_add 2 = .ok (.iadd, 1) := dk_96 (dk_at dksX12_add_0 2 rfl rfl)
theorem dX12_add_3 : decode cX12_add 3 = .ok (.iload_n 3, 1) := dk_29 (dk_at dksX12_add_0 3 rfl rfl)
theorem dX12_add_4 : decode cX12_add 4 = .ok (.iadd, 1) := dk_96 (dk_at dksX12_add_0 4 rfl rfl)
theorem dX12_add_5 : decode cX12_add 5 = .ok (.sipush 255, 3) := dk_17 0 255 (dk_at dksX12_add_0 5 rfl rfl)
theorem dX12_add_8 : decode cX12_add 8 = .ok (.iand, 1) := dk_126 (dk_at dksX12_add_0 8 rfl rfl)
theorem dX12_add_9 : decode cX12_add 9 = .ok (.istore 4, 2) := dk_54 4 (dk_at dksX12_add_0 9 rfl rfl)
theorem dX12_add_11 : decode cX12_add 11 = .ok (.iload_n 1, 1) := dk_27 (dk_at dksX12_add_0 11 rfl rfl)
theorem dX12_add_12 : decode cX12_add 12 = .ok (.invokestatic 250, 3) := dk_184 0 250 (dk_at dksX12_add_0 12 rfl rfl)
theorem dX12_add_15 : decode cX12_add 15 = .ok (.iload_n 2, 1) := dk_28 (dk_at dksX12_add_0 15 rfl rfl)
theorem dX12_add_16 : decode cX12_add 16 = .ok (.invokestatic 250, 3) := dk_184 0 250 (dk_at dksX12_add_0 16 rfl rfl)
theorem dX12_add_19 : decode cX12_add 19 = .ok (.iadd, 1) := dk_96 (dk_at dksX12_add_0 19 rfl rfl)
theorem dX12_add_20 : decode cX12_add 20 = .ok (.iload_n 3, 1) := dk_29 (dk_at dksX12_add_0 20 rfl rfl)
theorem dX12_add_21 : decode cX12_add 21 = .ok (.iadd, 1) := dk_96 (dk_at dksX12_add_0 21 rfl rfl)
theorem dX12_add_22 : decode cX12_add 22 = .ok (.istore 5, 2) := dk_54 5 (dk_at dksX12_add_0 22 rfl rfl)
theorem dX12_add_24 : decode cX12_add 24 = .ok (.aload_n 0, 1) := dk_42 (dk_at dksX12_add_1 0 rfl rfl)
theorem dX12_add_25 : decode cX12_add 25 = .ok (.iconst 5, 1) := dk_8 (dk_at dksX12_add_1 1 rfl rfl)
theorem dX12_add_26 : decode cX12_add 26 = .ok (.iload_n 1, 1) := dk_27 (dk_at dksX12_add_1 2 rfl rfl)
theorem dX12_add_27 : decode cX12_add 27 = .ok (.bipush 15, 2) := dk_16 15 (dk_at dksX12_add_1 3 rfl rfl)
theorem dX12_add_29 : decode cX12_add 29 = .ok (.iand, 1) := dk_126 (dk_at dksX12_add_1 5 rfl rfl)
theorem dX12_add_30 : decode cX12_add 30 = .ok (.iload_n 2, 1) := dk_28 (dk_at dksX12_add_1 6 rfl rfl)
theorem dX12_add_31 : decode cX12_add 31 = .ok (.bipush 15, 2) := dk_16 15 (dk_at dksX12_add_1 7 rfl rfl)
theorem dX12_add_33 : decode cX12_add 33 = .ok (.iand, 1) := dk_126 (dk_at dksX12_add_1 9 rfl rfl)
theorem dX12_add_34 : decode cX12_add 34 = .ok (.iadd, 1) := dk_96 (dk_at dksX12_add_1 10 rfl rfl)
theorem dX12_add_35 : decode cX12_add 35 = .ok (.iload_n 3, 1) := dk_29 (dk_at dksX12_add_1 11 rfl rfl)
theorem dX12_add_36 : decode cX12_add 36 = .ok (.iadd, 1) := dk_96 (dk_at dksX12_add_1 12 rfl rfl)
theorem dX12_add_37 : decode cX12_add 37 = .ok (.bipush 15, 2) := dk_16 15 (dk_at dksX12_add_1 13 rfl rfl)
theorem dX12_add_39 : decode cX12_add 39 = .ok (.if_icmp .le 7, 3) := dk_164 0 7 (dk_at dksX12_add_1 15 rfl rfl)
theorem dX12_add_42 : decode cX12_add 42 = .ok (.iconst 1, 1) := dk_4 (dk_at dksX12_add_1 18 rfl rfl)
theorem dX12_add_43 : decode cX12_add 43 = .ok (.goto 4, 3) := dk_167 0 4 (dk_at dksX12_add_1 19 rfl rfl)
theorem dX12_add_46 : decode cX12_add 46 = .ok (.iconst 0, 1) := dk_3 (dk_at dksX12_add_1 22 rfl rfl)
theorem dX12_add_47 : decode cX12_add 47 = .ok (.invokevirtual 172, 3) := dk_182 0 172 (dk_at dksX12_add_2 0 rfl rfl)
theorem dX12_add_50 : decode cX12_add 50 = .ok (.aload_n 0, 1) := dk_42 (dk_at dksX12_add_2 3 rfl rfl)
theorem dX12_add_51 : decode cX12_add 51 = .ok (.iconst 0, 1) := dk_3 (dk_at dksX12_add_2 4 rfl rfl)
theorem dX12_add_52 : decode cX12_add 52 = .ok (.iload_n 1, 1) := dk_27 (dk_at dksX12_add_2 5 rfl rfl)
theorem dX12_add_53 : decode cX12_add 53 = .ok (.iload_n 2, 1) := dk_28 (dk_at dksX12_add_2 6 rfl rfl)
theorem dX12_add_54 : decode cX12_add 54 = .ok (.iadd, 1) := dk_96 (dk_at dksX12_add_2 7 rfl rfl)
theorem dX12_add_55 : decode cX12_add 55 = .ok (.iload_n 3, 1) := dk_29 (dk_at dksX12_add_2 8 rfl rfl)
theorem dX12_add_56 : decode cX12_add 56 = .ok (.iadd, 1) := dk_96 (dk_at dksX12_add_2 9 rfl rfl)
theorem dX12_add_57 : decode cX12_add 57 = .ok (.sipush 255, 3) := dk_17 0 255 (dk_at dksX12_add_2 10 rfl rfl)
theorem dX12_add_60 : decode cX12_add 60 = .ok (.if_icmp .le 7, 3) := dk_164 0 7 (dk_at dksX12_add_2 13 rfl rfl)
theorem dX12_add_63 : decode cX12_add 63 = .ok (.iconst 1, 1) := dk_4 (dk_at dksX12_add_2 16 rfl rfl)
theorem dX12_add_64 : decode cX12_add 64 = .ok (.goto 4, 3) := dk_167 0 4 (dk_at dksX12_add_2 17 rfl rfl)
theorem dX12_add_67 : decode cX12_add 67 = .ok (.iconst 0, 1) := dk_3 (dk_at dksX12_add_2 20 rfl rfl)
theorem dX12_add_68 : decode cX12_add 68 = .ok (.invokevirtual 172, 3) := dk_182 0 172 (dk_at dksX12_add_2 21 rfl rfl)
theorem dX12_add_71 : decode cX12_add 71 = .ok (.aload_n 0, 1) := dk_42 (dk_at dksX12_add_3 0 rfl rfl)
theorem dX12_add_72 : decode cX12_add 72 = .ok (.iconst 3, 1) := dk_6 (dk_at dksX12_add_3 1 rfl rfl)
theorem dX12_add_73 : decode cX12_add 73 = .ok (.iload 5, 2) := dk_21 5 (dk_at dksX12_add_3 2 rfl rfl)
theorem dX12_add_75 : decode cX12_add 75 = .ok (.bipush (-128), 2) := dk_16 128 (dk_at dksX12_add_3 4 rfl rfl)
theorem dX12_add_77 : decode cX12_add 77 = .ok (.if_icmp .lt 10, 3) := dk_161 0 10 (dk_at dksX12_add_3 6 rfl rfl)
theorem dX12_add_80 : decode cX12_add 80 = .ok (.iload 5, 2) := dk_21 5 (dk_at dksX12_add_3 9 rfl rfl)
theorem dX12_add_82 : decode cX12_add 82 = .ok (.bipush 127, 2) := dk_16 127 (dk_at dksX12_add_3 11 rfl rfl)
theorem dX12_add_84 : decode cX12_add 84 = .ok (.if_icmp .le 7, 3) := dk_164 0 7 (dk_at dksX12_add_3 13 rfl rfl)
theorem dX12_add_87 : decode cX12_add 87 = .ok (.iconst 1, 1) := dk_4 (dk_at dksX12_add_3 16 rfl rfl)
theorem dX12_add_88 : decode cX12_add 88 = .ok (.goto 4, 3) := dk_167 0 4 (dk_at dksX12_add_3 17 rfl rfl)
theorem dX12_add_91 : decode cX12_add 91 = .ok (.iconst 0, 1) := dk_3 (dk_at dksX12_add_3 20 rfl rfl)
theorem dX12_add_92 : decode cX12_add 92 = .ok (.invokevirtual 172, 3) := dk_182 0 172 (dk_at dksX12_add_3 21 rfl rfl)
theorem dX12_add_95 : decode cX12_add 95 = .ok (.aload_n 0, 1) := dk_42 (dk_at dksX12_add_4 0 rfl rfl)
theorem dX12_add_96 : decode cX12_add 96 = .ok (.iload 4, 2) := dk_21 4 (dk_at dksX12_add_4 1 rfl rfl)
theorem dX12_add_98 : decode cX12_add 98 = .ok (.invokevirtual 253, 3) := dk_182 0 253 (dk_at dksX12_add_4 3 rfl rfl)
theorem dX12_add_101 : decode cX12_add 101 = .ok (.iload 4, 2) := dk_21 4 (dk_at dksX12_add_4 6 rfl rfl)
theorem dX12_add_103 : decode cX12_add 103 = .ok (.ireturn, 1) := dk_172 (dk_at dksX12_add_4 8 rfl rfl)
abbrev cX12_skips : ByteArray := prog_13_method_48_code
def yX12_skips : MethodName := ⟨RX12, "skips", "()I"⟩
def dkwX12_skips_1 : List UInt8 := [159, 0, 5, 4, 172, 42, 182, 1, 3, 87, 5, 172]
abbrev dktX12_skips_1 : List UInt8 := dkwX12_skips_1 ++ []
def dkwX12_skips_0 : List UInt8 := [42, 182, 1, 3, 60, 27, 19, 1, 52, 126, 19, 1, 53, 159, 0, 16, 27, 19, 1, 54, 126, 19, 1, 55]
abbrev dktX12_skips_0 : List UInt8 := dkwX12_skips_0 ++ dktX12_skips_1
theorem dksX12_skips_0 : cX12_skips.data.toList.drop 0 = dktX12_skips_0 := by decide +kernel
theorem dksX12_skips_1 : cX12_skips.data.toList.drop 24 = dktX12_skips_1 := dk_seg dksX12_skips_0 24 rfl rfl
theorem dX12_skips_0 : decode cX12_skips 0 = .ok (.aload_n 0, 1) := dk_42 (dk_at dksX12_skips_0 0 rfl rfl)
theorem dX12_skips_1 : decode cX12_skips 1 = .ok (.invokevirtual 259, 3) := dk_182 1 3 (dk_at dksX12_skips_0 1 rfl rfl)
theorem dX12_skips_4 : decode cX12_skips 4 = .ok (.istore_n 1, 1) := dk_60 (dk_at dksX12_skips_0 4 rfl rfl)
theorem dX12_skips_5 : decode cX12_skips 5 = .ok (.iload_n 1, 1) := dk_27 (dk_at dksX12_skips_0 5 rfl rfl)
theorem dX12_skips_6 : decode cX12_skips 6 = .ok (.ldc_w 308, 3) := dk_19 1 52 (dk_at dksX12_skips_0 6 rfl rfl)
theorem dX12_skips_9 : decode cX12_skips 9 = .ok (.iand, 1) := dk_126 (dk_at dksX12_skips_0 9 rfl rfl)
theorem dX12_skips_10 : decode cX12_skips 10 = .ok (.ldc_w 309, 3) := dk_19 1 53 (dk_at dksX12_skips_0 10 rfl rfl)
theorem dX12_skips_13 : decode cX12_skips 13 = .ok (.if_icmp .eq 16, 3) := dk_159 0 16 (dk_at dksX12_skips_0 13 rfl rfl)
theorem dX12_skips_16 : decode cX12_skips 16 = .ok (.iload_n 1, 1) := dk_27 (dk_at dksX12_skips_0 16 rfl rfl)
theorem dX12_skips_17 : decode cX12_skips 17 = .ok (.ldc_w 310, 3) := dk_19 1 54 (dk_at dksX12_skips_0 17 rfl rfl)
theorem dX12_skips_20 : decode cX12_skips 20 = .ok (.iand, 1) := dk_126 (dk_at dksX12_skips_0 20 rfl rfl)
theorem dX12_skips_21 : decode cX12_skips 21 = .ok (.ldc_w 311, 3) := dk_19 1 55 (dk_at dksX12_skips_0 21 rfl rfl)
theorem dX12_skips_24 : decode cX12_skips 24 = .ok (.if_icmp .eq 5, 3) := dk_159 0 5 (dk_at dksX12_skips_1 0 rfl rfl)
theorem dX12_skips_27 : decode cX12_skips 27 = .ok (.iconst 1, 1) := dk_4 (dk_at dksX12_skips_1 3 rfl rfl)
theorem dX12_skips_28 : decode cX12_skips 28 = .ok (.ireturn, 1) := dk_172 (dk_at dksX12_skips_1 4 rfl rfl)
theorem dX12_skips_29 : decode cX12_skips 29 = .ok (.aload_n 0, 1) := dk_42 (dk_at dksX12_skips_1 5 rfl rfl)
theorem dX12_skips_30 : decode cX12_skips 30 = .ok (.invokevirtual 259, 3) := dk_182 1 3 (dk_at dksX12_skips_1 6 rfl rfl)
theorem dX12_skips_33 : decode cX12_skips 33 = .ok (.pop, 1) := dk_87 (dk_at dksX12_skips_1 9 rfl rfl)
theorem dX12_skips_34 : decode cX12_skips 34 = .ok (.iconst 2, 1) := dk_5 (dk_at dksX12_skips_1 10 rfl rfl)
theorem dX12_skips_35 : decode cX12_skips 35 = .ok (.ireturn, 1) := dk_172 (dk_at dksX12_skips_1 11 rfl rfl)
abbrev cX12_logic : ByteArray := prog_13_method_42_code
def yX12_logic : MethodName := ⟨RX12, "logic", "(I)I"⟩
def dkwX12_logic_0 : List UInt8 := [42, 6, 3, 182, 0, 172, 42, 27, 182, 0, 253, 27, 172]
abbrev dktX12_logic_0 : List UInt8 := dkwX12_logic_0 ++ []
theorem dksX12_logic_0 : cX12_logic.data.toList.drop 0 = dktX12_logic_0 := by decide +kernel
theorem dX12_logic_0 : decode cX12_logic 0 = .ok (.aload_n 0, 1) := dk_42 (dk_at dksX12_logic_0 0 rfl rfl)
theorem dX12_logic_1 : decode cX12_logic 1 = .ok (.iconst 3, 1) := dk_6 (dk_at dksX12_logic_0 1 rfl rfl)
theorem dX12_logic_2 : decode cX12_logic 2 = .ok (.iconst 0, 1) := dk_3 (dk_at dksX12_logic_0 2 rfl rfl)
theorem dX12_logic_3 : decode cX12_logic 3 = .ok (.invokevirtual 172, 3) := dk_182 0 172 (dk_at dksX12_logic_0 3 rfl rfl)
theorem dX12_logic_6 : decode cX12_logic 6 = .ok (.aload_n 0, 1) := dk_42 (dk_at dksX12_logic_0 6 rfl rfl)
theorem dX12_logic_7 : decode cX12_logic 7 = .ok (.iload_n 1, 1) := dk_27 (dk_at dksX12_logic_0 7 rfl rfl)
theorem dX12_logic_8 : decode cX12_logic 8 = .ok (.invokevirtual 253, 3) := dk_182 0 253 (dk_at dksX12_logic_0 8 rfl rfl)
theorem dX12_logic_11 : decode cX12_logic 11 = .ok (.iload_n 1, 1) := dk_27 (dk_at dksX12_logic_0 11 rfl rfl)
theorem dX12_logic_12 : decode cX12_logic 12 = .ok (.ireturn, 1) := dk_172 (dk_at dksX12_logic_0 12 rfl rfl)
abbrev cX12_ofNumber : ByteArray := prog_13_method_49_code
def yX12_ofNumber : MethodName := ⟨RX12, "ofNumber", "(I)I"⟩
def dkwX12_ofNumber_7 : List UInt8 := [4, 172]
abbrev dktX12_ofNumber_7 : List UInt8 := dkwX12_ofNumber_7 ++ []
def dkwX12_ofNumber_6 : List UInt8 := [42, 180, 0, 16, 28, 42, 21, 4, 29, 126, 182, 1, 46, 79, 167, 0, 10, 42, 180, 0, 16, 28, 29, 79]
abbrev dktX12_ofNumber_6 : List UInt8 := dkwX12_ofNumber_6 ++ dktX12_ofNumber_7
def dkwX12_ofNumber_5 : List UInt8 := [182, 1, 35, 79, 167, 0, 44, 42, 180, 0, 16, 28, 42, 21, 4, 29, 128, 182, 1, 46, 79, 167, 0, 27]
abbrev dktX12_ofNumber_5 : List UInt8 := dkwX12_ofNumber_5 ++ dktX12_ofNumber_6
def dkwX12_ofNumber_4 : List UInt8 := [182, 1, 32, 4, 182, 1, 35, 79, 167, 0, 62, 42, 180, 0, 16, 28, 42, 21, 4, 29, 3, 3]
abbrev dktX12_ofNumber_4 : List UInt8 := dkwX12_ofNumber_4 ++ dktX12_ofNumber_5
def dkwX12_ofNumber_3 : List UInt8 := [42, 21, 4, 29, 3, 3, 182, 1, 35, 87, 167, 0, 83, 42, 180, 0, 16, 28, 42, 21, 4, 29, 42]
abbrev dktX12_ofNumber_3 : List UInt8 := dkwX12_ofNumber_3 ++ dktX12_ofNumber_4
def dkwX12_ofNumber_2 : List UInt8 := [170, 0, 0, 0, 119, 0, 0, 0, 3, 0, 0, 0, 7, 0, 0, 0, 33, 0, 0, 0, 46, 0, 0, 0, 67, 0, 0, 0, 85, 0, 0, 0, 102]
abbrev dktX12_ofNumber_2 : List UInt8 := dkwX12_ofNumber_2 ++ dktX12_ofNumber_3
def dkwX12_ofNumber_1 : List UInt8 := [180, 0, 16, 28, 46, 54, 4, 27, 16, 12, 122]
abbrev dktX12_ofNumber_1 : List UInt8 := dkwX12_ofNumber_1 ++ dktX12_ofNumber_2
def dkwX12_ofNumber_0 : List UInt8 := [16, 16, 27, 7, 122, 16, 15, 126, 96, 61, 27, 16, 15, 126, 27, 7, 122, 17, 0, 240, 126, 128, 62, 42]
abbrev dktX12_ofNumber_0 : List UInt8 := dkwX12_ofNumber_0 ++ dktX12_ofNumber_1
theorem dksX12_ofNumber_0 : cX12_ofNumber.data.toList.drop 0 = dktX12_ofNumber_0 := by decide +kernel
theorem dksX12_ofNumber_1 : cX12_ofNumber.data.toList.drop 24 = dktX12_ofNumber_1 := dk_seg dksX12_ofNumber_0 24 rfl rfl
theorem dksX12_ofNumber_2 : cX12_ofNumber.data.toList.drop 35 = dktX12_ofNumber_2 := dk_seg dksX12_ofNumber_1 11 rfl rfl
theorem dksX12_ofNumber_3 : cX12_ofNumber.data.toList.drop 68 = dktX12_ofNumber_3 := dk_seg dksX12_ofNumber_2 33 rfl rfl
theorem dksX12_ofNumber_4 : cX12_ofNumber.data.toList.drop 91 = dktX12_ofNumber_4 := dk_seg dksX12_ofNumber_3 23 rfl rfl
theorem dksX12_ofNumber_5 : cX12_ofNumber.data.toList.drop 113 = dktX12_ofNumber_5 := dk_seg dksX12_ofNumber_4 22 rfl rfl
theorem dksX12_ofNumber_6 : cX12_ofNumber.data.toList.drop 137 = dktX12_ofNumber_6 := dk_seg dksX12_ofNumber_5 24 rfl rfl
theorem dksX12_ofNumber_7 : cX12_ofNumber.data.toList.drop 161 = dktX12_ofNumber_7 := dk_seg dksX12_ofNumber_6 24 rfl rfl
theorem dX12_ofNumber_0 : decode cX12_ofNumber 0 = .ok (.bipush 16, 2) := dk_16 16 (dk_at dksX12_ofNumber_0 0 rfl rfl)
theorem dX12_ofNumber_2 : decode cX12_ofNumber 2 = .ok (.iload_n 1, 1) := dk_27 (dk_at dksX12_ofNumber_0 2 rfl rfl)
theorem dX12_ofNumber_3 : decode cX12_ofNumber 3 = .ok (.iconst 4, 1) := dk_7 (dk_at dksX12_ofNumber_0 3 rfl rfl)
theorem dX12_ofNumber_4 : decode cX12_ofNumber 4 = .ok (.ishr, 1) := dk_122 (dk_at dksX12_ofNumber_0 4 rfl rfl)
theorem dX12_ofNumber_5 : decode cX12_ofNumber 5 = .ok (.bipush 15, 2) := dk_16 15 (dk_at dksX12_ofNumber_0 5 rfl rfl)
theorem dX12_ofNumber_7 : decode cX12_ofNumber 7 = .ok (.iand, 1) := dk_126 (dk_at dksX12_ofNumber_0 7 rfl rfl)
theorem dX12_ofNumber_8 : decode cX12_ofNumber 8 = .ok (.iadd, 1) := dk_96 (dk_at dksX12_ofNumber_0 8 rfl rfl)
theorem dX12_ofNumber_9 : decode cX12_ofNumber 9 = .ok (.istore_n 2, 1) := dk_61 (dk_at dksX12_ofNumber_0 9 rfl rfl)
theorem dX12_ofNumber_10 : decode cX12_ofNumber 10 = .ok (.iload_n 1, 1) := dk_27 (dk_at dksX12_ofNumber_0 10 rfl rfl)
theorem dX12_ofNumber_11 : decode cX12_ofNumber 11 = .ok (.bipush 15, 2) := dk_16 15 (dk_at dksX12_ofNumber_0 11 rfl rfl)
theorem dX12_ofNumber_13 : decode cX12_ofNumber 13 = .ok (.iand, 1) := dk_126 (dk_at dksX12_ofNumber_0 13 rfl rfl)
theorem dX12_ofNumber_14 : decode cX12_ofNumber 14 = .ok (.iload_n 1, 1) := dk_27 (dk_at dksX12_ofNumber_0 14 rfl rfl)
theorem dX12_ofNumber_15 : decode cX12_ofNumber 15 = .ok (.iconst 4, 1) := dk_7 (dk_at dksX12_ofNumber_0 15 rfl rfl)
theorem dX12_ofNumber_16 : decode cX12_ofNumber 16 = .ok (.ishr, 1) := dk_122 (dk_at dksX12_ofNumber_0 16 rfl rfl)
theorem dX12_ofNumber_17 : decode cX12_ofNumber 17 = .ok (.sipush 240, 3) := dk_17 0 240 (dk_at dksX12_ofNumber_0 17 rfl rfl)
theorem dX12_ofNumber_20 : decode cX12_ofNumber 20 = .ok (.iand, 1) := dk_126 (dk_at dksX12_ofNumber_0 20 rfl rfl)
theorem dX12_ofNumber_21 : decode cX12_ofNumber 21 = .ok (.ior, 1) := dk_128 (dk_at dksX12_ofNumber_0 21 rfl rfl)
theorem dX12_ofNumber_22 : decode cX12_ofNumber 22 = .ok (.istore_n 3, 1) := dk_62 (dk_at dksX12_ofNumber_0 22 rfl rfl)
theorem dX12_ofNumber_23 : decode cX12_ofNumber 23 = .ok (.aload_n 0, 1) := dk_42 (dk_at dksX12_ofNumber_0 23 rfl rfl)
theorem dX12_ofNumber_24 : decode cX12_ofNumber 24 = .ok (.getfield 16, 3) := dk_180 0 16 (dk_at dksX12_ofNumber_1 0 rfl rfl)
theorem dX12_ofNumber_27 : decode cX12_ofNumber 27 = .ok (.iload_n 2, 1) := dk_28 (dk_at dksX12_ofNumber_1 3 rfl rfl)
theorem dX12_ofNumber_28 : decode cX12_ofNumber 28 = .ok (.iaload, 1) := dk_46 (dk_at dksX12_ofNumber_1 4 rfl rfl)
theorem dX12_ofNumber_29 : decode cX12_ofNumber 29 = .ok (.istore 4, 2) := dk_54 4 (dk_at dksX12_ofNumber_1 5 rfl rfl)
theorem dX12_ofNumber_31 : decode cX12_ofNumber 31 = .ok (.iload_n 1, 1) := dk_27 (dk_at dksX12_ofNumber_1 7 rfl rfl)
theorem dX12_ofNumber_32 : decode cX12_ofNumber 32 = .ok (.bipush 12, 2) := dk_16 12 (dk_at dksX12_ofNumber_1 8 rfl rfl)
theorem dX12_ofNumber_34 : decode cX12_ofNumber 34 = .ok (.ishr, 1) := dk_122 (dk_at dksX12_ofNumber_1 10 rfl rfl)
theorem dX12_ofNumber_35 : decode cX12_ofNumber 35 = .ok (.tableswitch 119 3 7 #[33, 46, 67, 85, 102], 33) := by decide +kernel
theorem dX12_ofNumber_68 : decode cX12_ofNumber 68 = .ok (.aload_n 0, 1) := dk_42 (dk_at dksX12_ofNumber_3 0 rfl rfl)
theorem dX12_ofNumber_69 : decode cX12_ofNumber 69 = .ok (.iload 4, 2) := dk_21 4 (dk_at dksX12_ofNumber_3 1 rfl rfl)
theorem dX12_ofNumber_71 : decode cX12_ofNumber 71 = .ok (.iload_n 3, 1) := dk_29 (dk_at dksX12_ofNumber_3 3 rfl rfl)
theorem dX12_ofNumber_72 : decode cX12_ofNumber 72 = .ok (.iconst 0, 1) := dk_3 (dk_at dksX12_ofNumber_3 4 rfl rfl)
theorem dX12_ofNumber_73 : decode cX12_ofNumber 73 = .ok (.iconst 0, 1) := dk_3 (dk_at dksX12_ofNumber_3 5 rfl rfl)
theorem dX12_ofNumber_74 : decode cX12_ofNumber 74 = .ok (.invokevirtual 291, 3) := dk_182 1 35 (dk_at dksX12_ofNumber_3 6 rfl rfl)
theorem dX12_ofNumber_77 : decode cX12_ofNumber 77 = .ok (.pop, 1) := dk_87 (dk_at dksX12_ofNumber_3 9 rfl rfl)
theorem dX12_ofNumber_78 : decode cX12_ofNumber 78 = .ok (.goto 83, 3) := dk_167 0 83 (dk_at dksX12_ofNumber_3 10 rfl rfl)
theorem dX12_ofNumber_81 : decode cX12_ofNumber 81 = .ok (.aload_n 0, 1) := dk_42 (dk_at dksX12_ofNumber_3 13 rfl rfl)
theorem dX12_ofNumber_82 : decode cX12_ofNumber 82 = .ok (.getfield 16, 3) := dk_180 0 16 (dk_at dksX12_ofNumber_3 14 rfl rfl)
theorem dX12_ofNumber_85 : decode cX12_ofNumber 85 = .ok (.iload_n 2, 1) := dk_28 (dk_at dksX12_ofNumber_3 17 rfl rfl)
theorem dX12_ofNumber_86 : decode cX12_ofNumber 86 = .ok (.aload_n 0, 1) := dk_42 (dk_at dksX12_ofNumber_3 18 rfl rfl)
theorem dX12_ofNumber_87 : decode cX12_ofNumber 87 = .ok (.iload 4, 2) := dk_21 4 (dk_at dksX12_ofNumber_3 19 rfl rfl)
theorem dX12_ofNumber_89 : decode cX12_ofNumber 89 = .ok (.iload_n 3, 1) := dk_29 (dk_at dksX12_ofNumber_3 21 rfl rfl)
theorem dX12_ofNumber_90 : decode cX12_ofNumber 90 = .ok (.aload_n 0, 1) := dk_42 (dk_at dksX12_ofNumber_3 22 rfl rfl)
theorem dX12_ofNumber_91 : decode cX12_ofNumber 91 = .ok (.invokevirtual 288, 3) := dk_182 1 32 (dk_at dksX12_ofNumber_4 0 rfl rfl)
theorem dX12_ofNumber_94 : decode cX12_ofNumber 94 = .ok (.iconst 1, 1) := dk_4 (dk_at dksX12_ofNumber_4 3 rfl rfl)
theorem dX12_ofNumber_95 : decode cX12_ofNumber 95 = .ok (.invokevirtual 291, 3) := dk_182 1 35 (dk_at dksX12_ofNumber_4 4 rfl rfl)
theorem dX12_ofNumber_98 : decode cX12_ofNumber 98 = .ok (.iastore, 1) := dk_79 (dk_at dksX12_ofNumber_4 7 rfl rfl)
theorem dX12_ofNumber_99 : decode cX12_ofNumber 99 = .ok (.goto 62, 3) := dk_167 0 62 (dk_at dksX12_ofNumber_4 8 rfl rfl)
theorem dX12_ofNumber_102 : decode cX12_ofNumber 102 = .ok (.aload_n 0, 1) := dk_42 (dk_at dksX12_ofNumber_4 11 rfl rfl)
theorem dX12_ofNumber_103 : decode cX12_ofNumber 103 = .ok (.getfield 16, 3) := dk_180 0 16 (dk_at dksX12_ofNumber_4 12 rfl rfl)
theorem dX12_ofNumber_106 : decode cX12_ofNumber 106 = .ok (.iload_n 2, 1) := dk_28 (dk_at dksX12_ofNumber_4 15 rfl rfl)
theorem dX12_ofNumber_107 : decode cX12_ofNumber 107 = .ok (.aload_n 0, 1) := dk_42 (dk_at dksX12_ofNumber_4 16 rfl rfl)
theorem dX12_ofNumber_108 : decode cX12_ofNumber 108 = .ok (.iload 4, 2) := dk_21 4 (dk_at dksX12_ofNumber_4 17 rfl rfl)
theorem dX12_ofNumber_110 : decode cX12_ofNumber 110 = .ok (.iload_n 3, 1) := dk_29 (dk_at dksX12_ofNumber_4 19 rfl rfl)
theorem dX12_ofNumber_111 : decode cX12_ofNumber 111 = .ok (.iconst 0, 1) := dk_3 (dk_at dksX12_ofNumber_4 20 rfl rfl)
theorem dX12_ofNumber_112 : decode cX12_ofNumber 112 = .ok (.iconst 0, 1) := dk_3 (dk_at dksX12_ofNumber_4 21 rfl rfl)
theorem dX12_ofNumber_113 : decode cX12_ofNumber 113 = .ok (.invokevirtual 291, 3) := dk_182 1 35 (dk_at dksX12_ofNumber_5 0 rfl rfl)
theorem dX12_ofNumber_116 : decode cX12_ofNumber 116 = .ok (.iastore, 1) := dk_79 (dk_at dksX12_ofNumber_5 3 rfl rfl)
theorem dX12_ofNumber_117 : decode cX12_ofNumber 117 = .ok (.goto 44, 3) := dk_167 0 44 (dk_at dksX12_ofNumber_5 4 rfl rfl)
theorem dX12_ofNumber_120 : decode cX12_ofNumber 120 = .ok (.aload_n 0, 1) := dk_42 (dk_at dksX12_ofNumber_5 7 rfl rfl)
theorem dX12_ofNumber_121 : decode cX12_ofNumber 121 = .ok (.getfield 16, 3) := dk_180 0 16 (dk_at dksX12_ofNumber_5 8 rfl rfl)
theorem dX12_ofNumber_124 : decode cX12_ofNumber 124 = .ok (.iload_n 2, 1) := dk_28 (dk_at dksX12_ofNumber_5 11 rfl rfl)
theorem dX12_ofNumber_125 : decode cX12_ofNumber 125 = .ok (.aload_n 0, 1) := dk_42 (dk_at dksX12_ofNumber_5 12 rfl rfl)
theorem dX12_ofNumber_126 : decode cX12_ofNumber 126 = .ok (.iload 4, 2) := dk_21 4 (dk_at dksX12_ofNumber_5 13 rfl rfl)
theorem dX12_ofNumber_128 : decode cX12_ofNumber 128 = .ok (.iload_n 3, 1) := dk_29 (dk_at dksX12_ofNumber_5 15 rfl rfl)
theorem dX12_ofNumber_129 : decode cX12_ofNumber 129 = .ok (.ior, 1) := dk_128 (dk_at dksX12_ofNumber_5 16 rfl rfl)
theorem dX12_ofNumber_130 : decode cX12_ofNumber 130 = .ok (.invokevirtual 302, 3) := dk_182 1 46 (dk_at dksX12_ofNumber_5 17 rfl rfl)
theorem dX12_ofNumber_133 : decode cX12_ofNumber 133 = .ok (.iastore, 1) := dk_79 (dk_at dksX12_ofNumber_5 20 rfl rfl)
theorem dX12_ofNumber_134 : decode cX12_ofNumber 134 = .ok (.goto 27, 3) := dk_167 0 27 (dk_at dksX12_ofNumber_5 21 rfl rfl)
theorem dX12_ofNumber_137 : decode cX12_ofNumber 137 = .ok (.aload_n 0, 1) := dk_42 (dk_at dksX12_ofNumber_6 0 rfl rfl)
theorem dX12_ofNumber_138 : decode cX12_ofNumber 138 = .ok (.getfield 16, 3) := dk_180 0 16 (dk_at dksX12_ofNumber_6 1 rfl rfl)
theorem dX12_ofNumber_141 : decode cX12_ofNumber 141 = .ok (.iload_n 2, 1) := dk_28 (dk_at dksX12_ofNumber_6 4 rfl rfl)
theorem dX12_ofNumber_142 : decode cX12_ofNumber 142 = .ok (.aload_n 0, 1) := dk_42 (dk_at dksX12_ofNumber_6 5 rfl rfl)
theorem dX12_ofNumber_143 : decode cX12_ofNumber 143 = .ok (.iload 4, 2) := dk_21 4 (dk_at dksX12_ofNumber_6 6 rfl rfl)
theorem dX12_ofNumber_145 : decode cX12_ofNumber 145 = .ok (.iload_n 3, 1) := dk_29 (dk_at dksX12_ofNumber_6 8 rfl rfl)
theorem dX12_ofNumber_146 : decode cX12_ofNumber 146 = .ok (.iand, 1) := dk_126 (dk_at dksX12_ofNumber_6 9 rfl rfl)
theorem dX12_ofNumber_147 : decode cX12_ofNumber 147 = .ok (.invokevirtual 302, 3) := dk_182 1 46 (dk_at dksX12_ofNumber_6 10 rfl rfl)
theorem dX12_ofNumber_150 : decode cX12_ofNumber 150 = .ok (.iastore, 1) := dk_79 (dk_at dksX12_ofNumber_6 13 rfl rfl)
theorem dX12_ofNumber_151 : decode cX12_ofNumber 151 = .ok (.goto 10, 3) := dk_167 0 10 (dk_at dksX12_ofNumber_6 14 rfl rfl)
theorem dX12_ofNumber_154 : decode cX12_ofNumber 154 = .ok (.aload_n 0, 1) := dk_42 (dk_at dksX12_ofNumber_6 17 rfl rfl)
theorem dX12_ofNumber_155 : decode cX12_ofNumber 155 = .ok (.getfield 16, 3) := dk_180 0 16 (dk_at dksX12_ofNumber_6 18 rfl rfl)
theorem dX12_ofNumber_158 : decode cX12_ofNumber 158 = .ok (.iload_n 2, 1) := dk_28 (dk_at dksX12_ofNumber_6 21 rfl rfl)
theorem dX12_ofNumber_159 : decode cX12_ofNumber 159 = .ok (.iload_n 3, 1) := dk_29 (dk_at dksX12_ofNumber_6 22 rfl rfl)
theorem dX12_ofNumber_160 : decode cX12_ofNumber 160 = .ok (.iastore, 1) := dk_79 (dk_at dksX12_ofNumber_6 23 rfl rfl)
theorem dX12_ofNumber_161 : decode cX12_ofNumber 161 = .ok (.iconst 1, 1) := dk_4 (dk_at dksX12_ofNumber_7 0 rfl rfl)
theorem dX12_ofNumber_162 : decode cX12_ofNumber 162 = .ok (.ireturn, 1) := dk_172 (dk_at dksX12_ofNumber_7 1 rfl rfl)
abbrev cX12_nines : ByteArray := prog_13_method_54_code
def yX12_nines : MethodName := ⟨RX12, "nines", "(I)I"⟩
def dkwX12_nines_4 : List UInt8 := [16, 15, 126, 27, 8, 122, 16, 16, 126, 128, 46, 104, 3, 182, 1, 49, 5, 172]
abbrev dktX12_nines_4 : List UInt8 := dkwX12_nines_4 ++ []
def dkwX12_nines_3 : List UInt8 := [42, 27, 182, 1, 68, 172, 42, 42, 180, 0, 16, 27, 7, 122, 16, 31, 126, 46, 42, 180, 0, 16, 27]
abbrev dktX12_nines_3 : List UInt8 := dkwX12_nines_3 ++ dktX12_nines_4
def dkwX12_nines_2 : List UInt8 := [42, 27, 182, 1, 56, 172, 42, 27, 182, 1, 59, 172, 42, 27, 182, 1, 62, 172, 42, 27, 182, 1, 65, 172]
abbrev dktX12_nines_2 : List UInt8 := dkwX12_nines_2 ++ dktX12_nines_3
def dkwX12_nines_1 : List UInt8 := [170, 0, 0, 0, 67, 0, 0, 0, 0, 0, 0, 0, 5, 0, 0, 0, 37, 0, 0, 0, 43, 0, 0, 0, 49, 0, 0, 0, 55, 0, 0, 0, 61, 0, 0, 0, 61]
abbrev dktX12_nines_1 : List UInt8 := dkwX12_nines_1 ++ dktX12_nines_2
def dkwX12_nines_0 : List UInt8 := [27, 16, 9, 122, 16, 7, 126]
abbrev dktX12_nines_0 : List UInt8 := dkwX12_nines_0 ++ dktX12_nines_1
theorem dksX12_nines_0 : cX12_nines.data.toList.drop 0 = dktX12_nines_0 := by decide +kernel
theorem dksX12_nines_1 : cX12_nines.data.toList.drop 7 = dktX12_nines_1 := dk_seg dksX12_nines_0 7 rfl rfl
theorem dksX12_nines_2 : cX12_nines.data.toList.drop 44 = dktX12_nines_2 := dk_seg dksX12_nines_1 37 rfl rfl
theorem dksX12_nines_3 : cX12_nines.data.toList.drop 68 = dktX12_nines_3 := dk_seg dksX12_nines_2 24 rfl rfl
theorem dksX12_nines_4 : cX12_nines.data.toList.drop 91 = dktX12_nines_4 := dk_seg dksX12_nines_3 23 rfl rfl
theorem dX12_nines_0 : decode cX12_nines 0 = .ok (.iload_n 1, 1) := dk_27 (dk_at dksX12_nines_0 0 rfl rfl)
theorem dX12_nines_1 : decode cX12_nines 1 = .ok (.bipush 9, 2) := dk_16 9 (dk_at dksX12_nines_0 1 rfl rfl)
theorem dX12_nines_3 : decode cX12_nines 3 = .ok (.ishr, 1) := dk_122 (dk_at dksX12_nines_0 3 rfl rfl)
theorem dX12_nines_4 : decode cX12_nines 4 = .ok (.bipush 7, 2) := dk_16 7 (dk_at dksX12_nines_0 4 rfl rfl)
theorem dX12_nines_6 : decode cX12_nines 6 = .ok (.iand, 1) := dk_126 (dk_at dksX12_nines_0 6 rfl rfl)
theorem dX12_nines_7 : decode cX12_nines 7 = .ok (.tableswitch 67 0 5 #[37, 43, 49, 55, 61, 61], 37) := by decide +kernel
theorem dX12_nines_44 : decode cX12_nines 44 = .ok (.aload_n 0, 1) := dk_42 (dk_at dksX12_nines_2 0 rfl rfl)
theorem dX12_nines_45 : decode cX12_nines 45 = .ok (.iload_n 1, 1) := dk_27 (dk_at dksX12_nines_2 1 rfl rfl)
theorem dX12_nines_46 : decode cX12_nines 46 = .ok (.invokevirtual 312, 3) := dk_182 1 56 (dk_at dksX12_nines_2 2 rfl rfl)
theorem dX12_nines_49 : decode cX12_nines 49 = .ok (.ireturn, 1) := dk_172 (dk_at dksX12_nines_2 5 rfl rfl)
theorem dX12_nines_50 : decode cX12_nines 50 = .ok (.aload_n 0, 1) := dk_42 (dk_at dksX12_nines_2 6 rfl rfl)
theorem dX12_nines_51 : decode cX12_nines 51 = .ok (.iload_n 1, 1) := dk_27 (dk_at dksX12_nines_2 7 rfl rfl)
theorem dX12_nines_52 : decode cX12_nines 52 = .ok (.invokevirtual 315, 3) := dk_182 1 59 (dk_at dksX12_nines_2 8 rfl rfl)
theorem dX12_nines_55 : decode cX12_nines 55 = .ok (.ireturn, 1) := dk_172 (dk_at dksX12_nines_2 11 rfl rfl)
theorem dX12_nines_56 : decode cX12_nines 56 = .ok (.aload_n 0, 1) := dk_42 (dk_at dksX12_nines_2 12 rfl rfl)
theorem dX12_nines_57 : decode cX12_nines 57 = .ok (.iload_n 1, 1) := dk_27 (dk_at dksX12_nines_2 13 rfl rfl)
theorem dX12_nines_58 : decode cX12_nines 58 = .ok (.invokevirtual 318, 3) := dk_182 1 62 (dk_at dksX12_nines_2 14 rfl rfl)
theorem dX12_nines_61 : decode cX12_nines 61 = .ok (.ireturn, 1) := dk_172 (dk_at dksX12_nines_2 17 rfl rfl)
theorem dX12_nines_62 : decode cX12_nines 62 = .ok (.aload_n 0, 1) := dk_42 (dk_at dksX12_nines_2 18 rfl rfl)
theorem dX12_nines_63 : decode cX12_nines 63 = .ok (.iload_n 1, 1) := dk_27 (dk_at dksX12_nines_2 19 rfl rfl)
theorem dX12_nines_64 : decode cX12_nines 64 = .ok (.invokevirtual 321, 3) := dk_182 1 65 (dk_at dksX12_nines_2 20 rfl rfl)
theorem dX12_nines_67 : decode cX12_nines 67 = .ok (.ireturn, 1) := dk_172 (dk_at dksX12_nines_2 23 rfl rfl)
theorem dX12_nines_68 : decode cX12_nines 68 = .ok (.aload_n 0, 1) := dk_42 (dk_at dksX12_nines_3 0 rfl rfl)
theorem dX12_nines_69 : decode cX12_nines 69 = .ok (.iload_n 1, 1) := dk_27 (dk_at dksX12_nines_3 1 rfl rfl)
theorem dX12_nines_70 : decode cX12_nines 70 = .ok (.invokevirtual 324, 3) := dk_182 1 68 (dk_at dksX12_nines_3 2 rfl rfl)
theorem dX12_nines_73 : decode cX12_nines 73 = .ok (.ireturn, 1) := dk_172 (dk_at dksX12_nines_3 5 rfl rfl)
theorem dX12_nines_74 : decode cX12_nines 74 = .ok (.aload_n 0, 1) := dk_42 (dk_at dksX12_nines_3 6 rfl rfl)
theorem dX12_nines_75 : decode cX12_nines 75 = .ok (.aload_n 0, 1) := dk_42 (dk_at dksX12_nines_3 7 rfl rfl)
theorem dX12_nines_76 : decode cX12_nines 76 = .ok (.getfield 16, 3) := dk_180 0 16 (dk_at dksX12_nines_3 8 rfl rfl)
theorem dX12_nines_79 : decode cX12_nines 79 = .ok (.iload_n 1, 1) := dk_27 (dk_at dksX12_nines_3 11 rfl rfl)
theorem dX12_nines_80 : decode cX12_nines 80 = .ok (.iconst 4, 1) := dk_7 (dk_at dksX12_nines_3 12 rfl rfl)
theorem dX12_nines_81 : decode cX12_nines 81 = .ok (.ishr, 1) := dk_122 (dk_at dksX12_nines_3 13 rfl rfl)
theorem dX12_nines_82 : decode cX12_nines 82 = .ok (.bipush 31, 2) := dk_16 31 (dk_at dksX12_nines_3 14 rfl rfl)
theorem dX12_nines_84 : decode cX12_nines 84 = .ok (.iand, 1) := dk_126 (dk_at dksX12_nines_3 16 rfl rfl)
theorem dX12_nines_85 : decode cX12_nines 85 = .ok (.iaload, 1) := dk_46 (dk_at dksX12_nines_3 17 rfl rfl)
theorem dX12_nines_86 : decode cX12_nines 86 = .ok (.aload_n 0, 1) := dk_42 (dk_at dksX12_nines_3 18 rfl rfl)
theorem dX12_nines_87 : decode cX12_nines 87 = .ok (.getfield 16, 3) := dk_180 0 16 (dk_at dksX12_nines_3 19 rfl rfl)
theorem dX12_nines_90 : decode cX12_nines 90 = .ok (.iload_n 1, 1) := dk_27 (dk_at dksX12_nines_3 22 rfl rfl)
theorem dX12_nines_91 : decode cX12_nines 91 = .ok (.bipush 15, 2) := dk_16 15 (dk_at dksX12_nines_4 0 rfl rfl)
theorem dX12_nines_93 : decode cX12_nines 93 = .ok (.iand, 1) := dk_126 (dk_at dksX12_nines_4 2 rfl rfl)
theorem dX12_nines_94 : decode cX12_nines 94 = .ok (.iload_n 1, 1) := dk_27 (dk_at dksX12_nines_4 3 rfl rfl)
theorem dX12_nines_95 : decode cX12_nines 95 = .ok (.iconst 5, 1) := dk_8 (dk_at dksX12_nines_4 4 rfl rfl)
theorem dX12_nines_96 : decode cX12_nines 96 = .ok (.ishr, 1) := dk_122 (dk_at dksX12_nines_4 5 rfl rfl)
theorem dX12_nines_97 : decode cX12_nines 97 = .ok (.bipush 16, 2) := dk_16 16 (dk_at dksX12_nines_4 6 rfl rfl)
theorem dX12_nines_99 : decode cX12_nines 99 = .ok (.iand, 1) := dk_126 (dk_at dksX12_nines_4 8 rfl rfl)
theorem dX12_nines_100 : decode cX12_nines 100 = .ok (.ior, 1) := dk_128 (dk_at dksX12_nines_4 9 rfl rfl)
theorem dX12_nines_101 : decode cX12_nines 101 = .ok (.iaload, 1) := dk_46 (dk_at dksX12_nines_4 10 rfl rfl)
theorem dX12_nines_102 : decode cX12_nines 102 = .ok (.imul, 1) := dk_104 (dk_at dksX12_nines_4 11 rfl rfl)
theorem dX12_nines_103 : decode cX12_nines 103 = .ok (.iconst 0, 1) := dk_3 (dk_at dksX12_nines_4 12 rfl rfl)
theorem dX12_nines_104 : decode cX12_nines 104 = .ok (.invokevirtual 305, 3) := dk_182 1 49 (dk_at dksX12_nines_4 13 rfl rfl)
theorem dX12_nines_107 : decode cX12_nines 107 = .ok (.iconst 2, 1) := dk_5 (dk_at dksX12_nines_4 16 rfl rfl)
theorem dX12_nines_108 : decode cX12_nines 108 = .ok (.ireturn, 1) := dk_172 (dk_at dksX12_nines_4 17 rfl rfl)
abbrev cX12_loads : ByteArray := prog_13_method_56_code
def yX12_loads : MethodName := ⟨RX12, "loads", "(I)I"⟩
def dkwX12_loads_4 : List UInt8 := [4, 172, 42, 180, 0, 16, 28, 42, 21, 4, 182, 0, 241, 79, 5, 172]
abbrev dktX12_loads_4 : List UInt8 := dkwX12_loads_4 ++ []
def dkwX12_loads_3 : List UInt8 := [180, 0, 16, 28, 42, 182, 0, 247, 79, 5, 172, 42, 29, 182, 1, 74, 54, 4, 21, 4, 2, 160, 0, 5]
abbrev dktX12_loads_3 : List UInt8 := dkwX12_loads_3 ++ dktX12_loads_4
def dkwX12_loads_2 : List UInt8 := [21, 4, 4, 96, 182, 0, 238, 42, 180, 0, 16, 28, 21, 5, 79, 6, 172, 29, 16, 15, 160, 0, 15, 42]
abbrev dktX12_loads_2 : List UInt8 := dkwX12_loads_2 ++ dktX12_loads_3
def dkwX12_loads_1 : List UInt8 := [16, 30, 182, 0, 231, 54, 4, 42, 21, 4, 182, 1, 71, 54, 5, 29, 8, 160, 0, 13, 42, 16, 30]
abbrev dktX12_loads_1 : List UInt8 := dkwX12_loads_1 ++ dktX12_loads_2
def dkwX12_loads_0 : List UInt8 := [27, 7, 122, 16, 31, 126, 61, 27, 16, 15, 126, 62, 29, 7, 159, 0, 8, 29, 8, 160, 0, 44, 42]
abbrev dktX12_loads_0 : List UInt8 := dkwX12_loads_0 ++ dktX12_loads_1
theorem dksX12_loads_0 : cX12_loads.data.toList.drop 0 = dktX12_loads_0 := by decide +kernel
theorem dksX12_loads_1 : cX12_loads.data.toList.drop 23 = dktX12_loads_1 := dk_seg dksX12_loads_0 23 rfl rfl
theorem dksX12_loads_2 : cX12_loads.data.toList.drop 46 = dktX12_loads_2 := dk_seg dksX12_loads_1 23 rfl rfl
theorem dksX12_loads_3 : cX12_loads.data.toList.drop 70 = dktX12_loads_3 := dk_seg dksX12_loads_2 24 rfl rfl
theorem dksX12_loads_4 : cX12_loads.data.toList.drop 94 = dktX12_loads_4 := dk_seg dksX12_loads_3 24 rfl rfl
theorem dX12_loads_0 : decode cX12_loads 0 = .ok (.iload_n 1, 1) := dk_27 (dk_at dksX12_loads_0 0 rfl rfl)
theorem dX12_loads_1 : decode cX12_loads 1 = .ok (.iconst 4, 1) := dk_7 (dk_at dksX12_loads_0 1 rfl rfl)
theorem dX12_loads_2 : decode cX12_loads 2 = .ok (.ishr, 1) := dk_122 (dk_at dksX12_loads_0 2 rfl rfl)
theorem dX12_loads_3 : decode cX12_loads 3 = .ok (.bipush 31, 2) := dk_16 31 (dk_at dksX12_loads_0 3 rfl rfl)
theorem dX12_loads_5 : decode cX12_loads 5 = .ok (.iand, 1) := dk_126 (dk_at dksX12_loads_0 5 rfl rfl)
theorem dX12_loads_6 : decode cX12_loads 6 = .ok (.istore_n 2, 1) := dk_61 (dk_at dksX12_loads_0 6 rfl rfl)
theorem dX12_loads_7 : decode cX12_loads 7 = .ok (.iload_n 1, 1) := dk_27 (dk_at dksX12_loads_0 7 rfl rfl)
theorem dX12_loads_8 : decode cX12_loads 8 = .ok (.bipush 15, 2) := dk_16 15 (dk_at dksX12_loads_0 8 rfl rfl)
theorem dX12_loads_10 : decode cX12_loads 10 = .ok (.iand, 1) := dk_126 (dk_at dksX12_loads_0 10 rfl rfl)
theorem dX12_loads_11 : decode cX12_loads 11 = .ok (.istore_n 3, 1) := dk_62 (dk_at dksX12_loads_0 11 rfl rfl)
theorem dX12_loads_12 : decode cX12_loads 12 = .ok (.iload_n 3, 1) := dk_29 (dk_at dksX12_loads_0 12 rfl rfl)
theorem dX12_loads_13 : decode cX12_loads 13 = .ok (.iconst 4, 1) := dk_7 (dk_at dksX12_loads_0 13 rfl rfl)
theorem dX12_loads_14 : decode cX12_loads 14 = .ok (.if_icmp .eq 8, 3) := dk_159 0 8 (dk_at dksX12_loads_0 14 rfl rfl)
theorem dX12_loads_17 : decode cX12_loads 17 = .ok (.iload_n 3, 1) := dk_29 (dk_at dksX12_loads_0 17 rfl rfl)
theorem dX12_loads_18 : decode cX12_loads 18 = .ok (.iconst 5, 1) := dk_8 (dk_at dksX12_loads_0 18 rfl rfl)
theorem dX12_loads_19 : decode cX12_loads 19 = .ok (.if_icmp .ne 44, 3) := dk_160 0 44 (dk_at dksX12_loads_0 19 rfl rfl)
theorem dX12_loads_22 : decode cX12_loads 22 = .ok (.aload_n 0, 1) := dk_42 (dk_at dksX12_loads_0 22 rfl rfl)
theorem dX12_loads_23 : decode cX12_loads 23 = .ok (.bipush 30, 2) := dk_16 30 (dk_at dksX12_loads_1 0 rfl rfl)
theorem dX12_loads_25 : decode cX12_loads 25 = .ok (.invokevirtual 231, 3) := dk_182 0 231 (dk_at dksX12_loads_1 2 rfl rfl)
theorem dX12_loads_28 : decode cX12_loads 28 = .ok (.istore 4, 2) := dk_54 4 (dk_at dksX12_loads_1 5 rfl rfl)
theorem dX12_loads_30 : decode cX12_loads 30 = .ok (.aload_n 0, 1) := dk_42 (dk_at dksX12_loads_1 7 rfl rfl)
theorem dX12_loads_31 : decode cX12_loads 31 = .ok (.iload 4, 2) := dk_21 4 (dk_at dksX12_loads_1 8 rfl rfl)
theorem dX12_loads_33 : decode cX12_loads 33 = .ok (.invokevirtual 327, 3) := dk_182 1 71 (dk_at dksX12_loads_1 10 rfl rfl)
theorem dX12_loads_36 : decode cX12_loads 36 = .ok (.istore 5, 2) := dk_54 5 (dk_at dksX12_loads_1 13 rfl rfl)
theorem dX12_loads_38 : decode cX12_loads 38 = .ok (.iload_n 3, 1) := dk_29 (dk_at dksX12_loads_1 15 rfl rfl)
theorem dX12_loads_39 : decode cX12_loads 39 = .ok (.iconst 5, 1) := dk_8 (dk_at dksX12_loads_1 16 rfl rfl)
theorem dX12_loads_40 : decode cX12_loads 40 = .ok (.if_icmp .ne 13, 3) := dk_160 0 13 (dk_at dksX12_loads_1 17 rfl rfl)
theorem dX12_loads_43 : decode cX12_loads 43 = .ok (.aload_n 0, 1) := dk_42 (dk_at dksX12_loads_1 20 rfl rfl)
theorem dX12_loads_44 : decode cX12_loads 44 = .ok (.bipush 30, 2) := dk_16 30 (dk_at dksX12_loads_1 21 rfl rfl)
theorem dX12_loads_46 : decode cX12_loads 46 = .ok (.iload 4, 2) := dk_21 4 (dk_at dksX12_loads_2 0 rfl rfl)
theorem dX12_loads_48 : decode cX12_loads 48 = .ok (.iconst 1, 1) := dk_4 (dk_at dksX12_loads_2 2 rfl rfl)
theorem dX12_loads_49 : decode cX12_loads 49 = .ok (.iadd, 1) := dk_96 (dk_at dksX12_loads_2 3 rfl rfl)
theorem dX12_loads_50 : decode cX12_loads 50 = .ok (.invokevirtual 238, 3) := dk_182 0 238 (dk_at dksX12_loads_2 4 rfl rfl)
theorem dX12_loads_53 : decode cX12_loads 53 = .ok (.aload_n 0, 1) := dk_42 (dk_at dksX12_loads_2 7 rfl rfl)
theorem dX12_loads_54 : decode cX12_loads 54 = .ok (.getfield 16, 3) := dk_180 0 16 (dk_at dksX12_loads_2 8 rfl rfl)
theorem dX12_loads_57 : decode cX12_loads 57 = .ok (.iload_n 2, 1) := dk_28 (dk_at dksX12_loads_2 11 rfl rfl)
theorem dX12_loads_58 : decode cX12_loads 58 = .ok (.iload 5, 2) := dk_21 5 (dk_at dksX12_loads_2 12 rfl rfl)
theorem dX12_loads_60 : decode cX12_loads 60 = .ok (.iastore, 1) := dk_79 (dk_at dksX12_loads_2 14 rfl rfl)
theorem dX12_loads_61 : decode cX12_loads 61 = .ok (.iconst 3, 1) := dk_6 (dk_at dksX12_loads_2 15 rfl rfl)
theorem dX12_loads_62 : decode cX12_loads 62 = .ok (.ireturn, 1) := dk_172 (dk_at dksX12_loads_2 16 rfl rfl)
theorem dX12_loads_63 : decode cX12_loads 63 = .ok (.iload_n 3, 1) := dk_29 (dk_at dksX12_loads_2 17 rfl rfl)
theorem dX12_loads_64 : decode cX12_loads 64 = .ok (.bipush 15, 2) := dk_16 15 (dk_at dksX12_loads_2 18 rfl rfl)
theorem dX12_loads_66 : decode cX12_loads 66 = .ok (.if_icmp .ne 15, 3) := dk_160 0 15 (dk_at dksX12_loads_2 20 rfl rfl)
theorem dX12_loads_69 : decode cX12_loads 69 = .ok (.aload_n 0, 1) := dk_42 (dk_at dksX12_loads_2 23 rfl rfl)
theorem dX12_loads_70 : decode cX12_loads 70 = .ok (.getfield 16, 3) := dk_180 0 16 (dk_at dksX12_loads_3 0 rfl rfl)
theorem dX12_loads_73 : decode cX12_loads 73 = .ok (.iload_n 2, 1) := dk_28 (dk_at dksX12_loads_3 3 rfl rfl)
theorem dX12_loads_74 : decode cX12_loads 74 = .ok (.aload_n 0, 1) := dk_42 (dk_at dksX12_loads_3 4 rfl rfl)
theorem dX12_loads_75 : decode cX12_loads 75 = .ok (.invokevirtual 247, 3) := dk_182 0 247 (dk_at dksX12_loads_3 5 rfl rfl)
theorem dX12_loads_78 : decode cX12_loads 78 = .ok (.iastore, 1) := dk_79 (dk_at dksX12_loads_3 8 rfl rfl)
theorem dX12_loads_79 : decode cX12_loads 79 = .ok (.iconst 2, 1) := dk_5 (dk_at dksX12_loads_3 9 rfl rfl)
theorem dX12_loads_80 : decode cX12_loads 80 = .ok (.ireturn, 1) := dk_172 (dk_at dksX12_loads_3 10 rfl rfl)
theorem dX12_loads_81 : decode cX12_loads 81 = .ok (.aload_n 0, 1) := dk_42 (dk_at dksX12_loads_3 11 rfl rfl)
theorem dX12_loads_82 : decode cX12_loads 82 = .ok (.iload_n 3, 1) := dk_29 (dk_at dksX12_loads_3 12 rfl rfl)
theorem dX12_loads_83 : decode cX12_loads 83 = .ok (.invokevirtual 330, 3) := dk_182 1 74 (dk_at dksX12_loads_3 13 rfl rfl)
theorem dX12_loads_86 : decode cX12_loads 86 = .ok (.istore 4, 2) := dk_54 4 (dk_at dksX12_loads_3 16 rfl rfl)
theorem dX12_loads_88 : decode cX12_loads 88 = .ok (.iload 4, 2) := dk_21 4 (dk_at dksX12_loads_3 18 rfl rfl)
theorem dX12_loads_90 : decode cX12_loads 90 = .ok (.iconst (-1), 1) := dk_2 (dk_at dksX12_loads_3 20 rfl rfl)
theorem dX12_loads_91 : decode cX12_loads 91 = .ok (.if_icmp .ne 5, 3) := dk_160 0 5 (dk_at dksX12_loads_3 21 rfl rfl)
theorem dX12_loads_94 : decode cX12_loads 94 = .ok (.iconst 1, 1) := dk_4 (dk_at dksX12_loads_4 0 rfl rfl)
theorem dX12_loads_95 : decode cX12_loads 95 = .ok (.ireturn, 1) := dk_172 (dk_at dksX12_loads_4 1 rfl rfl)
theorem dX12_loads_96 : decode cX12_loads 96 = .ok (.aload_n 0, 1) := dk_42 (dk_at dksX12_loads_4 2 rfl rfl)
theorem dX12_loads_97 : decode cX12_loads 97 = .ok (.getfield 16, 3) := dk_180 0 16 (dk_at dksX12_loads_4 3 rfl rfl)
theorem dX12_loads_100 : decode cX12_loads 100 = .ok (.iload_n 2, 1) := dk_28 (dk_at dksX12_loads_4 6 rfl rfl)
theorem dX12_loads_101 : decode cX12_loads 101 = .ok (.aload_n 0, 1) := dk_42 (dk_at dksX12_loads_4 7 rfl rfl)
theorem dX12_loads_102 : decode cX12_loads 102 = .ok (.iload 4, 2) := dk_21 4 (dk_at dksX12_loads_4 8 rfl rfl)
theorem dX12_loads_104 : decode cX12_loads 104 = .ok (.invokevirtual 241, 3) := dk_182 0 241 (dk_at dksX12_loads_4 10 rfl rfl)
theorem dX12_loads_107 : decode cX12_loads 107 = .ok (.iastore, 1) := dk_79 (dk_at dksX12_loads_4 13 rfl rfl)
theorem dX12_loads_108 : decode cX12_loads 108 = .ok (.iconst 2, 1) := dk_5 (dk_at dksX12_loads_4 14 rfl rfl)
theorem dX12_loads_109 : decode cX12_loads 109 = .ok (.ireturn, 1) := dk_172 (dk_at dksX12_loads_4 15 rfl rfl)
abbrev cX12_flashByte : ByteArray := prog_13_method_58_code
def yX12_flashByte : MethodName := ⟨RX12, "flashByte", "(I)I"⟩
def dkwX12_flashByte_7 : List UInt8 := [122, 172]
abbrev dktX12_flashByte_7 : List UInt8 := dkwX12_flashByte_7 ++ []
def dkwX12_flashByte_6 : List UInt8 := [5, 112, 154, 0, 15, 42, 28, 182, 0, 228, 17, 0, 255, 126, 167, 0, 11, 42, 28, 182, 0, 228, 16, 8]
abbrev dktX12_flashByte_6 : List UInt8 := dkwX12_flashByte_6 ++ dktX12_flashByte_7
def dkwX12_flashByte_5 : List UInt8 := [42, 180, 0, 26, 29, 153, 0, 7, 6, 167, 0, 4, 4, 122, 4, 126, 154, 0, 7, 17, 0, 255, 172, 27]
abbrev dktX12_flashByte_5 : List UInt8 := dkwX12_flashByte_5 ++ dktX12_flashByte_6
def dkwX12_flashByte_4 : List UInt8 := [167, 0, 4, 3, 62, 29, 42, 180, 1, 0, 17, 6, 0, 161, 0, 7, 4, 167, 0, 4, 3, 159, 0, 26]
abbrev dktX12_flashByte_4 : List UInt8 := dkwX12_flashByte_4 ++ dktX12_flashByte_5
def dkwX12_flashByte_3 : List UInt8 := [167, 0, 6, 17, 0, 255, 172, 27, 4, 122, 17, 7, 255, 126, 61, 28, 17, 6, 0, 161, 0, 7, 4]
abbrev dktX12_flashByte_3 : List UInt8 := dkwX12_flashByte_3 ++ dktX12_flashByte_4
def dkwX12_flashByte_2 : List UInt8 := [180, 0, 26, 17, 0, 240, 128, 167, 0, 21, 27, 154, 0, 14, 42, 180, 0, 30, 17, 0, 254, 128]
abbrev dktX12_flashByte_2 : List UInt8 := dkwX12_flashByte_2 ++ dktX12_flashByte_3
def dkwX12_flashByte_1 : List UInt8 := [3, 181, 0, 98, 42, 180, 0, 16, 16, 87, 92, 46, 17, 0, 224, 126, 79, 27, 4, 160, 0, 14, 42]
abbrev dktX12_flashByte_1 : List UInt8 := dkwX12_flashByte_1 ++ dktX12_flashByte_2
def dkwX12_flashByte_0 : List UInt8 := [42, 180, 0, 98, 158, 0, 72, 42, 180, 0, 16, 16, 87, 46, 4, 122, 16, 15, 126, 7, 160, 0, 56, 42]
abbrev dktX12_flashByte_0 : List UInt8 := dkwX12_flashByte_0 ++ dktX12_flashByte_1
theorem dksX12_flashByte_0 : cX12_flashByte.data.toList.drop 0 = dktX12_flashByte_0 := by decide +kernel
theorem dksX12_flashByte_1 : cX12_flashByte.data.toList.drop 24 = dktX12_flashByte_1 := dk_seg dksX12_flashByte_0 24 rfl rfl
theorem dksX12_flashByte_2 : cX12_flashByte.data.toList.drop 47 = dktX12_flashByte_2 := dk_seg dksX12_flashByte_1 23 rfl rfl
theorem dksX12_flashByte_3 : cX12_flashByte.data.toList.drop 69 = dktX12_flashByte_3 := dk_seg dksX12_flashByte_2 22 rfl rfl
theorem dksX12_flashByte_4 : cX12_flashByte.data.toList.drop 92 = dktX12_flashByte_4 := dk_seg dksX12_flashByte_3 23 rfl rfl
theorem dksX12_flashByte_5 : cX12_flashByte.data.toList.drop 116 = dktX12_flashByte_5 := dk_seg dksX12_flashByte_4 24 rfl rfl
theorem dksX12_flashByte_6 : cX12_flashByte.data.toList.drop 140 = dktX12_flashByte_6 := dk_seg dksX12_flashByte_5 24 rfl rfl
theorem dksX12_flashByte_7 : cX12_flashByte.data.toList.drop 164 = dktX12_flashByte_7 := dk_seg dksX12_flashByte_6 24 rfl rfl
theorem dX12_flashByte_0 : decode cX12_flashByte 0 = .ok (.aload_n 0, 1) := dk_42 (dk_at dksX12_flashByte_0 0 rfl rfl)
theorem dX12_flashByte_1 : decode cX12_flashByte 1 = .ok (.getfield 98, 3) := dk_180 0 98 (dk_at dksX12_flashByte_0 1 rfl rfl)
theorem dX12_flashByte_4 : decode cX12_flashByte 4 = .ok (.ifCond .le 72, 3) := dk_158 0 72 (dk_at dksX12_flashByte_0 4 rfl rfl)
theorem dX12_flashByte_7 : decode cX12_flashByte 7 = .ok (.aload_n 0, 1) := dk_42 (dk_at dksX12_flashByte_0 7 rfl rfl)
theorem dX12_flashByte_8 : decode cX12_flashByte 8 = .ok (.getfield 16, 3) := dk_180 0 16 (dk_at dksX12_flashByte_0 8 rfl rfl)
theorem dX12_flashByte_11 : decode cX12_flashByte 11 = .ok (.bipush 87, 2) := dk_16 87 (dk_at dksX12_flashByte_0 11 rfl rfl)
theorem dX12_flashByte_13 : decode cX12_flashByte 13 = .ok (.iaload, 1) := dk_46 (dk_at dksX12_flashByte_0 13 rfl rfl)
theorem dX12_flashByte_14 : decode cX12_flashByte 14 = .ok (.iconst 1, 1) := dk_4 (dk_at dksX12_flashByte_0 14 rfl rfl)
theorem dX12_flashByte_15 : decode cX12_flashByte 15 = .ok (.ishr, 1) := dk_122 (dk_at dksX12_flashByte_0 15 rfl rfl)
theorem dX12_flashByte_16 : decode cX12_flashByte 16 = .ok (.bipush 15, 2) := dk_16 15 (dk_at dksX12_flashByte_0 16 rfl rfl)
theorem dX12_flashByte_18 : decode cX12_flashByte 18 = .ok (.iand, 1) := dk_126 (dk_at dksX12_flashByte_0 18 rfl rfl)
theorem dX12_flashByte_19 : decode cX12_flashByte 19 = .ok (.iconst 4, 1) := dk_7 (dk_at dksX12_flashByte_0 19 rfl rfl)
theorem dX12_flashByte_20 : decode cX12_flashByte 20 = .ok (.if_icmp .ne 56, 3) := dk_160 0 56 (dk_at dksX12_flashByte_0 20 rfl rfl)
theorem dX12_flashByte_23 : decode cX12_flashByte 23 = .ok (.aload_n 0, 1) := dk_42 (dk_at dksX12_flashByte_0 23 rfl rfl)
theorem dX12_flashByte_24 : decode cX12_flashByte 24 = .ok (.iconst 0, 1) := dk_3 (dk_at dksX12_flashByte_1 0 rfl rfl)
theorem dX12_flashByte_25 : decode cX12_flashByte 25 = .ok (.putfield 98, 3) := dk_181 0 98 (dk_at dksX12_flashByte_1 1 rfl rfl)
theorem dX12_flashByte_28 : decode cX12_flashByte 28 = .ok (.aload_n 0, 1) := dk_42 (dk_at dksX12_flashByte_1 4 rfl rfl)
theorem dX12_flashByte_29 : decode cX12_flashByte 29 = .ok (.getfield 16, 3) := dk_180 0 16 (dk_at dksX12_flashByte_1 5 rfl rfl)
theorem dX12_flashByte_32 : decode cX12_flashByte 32 = .ok (.bipush 87, 2) := dk_16 87 (dk_at dksX12_flashByte_1 8 rfl rfl)
theorem dX12_flashByte_34 : decode cX12_flashByte 34 = .ok (.dup2, 1) := dk_92 (dk_at dksX12_flashByte_1 10 rfl rfl)
theorem dX12_flashByte_35 : decode cX12_flashByte 35 = .ok (.iaload, 1) := dk_46 (dk_at dksX12_flashByte_1 11 rfl rfl)
theorem dX12_flashByte_36 : decode cX12_flashByte 36 = .ok (.sipush 224, 3) := dk_17 0 224 (dk_at dksX12_flashByte_1 12 rfl rfl)
theorem dX12_flashByte_39 : decode cX12_flashByte 39 = .ok (.iand, 1) := dk_126 (dk_at dksX12_flashByte_1 15 rfl rfl)
theorem dX12_flashByte_40 : decode cX12_flashByte 40 = .ok (.iastore, 1) := dk_79 (dk_at dksX12_flashByte_1 16 rfl rfl)
theorem dX12_flashByte_41 : decode cX12_flashByte 41 = .ok (.iload_n 1, 1) := dk_27 (dk_at dksX12_flashByte_1 17 rfl rfl)
theorem dX12_flashByte_42 : decode cX12_flashByte 42 = .ok (.iconst 1, 1) := dk_4 (dk_at dksX12_flashByte_1 18 rfl rfl)
theorem dX12_flashByte_43 : decode cX12_flashByte 43 = .ok (.if_icmp .ne 14, 3) := dk_160 0 14 (dk_at dksX12_flashByte_1 19 rfl rfl)
theorem dX12_flashByte_46 : decode cX12_flashByte 46 = .ok (.aload_n 0, 1) := dk_42 (dk_at dksX12_flashByte_1 22 rfl rfl)
theorem dX12_flashByte_47 : decode cX12_flashByte 47 = .ok (.getfield 26, 3) := dk_180 0 26 (dk_at dksX12_flashByte_2 0 rfl rfl)
theorem dX12_flashByte_50 : decode cX12_flashByte 50 = .ok (.sipush 240, 3) := dk_17 0 240 (dk_at dksX12_flashByte_2 3 rfl rfl)
theorem dX12_flashByte_53 : decode cX12_flashByte 53 = .ok (.ior, 1) := dk_128 (dk_at dksX12_flashByte_2 6 rfl rfl)
theorem dX12_flashByte_54 : decode cX12_flashByte 54 = .ok (.goto 21, 3) := dk_167 0 21 (dk_at dksX12_flashByte_2 7 rfl rfl)
theorem dX12_flashByte_57 : decode cX12_flashByte 57 = .ok (.iload_n 1, 1) := dk_27 (dk_at dksX12_flashByte_2 10 rfl rfl)
theorem dX12_flashByte_58 : decode cX12_flashByte 58 = .ok (.ifCond .ne 14, 3) := dk_154 0 14 (dk_at dksX12_flashByte_2 11 rfl rfl)
theorem dX12_flashByte_61 : decode cX12_flashByte 61 = .ok (.aload_n 0, 1) := dk_42 (dk_at dksX12_flashByte_2 14 rfl rfl)
theorem dX12_flashByte_62 : decode cX12_flashByte 62 = .ok (.getfield 30, 3) := dk_180 0 30 (dk_at dksX12_flashByte_2 15 rfl rfl)
theorem dX12_flashByte_65 : decode cX12_flashByte 65 = .ok (.sipush 254, 3) := dk_17 0 254 (dk_at dksX12_flashByte_2 18 rfl rfl)
theorem dX12_flashByte_68 : decode cX12_flashByte 68 = .ok (.ior, 1) := dk_128 (dk_at dksX12_flashByte_2 21 rfl rfl)
theorem dX12_flashByte_69 : decode cX12_flashByte 69 = .ok (.goto 6, 3) := dk_167 0 6 (dk_at dksX12_flashByte_3 0 rfl rfl)
theorem dX12_flashByte_72 : decode cX12_flashByte 72 = .ok (.sipush 255, 3) := dk_17 0 255 (dk_at dksX12_flashByte_3 3 rfl rfl)
theorem dX12_flashByte_75 : decode cX12_flashByte 75 = .ok (.ireturn, 1) := dk_172 (dk_at dksX12_flashByte_3 6 rfl rfl)
theorem dX12_flashByte_76 : decode cX12_flashByte 76 = .ok (.iload_n 1, 1) := dk_27 (dk_at dksX12_flashByte_3 7 rfl rfl)
theorem dX12_flashByte_77 : decode cX12_flashByte 77 = .ok (.iconst 1, 1) := dk_4 (dk_at dksX12_flashByte_3 8 rfl rfl)
theorem dX12_flashByte_78 : decode cX12_flashByte 78 = .ok (.ishr, 1) := dk_122 (dk_at dksX12_flashByte_3 9 rfl rfl)
theorem dX12_flashByte_79 : decode cX12_flashByte 79 = .ok (.sipush 2047, 3) := dk_17 7 255 (dk_at dksX12_flashByte_3 10 rfl rfl)
theorem dX12_flashByte_82 : decode cX12_flashByte 82 = .ok (.iand, 1) := dk_126 (dk_at dksX12_flashByte_3 13 rfl rfl)
theorem dX12_flashByte_83 : decode cX12_flashByte 83 = .ok (.istore_n 2, 1) := dk_61 (dk_at dksX12_flashByte_3 14 rfl rfl)
theorem dX12_flashByte_84 : decode cX12_flashByte 84 = .ok (.iload_n 2, 1) := dk_28 (dk_at dksX12_flashByte_3 15 rfl rfl)
theorem dX12_flashByte_85 : decode cX12_flashByte 85 = .ok (.sipush 1536, 3) := dk_17 6 0 (dk_at dksX12_flashByte_3 16 rfl rfl)
theorem dX12_flashByte_88 : decode cX12_flashByte 88 = .ok (.if_icmp .lt 7, 3) := dk_161 0 7 (dk_at dksX12_flashByte_3 19 rfl rfl)
theorem dX12_flashByte_91 : decode cX12_flashByte 91 = .ok (.iconst 1, 1) := dk_4 (dk_at dksX12_flashByte_3 22 rfl rfl)
theorem dX12_flashByte_92 : decode cX12_flashByte 92 = .ok (.goto 4, 3) := dk_167 0 4 (dk_at dksX12_flashByte_4 0 rfl rfl)
theorem dX12_flashByte_95 : decode cX12_flashByte 95 = .ok (.iconst 0, 1) := dk_3 (dk_at dksX12_flashByte_4 3 rfl rfl)
theorem dX12_flashByte_96 : decode cX12_flashByte 96 = .ok (.istore_n 3, 1) := dk_62 (dk_at dksX12_flashByte_4 4 rfl rfl)
theorem dX12_flashByte_97 : decode cX12_flashByte 97 = .ok (.iload_n 3, 1) := dk_29 (dk_at dksX12_flashByte_4 5 rfl rfl)
theorem dX12_flashByte_98 : decode cX12_flashByte 98 = .ok (.aload_n 0, 1) := dk_42 (dk_at dksX12_flashByte_4 6 rfl rfl)
theorem dX12_flashByte_99 : decode cX12_flashByte 99 = .ok (.getfield 256, 3) := dk_180 1 0 (dk_at dksX12_flashByte_4 7 rfl rfl)
theorem dX12_flashByte_102 : decode cX12_flashByte 102 = .ok (.sipush 1536, 3) := dk_17 6 0 (dk_at dksX12_flashByte_4 10 rfl rfl)
theorem dX12_flashByte_105 : decode cX12_flashByte 105 = .ok (.if_icmp .lt 7, 3) := dk_161 0 7 (dk_at dksX12_flashByte_4 13 rfl rfl)
theorem dX12_flashByte_108 : decode cX12_flashByte 108 = .ok (.iconst 1, 1) := dk_4 (dk_at dksX12_flashByte_4 16 rfl rfl)
theorem dX12_flashByte_109 : decode cX12_flashByte 109 = .ok (.goto 4, 3) := dk_167 0 4 (dk_at dksX12_flashByte_4 17 rfl rfl)
theorem dX12_flashByte_112 : decode cX12_flashByte 112 = .ok (.iconst 0, 1) := dk_3 (dk_at dksX12_flashByte_4 20 rfl rfl)
theorem dX12_flashByte_113 : decode cX12_flashByte 113 = .ok (.if_icmp .eq 26, 3) := dk_159 0 26 (dk_at dksX12_flashByte_4 21 rfl rfl)
theorem dX12_flashByte_116 : decode cX12_flashByte 116 = .ok (.aload_n 0, 1) := dk_42 (dk_at dksX12_flashByte_5 0 rfl rfl)
theorem dX12_flashByte_117 : decode cX12_flashByte 117 = .ok (.getfield 26, 3) := dk_180 0 26 (dk_at dksX12_flashByte_5 1 rfl rfl)
theorem dX12_flashByte_120 : decode cX12_flashByte 120 = .ok (.iload_n 3, 1) := dk_29 (dk_at dksX12_flashByte_5 4 rfl rfl)
theorem dX12_flashByte_121 : decode cX12_flashByte 121 = .ok (.ifCond .eq 7, 3) := dk_153 0 7 (dk_at dksX12_flashByte_5 5 rfl rfl)
theorem dX12_flashByte_124 : decode cX12_flashByte 124 = .ok (.iconst 3, 1) := dk_6 (dk_at dksX12_flashByte_5 8 rfl rfl)
theorem dX12_flashByte_125 : decode cX12_flashByte 125 = .ok (.goto 4, 3) := dk_167 0 4 (dk_at dksX12_flashByte_5 9 rfl rfl)
theorem dX12_flashByte_128 : decode cX12_flashByte 128 = .ok (.iconst 1, 1) := dk_4 (dk_at dksX12_flashByte_5 12 rfl rfl)
theorem dX12_flashByte_129 : decode cX12_flashByte 129 = .ok (.ishr, 1) := dk_122 (dk_at dksX12_flashByte_5 13 rfl rfl)
theorem dX12_flashByte_130 : decode cX12_flashByte 130 = .ok (.iconst 1, 1) := dk_4 (dk_at dksX12_flashByte_5 14 rfl rfl)
theorem dX12_flashByte_131 : decode cX12_flashByte 131 = .ok (.iand, 1) := dk_126 (dk_at dksX12_flashByte_5 15 rfl rfl)
theorem dX12_flashByte_132 : decode cX12_flashByte 132 = .ok (.ifCond .ne 7, 3) := dk_154 0 7 (dk_at dksX12_flashByte_5 16 rfl rfl)
theorem dX12_flashByte_135 : decode cX12_flashByte 135 = .ok (.sipush 255, 3) := dk_17 0 255 (dk_at dksX12_flashByte_5 19 rfl rfl)
theorem dX12_flashByte_138 : decode cX12_flashByte 138 = .ok (.ireturn, 1) := dk_172 (dk_at dksX12_flashByte_5 22 rfl rfl)
theorem dX12_flashByte_139 : decode cX12_flashByte 139 = .ok (.iload_n 1, 1) := dk_27 (dk_at dksX12_flashByte_5 23 rfl rfl)
theorem dX12_flashByte_140 : decode cX12_flashByte 140 = .ok (.iconst 2, 1) := dk_5 (dk_at dksX12_flashByte_6 0 rfl rfl)
theorem dX12_flashByte_141 : decode cX12_flashByte 141 = .ok (.irem, 1) := dk_112 (dk_at dksX12_flashByte_6 1 rfl rfl)
theorem dX12_flashByte_142 : decode cX12_flashByte 142 = .ok (.ifCond .ne 15, 3) := dk_154 0 15 (dk_at dksX12_flashByte_6 2 rfl rfl)
theorem dX12_flashByte_145 : decode cX12_flashByte 145 = .ok (.aload_n 0, 1) := dk_42 (dk_at dksX12_flashByte_6 5 rfl rfl)
theorem dX12_flashByte_146 : decode cX12_flashByte 146 = .ok (.iload_n 2, 1) := dk_28 (dk_at dksX12_flashByte_6 6 rfl rfl)
theorem dX12_flashByte_147 : decode cX12_flashByte 147 = .ok (.invokevirtual 228, 3) := dk_182 0 228 (dk_at dksX12_flashByte_6 7 rfl rfl)
theorem dX12_flashByte_150 : decode cX12_flashByte 150 = .ok (.sipush 255, 3) := dk_17 0 255 (dk_at dksX12_flashByte_6 10 rfl rfl)
theorem dX12_flashByte_153 : decode cX12_flashByte 153 = .ok (.iand, 1) := dk_126 (dk_at dksX12_flashByte_6 13 rfl rfl)
theorem dX12_flashByte_154 : decode cX12_flashByte 154 = .ok (.goto 11, 3) := dk_167 0 11 (dk_at dksX12_flashByte_6 14 rfl rfl)
theorem dX12_flashByte_157 : decode cX12_flashByte 157 = .ok (.aload_n 0, 1) := dk_42 (dk_at dksX12_flashByte_6 17 rfl rfl)
theorem dX12_flashByte_158 : decode cX12_flashByte 158 = .ok (.iload_n 2, 1) := dk_28 (dk_at dksX12_flashByte_6 18 rfl rfl)
theorem dX12_flashByte_159 : decode cX12_flashByte 159 = .ok (.invokevirtual 228, 3) := dk_182 0 228 (dk_at dksX12_flashByte_6 19 rfl rfl)
theorem dX12_flashByte_162 : decode cX12_flashByte 162 = .ok (.bipush 8, 2) := dk_16 8 (dk_at dksX12_flashByte_6 22 rfl rfl)
theorem dX12_flashByte_164 : decode cX12_flashByte 164 = .ok (.ishr, 1) := dk_122 (dk_at dksX12_flashByte_7 0 rfl rfl)
theorem dX12_flashByte_165 : decode cX12_flashByte 165 = .ok (.ireturn, 1) := dk_172 (dk_at dksX12_flashByte_7 1 rfl rfl)
abbrev cX12_pop : ByteArray := prog_13_method_35_code
def yX12_pop : MethodName := ⟨RX12, "pop", "()I"⟩
def dkwX12_pop_1 : List UInt8 := [172]
abbrev dktX12_pop_1 : List UInt8 := dkwX12_pop_1 ++ []
def dkwX12_pop_0 : List UInt8 := [42, 16, 93, 182, 0, 231, 4, 96, 18, 43, 126, 60, 42, 16, 93, 27, 182, 0, 238, 42, 27, 182, 0, 241]
abbrev dktX12_pop_0 : List UInt8 := dkwX12_pop_0 ++ dktX12_pop_1
theorem dksX12_pop_0 : cX12_pop.data.toList.drop 0 = dktX12_pop_0 := by decide +kernel
theorem dksX12_pop_1 : cX12_pop.data.toList.drop 24 = dktX12_pop_1 := dk_seg dksX12_pop_0 24 rfl rfl
theorem dX12_pop_0 : decode cX12_pop 0 = .ok (.aload_n 0, 1) := dk_42 (dk_at dksX12_pop_0 0 rfl rfl)
theorem dX12_pop_1 : decode cX12_pop 1 = .ok (.bipush 93, 2) := dk_16 93 (dk_at dksX12_pop_0 1 rfl rfl)
theorem dX12_pop_3 : decode cX12_pop 3 = .ok (.invokevirtual 231, 3) := dk_182 0 231 (dk_at dksX12_pop_0 3 rfl rfl)
theorem dX12_pop_6 : decode cX12_pop 6 = .ok (.iconst 1, 1) := dk_4 (dk_at dksX12_pop_0 6 rfl rfl)
theorem dX12_pop_7 : decode cX12_pop 7 = .ok (.iadd, 1) := dk_96 (dk_at dksX12_pop_0 7 rfl rfl)
theorem dX12_pop_8 : decode cX12_pop 8 = .ok (.ldc 43, 2) := dk_18 43 (dk_at dksX12_pop_0 8 rfl rfl)
theorem dX12_pop_10 : decode cX12_pop 10 = .ok (.iand, 1) := dk_126 (dk_at dksX12_pop_0 10 rfl rfl)
theorem dX12_pop_11 : decode cX12_pop 11 = .ok (.istore_n 1, 1) := dk_60 (dk_at dksX12_pop_0 11 rfl rfl)
theorem dX12_pop_12 : decode cX12_pop 12 = .ok (.aload_n 0, 1) := dk_42 (dk_at dksX12_pop_0 12 rfl rfl)
theorem dX12_pop_13 : decode cX12_pop 13 = .ok (.bipush 93, 2) := dk_16 93 (dk_at dksX12_pop_0 13 rfl rfl)
theorem dX12_pop_15 : decode cX12_pop 15 = .ok (.iload_n 1, 1) := dk_27 (dk_at dksX12_pop_0 15 rfl rfl)
theorem dX12_pop_16 : decode cX12_pop 16 = .ok (.invokevirtual 238, 3) := dk_182 0 238 (dk_at dksX12_pop_0 16 rfl rfl)
theorem dX12_pop_19 : decode cX12_pop 19 = .ok (.aload_n 0, 1) := dk_42 (dk_at dksX12_pop_0 19 rfl rfl)
theorem dX12_pop_20 : decode cX12_pop 20 = .ok (.iload_n 1, 1) := dk_27 (dk_at dksX12_pop_0 20 rfl rfl)
theorem dX12_pop_21 : decode cX12_pop 21 = .ok (.invokevirtual 241, 3) := dk_182 0 241 (dk_at dksX12_pop_0 21 rfl rfl)
theorem dX12_pop_24 : decode cX12_pop 24 = .ok (.ireturn, 1) := dk_172 (dk_at dksX12_pop_1 0 rfl rfl)
abbrev cX12_load : ByteArray := prog_13_method_10_code
def yX12_load : MethodName := ⟨RX12, "load", "(I)I"⟩
def dkwX12_load_2 : List UInt8 := [46, 17, 0, 247, 126, 79, 42, 182, 0, 141, 28, 172]
abbrev dktX12_load_2 : List UInt8 := dkwX12_load_2 ++ []
def dkwX12_load_1 : List UInt8 := [180, 0, 138, 181, 0, 128, 42, 89, 180, 0, 119, 4, 100, 181, 0, 119, 42, 180, 0, 16, 17, 0, 192, 92]
abbrev dktX12_load_1 : List UInt8 := dkwX12_load_1 ++ dktX12_load_2
def dkwX12_load_0 : List UInt8 := [42, 27, 182, 0, 134, 61, 27, 17, 0, 198, 160, 0, 46, 42, 180, 0, 119, 158, 0, 21, 42, 42]
abbrev dktX12_load_0 : List UInt8 := dkwX12_load_0 ++ dktX12_load_1
theorem dksX12_load_0 : cX12_load.data.toList.drop 0 = dktX12_load_0 := by decide +kernel
theorem dksX12_load_1 : cX12_load.data.toList.drop 22 = dktX12_load_1 := dk_seg dksX12_load_0 22 rfl rfl
theorem dksX12_load_2 : cX12_load.data.toList.drop 46 = dktX12_load_2 := dk_seg dksX12_load_1 24 rfl rfl
theorem dX12_load_0 : decode cX12_load 0 = .ok (.aload_n 0, 1) := dk_42 (dk_at dksX12_load_0 0 rfl rfl)
theorem dX12_load_1 : decode cX12_load 1 = .ok (.iload_n 1, 1) := dk_27 (dk_at dksX12_load_0 1 rfl rfl)
theorem dX12_load_2 : decode cX12_load 2 = .ok (.invokevirtual 134, 3) := dk_182 0 134 (dk_at dksX12_load_0 2 rfl rfl)
theorem dX12_load_5 : decode cX12_load 5 = .ok (.istore_n 2, 1) := dk_61 (dk_at dksX12_load_0 5 rfl rfl)
theorem dX12_load_6 : decode cX12_load 6 = .ok (.iload_n 1, 1) := dk_27 (dk_at dksX12_load_0 6 rfl rfl)
theorem dX12_load_7 : decode cX12_load 7 = .ok (.sipush 198, 3) := dk_17 0 198 (dk_at dksX12_load_0 7 rfl rfl)
theorem dX12_load_10 : decode cX12_load 10 = .ok (.if_icmp .ne 46, 3) := dk_160 0 46 (dk_at dksX12_load_0 10 rfl rfl)
theorem dX12_load_13 : decode cX12_load 13 = .ok (.aload_n 0, 1) := dk_42 (dk_at dksX12_load_0 13 rfl rfl)
theorem dX12_load_14 : decode cX12_load 14 = .ok (.getfield 119, 3) := dk_180 0 119 (dk_at dksX12_load_0 14 rfl rfl)
theorem dX12_load_17 : decode cX12_load 17 = .ok (.ifCond .le 21, 3) := dk_158 0 21 (dk_at dksX12_load_0 17 rfl rfl)
theorem dX12_load_20 : decode cX12_load 20 = .ok (.aload_n 0, 1) := dk_42 (dk_at dksX12_load_0 20 rfl rfl)
theorem dX12_load_21 : decode cX12_load 21 = .ok (.aload_n 0, 1) := dk_42 (dk_at dksX12_load_0 21 rfl rfl)
theorem dX12_load_22 : decode cX12_load 22 = .ok (.getfield 138, 3) := dk_180 0 138 (dk_at dksX12_load_1 0 rfl rfl)
theorem dX12_load_25 : decode cX12_load 25 = .ok (.putfield 128, 3) := dk_181 0 128 (dk_at dksX12_load_1 3 rfl rfl)
theorem dX12_load_28 : decode cX12_load 28 = .ok (.aload_n 0, 1) := dk_42 (dk_at dksX12_load_1 6 rfl rfl)
theorem dX12_load_29 : decode cX12_load 29 = .ok (.dup, 1) := dk_89 (dk_at dksX12_load_1 7 rfl rfl)
theorem dX12_load_30 : decode cX12_load 30 = .ok (.getfield 119, 3) := dk_180 0 119 (dk_at dksX12_load_1 8 rfl rfl)
theorem dX12_load_33 : decode cX12_load 33 = .ok (.iconst 1, 1) := dk_4 (dk_at dksX12_load_1 11 rfl rfl)
theorem dX12_load_34 : decode cX12_load 34 = .ok (.isub, 1) := dk_100 (dk_at dksX12_load_1 12 rfl rfl)
theorem dX12_load_35 : decode cX12_load 35 = .ok (.putfield 119, 3) := dk_181 0 119 (dk_at dksX12_load_1 13 rfl rfl)
theorem dX12_load_38 : decode cX12_load 38 = .ok (.aload_n 0, 1) := dk_42 (dk_at dksX12_load_1 16 rfl rfl)
theorem dX12_load_39 : decode cX12_load 39 = .ok (.getfield 16, 3) := dk_180 0 16 (dk_at dksX12_load_1 17 rfl rfl)
theorem dX12_load_42 : decode cX12_load 42 = .ok (.sipush 192, 3) := dk_17 0 192 (dk_at dksX12_load_1 20 rfl rfl)
theorem dX12_load_45 : decode cX12_load 45 = .ok (.dup2, 1) := dk_92 (dk_at dksX12_load_1 23 rfl rfl)
theorem dX12_load_46 : decode cX12_load 46 = .ok (.iaload, 1) := dk_46 (dk_at dksX12_load_2 0 rfl rfl)
theorem dX12_load_47 : decode cX12_load 47 = .ok (.sipush 247, 3) := dk_17 0 247 (dk_at dksX12_load_2 1 rfl rfl)
theorem dX12_load_50 : decode cX12_load 50 = .ok (.iand, 1) := dk_126 (dk_at dksX12_load_2 4 rfl rfl)
theorem dX12_load_51 : decode cX12_load 51 = .ok (.iastore, 1) := dk_79 (dk_at dksX12_load_2 5 rfl rfl)
theorem dX12_load_52 : decode cX12_load 52 = .ok (.aload_n 0, 1) := dk_42 (dk_at dksX12_load_2 6 rfl rfl)
theorem dX12_load_53 : decode cX12_load 53 = .ok (.invokevirtual 141, 3) := dk_182 0 141 (dk_at dksX12_load_2 7 rfl rfl)
theorem dX12_load_56 : decode cX12_load 56 = .ok (.iload_n 2, 1) := dk_28 (dk_at dksX12_load_2 10 rfl rfl)
theorem dX12_load_57 : decode cX12_load 57 = .ok (.ireturn, 1) := dk_172 (dk_at dksX12_load_2 11 rfl rfl)
abbrev cX12_seen : ByteArray := prog_13_method_9_code
def yX12_seen : MethodName := ⟨RX12, "seen", "(I)I"⟩
def dkwX12_seen_4 : List UInt8 := [167, 0, 9, 42, 180, 0, 16, 27, 46, 172]
abbrev dktX12_seen_4 : List UInt8 := dkwX12_seen_4 ++ []
def dkwX12_seen_3 : List UInt8 := [17, 0, 255, 126, 128, 172, 27, 16, 63, 160, 0, 17, 42, 180, 0, 16, 16, 63, 46, 17, 0, 254, 126]
abbrev dktX12_seen_3 : List UInt8 := dkwX12_seen_3 ++ dktX12_seen_4
def dkwX12_seen_2 : List UInt8 := [46, 42, 180, 0, 16, 16, 36, 46, 126, 42, 180, 0, 131, 42, 180, 0, 16, 16, 36, 46, 2, 130, 126]
abbrev dktX12_seen_2 : List UInt8 := dkwX12_seen_2 ++ dktX12_seen_3
def dkwX12_seen_1 : List UInt8 := [158, 0, 10, 42, 180, 0, 128, 167, 0, 4, 3, 172, 27, 16, 35, 160, 0, 38, 42, 180, 0, 16, 16, 37]
abbrev dktX12_seen_1 : List UInt8 := dkwX12_seen_1 ++ dktX12_seen_2
def dkwX12_seen_0 : List UInt8 := [27, 155, 0, 10, 27, 17, 5, 0, 161, 0, 5, 3, 172, 27, 17, 0, 198, 160, 0, 19, 42, 180, 0, 119]
abbrev dktX12_seen_0 : List UInt8 := dkwX12_seen_0 ++ dktX12_seen_1
theorem dksX12_seen_0 : cX12_seen.data.toList.drop 0 = dktX12_seen_0 := by decide +kernel
theorem dksX12_seen_1 : cX12_seen.data.toList.drop 24 = dktX12_seen_1 := dk_seg dksX12_seen_0 24 rfl rfl
theorem dksX12_seen_2 : cX12_seen.data.toList.drop 48 = dktX12_seen_2 := dk_seg dksX12_seen_1 24 rfl rfl
theorem dksX12_seen_3 : cX12_seen.data.toList.drop 71 = dktX12_seen_3 := dk_seg dksX12_seen_2 23 rfl rfl
theorem dksX12_seen_4 : cX12_seen.data.toList.drop 94 = dktX12_seen_4 := dk_seg dksX12_seen_3 23 rfl rfl
theorem dX12_seen_0 : decode cX12_seen 0 = .ok (.iload_n 1, 1) := dk_27 (dk_at dksX12_seen_0 0 rfl rfl)
theorem dX12_seen_1 : decode cX12_seen 1 = .ok (.ifCond .lt 10, 3) := dk_155 0 10 (dk_at dksX12_seen_0 1 rfl rfl)
theorem dX12_seen_4 : decode cX12_seen 4 = .ok (.iload_n 1, 1) := dk_27 (dk_at dksX12_seen_0 4 rfl rfl)
theorem dX12_seen_5 : decode cX12_seen 5 = .ok (.sipush 1280, 3) := dk_17 5 0 (dk_at dksX12_seen_0 5 rfl rfl)
theorem dX12_seen_8 : decode cX12_seen 8 = .ok (.if_icmp .lt 5, 3) := dk_161 0 5 (dk_at dksX12_seen_0 8 rfl rfl)
theorem dX12_seen_11 : decode cX12_seen 11 = .ok (.iconst 0, 1) := dk_3 (dk_at dksX12_seen_0 11 rfl rfl)
theorem dX12_seen_12 : decode cX12_seen 12 = .ok (.ireturn, 1) := dk_172 (dk_at dksX12_seen_0 12 rfl rfl)
theorem dX12_seen_13 : decode cX12_seen 13 = .ok (.iload_n 1, 1) := dk_27 (dk_at dksX12_seen_0 13 rfl rfl)
theorem dX12_seen_14 : decode cX12_seen 14 = .ok (.sipush 198, 3) := dk_17 0 198 (dk_at dksX12_seen_0 14 rfl rfl)
theorem dX12_seen_17 : decode cX12_seen 17 = .ok (.if_icmp .ne 19, 3) := dk_160 0 19 (dk_at dksX12_seen_0 17 rfl rfl)
theorem dX12_seen_20 : decode cX12_seen 20 = .ok (.aload_n 0, 1) := dk_42 (dk_at dksX12_seen_0 20 rfl rfl)
theorem dX12_seen_21 : decode cX12_seen 21 = .ok (.getfield 119, 3) := dk_180 0 119 (dk_at dksX12_seen_0 21 rfl rfl)
theorem dX12_seen_24 : decode cX12_seen 24 = .ok (.ifCond .le 10, 3) := dk_158 0 10 (dk_at dksX12_seen_1 0 rfl rfl)
theorem dX12_seen_27 : decode cX12_seen 27 = .ok (.aload_n 0, 1) := dk_42 (dk_at dksX12_seen_1 3 rfl rfl)
theorem dX12_seen_28 : decode cX12_seen 28 = .ok (.getfield 128, 3) := dk_180 0 128 (dk_at dksX12_seen_1 4 rfl rfl)
theorem dX12_seen_31 : decode cX12_seen 31 = .ok (.goto 4, 3) := dk_167 0 4 (dk_at dksX12_seen_1 7 rfl rfl)
theorem dX12_seen_34 : decode cX12_seen 34 = .ok (.iconst 0, 1) := dk_3 (dk_at dksX12_seen_1 10 rfl rfl)
theorem dX12_seen_35 : decode cX12_seen 35 = .ok (.ireturn, 1) := dk_172 (dk_at dksX12_seen_1 11 rfl rfl)
theorem dX12_seen_36 : decode cX12_seen 36 = .ok (.iload_n 1, 1) := dk_27 (dk_at dksX12_seen_1 12 rfl rfl)
theorem dX12_seen_37 : decode cX12_seen 37 = .ok (.bipush 35, 2) := dk_16 35 (dk_at dksX12_seen_1 13 rfl rfl)
theorem dX12_seen_39 : decode cX12_seen 39 = .ok (.if_icmp .ne 38, 3) := dk_160 0 38 (dk_at dksX12_seen_1 15 rfl rfl)
theorem dX12_seen_42 : decode cX12_seen 42 = .ok (.aload_n 0, 1) := dk_42 (dk_at dksX12_seen_1 18 rfl rfl)
theorem dX12_seen_43 : decode cX12_seen 43 = .ok (.getfield 16, 3) := dk_180 0 16 (dk_at dksX12_seen_1 19 rfl rfl)
theorem dX12_seen_46 : decode cX12_seen 46 = .ok (.bipush 37, 2) := dk_16 37 (dk_at dksX12_seen_1 22 rfl rfl)
theorem dX12_seen_48 : decode cX12_seen 48 = .ok (.iaload, 1) := dk_46 (dk_at dksX12_seen_2 0 rfl rfl)
theorem dX12_seen_49 : decode cX12_seen 49 = .ok (.aload_n 0, 1) := dk_42 (dk_at dksX12_seen_2 1 rfl rfl)
theorem dX12_seen_50 : decode cX12_seen 50 = .ok (.getfield 16, 3) := dk_180 0 16 (dk_at dksX12_seen_2 2 rfl rfl)
theorem dX12_seen_53 : decode cX12_seen 53 = .ok (.bipush 36, 2) := dk_16 36 (dk_at dksX12_seen_2 5 rfl rfl)
theorem dX12_seen_55 : decode cX12_seen 55 = .ok (.iaload, 1) := dk_46 (dk_at dksX12_seen_2 7 rfl rfl)
theorem dX12_seen_56 : decode cX12_seen 56 = .ok (.iand, 1) := dk_126 (dk_at dksX12_seen_2 8 rfl rfl)
theorem dX12_seen_57 : decode cX12_seen 57 = .ok (.aload_n 0, 1) := dk_42 (dk_at dksX12_seen_2 9 rfl rfl)
theorem dX12_seen_58 : decode cX12_seen 58 = .ok (.getfield 131, 3) := dk_180 0 131 (dk_at dksX12_seen_2 10 rfl rfl)
theorem dX12_seen_61 : decode cX12_seen 61 = .ok (.aload_n 0, 1) := dk_42 (dk_at dksX12_seen_2 13 rfl rfl)
theorem dX12_seen_62 : decode cX12_seen 62 = .ok (.getfield 16, 3) := dk_180 0 16 (dk_at dksX12_seen_2 14 rfl rfl)
theorem dX12_seen_65 : decode cX12_seen 65 = .ok (.bipush 36, 2) := dk_16 36 (dk_at dksX12_seen_2 17 rfl rfl)
theorem dX12_seen_67 : decode cX12_seen 67 = .ok (.iaload, 1) := dk_46 (dk_at dksX12_seen_2 19 rfl rfl)
theorem dX12_seen_68 : decode cX12_seen 68 = .ok (.iconst (-1), 1) := dk_2 (dk_at dksX12_seen_2 20 rfl rfl)
theorem dX12_seen_69 : decode cX12_seen 69 = .ok (.ixor, 1) := dk_130 (dk_at dksX12_seen_2 21 rfl rfl)
theorem dX12_seen_70 : decode cX12_seen 70 = .ok (.iand, 1) := dk_126 (dk_at dksX12_seen_2 22 rfl rfl)
theorem dX12_seen_71 : decode cX12_seen 71 = .ok (.sipush 255, 3) := dk_17 0 255 (dk_at dksX12_seen_3 0 rfl rfl)
theorem dX12_seen_74 : decode cX12_seen 74 = .ok (.iand, 1) := dk_126 (dk_at dksX12_seen_3 3 rfl rfl)
theorem dX12_seen_75 : decode cX12_seen 75 = .ok (.ior, 1) := dk_128 (dk_at dksX12_seen_3 4 rfl rfl)
theorem dX12_seen_76 : decode cX12_seen 76 = .ok (.ireturn, 1) := dk_172 (dk_at dksX12_seen_3 5 rfl rfl)
theorem dX12_seen_77 : decode cX12_seen 77 = .ok (.iload_n 1, 1) := dk_27 (dk_at dksX12_seen_3 6 rfl rfl)
theorem dX12_seen_78 : decode cX12_seen 78 = .ok (.bipush 63, 2) := dk_16 63 (dk_at dksX12_seen_3 7 rfl rfl)
theorem dX12_seen_80 : decode cX12_seen 80 = .ok (.if_icmp .ne 17, 3) := dk_160 0 17 (dk_at dksX12_seen_3 9 rfl rfl)
theorem dX12_seen_83 : decode cX12_seen 83 = .ok (.aload_n 0, 1) := dk_42 (dk_at dksX12_seen_3 12 rfl rfl)
theorem dX12_seen_84 : decode cX12_seen 84 = .ok (.getfield 16, 3) := dk_180 0 16 (dk_at dksX12_seen_3 13 rfl rfl)
theorem dX12_seen_87 : decode cX12_seen 87 = .ok (.bipush 63, 2) := dk_16 63 (dk_at dksX12_seen_3 16 rfl rfl)
theorem dX12_seen_89 : decode cX12_seen 89 = .ok (.iaload, 1) := dk_46 (dk_at dksX12_seen_3 18 rfl rfl)
theorem dX12_seen_90 : decode cX12_seen 90 = .ok (.sipush 254, 3) := dk_17 0 254 (dk_at dksX12_seen_3 19 rfl rfl)
theorem dX12_seen_93 : decode cX12_seen 93 = .ok (.iand, 1) := dk_126 (dk_at dksX12_seen_3 22 rfl rfl)
theorem dX12_seen_94 : decode cX12_seen 94 = .ok (.goto 9, 3) := dk_167 0 9 (dk_at dksX12_seen_4 0 rfl rfl)
theorem dX12_seen_97 : decode cX12_seen 97 = .ok (.aload_n 0, 1) := dk_42 (dk_at dksX12_seen_4 3 rfl rfl)
theorem dX12_seen_98 : decode cX12_seen 98 = .ok (.getfield 16, 3) := dk_180 0 16 (dk_at dksX12_seen_4 4 rfl rfl)
theorem dX12_seen_101 : decode cX12_seen 101 = .ok (.iload_n 1, 1) := dk_27 (dk_at dksX12_seen_4 7 rfl rfl)
theorem dX12_seen_102 : decode cX12_seen 102 = .ok (.iaload, 1) := dk_46 (dk_at dksX12_seen_4 8 rfl rfl)
theorem dX12_seen_103 : decode cX12_seen 103 = .ok (.ireturn, 1) := dk_172 (dk_at dksX12_seen_4 9 rfl rfl)
abbrev cX12_showReceived : ByteArray := prog_13_method_11_code
def yX12_showReceived : MethodName := ⟨RX12, "showReceived", "()V"⟩
def dkwX12_showReceived_1 : List UInt8 := [158, 0, 9, 17, 0, 128, 167, 0, 4, 3, 128, 79, 177]
abbrev dktX12_showReceived_1 : List UInt8 := dkwX12_showReceived_1 ++ []
def dkwX12_showReceived_0 : List UInt8 := [42, 180, 0, 16, 17, 0, 192, 42, 180, 0, 16, 17, 0, 192, 46, 16, 127, 126, 42, 180, 0, 119]
abbrev dktX12_showReceived_0 : List UInt8 := dkwX12_showReceived_0 ++ dktX12_showReceived_1
theorem dksX12_showReceived_0 : cX12_showReceived.data.toList.drop 0 = dktX12_showReceived_0 := by decide +kernel
theorem dksX12_showReceived_1 : cX12_showReceived.data.toList.drop 22 = dktX12_showReceived_1 := dk_seg dksX12_showReceived_0 22 rfl rfl
theorem dX12_showReceived_0 : decode cX12_showReceived 0 = .ok (.aload_n 0, 1) := dk_42 (dk_at dksX12_showReceived_0 0 rfl rfl)
theorem dX12_showReceived_1 : decode cX12_showReceived 1 = .ok (.getfield 16, 3) := dk_180 0 16 (dk_at dksX12_showReceived_0 1 rfl rfl)
theorem dX12_showReceived_4 : decode cX12_showReceived 4 = .ok (.sipush 192, 3) := dk_17 0 192 (dk_at dksX12_showReceived_0 4 rfl rfl)
theorem dX12_showReceived_7 : decode cX12_showReceived 7 = .ok (.aload_n 0, 1) := dk_42 (dk_at dksX12_showReceived_0 7 rfl rfl)
theorem dX12_showReceived_8 : decode cX12_showReceived 8 = .ok (.getfield 16, 3) := dk_180 0 16 (dk_at dksX12_showReceived_0 8 rfl rfl)
theorem dX12_showReceived_11 : decode cX12_showReceived 11 = .ok (.sipush 192, 3) := dk_17 0 192 (dk_at dksX12_showReceived_0 11 rfl rfl)
theorem dX12_showReceived_14 : decode cX12_showReceived 14 = .ok (.iaload, 1) := dk_46 (dk_at dksX12_showReceived_0 14 rfl rfl)
theorem dX12_showReceived_15 : decode cX12_showReceived 15 = .ok (.bipush 127, 2) := dk_16 127 (dk_at dksX12_showReceived_0 15 rfl rfl)
theorem dX12_showReceived_17 : decode cX12_showReceived 17 = .ok (.iand, 1) := dk_126 (dk_at dksX12_showReceived_0 17 rfl rfl)
theorem dX12_showReceived_18 : decode cX12_showReceived 18 = .ok (.aload_n 0, 1) := dk_42 (dk_at dksX12_showReceived_0 18 rfl rfl)
theorem dX12_showReceived_19 : decode cX12_showReceived 19 = .ok (.getfield 119, 3) := dk_180 0 119 (dk_at dksX12_showReceived_0 19 rfl rfl)
theorem dX12_showReceived_22 : decode cX12_showReceived 22 = .ok (.ifCond .le 9, 3) := dk_158 0 9 (dk_at dksX12_showReceived_1 0 rfl rfl)
theorem dX12_showReceived_25 : decode cX12_showReceived 25 = .ok (.sipush 128, 3) := dk_17 0 128 (dk_at dksX12_showReceived_1 3 rfl rfl)
theorem dX12_showReceived_28 : decode cX12_showReceived 28 = .ok (.goto 4, 3) := dk_167 0 4 (dk_at dksX12_showReceived_1 6 rfl rfl)
theorem dX12_showReceived_31 : decode cX12_showReceived 31 = .ok (.iconst 0, 1) := dk_3 (dk_at dksX12_showReceived_1 9 rfl rfl)
theorem dX12_showReceived_32 : decode cX12_showReceived 32 = .ok (.ior, 1) := dk_128 (dk_at dksX12_showReceived_1 10 rfl rfl)
theorem dX12_showReceived_33 : decode cX12_showReceived 33 = .ok (.iastore, 1) := dk_79 (dk_at dksX12_showReceived_1 11 rfl rfl)
theorem dX12_showReceived_34 : decode cX12_showReceived 34 = .ok (.return_, 1) := dk_177 (dk_at dksX12_showReceived_1 12 rfl rfl)
abbrev cX12_place : ByteArray := prog_13_method_55_code
def yX12_place : MethodName := ⟨RX12, "place", "(I)I"⟩
def dkwX12_place_5 : List UInt8 := [182, 0, 238, 21, 4, 2, 160, 0, 12, 29, 4, 100, 18, 43, 126, 167, 0, 4, 29, 172]
abbrev dktX12_place_5 : List UInt8 := dkwX12_place_5 ++ []
def dkwX12_place_4 : List UInt8 := [159, 0, 9, 27, 16, 13, 160, 0, 7, 4, 167, 0, 4, 2, 54, 4, 42, 28, 29, 21, 4, 96]
abbrev dktX12_place_4 : List UInt8 := dkwX12_place_4 ++ dktX12_place_5
def dkwX12_place_3 : List UInt8 := [182, 0, 231, 62, 27, 16, 12, 160, 0, 7, 3, 167, 0, 25, 27, 4, 159, 0, 15, 27, 16, 9]
abbrev dktX12_place_3 : List UInt8 := dkwX12_place_3 ++ dktX12_place_4
def dkwX12_place_2 : List UInt8 := [167, 0, 4, 2, 61, 27, 154, 0, 8, 42, 182, 1, 3, 172, 28, 2, 160, 0, 5, 2, 172, 42, 28]
abbrev dktX12_place_2 : List UInt8 := dkwX12_place_2 ++ dktX12_place_3
def dkwX12_place_1 : List UInt8 := [160, 0, 8, 16, 28, 167, 0, 21, 27, 16, 12, 161, 0, 14, 27, 16, 14, 163, 0, 8, 16, 26]
abbrev dktX12_place_1 : List UInt8 := dkwX12_place_1 ++ dktX12_place_2
def dkwX12_place_0 : List UInt8 := [27, 4, 159, 0, 8, 27, 5, 160, 0, 8, 16, 30, 167, 0, 38, 27, 16, 9, 159, 0, 9, 27, 16, 10]
abbrev dktX12_place_0 : List UInt8 := dkwX12_place_0 ++ dktX12_place_1
theorem dksX12_place_0 : cX12_place.data.toList.drop 0 = dktX12_place_0 := by decide +kernel
theorem dksX12_place_1 : cX12_place.data.toList.drop 24 = dktX12_place_1 := dk_seg dksX12_place_0 24 rfl rfl
theorem dksX12_place_2 : cX12_place.data.toList.drop 46 = dktX12_place_2 := dk_seg dksX12_place_1 22 rfl rfl
theorem dksX12_place_3 : cX12_place.data.toList.drop 69 = dktX12_place_3 := dk_seg dksX12_place_2 23 rfl rfl
theorem dksX12_place_4 : cX12_place.data.toList.drop 91 = dktX12_place_4 := dk_seg dksX12_place_3 22 rfl rfl
theorem dksX12_place_5 : cX12_place.data.toList.drop 113 = dktX12_place_5 := dk_seg dksX12_place_4 22 rfl rfl
theorem dX12_place_0 : decode cX12_place 0 = .ok (.iload_n 1, 1) := dk_27 (dk_at dksX12_place_0 0 rfl rfl)
theorem dX12_place_1 : decode cX12_place 1 = .ok (.iconst 1, 1) := dk_4 (dk_at dksX12_place_0 1 rfl rfl)
theorem dX12_place_2 : decode cX12_place 2 = .ok (.if_icmp .eq 8, 3) := dk_159 0 8 (dk_at dksX12_place_0 2 rfl rfl)
theorem dX12_place_5 : decode cX12_place 5 = .ok (.iload_n 1, 1) := dk_27 (dk_at dksX12_place_0 5 rfl rfl)
theorem dX12_place_6 : decode cX12_place 6 = .ok (.iconst 2, 1) := dk_5 (dk_at dksX12_place_0 6 rfl rfl)
theorem dX12_place_7 : decode cX12_place 7 = .ok (.if_icmp .ne 8, 3) := dk_160 0 8 (dk_at dksX12_place_0 7 rfl rfl)
theorem dX12_place_10 : decode cX12_place 10 = .ok (.bipush 30, 2) := dk_16 30 (dk_at dksX12_place_0 10 rfl rfl)
theorem dX12_place_12 : decode cX12_place 12 = .ok (.goto 38, 3) := dk_167 0 38 (dk_at dksX12_place_0 12 rfl rfl)
theorem dX12_place_15 : decode cX12_place 15 = .ok (.iload_n 1, 1) := dk_27 (dk_at dksX12_place_0 15 rfl rfl)
theorem dX12_place_16 : decode cX12_place 16 = .ok (.bipush 9, 2) := dk_16 9 (dk_at dksX12_place_0 16 rfl rfl)
theorem dX12_place_18 : decode cX12_place 18 = .ok (.if_icmp .eq 9, 3) := dk_159 0 9 (dk_at dksX12_place_0 18 rfl rfl)
theorem dX12_place_21 : decode cX12_place 21 = .ok (.iload_n 1, 1) := dk_27 (dk_at dksX12_place_0 21 rfl rfl)
theorem dX12_place_22 : decode cX12_place 22 = .ok (.bipush 10, 2) := dk_16 10 (dk_at dksX12_place_0 22 rfl rfl)
theorem dX12_place_24 : decode cX12_place 24 = .ok (.if_icmp .ne 8, 3) := dk_160 0 8 (dk_at dksX12_place_1 0 rfl rfl)
theorem dX12_place_27 : decode cX12_place 27 = .ok (.bipush 28, 2) := dk_16 28 (dk_at dksX12_place_1 3 rfl rfl)
theorem dX12_place_29 : decode cX12_place 29 = .ok (.goto 21, 3) := dk_167 0 21 (dk_at dksX12_place_1 5 rfl rfl)
theorem dX12_place_32 : decode cX12_place 32 = .ok (.iload_n 1, 1) := dk_27 (dk_at dksX12_place_1 8 rfl rfl)
theorem dX12_place_33 : decode cX12_place 33 = .ok (.bipush 12, 2) := dk_16 12 (dk_at dksX12_place_1 9 rfl rfl)
theorem dX12_place_35 : decode cX12_place 35 = .ok (.if_icmp .lt 14, 3) := dk_161 0 14 (dk_at dksX12_place_1 11 rfl rfl)
theorem dX12_place_38 : decode cX12_place 38 = .ok (.iload_n 1, 1) := dk_27 (dk_at dksX12_place_1 14 rfl rfl)
theorem dX12_place_39 : decode cX12_place 39 = .ok (.bipush 14, 2) := dk_16 14 (dk_at dksX12_place_1 15 rfl rfl)
theorem dX12_place_41 : decode cX12_place 41 = .ok (.if_icmp .gt 8, 3) := dk_163 0 8 (dk_at dksX12_place_1 17 rfl rfl)
theorem dX12_place_44 : decode cX12_place 44 = .ok (.bipush 26, 2) := dk_16 26 (dk_at dksX12_place_1 20 rfl rfl)
theorem dX12_place_46 : decode cX12_place 46 = .ok (.goto 4, 3) := dk_167 0 4 (dk_at dksX12_place_2 0 rfl rfl)
theorem dX12_place_49 : decode cX12_place 49 = .ok (.iconst (-1), 1) := dk_2 (dk_at dksX12_place_2 3 rfl rfl)
theorem dX12_place_50 : decode cX12_place 50 = .ok (.istore_n 2, 1) := dk_61 (dk_at dksX12_place_2 4 rfl rfl)
theorem dX12_place_51 : decode cX12_place 51 = .ok (.iload_n 1, 1) := dk_27 (dk_at dksX12_place_2 5 rfl rfl)
theorem dX12_place_52 : decode cX12_place 52 = .ok (.ifCond .ne 8, 3) := dk_154 0 8 (dk_at dksX12_place_2 6 rfl rfl)
theorem dX12_place_55 : decode cX12_place 55 = .ok (.aload_n 0, 1) := dk_42 (dk_at dksX12_place_2 9 rfl rfl)
theorem dX12_place_56 : decode cX12_place 56 = .ok (.invokevirtual 259, 3) := dk_182 1 3 (dk_at dksX12_place_2 10 rfl rfl)
theorem dX12_place_59 : decode cX12_place 59 = .ok (.ireturn, 1) := dk_172 (dk_at dksX12_place_2 13 rfl rfl)
theorem dX12_place_60 : decode cX12_place 60 = .ok (.iload_n 2, 1) := dk_28 (dk_at dksX12_place_2 14 rfl rfl)
theorem dX12_place_61 : decode cX12_place 61 = .ok (.iconst (-1), 1) := dk_2 (dk_at dksX12_place_2 15 rfl rfl)
theorem dX12_place_62 : decode cX12_place 62 = .ok (.if_icmp .ne 5, 3) := dk_160 0 5 (dk_at dksX12_place_2 16 rfl rfl)
theorem dX12_place_65 : decode cX12_place 65 = .ok (.iconst (-1), 1) := dk_2 (dk_at dksX12_place_2 19 rfl rfl)
theorem dX12_place_66 : decode cX12_place 66 = .ok (.ireturn, 1) := dk_172 (dk_at dksX12_place_2 20 rfl rfl)
theorem dX12_place_67 : decode cX12_place 67 = .ok (.aload_n 0, 1) := dk_42 (dk_at dksX12_place_2 21 rfl rfl)
theorem dX12_place_68 : decode cX12_place 68 = .ok (.iload_n 2, 1) := dk_28 (dk_at dksX12_place_2 22 rfl rfl)
theorem dX12_place_69 : decode cX12_place 69 = .ok (.invokevirtual 231, 3) := dk_182 0 231 (dk_at dksX12_place_3 0 rfl rfl)
theorem dX12_place_72 : decode cX12_place 72 = .ok (.istore_n 3, 1) := dk_62 (dk_at dksX12_place_3 3 rfl rfl)
theorem dX12_place_73 : decode cX12_place 73 = .ok (.iload_n 1, 1) := dk_27 (dk_at dksX12_place_3 4 rfl rfl)
theorem dX12_place_74 : decode cX12_place 74 = .ok (.bipush 12, 2) := dk_16 12 (dk_at dksX12_place_3 5 rfl rfl)
theorem dX12_place_76 : decode cX12_place 76 = .ok (.if_icmp .ne 7, 3) := dk_160 0 7 (dk_at dksX12_place_3 7 rfl rfl)
theorem dX12_place_79 : decode cX12_place 79 = .ok (.iconst 0, 1) := dk_3 (dk_at dksX12_place_3 10 rfl rfl)
theorem dX12_place_80 : decode cX12_place 80 = .ok (.goto 25, 3) := dk_167 0 25 (dk_at dksX12_place_3 11 rfl rfl)
theorem dX12_place_83 : decode cX12_place 83 = .ok (.iload_n 1, 1) := dk_27 (dk_at dksX12_place_3 14 rfl rfl)
theorem dX12_place_84 : decode cX12_place 84 = .ok (.iconst 1, 1) := dk_4 (dk_at dksX12_place_3 15 rfl rfl)
theorem dX12_place_85 : decode cX12_place 85 = .ok (.if_icmp .eq 15, 3) := dk_159 0 15 (dk_at dksX12_place_3 16 rfl rfl)
theorem dX12_place_88 : decode cX12_place 88 = .ok (.iload_n 1, 1) := dk_27 (dk_at dksX12_place_3 19 rfl rfl)
theorem dX12_place_89 : decode cX12_place 89 = .ok (.bipush 9, 2) := dk_16 9 (dk_at dksX12_place_3 20 rfl rfl)
theorem dX12_place_91 : decode cX12_place 91 = .ok (.if_icmp .eq 9, 3) := dk_159 0 9 (dk_at dksX12_place_4 0 rfl rfl)
theorem dX12_place_94 : decode cX12_place 94 = .ok (.iload_n 1, 1) := dk_27 (dk_at dksX12_place_4 3 rfl rfl)
theorem dX12_place_95 : decode cX12_place 95 = .ok (.bipush 13, 2) := dk_16 13 (dk_at dksX12_place_4 4 rfl rfl)
theorem dX12_place_97 : decode cX12_place 97 = .ok (.if_icmp .ne 7, 3) := dk_160 0 7 (dk_at dksX12_place_4 6 rfl rfl)
theorem dX12_place_100 : decode cX12_place 100 = .ok (.iconst 1, 1) := dk_4 (dk_at dksX12_place_4 9 rfl rfl)
theorem dX12_place_101 : decode cX12_place 101 = .ok (.goto 4, 3) := dk_167 0 4 (dk_at dksX12_place_4 10 rfl rfl)
theorem dX12_place_104 : decode cX12_place 104 = .ok (.iconst (-1), 1) := dk_2 (dk_at dksX12_place_4 13 rfl rfl)
theorem dX12_place_105 : decode cX12_place 105 = .ok (.istore 4, 2) := dk_54 4 (dk_at dksX12_place_4 14 rfl rfl)
theorem dX12_place_107 : decode cX12_place 107 = .ok (.aload_n 0, 1) := dk_42 (dk_at dksX12_place_4 16 rfl rfl)
theorem dX12_place_108 : decode cX12_place 108 = .ok (.iload_n 2, 1) := dk_28 (dk_at dksX12_place_4 17 rfl rfl)
theorem dX12_place_109 : decode cX12_place 109 = .ok (.iload_n 3, 1) := dk_29 (dk_at dksX12_place_4 18 rfl rfl)
theorem dX12_place_110 : decode cX12_place 110 = .ok (.iload 4, 2) := dk_21 4 (dk_at dksX12_place_4 19 rfl rfl)
theorem dX12_place_112 : decode cX12_place 112 = .ok (.iadd, 1) := dk_96 (dk_at dksX12_place_4 21 rfl rfl)
theorem dX12_place_113 : decode cX12_place 113 = .ok (.invokevirtual 238, 3) := dk_182 0 238 (dk_at dksX12_place_5 0 rfl rfl)
theorem dX12_place_116 : decode cX12_place 116 = .ok (.iload 4, 2) := dk_21 4 (dk_at dksX12_place_5 3 rfl rfl)
theorem dX12_place_118 : decode cX12_place 118 = .ok (.iconst (-1), 1) := dk_2 (dk_at dksX12_place_5 5 rfl rfl)
theorem dX12_place_119 : decode cX12_place 119 = .ok (.if_icmp .ne 12, 3) := dk_160 0 12 (dk_at dksX12_place_5 6 rfl rfl)
theorem dX12_place_122 : decode cX12_place 122 = .ok (.iload_n 3, 1) := dk_29 (dk_at dksX12_place_5 9 rfl rfl)
theorem dX12_place_123 : decode cX12_place 123 = .ok (.iconst 1, 1) := dk_4 (dk_at dksX12_place_5 10 rfl rfl)
theorem dX12_place_124 : decode cX12_place 124 = .ok (.isub, 1) := dk_100 (dk_at dksX12_place_5 11 rfl rfl)
theorem dX12_place_125 : decode cX12_place 125 = .ok (.ldc 43, 2) := dk_18 43 (dk_at dksX12_place_5 12 rfl rfl)
theorem dX12_place_127 : decode cX12_place 127 = .ok (.iand, 1) := dk_126 (dk_at dksX12_place_5 14 rfl rfl)
theorem dX12_place_128 : decode cX12_place 128 = .ok (.goto 4, 3) := dk_167 0 4 (dk_at dksX12_place_5 15 rfl rfl)
theorem dX12_place_131 : decode cX12_place 131 = .ok (.iload_n 3, 1) := dk_29 (dk_at dksX12_place_5 18 rfl rfl)
theorem dX12_place_132 : decode cX12_place 132 = .ok (.ireturn, 1) := dk_172 (dk_at dksX12_place_5 19 rfl rfl)
abbrev cX12_stores : ByteArray := prog_13_method_57_code
def yX12_stores : MethodName := ⟨RX12, "stores", "(I)I"⟩
def dkwX12_stores_2 : List UInt8 := [28, 182, 0, 234, 5, 172]
abbrev dktX12_stores_2 : List UInt8 := dkwX12_stores_2 ++ []
def dkwX12_stores_1 : List UInt8 := [28, 182, 0, 244, 5, 172, 42, 29, 182, 1, 74, 54, 4, 21, 4, 2, 160, 0, 5, 4, 172, 42, 21, 4]
abbrev dktX12_stores_1 : List UInt8 := dkwX12_stores_1 ++ dktX12_stores_2
def dkwX12_stores_0 : List UInt8 := [42, 180, 0, 16, 27, 7, 122, 16, 31, 126, 46, 61, 27, 16, 15, 126, 62, 29, 16, 15, 160, 0, 10, 42]
abbrev dktX12_stores_0 : List UInt8 := dkwX12_stores_0 ++ dktX12_stores_1
theorem dksX12_stores_0 : cX12_stores.data.toList.drop 0 = dktX12_stores_0 := by decide +kernel
theorem dksX12_stores_1 : cX12_stores.data.toList.drop 24 = dktX12_stores_1 := dk_seg dksX12_stores_0 24 rfl rfl
theorem dksX12_stores_2 : cX12_stores.data.toList.drop 48 = dktX12_stores_2 := dk_seg dksX12_stores_1 24 rfl rfl
theorem dX12_stores_0 : decode cX12_stores 0 = .ok (.aload_n 0, 1) := dk_42 (dk_at dksX12_stores_0 0 rfl rfl)
theorem dX12_stores_1 : decode cX12_stores 1 = .ok (.getfield 16, 3) := dk_180 0 16 (dk_at dksX12_stores_0 1 rfl rfl)
theorem dX12_stores_4 : decode cX12_stores 4 = .ok (.iload_n 1, 1) := dk_27 (dk_at dksX12_stores_0 4 rfl rfl)
theorem dX12_stores_5 : decode cX12_stores 5 = .ok (.iconst 4, 1) := dk_7 (dk_at dksX12_stores_0 5 rfl rfl)
theorem dX12_stores_6 : decode cX12_stores 6 = .ok (.ishr, 1) := dk_122 (dk_at dksX12_stores_0 6 rfl rfl)
theorem dX12_stores_7 : decode cX12_stores 7 = .ok (.bipush 31, 2) := dk_16 31 (dk_at dksX12_stores_0 7 rfl rfl)
theorem dX12_stores_9 : decode cX12_stores 9 = .ok (.iand, 1) := dk_126 (dk_at dksX12_stores_0 9 rfl rfl)
theorem dX12_stores_10 : decode cX12_stores 10 = .ok (.iaload, 1) := dk_46 (dk_at dksX12_stores_0 10 rfl rfl)
theorem dX12_stores_11 : decode cX12_stores 11 = .ok (.istore_n 2, 1) := dk_61 (dk_at dksX12_stores_0 11 rfl rfl)
theorem dX12_stores_12 : decode cX12_stores 12 = .ok (.iload_n 1, 1) := dk_27 (dk_at dksX12_stores_0 12 rfl rfl)
theorem dX12_stores_13 : decode cX12_stores 13 = .ok (.bipush 15, 2) := dk_16 15 (dk_at dksX12_stores_0 13 rfl rfl)
theorem dX12_stores_15 : decode cX12_stores 15 = .ok (.iand, 1) := dk_126 (dk_at dksX12_stores_0 15 rfl rfl)
theorem dX12_stores_16 : decode cX12_stores 16 = .ok (.istore_n 3, 1) := dk_62 (dk_at dksX12_stores_0 16 rfl rfl)
theorem dX12_stores_17 : decode cX12_stores 17 = .ok (.iload_n 3, 1) := dk_29 (dk_at dksX12_stores_0 17 rfl rfl)
theorem dX12_stores_18 : decode cX12_stores 18 = .ok (.bipush 15, 2) := dk_16 15 (dk_at dksX12_stores_0 18 rfl rfl)
theorem dX12_stores_20 : decode cX12_stores 20 = .ok (.if_icmp .ne 10, 3) := dk_160 0 10 (dk_at dksX12_stores_0 20 rfl rfl)
theorem dX12_stores_23 : decode cX12_stores 23 = .ok (.aload_n 0, 1) := dk_42 (dk_at dksX12_stores_0 23 rfl rfl)
theorem dX12_stores_24 : decode cX12_stores 24 = .ok (.iload_n 2, 1) := dk_28 (dk_at dksX12_stores_1 0 rfl rfl)
theorem dX12_stores_25 : decode cX12_stores 25 = .ok (.invokevirtual 244, 3) := dk_182 0 244 (dk_at dksX12_stores_1 1 rfl rfl)
theorem dX12_stores_28 : decode cX12_stores 28 = .ok (.iconst 2, 1) := dk_5 (dk_at dksX12_stores_1 4 rfl rfl)
theorem dX12_stores_29 : decode cX12_stores 29 = .ok (.ireturn, 1) := dk_172 (dk_at dksX12_stores_1 5 rfl rfl)
theorem dX12_stores_30 : decode cX12_stores 30 = .ok (.aload_n 0, 1) := dk_42 (dk_at dksX12_stores_1 6 rfl rfl)
theorem dX12_stores_31 : decode cX12_stores 31 = .ok (.iload_n 3, 1) := dk_29 (dk_at dksX12_stores_1 7 rfl rfl)
theorem dX12_stores_32 : decode cX12_stores 32 = .ok (.invokevirtual 330, 3) := dk_182 1 74 (dk_at dksX12_stores_1 8 rfl rfl)
theorem dX12_stores_35 : decode cX12_stores 35 = .ok (.istore 4, 2) := dk_54 4 (dk_at dksX12_stores_1 11 rfl rfl)
theorem dX12_stores_37 : decode cX12_stores 37 = .ok (.iload 4, 2) := dk_21 4 (dk_at dksX12_stores_1 13 rfl rfl)
theorem dX12_stores_39 : decode cX12_stores 39 = .ok (.iconst (-1), 1) := dk_2 (dk_at dksX12_stores_1 15 rfl rfl)
theorem dX12_stores_40 : decode cX12_stores 40 = .ok (.if_icmp .ne 5, 3) := dk_160 0 5 (dk_at dksX12_stores_1 16 rfl rfl)
theorem dX12_stores_43 : decode cX12_stores 43 = .ok (.iconst 1, 1) := dk_4 (dk_at dksX12_stores_1 19 rfl rfl)
theorem dX12_stores_44 : decode cX12_stores 44 = .ok (.ireturn, 1) := dk_172 (dk_at dksX12_stores_1 20 rfl rfl)
theorem dX12_stores_45 : decode cX12_stores 45 = .ok (.aload_n 0, 1) := dk_42 (dk_at dksX12_stores_1 21 rfl rfl)
theorem dX12_stores_46 : decode cX12_stores 46 = .ok (.iload 4, 2) := dk_21 4 (dk_at dksX12_stores_1 22 rfl rfl)
theorem dX12_stores_48 : decode cX12_stores 48 = .ok (.iload_n 2, 1) := dk_28 (dk_at dksX12_stores_2 0 rfl rfl)
theorem dX12_stores_49 : decode cX12_stores 49 = .ok (.invokevirtual 234, 3) := dk_182 0 234 (dk_at dksX12_stores_2 1 rfl rfl)
theorem dX12_stores_52 : decode cX12_stores 52 = .ok (.iconst 2, 1) := dk_5 (dk_at dksX12_stores_2 4 rfl rfl)
theorem dX12_stores_53 : decode cX12_stores 53 = .ok (.ireturn, 1) := dk_172 (dk_at dksX12_stores_2 5 rfl rfl)
abbrev cX12_single : ByteArray := prog_13_method_59_code
def yX12_single : MethodName := ⟨RX12, "single", "(I)I"⟩
def dkwX12_single_9 : List UInt8 := [17, 7, 255, 126, 54, 4, 42, 42, 180, 0, 77, 182, 0, 169, 42, 21, 4, 181, 0, 77, 7, 172, 4, 172]
abbrev dktX12_single_9 : List UInt8 := dkwX12_single_9 ++ []
def dkwX12_single_8 : List UInt8 := [182, 1, 83, 172, 42, 42, 182, 1, 3, 17, 7, 255, 126, 181, 0, 77, 6, 172, 42, 182, 1, 3]
abbrev dktX12_single_8 : List UInt8 := dkwX12_single_8 ++ dktX12_single_9
def dkwX12_single_7 : List UInt8 := [180, 0, 16, 28, 29, 79, 4, 172, 42, 27, 28, 29, 182, 1, 77, 172, 42, 27, 182, 1, 80, 172, 42, 27]
abbrev dktX12_single_7 : List UInt8 := dkwX12_single_7 ++ dktX12_single_8
def dkwX12_single_6 : List UInt8 := [167, 0, 5, 16, 127, 160, 0, 7, 4, 167, 0, 4, 3, 182, 0, 172, 42, 29, 182, 0, 253, 42]
abbrev dktX12_single_6 : List UInt8 := dkwX12_single_6 ++ dktX12_single_7
def dkwX12_single_5 : List UInt8 := [17, 0, 255, 96, 17, 0, 255, 126, 62, 42, 6, 29, 27, 16, 15, 126, 6, 160, 0, 9, 17, 0, 128]
abbrev dktX12_single_5 : List UInt8 := dkwX12_single_5 ++ dktX12_single_6
def dkwX12_single_4 : List UInt8 := [16, 15, 126, 7, 120, 128, 79, 4, 172, 29, 27, 16, 15, 126, 6, 160, 0, 7, 4, 167, 0, 6]
abbrev dktX12_single_4 : List UInt8 := dkwX12_single_4 ++ dktX12_single_5
def dkwX12_single_3 : List UInt8 := [180, 0, 16, 28, 42, 3, 29, 3, 3, 182, 1, 35, 79, 4, 172, 42, 180, 0, 16, 28, 29, 7, 122, 29]
abbrev dktX12_single_3 : List UInt8 := dkwX12_single_3 ++ dktX12_single_4
def dkwX12_single_2 : List UInt8 := [42, 180, 0, 16, 28, 42, 17, 0, 255, 29, 100, 182, 1, 46, 79, 42, 3, 4, 182, 0, 172, 4, 172, 42]
abbrev dktX12_single_2 : List UInt8 := dkwX12_single_2 ++ dktX12_single_3
def dkwX12_single_1 : List UInt8 := [170, 0, 0, 0, 1, 5, 0, 0, 0, 0, 0, 0, 0, 15, 0, 0, 0, 78, 0, 0, 0, 101, 0, 0, 0, 117, 0, 0, 0, 135, 0, 0, 1, 5, 0, 0, 0, 201, 0, 0, 0, 201, 0, 0, 0, 201, 0, 0, 0, 209, 0, 0, 0, 215, 0, 0, 0, 135, 0, 0, 1, 5, 0, 0, 0, 221, 0, 0, 0, 221, 0, 0, 0, 235, 0, 0, 0, 235]
abbrev dktX12_single_1 : List UInt8 := dkwX12_single_1 ++ dktX12_single_2
def dkwX12_single_0 : List UInt8 := [27, 7, 122, 16, 31, 126, 61, 42, 180, 0, 16, 28, 46, 62, 27, 16, 15, 126]
abbrev dktX12_single_0 : List UInt8 := dkwX12_single_0 ++ dktX12_single_1
theorem dksX12_single_0 : cX12_single.data.toList.drop 0 = dktX12_single_0 := by decide +kernel
theorem dksX12_single_1 : cX12_single.data.toList.drop 18 = dktX12_single_1 := dk_seg dksX12_single_0 18 rfl rfl
theorem dksX12_single_2 : cX12_single.data.toList.drop 96 = dktX12_single_2 := dk_seg dksX12_single_1 78 rfl rfl
theorem dksX12_single_3 : cX12_single.data.toList.drop 120 = dktX12_single_3 := dk_seg dksX12_single_2 24 rfl rfl
theorem dksX12_single_4 : cX12_single.data.toList.drop 144 = dktX12_single_4 := dk_seg dksX12_single_3 24 rfl rfl
theorem dksX12_single_5 : cX12_single.data.toList.drop 166 = dktX12_single_5 := dk_seg dksX12_single_4 22 rfl rfl
theorem dksX12_single_6 : cX12_single.data.toList.drop 189 = dktX12_single_6 := dk_seg dksX12_single_5 23 rfl rfl
theorem dksX12_single_7 : cX12_single.data.toList.drop 211 = dktX12_single_7 := dk_seg dksX12_single_6 22 rfl rfl
theorem dksX12_single_8 : cX12_single.data.toList.drop 235 = dktX12_single_8 := dk_seg dksX12_single_7 24 rfl rfl
theorem dksX12_single_9 : cX12_single.data.toList.drop 257 = dktX12_single_9 := dk_seg dksX12_single_8 22 rfl rfl
theorem dX12_single_0 : decode cX12_single 0 = .ok (.iload_n 1, 1) := dk_27 (dk_at dksX12_single_0 0 rfl rfl)
theorem dX12_single_1 : decode cX12_single 1 = .ok (.iconst 4, 1) := dk_7 (dk_at dksX12_single_0 1 rfl rfl)
theorem dX12_single_2 : decode cX12_single 2 = .ok (.ishr, 1) := dk_122 (dk_at dksX12_single_0 2 rfl rfl)
theorem dX12_single_3 : decode cX12_single 3 = .ok (.bipush 31, 2) := dk_16 31 (dk_at dksX12_single_0 3 rfl rfl)
theorem dX12_single_5 : decode cX12_single 5 = .ok (.iand, 1) := dk_126 (dk_at dksX12_single_0 5 rfl rfl)
theorem dX12_single_6 : decode cX12_single 6 = .ok (.istore_n 2, 1) := dk_61 (dk_at dksX12_single_0 6 rfl rfl)
theorem dX12_single_7 : decode cX12_single 7 = .ok (.aload_n 0, 1) := dk_42 (dk_at dksX12_single_0 7 rfl rfl)
theorem dX12_single_8 : decode cX12_single 8 = .ok (.getfield 16, 3) := dk_180 0 16 (dk_at dksX12_single_0 8 rfl rfl)
theorem dX12_single_11 : decode cX12_single 11 = .ok (.iload_n 2, 1) := dk_28 (dk_at dksX12_single_0 11 rfl rfl)
theorem dX12_single_12 : decode cX12_single 12 = .ok (.iaload, 1) := dk_46 (dk_at dksX12_single_0 12 rfl rfl)
theorem dX12_single_13 : decode cX12_single 13 = .ok (.istore_n 3, 1) := dk_62 (dk_at dksX12_single_0 13 rfl rfl)
theorem dX12_single_14 : decode cX12_single 14 = .ok (.iload_n 1, 1) := dk_27 (dk_at dksX12_single_0 14 rfl rfl)
theorem dX12_single_15 : decode cX12_single 15 = .ok (.bipush 15, 2) := dk_16 15 (dk_at dksX12_single_0 15 rfl rfl)
theorem dX12_single_17 : decode cX12_single 17 = .ok (.iand, 1) := dk_126 (dk_at dksX12_single_0 17 rfl rfl)
theorem dX12_single_18 : decode cX12_single 18 = .ok (.tableswitch 261 0 15 #[78, 101, 117, 135, 261, 201, 201, 201, 209, 215, 135, 261, 221, 221, 235, 235], 78) := by decide +kernel
theorem dX12_single_96 : decode cX12_single 96 = .ok (.aload_n 0, 1) := dk_42 (dk_at dksX12_single_2 0 rfl rfl)
theorem dX12_single_97 : decode cX12_single 97 = .ok (.getfield 16, 3) := dk_180 0 16 (dk_at dksX12_single_2 1 rfl rfl)
theorem dX12_single_100 : decode cX12_single 100 = .ok (.iload_n 2, 1) := dk_28 (dk_at dksX12_single_2 4 rfl rfl)
theorem dX12_single_101 : decode cX12_single 101 = .ok (.aload_n 0, 1) := dk_42 (dk_at dksX12_single_2 5 rfl rfl)
theorem dX12_single_102 : decode cX12_single 102 = .ok (.sipush 255, 3) := dk_17 0 255 (dk_at dksX12_single_2 6 rfl rfl)
theorem dX12_single_105 : decode cX12_single 105 = .ok (.iload_n 3, 1) := dk_29 (dk_at dksX12_single_2 9 rfl rfl)
theorem dX12_single_106 : decode cX12_single 106 = .ok (.isub, 1) := dk_100 (dk_at dksX12_single_2 10 rfl rfl)
theorem dX12_single_107 : decode cX12_single 107 = .ok (.invokevirtual 302, 3) := dk_182 1 46 (dk_at dksX12_single_2 11 rfl rfl)
theorem dX12_single_110 : decode cX12_single 110 = .ok (.iastore, 1) := dk_79 (dk_at dksX12_single_2 14 rfl rfl)
theorem dX12_single_111 : decode cX12_single 111 = .ok (.aload_n 0, 1) := dk_42 (dk_at dksX12_single_2 15 rfl rfl)
theorem dX12_single_112 : decode cX12_single 112 = .ok (.iconst 0, 1) := dk_3 (dk_at dksX12_single_2 16 rfl rfl)
theorem dX12_single_113 : decode cX12_single 113 = .ok (.iconst 1, 1) := dk_4 (dk_at dksX12_single_2 17 rfl rfl)
theorem dX12_single_114 : decode cX12_single 114 = .ok (.invokevirtual 172, 3) := dk_182 0 172 (dk_at dksX12_single_2 18 rfl rfl)
theorem dX12_single_117 : decode cX12_single 117 = .ok (.iconst 1, 1) := dk_4 (dk_at dksX12_single_2 21 rfl rfl)
theorem dX12_single_118 : decode cX12_single 118 = .ok (.ireturn, 1) := dk_172 (dk_at dksX12_single_2 22 rfl rfl)
theorem dX12_single_119 : decode cX12_single 119 = .ok (.aload_n 0, 1) := dk_42 (dk_at dksX12_single_2 23 rfl rfl)
theorem dX12_single_120 : decode cX12_single 120 = .ok (.getfield 16, 3) := dk_180 0 16 (dk_at dksX12_single_3 0 rfl rfl)
theorem dX12_single_123 : decode cX12_single 123 = .ok (.iload_n 2, 1) := dk_28 (dk_at dksX12_single_3 3 rfl rfl)
theorem dX12_single_124 : decode cX12_single 124 = .ok (.aload_n 0, 1) := dk_42 (dk_at dksX12_single_3 4 rfl rfl)
theorem dX12_single_125 : decode cX12_single 125 = .ok (.iconst 0, 1) := dk_3 (dk_at dksX12_single_3 5 rfl rfl)
theorem dX12_single_126 : decode cX12_single 126 = .ok (.iload_n 3, 1) := dk_29 (dk_at dksX12_single_3 6 rfl rfl)
theorem dX12_single_127 : decode cX12_single 127 = .ok (.iconst 0, 1) := dk_3 (dk_at dksX12_single_3 7 rfl rfl)
theorem dX12_single_128 : decode cX12_single 128 = .ok (.iconst 0, 1) := dk_3 (dk_at dksX12_single_3 8 rfl rfl)
theorem dX12_single_129 : decode cX12_single 129 = .ok (.invokevirtual 291, 3) := dk_182 1 35 (dk_at dksX12_single_3 9 rfl rfl)
theorem dX12_single_132 : decode cX12_single 132 = .ok (.iastore, 1) := dk_79 (dk_at dksX12_single_3 12 rfl rfl)
theorem dX12_single_133 : decode cX12_single 133 = .ok (.iconst 1, 1) := dk_4 (dk_at dksX12_single_3 13 rfl rfl)
theorem dX12_single_134 : decode cX12_single 134 = .ok (.ireturn, 1) := dk_172 (dk_at dksX12_single_3 14 rfl rfl)
theorem dX12_single_135 : decode cX12_single 135 = .ok (.aload_n 0, 1) := dk_42 (dk_at dksX12_single_3 15 rfl rfl)
theorem dX12_single_136 : decode cX12_single 136 = .ok (.getfield 16, 3) := dk_180 0 16 (dk_at dksX12_single_3 16 rfl rfl)
theorem dX12_single_139 : decode cX12_single 139 = .ok (.iload_n 2, 1) := dk_28 (dk_at dksX12_single_3 19 rfl rfl)
theorem dX12_single_140 : decode cX12_single 140 = .ok (.iload_n 3, 1) := dk_29 (dk_at dksX12_single_3 20 rfl rfl)
theorem dX12_single_141 : decode cX12_single 141 = .ok (.iconst 4, 1) := dk_7 (dk_at dksX12_single_3 21 rfl rfl)
theorem dX12_single_142 : decode cX12_single 142 = .ok (.ishr, 1) := dk_122 (dk_at dksX12_single_3 22 rfl rfl)
theorem dX12_single_143 : decode cX12_single 143 = .ok (.iload_n 3, 1) := dk_29 (dk_at dksX12_single_3 23 rfl rfl)
theorem dX12_single_144 : decode cX12_single 144 = .ok (.bipush 15, 2) := dk_16 15 (dk_at dksX12_single_4 0 rfl rfl)
theorem dX12_single_146 : decode cX12_single 146 = .ok (.iand, 1) := dk_126 (dk_at dksX12_single_4 2 rfl rfl)
theorem dX12_single_147 : decode cX12_single 147 = .ok (.iconst 4, 1) := dk_7 (dk_at dksX12_single_4 3 rfl rfl)
theorem dX12_single_148 : decode cX12_single 148 = .ok (.ishl, 1) := dk_120 (dk_at dksX12_single_4 4 rfl rfl)
theorem dX12_single_149 : decode cX12_single 149 = .ok (.ior, 1) := dk_128 (dk_at dksX12_single_4 5 rfl rfl)
theorem dX12_single_150 : decode cX12_single 150 = .ok (.iastore, 1) := dk_79 (dk_at dksX12_single_4 6 rfl rfl)
theorem dX12_single_151 : decode cX12_single 151 = .ok (.iconst 1, 1) := dk_4 (dk_at dksX12_single_4 7 rfl rfl)
theorem dX12_single_152 : decode cX12_single 152 = .ok (.ireturn, 1) := dk_172 (dk_at dksX12_single_4 8 rfl rfl)
theorem dX12_single_153 : decode cX12_single 153 = .ok (.iload_n 3, 1) := dk_29 (dk_at dksX12_single_4 9 rfl rfl)
theorem dX12_single_154 : decode cX12_single 154 = .ok (.iload_n 1, 1) := dk_27 (dk_at dksX12_single_4 10 rfl rfl)
theorem dX12_single_155 : decode cX12_single 155 = .ok (.bipush 15, 2) := dk_16 15 (dk_at dksX12_single_4 11 rfl rfl)
theorem dX12_single_157 : decode cX12_single 157 = .ok (.iand, 1) := dk_126 (dk_at dksX12_single_4 13 rfl rfl)
theorem dX12_single_158 : decode cX12_single 158 = .ok (.iconst 3, 1) := dk_6 (dk_at dksX12_single_4 14 rfl rfl)
theorem dX12_single_159 : decode cX12_single 159 = .ok (.if_icmp .ne 7, 3) := dk_160 0 7 (dk_at dksX12_single_4 15 rfl rfl)
theorem dX12_single_162 : decode cX12_single 162 = .ok (.iconst 1, 1) := dk_4 (dk_at dksX12_single_4 18 rfl rfl)
theorem dX12_single_163 : decode cX12_single 163 = .ok (.goto 6, 3) := dk_167 0 6 (dk_at dksX12_single_4 19 rfl rfl)
theorem dX12_single_166 : decode cX12_single 166 = .ok (.sipush 255, 3) := dk_17 0 255 (dk_at dksX12_single_5 0 rfl rfl)
theorem dX12_single_169 : decode cX12_single 169 = .ok (.iadd, 1) := dk_96 (dk_at dksX12_single_5 3 rfl rfl)
theorem dX12_single_170 : decode cX12_single 170 = .ok (.sipush 255, 3) := dk_17 0 255 (dk_at dksX12_single_5 4 rfl rfl)
theorem dX12_single_173 : decode cX12_single 173 = .ok (.iand, 1) := dk_126 (dk_at dksX12_single_5 7 rfl rfl)
theorem dX12_single_174 : decode cX12_single 174 = .ok (.istore_n 3, 1) := dk_62 (dk_at dksX12_single_5 8 rfl rfl)
theorem dX12_single_175 : decode cX12_single 175 = .ok (.aload_n 0, 1) := dk_42 (dk_at dksX12_single_5 9 rfl rfl)
theorem dX12_single_176 : decode cX12_single 176 = .ok (.iconst 3, 1) := dk_6 (dk_at dksX12_single_5 10 rfl rfl)
theorem dX12_single_177 : decode cX12_single 177 = .ok (.iload_n 3, 1) := dk_29 (dk_at dksX12_single_5 11 rfl rfl)
theorem dX12_single_178 : decode cX12_single 178 = .ok (.iload_n 1, 1) := dk_27 (dk_at dksX12_single_5 12 rfl rfl)
theorem dX12_single_179 : decode cX12_single 179 = .ok (.bipush 15, 2) := dk_16 15 (dk_at dksX12_single_5 13 rfl rfl)
theorem dX12_single_181 : decode cX12_single 181 = .ok (.iand, 1) := dk_126 (dk_at dksX12_single_5 15 rfl rfl)
theorem dX12_single_182 : decode cX12_single 182 = .ok (.iconst 3, 1) := dk_6 (dk_at dksX12_single_5 16 rfl rfl)
theorem dX12_single_183 : decode cX12_single 183 = .ok (.if_icmp .ne 9, 3) := dk_160 0 9 (dk_at dksX12_single_5 17 rfl rfl)
theorem dX12_single_186 : decode cX12_single 186 = .ok (.sipush 128, 3) := dk_17 0 128 (dk_at dksX12_single_5 20 rfl rfl)
theorem dX12_single_189 : decode cX12_single 189 = .ok (.goto 5, 3) := dk_167 0 5 (dk_at dksX12_single_6 0 rfl rfl)
theorem dX12_single_192 : decode cX12_single 192 = .ok (.bipush 127, 2) := dk_16 127 (dk_at dksX12_single_6 3 rfl rfl)
theorem dX12_single_194 : decode cX12_single 194 = .ok (.if_icmp .ne 7, 3) := dk_160 0 7 (dk_at dksX12_single_6 5 rfl rfl)
theorem dX12_single_197 : decode cX12_single 197 = .ok (.iconst 1, 1) := dk_4 (dk_at dksX12_single_6 8 rfl rfl)
theorem dX12_single_198 : decode cX12_single 198 = .ok (.goto 4, 3) := dk_167 0 4 (dk_at dksX12_single_6 9 rfl rfl)
theorem dX12_single_201 : decode cX12_single 201 = .ok (.iconst 0, 1) := dk_3 (dk_at dksX12_single_6 12 rfl rfl)
theorem dX12_single_202 : decode cX12_single 202 = .ok (.invokevirtual 172, 3) := dk_182 0 172 (dk_at dksX12_single_6 13 rfl rfl)
theorem dX12_single_205 : decode cX12_single 205 = .ok (.aload_n 0, 1) := dk_42 (dk_at dksX12_single_6 16 rfl rfl)
theorem dX12_single_206 : decode cX12_single 206 = .ok (.iload_n 3, 1) := dk_29 (dk_at dksX12_single_6 17 rfl rfl)
theorem dX12_single_207 : decode cX12_single 207 = .ok (.invokevirtual 253, 3) := dk_182 0 253 (dk_at dksX12_single_6 18 rfl rfl)
theorem dX12_single_210 : decode cX12_single 210 = .ok (.aload_n 0, 1) := dk_42 (dk_at dksX12_single_6 21 rfl rfl)
theorem dX12_single_211 : decode cX12_single 211 = .ok (.getfield 16, 3) := dk_180 0 16 (dk_at dksX12_single_7 0 rfl rfl)
theorem dX12_single_214 : decode cX12_single 214 = .ok (.iload_n 2, 1) := dk_28 (dk_at dksX12_single_7 3 rfl rfl)
theorem dX12_single_215 : decode cX12_single 215 = .ok (.iload_n 3, 1) := dk_29 (dk_at dksX12_single_7 4 rfl rfl)
theorem dX12_single_216 : decode cX12_single 216 = .ok (.iastore, 1) := dk_79 (dk_at dksX12_single_7 5 rfl rfl)
theorem dX12_single_217 : decode cX12_single 217 = .ok (.iconst 1, 1) := dk_4 (dk_at dksX12_single_7 6 rfl rfl)
theorem dX12_single_218 : decode cX12_single 218 = .ok (.ireturn, 1) := dk_172 (dk_at dksX12_single_7 7 rfl rfl)
theorem dX12_single_219 : decode cX12_single 219 = .ok (.aload_n 0, 1) := dk_42 (dk_at dksX12_single_7 8 rfl rfl)
theorem dX12_single_220 : decode cX12_single 220 = .ok (.iload_n 1, 1) := dk_27 (dk_at dksX12_single_7 9 rfl rfl)
theorem dX12_single_221 : decode cX12_single 221 = .ok (.iload_n 2, 1) := dk_28 (dk_at dksX12_single_7 10 rfl rfl)
theorem dX12_single_222 : decode cX12_single 222 = .ok (.iload_n 3, 1) := dk_29 (dk_at dksX12_single_7 11 rfl rfl)
theorem dX12_single_223 : decode cX12_single 223 = .ok (.invokevirtual 333, 3) := dk_182 1 77 (dk_at dksX12_single_7 12 rfl rfl)
theorem dX12_single_226 : decode cX12_single 226 = .ok (.ireturn, 1) := dk_172 (dk_at dksX12_single_7 15 rfl rfl)
theorem dX12_single_227 : decode cX12_single 227 = .ok (.aload_n 0, 1) := dk_42 (dk_at dksX12_single_7 16 rfl rfl)
theorem dX12_single_228 : decode cX12_single 228 = .ok (.iload_n 1, 1) := dk_27 (dk_at dksX12_single_7 17 rfl rfl)
theorem dX12_single_229 : decode cX12_single 229 = .ok (.invokevirtual 336, 3) := dk_182 1 80 (dk_at dksX12_single_7 18 rfl rfl)
theorem dX12_single_232 : decode cX12_single 232 = .ok (.ireturn, 1) := dk_172 (dk_at dksX12_single_7 21 rfl rfl)
theorem dX12_single_233 : decode cX12_single 233 = .ok (.aload_n 0, 1) := dk_42 (dk_at dksX12_single_7 22 rfl rfl)
theorem dX12_single_234 : decode cX12_single 234 = .ok (.iload_n 1, 1) := dk_27 (dk_at dksX12_single_7 23 rfl rfl)
theorem dX12_single_235 : decode cX12_single 235 = .ok (.invokevirtual 339, 3) := dk_182 1 83 (dk_at dksX12_single_8 0 rfl rfl)
theorem dX12_single_238 : decode cX12_single 238 = .ok (.ireturn, 1) := dk_172 (dk_at dksX12_single_8 3 rfl rfl)
theorem dX12_single_239 : decode cX12_single 239 = .ok (.aload_n 0, 1) := dk_42 (dk_at dksX12_single_8 4 rfl rfl)
theorem dX12_single_240 : decode cX12_single 240 = .ok (.aload_n 0, 1) := dk_42 (dk_at dksX12_single_8 5 rfl rfl)
theorem dX12_single_241 : decode cX12_single 241 = .ok (.invokevirtual 259, 3) := dk_182 1 3 (dk_at dksX12_single_8 6 rfl rfl)
theorem dX12_single_244 : decode cX12_single 244 = .ok (.sipush 2047, 3) := dk_17 7 255 (dk_at dksX12_single_8 9 rfl rfl)
theorem dX12_single_247 : decode cX12_single 247 = .ok (.iand, 1) := dk_126 (dk_at dksX12_single_8 12 rfl rfl)
theorem dX12_single_248 : decode cX12_single 248 = .ok (.putfield 77, 3) := dk_181 0 77 (dk_at dksX12_single_8 13 rfl rfl)
theorem dX12_single_251 : decode cX12_single 251 = .ok (.iconst 3, 1) := dk_6 (dk_at dksX12_single_8 16 rfl rfl)
theorem dX12_single_252 : decode cX12_single 252 = .ok (.ireturn, 1) := dk_172 (dk_at dksX12_single_8 17 rfl rfl)
theorem dX12_single_253 : decode cX12_single 253 = .ok (.aload_n 0, 1) := dk_42 (dk_at dksX12_single_8 18 rfl rfl)
theorem dX12_single_254 : decode cX12_single 254 = .ok (.invokevirtual 259, 3) := dk_182 1 3 (dk_at dksX12_single_8 19 rfl rfl)
theorem dX12_single_257 : decode cX12_single 257 = .ok (.sipush 2047, 3) := dk_17 7 255 (dk_at dksX12_single_9 0 rfl rfl)
theorem dX12_single_260 : decode cX12_single 260 = .ok (.iand, 1) := dk_126 (dk_at dksX12_single_9 3 rfl rfl)
theorem dX12_single_261 : decode cX12_single 261 = .ok (.istore 4, 2) := dk_54 4 (dk_at dksX12_single_9 4 rfl rfl)
theorem dX12_single_263 : decode cX12_single 263 = .ok (.aload_n 0, 1) := dk_42 (dk_at dksX12_single_9 6 rfl rfl)
theorem dX12_single_264 : decode cX12_single 264 = .ok (.aload_n 0, 1) := dk_42 (dk_at dksX12_single_9 7 rfl rfl)
theorem dX12_single_265 : decode cX12_single 265 = .ok (.getfield 77, 3) := dk_180 0 77 (dk_at dksX12_single_9 8 rfl rfl)
theorem dX12_single_268 : decode cX12_single 268 = .ok (.invokevirtual 169, 3) := dk_182 0 169 (dk_at dksX12_single_9 11 rfl rfl)
theorem dX12_single_271 : decode cX12_single 271 = .ok (.aload_n 0, 1) := dk_42 (dk_at dksX12_single_9 14 rfl rfl)
theorem dX12_single_272 : decode cX12_single 272 = .ok (.iload 4, 2) := dk_21 4 (dk_at dksX12_single_9 15 rfl rfl)
theorem dX12_single_274 : decode cX12_single 274 = .ok (.putfield 77, 3) := dk_181 0 77 (dk_at dksX12_single_9 17 rfl rfl)
theorem dX12_single_277 : decode cX12_single 277 = .ok (.iconst 4, 1) := dk_7 (dk_at dksX12_single_9 20 rfl rfl)
theorem dX12_single_278 : decode cX12_single 278 = .ok (.ireturn, 1) := dk_172 (dk_at dksX12_single_9 21 rfl rfl)
theorem dX12_single_279 : decode cX12_single 279 = .ok (.iconst 1, 1) := dk_4 (dk_at dksX12_single_9 22 rfl rfl)
theorem dX12_single_280 : decode cX12_single 280 = .ok (.ireturn, 1) := dk_172 (dk_at dksX12_single_9 23 rfl rfl)
abbrev cX12_shifted : ByteArray := prog_13_method_60_code
def yX12_shifted : MethodName := ⟨RX12, "shifted", "(III)I"⟩
def dkwX12_shifted_4 : List UInt8 := [42, 21, 5, 182, 0, 253, 42, 180, 0, 16, 28, 21, 5, 79, 4, 172]
abbrev dktX12_shifted_4 : List UInt8 := dkwX12_shifted_4 ++ []
def dkwX12_shifted_3 : List UInt8 := [161, 0, 7, 4, 167, 0, 4, 3, 42, 3, 182, 0, 163, 159, 0, 7, 4, 167, 0, 4, 3, 182, 0, 172]
abbrev dktX12_shifted_3 : List UInt8 := dkwX12_shifted_3 ++ dktX12_shifted_4
def dkwX12_shifted_2 : List UInt8 := [42, 3, 29, 4, 126, 4, 160, 0, 7, 4, 167, 0, 4, 3, 182, 0, 172, 42, 6, 21, 5, 17, 0, 128]
abbrev dktX12_shifted_2 : List UInt8 := dkwX12_shifted_2 ++ dktX12_shifted_3
def dkwX12_shifted_1 : List UInt8 := [160, 0, 7, 3, 167, 0, 10, 42, 182, 1, 32, 16, 7, 120, 54, 4, 29, 4, 122, 21, 4, 128, 54, 5]
abbrev dktX12_shifted_1 : List UInt8 := dkwX12_shifted_1 ++ dktX12_shifted_2
def dkwX12_shifted_0 : List UInt8 := [27, 16, 15, 126, 8, 160, 0, 11, 29, 17, 0, 128, 126, 167, 0, 23, 27, 16, 15, 126, 16, 6]
abbrev dktX12_shifted_0 : List UInt8 := dkwX12_shifted_0 ++ dktX12_shifted_1
theorem dksX12_shifted_0 : cX12_shifted.data.toList.drop 0 = dktX12_shifted_0 := by decide +kernel
theorem dksX12_shifted_1 : cX12_shifted.data.toList.drop 22 = dktX12_shifted_1 := dk_seg dksX12_shifted_0 22 rfl rfl
theorem dksX12_shifted_2 : cX12_shifted.data.toList.drop 46 = dktX12_shifted_2 := dk_seg dksX12_shifted_1 24 rfl rfl
theorem dksX12_shifted_3 : cX12_shifted.data.toList.drop 70 = dktX12_shifted_3 := dk_seg dksX12_shifted_2 24 rfl rfl
theorem dksX12_shifted_4 : cX12_shifted.data.toList.drop 94 = dktX12_shifted_4 := dk_seg dksX12_shifted_3 24 rfl rfl
theorem dX12_shifted_0 : decode cX12_shifted 0 = .ok (.iload_n 1, 1) := dk_27 (dk_at dksX12_shifted_0 0 rfl rfl)
theorem dX12_shifted_1 : decode cX12_shifted 1 = .ok (.bipush 15, 2) := dk_16 15 (dk_at dksX12_shifted_0 1 rfl rfl)
theorem dX12_shifted_3 : decode cX12_shifted 3 = .ok (.iand, 1) := dk_126 (dk_at dksX12_shifted_0 3 rfl rfl)
theorem dX12_shifted_4 : decode cX12_shifted 4 = .ok (.iconst 5, 1) := dk_8 (dk_at dksX12_shifted_0 4 rfl rfl)
theorem dX12_shifted_5 : decode cX12_shifted 5 = .ok (.if_icmp .ne 11, 3) := dk_160 0 11 (dk_at dksX12_shifted_0 5 rfl rfl)
theorem dX12_shifted_8 : decode cX12_shifted 8 = .ok (.iload_n 3, 1) := dk_29 (dk_at dksX12_shifted_0 8 rfl rfl)
theorem dX12_shifted_9 : decode cX12_shifted 9 = .ok (.sipush 128, 3) := dk_17 0 128 (dk_at dksX12_shifted_0 9 rfl rfl)
theorem dX12_shifted_12 : decode cX12_shifted 12 = .ok (.iand, 1) := dk_126 (dk_at dksX12_shifted_0 12 rfl rfl)
theorem dX12_shifted_13 : decode cX12_shifted 13 = .ok (.goto 23, 3) := dk_167 0 23 (dk_at dksX12_shifted_0 13 rfl rfl)
theorem dX12_shifted_16 : decode cX12_shifted 16 = .ok (.iload_n 1, 1) := dk_27 (dk_at dksX12_shifted_0 16 rfl rfl)
theorem dX12_shifted_17 : decode cX12_shifted 17 = .ok (.bipush 15, 2) := dk_16 15 (dk_at dksX12_shifted_0 17 rfl rfl)
theorem dX12_shifted_19 : decode cX12_shifted 19 = .ok (.iand, 1) := dk_126 (dk_at dksX12_shifted_0 19 rfl rfl)
theorem dX12_shifted_20 : decode cX12_shifted 20 = .ok (.bipush 6, 2) := dk_16 6 (dk_at dksX12_shifted_0 20 rfl rfl)
theorem dX12_shifted_22 : decode cX12_shifted 22 = .ok (.if_icmp .ne 7, 3) := dk_160 0 7 (dk_at dksX12_shifted_1 0 rfl rfl)
theorem dX12_shifted_25 : decode cX12_shifted 25 = .ok (.iconst 0, 1) := dk_3 (dk_at dksX12_shifted_1 3 rfl rfl)
theorem dX12_shifted_26 : decode cX12_shifted 26 = .ok (.goto 10, 3) := dk_167 0 10 (dk_at dksX12_shifted_1 4 rfl rfl)
theorem dX12_shifted_29 : decode cX12_shifted 29 = .ok (.aload_n 0, 1) := dk_42 (dk_at dksX12_shifted_1 7 rfl rfl)
theorem dX12_shifted_30 : decode cX12_shifted 30 = .ok (.invokevirtual 288, 3) := dk_182 1 32 (dk_at dksX12_shifted_1 8 rfl rfl)
theorem dX12_shifted_33 : decode cX12_shifted 33 = .ok (.bipush 7, 2) := dk_16 7 (dk_at dksX12_shifted_1 11 rfl rfl)
theorem dX12_shifted_35 : decode cX12_shifted 35 = .ok (.ishl, 1) := dk_120 (dk_at dksX12_shifted_1 13 rfl rfl)
theorem dX12_shifted_36 : decode cX12_shifted 36 = .ok (.istore 4, 2) := dk_54 4 (dk_at dksX12_shifted_1 14 rfl rfl)
theorem dX12_shifted_38 : decode cX12_shifted 38 = .ok (.iload_n 3, 1) := dk_29 (dk_at dksX12_shifted_1 16 rfl rfl)
theorem dX12_shifted_39 : decode cX12_shifted 39 = .ok (.iconst 1, 1) := dk_4 (dk_at dksX12_shifted_1 17 rfl rfl)
theorem dX12_shifted_40 : decode cX12_shifted 40 = .ok (.ishr, 1) := dk_122 (dk_at dksX12_shifted_1 18 rfl rfl)
theorem dX12_shifted_41 : decode cX12_shifted 41 = .ok (.iload 4, 2) := dk_21 4 (dk_at dksX12_shifted_1 19 rfl rfl)
theorem dX12_shifted_43 : decode cX12_shifted 43 = .ok (.ior, 1) := dk_128 (dk_at dksX12_shifted_1 21 rfl rfl)
theorem dX12_shifted_44 : decode cX12_shifted 44 = .ok (.istore 5, 2) := dk_54 5 (dk_at dksX12_shifted_1 22 rfl rfl)
theorem dX12_shifted_46 : decode cX12_shifted 46 = .ok (.aload_n 0, 1) := dk_42 (dk_at dksX12_shifted_2 0 rfl rfl)
theorem dX12_shifted_47 : decode cX12_shifted 47 = .ok (.iconst 0, 1) := dk_3 (dk_at dksX12_shifted_2 1 rfl rfl)
theorem dX12_shifted_48 : decode cX12_shifted 48 = .ok (.iload_n 3, 1) := dk_29 (dk_at dksX12_shifted_2 2 rfl rfl)
theorem dX12_shifted_49 : decode cX12_shifted 49 = .ok (.iconst 1, 1) := dk_4 (dk_at dksX12_shifted_2 3 rfl rfl)
theorem dX12_shifted_50 : decode cX12_shifted 50 = .ok (.iand, 1) := dk_126 (dk_at dksX12_shifted_2 4 rfl rfl)
theorem dX12_shifted_51 : decode cX12_shifted 51 = .ok (.iconst 1, 1) := dk_4 (dk_at dksX12_shifted_2 5 rfl rfl)
theorem dX12_shifted_52 : decode cX12_shifted 52 = .ok (.if_icmp .ne 7, 3) := dk_160 0 7 (dk_at dksX12_shifted_2 6 rfl rfl)
theorem dX12_shifted_55 : decode cX12_shifted 55 = .ok (.iconst 1, 1) := dk_4 (dk_at dksX12_shifted_2 9 rfl rfl)
theorem dX12_shifted_56 : decode cX12_shifted 56 = .ok (.goto 4, 3) := dk_167 0 4 (dk_at dksX12_shifted_2 10 rfl rfl)
theorem dX12_shifted_59 : decode cX12_shifted 59 = .ok (.iconst 0, 1) := dk_3 (dk_at dksX12_shifted_2 13 rfl rfl)
theorem dX12_shifted_60 : decode cX12_shifted 60 = .ok (.invokevirtual 172, 3) := dk_182 0 172 (dk_at dksX12_shifted_2 14 rfl rfl)
theorem dX12_shifted_63 : decode cX12_shifted 63 = .ok (.aload_n 0, 1) := dk_42 (dk_at dksX12_shifted_2 17 rfl rfl)
theorem dX12_shifted_64 : decode cX12_shifted 64 = .ok (.iconst 3, 1) := dk_6 (dk_at dksX12_shifted_2 18 rfl rfl)
theorem dX12_shifted_65 : decode cX12_shifted 65 = .ok (.iload 5, 2) := dk_21 5 (dk_at dksX12_shifted_2 19 rfl rfl)
theorem dX12_shifted_67 : decode cX12_shifted 67 = .ok (.sipush 128, 3) := dk_17 0 128 (dk_at dksX12_shifted_2 21 rfl rfl)
theorem dX12_shifted_70 : decode cX12_shifted 70 = .ok (.if_icmp .lt 7, 3) := dk_161 0 7 (dk_at dksX12_shifted_3 0 rfl rfl)
theorem dX12_shifted_73 : decode cX12_shifted 73 = .ok (.iconst 1, 1) := dk_4 (dk_at dksX12_shifted_3 3 rfl rfl)
theorem dX12_shifted_74 : decode cX12_shifted 74 = .ok (.goto 4, 3) := dk_167 0 4 (dk_at dksX12_shifted_3 4 rfl rfl)
theorem dX12_shifted_77 : decode cX12_shifted 77 = .ok (.iconst 0, 1) := dk_3 (dk_at dksX12_shifted_3 7 rfl rfl)
theorem dX12_shifted_78 : decode cX12_shifted 78 = .ok (.aload_n 0, 1) := dk_42 (dk_at dksX12_shifted_3 8 rfl rfl)
theorem dX12_shifted_79 : decode cX12_shifted 79 = .ok (.iconst 0, 1) := dk_3 (dk_at dksX12_shifted_3 9 rfl rfl)
theorem dX12_shifted_80 : decode cX12_shifted 80 = .ok (.invokevirtual 163, 3) := dk_182 0 163 (dk_at dksX12_shifted_3 10 rfl rfl)
theorem dX12_shifted_83 : decode cX12_shifted 83 = .ok (.if_icmp .eq 7, 3) := dk_159 0 7 (dk_at dksX12_shifted_3 13 rfl rfl)
theorem dX12_shifted_86 : decode cX12_shifted 86 = .ok (.iconst 1, 1) := dk_4 (dk_at dksX12_shifted_3 16 rfl rfl)
theorem dX12_shifted_87 : decode cX12_shifted 87 = .ok (.goto 4, 3) := dk_167 0 4 (dk_at dksX12_shifted_3 17 rfl rfl)
theorem dX12_shifted_90 : decode cX12_shifted 90 = .ok (.iconst 0, 1) := dk_3 (dk_at dksX12_shifted_3 20 rfl rfl)
theorem dX12_shifted_91 : decode cX12_shifted 91 = .ok (.invokevirtual 172, 3) := dk_182 0 172 (dk_at dksX12_shifted_3 21 rfl rfl)
theorem dX12_shifted_94 : decode cX12_shifted 94 = .ok (.aload_n 0, 1) := dk_42 (dk_at dksX12_shifted_4 0 rfl rfl)
theorem dX12_shifted_95 : decode cX12_shifted 95 = .ok (.iload 5, 2) := dk_21 5 (dk_at dksX12_shifted_4 1 rfl rfl)
theorem dX12_shifted_97 : decode cX12_shifted 97 = .ok (.invokevirtual 253, 3) := dk_182 0 253 (dk_at dksX12_shifted_4 3 rfl rfl)
theorem dX12_shifted_100 : decode cX12_shifted 100 = .ok (.aload_n 0, 1) := dk_42 (dk_at dksX12_shifted_4 6 rfl rfl)
theorem dX12_shifted_101 : decode cX12_shifted 101 = .ok (.getfield 16, 3) := dk_180 0 16 (dk_at dksX12_shifted_4 7 rfl rfl)
theorem dX12_shifted_104 : decode cX12_shifted 104 = .ok (.iload_n 2, 1) := dk_28 (dk_at dksX12_shifted_4 10 rfl rfl)
theorem dX12_shifted_105 : decode cX12_shifted 105 = .ok (.iload 5, 2) := dk_21 5 (dk_at dksX12_shifted_4 11 rfl rfl)
theorem dX12_shifted_107 : decode cX12_shifted 107 = .ok (.iastore, 1) := dk_79 (dk_at dksX12_shifted_4 13 rfl rfl)
theorem dX12_shifted_108 : decode cX12_shifted 108 = .ok (.iconst 1, 1) := dk_4 (dk_at dksX12_shifted_4 14 rfl rfl)
theorem dX12_shifted_109 : decode cX12_shifted 109 = .ok (.ireturn, 1) := dk_172 (dk_at dksX12_shifted_4 15 rfl rfl)
abbrev cX12_others : ByteArray := prog_13_method_62_code
def yX12_others : MethodName := ⟨RX12, "others", "(I)I"⟩
def dkwX12_others_7 : List UInt8 := [4, 172]
abbrev dktX12_others_7 : List UInt8 := dkwX12_others_7 ++ []
def dkwX12_others_6 : List UInt8 := [42, 180, 0, 16, 3, 42, 42, 16, 30, 182, 0, 231, 182, 1, 71, 79, 6, 172, 42, 182, 1, 93, 4, 172]
abbrev dktX12_others_6 : List UInt8 := dkwX12_others_6 ++ dktX12_others_7
def dkwX12_others_5 : List UInt8 := [182, 0, 172, 42, 4, 181, 0, 83, 7, 172, 42, 4, 181, 0, 80, 4, 172, 42, 3, 181, 0, 92, 4, 172]
abbrev dktX12_others_5 : List UInt8 := dkwX12_others_5 ++ dktX12_others_6
def dkwX12_others_4 : List UInt8 := [42, 42, 182, 1, 90, 181, 0, 77, 7, 172, 42, 42, 182, 1, 90, 181, 0, 77, 42, 16, 7, 4]
abbrev dktX12_others_4 : List UInt8 := dkwX12_others_4 ++ dktX12_others_5
def dkwX12_others_3 : List UInt8 := [170, 0, 0, 0, 0, 144, 0, 0, 0, 0, 0, 0, 0, 14, 0, 0, 0, 74, 0, 0, 0, 84, 0, 0, 0, 144, 0, 0, 0, 144, 0, 0, 0, 144, 0, 0, 0, 144, 0, 0, 0, 144, 0, 0, 0, 144, 0, 0, 0, 106, 0, 0, 0, 144, 0, 0, 0, 113, 0, 0, 0, 144, 0, 0, 0, 120, 0, 0, 0, 144, 0, 0, 0, 138]
abbrev dktX12_others_3 : List UInt8 := dkwX12_others_3 ++ dktX12_others_4
def dkwX12_others_2 : List UInt8 := [172, 27, 7, 122, 16, 15, 126]
abbrev dktX12_others_2 : List UInt8 := dkwX12_others_2 ++ dktX12_others_3
def dkwX12_others_1 : List UInt8 := [167, 0, 4, 3, 182, 0, 172, 42, 27, 19, 1, 89, 160, 0, 7, 4, 167, 0, 4, 3, 181, 0, 83, 4]
abbrev dktX12_others_1 : List UInt8 := dkwX12_others_1 ++ dktX12_others_2
def dkwX12_others_0 : List UInt8 := [27, 19, 1, 88, 162, 0, 44, 42, 27, 7, 122, 16, 7, 126, 27, 17, 0, 128, 126, 154, 0, 7, 4]
abbrev dktX12_others_0 : List UInt8 := dkwX12_others_0 ++ dktX12_others_1
theorem dksX12_others_0 : cX12_others.data.toList.drop 0 = dktX12_others_0 := by decide +kernel
theorem dksX12_others_1 : cX12_others.data.toList.drop 23 = dktX12_others_1 := dk_seg dksX12_others_0 23 rfl rfl
theorem dksX12_others_2 : cX12_others.data.toList.drop 47 = dktX12_others_2 := dk_seg dksX12_others_1 24 rfl rfl
theorem dksX12_others_3 : cX12_others.data.toList.drop 54 = dktX12_others_3 := dk_seg dksX12_others_2 7 rfl rfl
theorem dksX12_others_4 : cX12_others.data.toList.drop 128 = dktX12_others_4 := dk_seg dksX12_others_3 74 rfl rfl
theorem dksX12_others_5 : cX12_others.data.toList.drop 150 = dktX12_others_5 := dk_seg dksX12_others_4 22 rfl rfl
theorem dksX12_others_6 : cX12_others.data.toList.drop 174 = dktX12_others_6 := dk_seg dksX12_others_5 24 rfl rfl
theorem dksX12_others_7 : cX12_others.data.toList.drop 198 = dktX12_others_7 := dk_seg dksX12_others_6 24 rfl rfl
theorem dX12_others_0 : decode cX12_others 0 = .ok (.iload_n 1, 1) := dk_27 (dk_at dksX12_others_0 0 rfl rfl)
theorem dX12_others_1 : decode cX12_others 1 = .ok (.ldc_w 344, 3) := dk_19 1 88 (dk_at dksX12_others_0 1 rfl rfl)
theorem dX12_others_4 : decode cX12_others 4 = .ok (.if_icmp .ge 44, 3) := dk_162 0 44 (dk_at dksX12_others_0 4 rfl rfl)
theorem dX12_others_7 : decode cX12_others 7 = .ok (.aload_n 0, 1) := dk_42 (dk_at dksX12_others_0 7 rfl rfl)
theorem dX12_others_8 : decode cX12_others 8 = .ok (.iload_n 1, 1) := dk_27 (dk_at dksX12_others_0 8 rfl rfl)
theorem dX12_others_9 : decode cX12_others 9 = .ok (.iconst 4, 1) := dk_7 (dk_at dksX12_others_0 9 rfl rfl)
theorem dX12_others_10 : decode cX12_others 10 = .ok (.ishr, 1) := dk_122 (dk_at dksX12_others_0 10 rfl rfl)
theorem dX12_others_11 : decode cX12_others 11 = .ok (.bipush 7, 2) := dk_16 7 (dk_at dksX12_others_0 11 rfl rfl)
theorem dX12_others_13 : decode cX12_others 13 = .ok (.iand, 1) := dk_126 (dk_at dksX12_others_0 13 rfl rfl)
theorem dX12_others_14 : decode cX12_others 14 = .ok (.iload_n 1, 1) := dk_27 (dk_at dksX12_others_0 14 rfl rfl)
theorem dX12_others_15 : decode cX12_others 15 = .ok (.sipush 128, 3) := dk_17 0 128 (dk_at dksX12_others_0 15 rfl rfl)
theorem dX12_others_18 : decode cX12_others 18 = .ok (.iand, 1) := dk_126 (dk_at dksX12_others_0 18 rfl rfl)
theorem dX12_others_19 : decode cX12_others 19 = .ok (.ifCond .ne 7, 3) := dk_154 0 7 (dk_at dksX12_others_0 19 rfl rfl)
theorem dX12_others_22 : decode cX12_others 22 = .ok (.iconst 1, 1) := dk_4 (dk_at dksX12_others_0 22 rfl rfl)
theorem dX12_others_23 : decode cX12_others 23 = .ok (.goto 4, 3) := dk_167 0 4 (dk_at dksX12_others_1 0 rfl rfl)
theorem dX12_others_26 : decode cX12_others 26 = .ok (.iconst 0, 1) := dk_3 (dk_at dksX12_others_1 3 rfl rfl)
theorem dX12_others_27 : decode cX12_others 27 = .ok (.invokevirtual 172, 3) := dk_182 0 172 (dk_at dksX12_others_1 4 rfl rfl)
theorem dX12_others_30 : decode cX12_others 30 = .ok (.aload_n 0, 1) := dk_42 (dk_at dksX12_others_1 7 rfl rfl)
theorem dX12_others_31 : decode cX12_others 31 = .ok (.iload_n 1, 1) := dk_27 (dk_at dksX12_others_1 8 rfl rfl)
theorem dX12_others_32 : decode cX12_others 32 = .ok (.ldc_w 345, 3) := dk_19 1 89 (dk_at dksX12_others_1 9 rfl rfl)
theorem dX12_others_35 : decode cX12_others 35 = .ok (.if_icmp .ne 7, 3) := dk_160 0 7 (dk_at dksX12_others_1 12 rfl rfl)
theorem dX12_others_38 : decode cX12_others 38 = .ok (.iconst 1, 1) := dk_4 (dk_at dksX12_others_1 15 rfl rfl)
theorem dX12_others_39 : decode cX12_others 39 = .ok (.goto 4, 3) := dk_167 0 4 (dk_at dksX12_others_1 16 rfl rfl)
theorem dX12_others_42 : decode cX12_others 42 = .ok (.iconst 0, 1) := dk_3 (dk_at dksX12_others_1 19 rfl rfl)
theorem dX12_others_43 : decode cX12_others 43 = .ok (.putfield 83, 3) := dk_181 0 83 (dk_at dksX12_others_1 20 rfl rfl)
theorem dX12_others_46 : decode cX12_others 46 = .ok (.iconst 1, 1) := dk_4 (dk_at dksX12_others_1 23 rfl rfl)
theorem dX12_others_47 : decode cX12_others 47 = .ok (.ireturn, 1) := dk_172 (dk_at dksX12_others_2 0 rfl rfl)
theorem dX12_others_48 : decode cX12_others 48 = .ok (.iload_n 1, 1) := dk_27 (dk_at dksX12_others_2 1 rfl rfl)
theorem dX12_others_49 : decode cX12_others 49 = .ok (.iconst 4, 1) := dk_7 (dk_at dksX12_others_2 2 rfl rfl)
theorem dX12_others_50 : decode cX12_others 50 = .ok (.ishr, 1) := dk_122 (dk_at dksX12_others_2 3 rfl rfl)
theorem dX12_others_51 : decode cX12_others 51 = .ok (.bipush 15, 2) := dk_16 15 (dk_at dksX12_others_2 4 rfl rfl)
theorem dX12_others_53 : decode cX12_others 53 = .ok (.iand, 1) := dk_126 (dk_at dksX12_others_2 6 rfl rfl)
theorem dX12_others_54 : decode cX12_others 54 = .ok (.tableswitch 144 0 14 #[74, 84, 144, 144, 144, 144, 144, 144, 106, 144, 113, 144, 120, 144, 138], 74) := by decide +kernel
theorem dX12_others_128 : decode cX12_others 128 = .ok (.aload_n 0, 1) := dk_42 (dk_at dksX12_others_4 0 rfl rfl)
theorem dX12_others_129 : decode cX12_others 129 = .ok (.aload_n 0, 1) := dk_42 (dk_at dksX12_others_4 1 rfl rfl)
theorem dX12_others_130 : decode cX12_others 130 = .ok (.invokevirtual 346, 3) := dk_182 1 90 (dk_at dksX12_others_4 2 rfl rfl)
theorem dX12_others_133 : decode cX12_others 133 = .ok (.putfield 77, 3) := dk_181 0 77 (dk_at dksX12_others_4 5 rfl rfl)
theorem dX12_others_136 : decode cX12_others 136 = .ok (.iconst 4, 1) := dk_7 (dk_at dksX12_others_4 8 rfl rfl)
theorem dX12_others_137 : decode cX12_others 137 = .ok (.ireturn, 1) := dk_172 (dk_at dksX12_others_4 9 rfl rfl)
theorem dX12_others_138 : decode cX12_others 138 = .ok (.aload_n 0, 1) := dk_42 (dk_at dksX12_others_4 10 rfl rfl)
theorem dX12_others_139 : decode cX12_others 139 = .ok (.aload_n 0, 1) := dk_42 (dk_at dksX12_others_4 11 rfl rfl)
theorem dX12_others_140 : decode cX12_others 140 = .ok (.invokevirtual 346, 3) := dk_182 1 90 (dk_at dksX12_others_4 12 rfl rfl)
theorem dX12_others_143 : decode cX12_others 143 = .ok (.putfield 77, 3) := dk_181 0 77 (dk_at dksX12_others_4 15 rfl rfl)
theorem dX12_others_146 : decode cX12_others 146 = .ok (.aload_n 0, 1) := dk_42 (dk_at dksX12_others_4 18 rfl rfl)
theorem dX12_others_147 : decode cX12_others 147 = .ok (.bipush 7, 2) := dk_16 7 (dk_at dksX12_others_4 19 rfl rfl)
theorem dX12_others_149 : decode cX12_others 149 = .ok (.iconst 1, 1) := dk_4 (dk_at dksX12_others_4 21 rfl rfl)
theorem dX12_others_150 : decode cX12_others 150 = .ok (.invokevirtual 172, 3) := dk_182 0 172 (dk_at dksX12_others_5 0 rfl rfl)
theorem dX12_others_153 : decode cX12_others 153 = .ok (.aload_n 0, 1) := dk_42 (dk_at dksX12_others_5 3 rfl rfl)
theorem dX12_others_154 : decode cX12_others 154 = .ok (.iconst 1, 1) := dk_4 (dk_at dksX12_others_5 4 rfl rfl)
theorem dX12_others_155 : decode cX12_others 155 = .ok (.putfield 83, 3) := dk_181 0 83 (dk_at dksX12_others_5 5 rfl rfl)
theorem dX12_others_158 : decode cX12_others 158 = .ok (.iconst 4, 1) := dk_7 (dk_at dksX12_others_5 8 rfl rfl)
theorem dX12_others_159 : decode cX12_others 159 = .ok (.ireturn, 1) := dk_172 (dk_at dksX12_others_5 9 rfl rfl)
theorem dX12_others_160 : decode cX12_others 160 = .ok (.aload_n 0, 1) := dk_42 (dk_at dksX12_others_5 10 rfl rfl)
theorem dX12_others_161 : decode cX12_others 161 = .ok (.iconst 1, 1) := dk_4 (dk_at dksX12_others_5 11 rfl rfl)
theorem dX12_others_162 : decode cX12_others 162 = .ok (.putfield 80, 3) := dk_181 0 80 (dk_at dksX12_others_5 12 rfl rfl)
theorem dX12_others_165 : decode cX12_others 165 = .ok (.iconst 1, 1) := dk_4 (dk_at dksX12_others_5 15 rfl rfl)
theorem dX12_others_166 : decode cX12_others 166 = .ok (.ireturn, 1) := dk_172 (dk_at dksX12_others_5 16 rfl rfl)
theorem dX12_others_167 : decode cX12_others 167 = .ok (.aload_n 0, 1) := dk_42 (dk_at dksX12_others_5 17 rfl rfl)
theorem dX12_others_168 : decode cX12_others 168 = .ok (.iconst 0, 1) := dk_3 (dk_at dksX12_others_5 18 rfl rfl)
theorem dX12_others_169 : decode cX12_others 169 = .ok (.putfield 92, 3) := dk_181 0 92 (dk_at dksX12_others_5 19 rfl rfl)
theorem dX12_others_172 : decode cX12_others 172 = .ok (.iconst 1, 1) := dk_4 (dk_at dksX12_others_5 22 rfl rfl)
theorem dX12_others_173 : decode cX12_others 173 = .ok (.ireturn, 1) := dk_172 (dk_at dksX12_others_5 23 rfl rfl)
theorem dX12_others_174 : decode cX12_others 174 = .ok (.aload_n 0, 1) := dk_42 (dk_at dksX12_others_6 0 rfl rfl)
theorem dX12_others_175 : decode cX12_others 175 = .ok (.getfield 16, 3) := dk_180 0 16 (dk_at dksX12_others_6 1 rfl rfl)
theorem dX12_others_178 : decode cX12_others 178 = .ok (.iconst 0, 1) := dk_3 (dk_at dksX12_others_6 4 rfl rfl)
theorem dX12_others_179 : decode cX12_others 179 = .ok (.aload_n 0, 1) := dk_42 (dk_at dksX12_others_6 5 rfl rfl)
theorem dX12_others_180 : decode cX12_others 180 = .ok (.aload_n 0, 1) := dk_42 (dk_at dksX12_others_6 6 rfl rfl)
theorem dX12_others_181 : decode cX12_others 181 = .ok (.bipush 30, 2) := dk_16 30 (dk_at dksX12_others_6 7 rfl rfl)
theorem dX12_others_183 : decode cX12_others 183 = .ok (.invokevirtual 231, 3) := dk_182 0 231 (dk_at dksX12_others_6 9 rfl rfl)
theorem dX12_others_186 : decode cX12_others 186 = .ok (.invokevirtual 327, 3) := dk_182 1 71 (dk_at dksX12_others_6 12 rfl rfl)
theorem dX12_others_189 : decode cX12_others 189 = .ok (.iastore, 1) := dk_79 (dk_at dksX12_others_6 15 rfl rfl)
theorem dX12_others_190 : decode cX12_others 190 = .ok (.iconst 3, 1) := dk_6 (dk_at dksX12_others_6 16 rfl rfl)
theorem dX12_others_191 : decode cX12_others 191 = .ok (.ireturn, 1) := dk_172 (dk_at dksX12_others_6 17 rfl rfl)
theorem dX12_others_192 : decode cX12_others 192 = .ok (.aload_n 0, 1) := dk_42 (dk_at dksX12_others_6 18 rfl rfl)
theorem dX12_others_193 : decode cX12_others 193 = .ok (.invokevirtual 349, 3) := dk_182 1 93 (dk_at dksX12_others_6 19 rfl rfl)
theorem dX12_others_196 : decode cX12_others 196 = .ok (.iconst 1, 1) := dk_4 (dk_at dksX12_others_6 22 rfl rfl)
theorem dX12_others_197 : decode cX12_others 197 = .ok (.ireturn, 1) := dk_172 (dk_at dksX12_others_6 23 rfl rfl)
theorem dX12_others_198 : decode cX12_others 198 = .ok (.iconst 1, 1) := dk_4 (dk_at dksX12_others_7 0 rfl rfl)
theorem dX12_others_199 : decode cX12_others 199 = .ok (.ireturn, 1) := dk_172 (dk_at dksX12_others_7 1 rfl rfl)
abbrev cX12_popPlace : ByteArray := prog_13_method_37_code
def yX12_popPlace : MethodName := ⟨RX12, "popPlace", "()I"⟩
def dkwX12_popPlace_0 : List UInt8 := [42, 182, 0, 247, 60, 27, 16, 8, 120, 42, 182, 0, 247, 128, 17, 7, 255, 126, 172]
abbrev dktX12_popPlace_0 : List UInt8 := dkwX12_popPlace_0 ++ []
theorem dksX12_popPlace_0 : cX12_popPlace.data.toList.drop 0 = dktX12_popPlace_0 := by decide +kernel
theorem dX12_popPlace_0 : decode cX12_popPlace 0 = .ok (.aload_n 0, 1) := dk_42 (dk_at dksX12_popPlace_0 0 rfl rfl)
theorem dX12_popPlace_1 : decode cX12_popPlace 1 = .ok (.invokevirtual 247, 3) := dk_182 0 247 (dk_at dksX12_popPlace_0 1 rfl rfl)
theorem dX12_popPlace_4 : decode cX12_popPlace 4 = .ok (.istore_n 1, 1) := dk_60 (dk_at dksX12_popPlace_0 4 rfl rfl)
theorem dX12_popPlace_5 : decode cX12_popPlace 5 = .ok (.iload_n 1, 1) := dk_27 (dk_at dksX12_popPlace_0 5 rfl rfl)
theorem dX12_popPlace_6 : decode cX12_popPlace 6 = .ok (.bipush 8, 2) := dk_16 8 (dk_at dksX12_popPlace_0 6 rfl rfl)
theorem dX12_popPlace_8 : decode cX12_popPlace 8 = .ok (.ishl, 1) := dk_120 (dk_at dksX12_popPlace_0 8 rfl rfl)
theorem dX12_popPlace_9 : decode cX12_popPlace 9 = .ok (.aload_n 0, 1) := dk_42 (dk_at dksX12_popPlace_0 9 rfl rfl)
theorem dX12_popPlace_10 : decode cX12_popPlace 10 = .ok (.invokevirtual 247, 3) := dk_182 0 247 (dk_at dksX12_popPlace_0 10 rfl rfl)
theorem dX12_popPlace_13 : decode cX12_popPlace 13 = .ok (.ior, 1) := dk_128 (dk_at dksX12_popPlace_0 13 rfl rfl)
theorem dX12_popPlace_14 : decode cX12_popPlace 14 = .ok (.sipush 2047, 3) := dk_17 7 255 (dk_at dksX12_popPlace_0 14 rfl rfl)
theorem dX12_popPlace_17 : decode cX12_popPlace 17 = .ok (.iand, 1) := dk_126 (dk_at dksX12_popPlace_0 17 rfl rfl)
theorem dX12_popPlace_18 : decode cX12_popPlace 18 = .ok (.ireturn, 1) := dk_172 (dk_at dksX12_popPlace_0 18 rfl rfl)
abbrev cX12_storesFlash : ByteArray := prog_13_method_65_code
def yX12_storesFlash : MethodName := ⟨RX12, "storesFlash", "()V"⟩
def dkwX12_storesFlash_8 : List UInt8 := [46, 17, 0, 224, 126, 79, 177]
abbrev dktX12_storesFlash_8 : List UInt8 := dkwX12_storesFlash_8 ++ []
def dkwX12_storesFlash_7 : List UInt8 := [42, 89, 180, 0, 26, 42, 180, 0, 16, 3, 46, 5, 122, 126, 181, 0, 26, 42, 180, 0, 16, 16, 87, 92]
abbrev dktX12_storesFlash_7 : List UInt8 := dkwX12_storesFlash_7 ++ dktX12_storesFlash_8
def dkwX12_storesFlash_6 : List UInt8 := [180, 0, 16, 16, 87, 92, 46, 17, 0, 191, 126, 79, 42, 182, 0, 122, 167, 0, 25, 28, 7, 160, 0, 20]
abbrev dktX12_storesFlash_6 : List UInt8 := dkwX12_storesFlash_6 ++ dktX12_storesFlash_7
def dkwX12_storesFlash_5 : List UInt8 := [182, 0, 231, 79, 42, 180, 0, 22, 21, 4, 4, 84, 167, 0, 51, 28, 16, 8, 160, 0, 23, 42]
abbrev dktX12_storesFlash_5 : List UInt8 := dkwX12_storesFlash_5 ++ dktX12_storesFlash_6
def dkwX12_storesFlash_4 : List UInt8 := [122, 16, 31, 126, 54, 4, 42, 180, 0, 22, 21, 4, 51, 154, 0, 15, 42, 180, 0, 13, 21, 4, 42, 3]
abbrev dktX12_storesFlash_4 : List UInt8 := dkwX12_storesFlash_4 ++ dktX12_storesFlash_5
def dkwX12_storesFlash_3 : List UInt8 := [104, 28, 4, 160, 0, 7, 4, 167, 0, 4, 3, 182, 1, 96, 153, 0, 97, 177, 28, 154, 0, 44, 27, 4]
abbrev dktX12_storesFlash_3 : List UInt8 := dkwX12_storesFlash_3 ++ dktX12_storesFlash_4
def dkwX12_storesFlash_2 : List UInt8 := [126, 61, 27, 16, 6, 122, 16, 63, 126, 62, 28, 4, 159, 0, 8, 28, 5, 160, 0, 25, 42, 16, 32, 29]
abbrev dktX12_storesFlash_2 : List UInt8 := dkwX12_storesFlash_2 ++ dktX12_storesFlash_3
def dkwX12_storesFlash_1 : List UInt8 := [177, 42, 3, 181, 0, 98, 42, 16, 30, 182, 0, 231, 60, 42, 180, 0, 16, 16, 87, 46, 4, 122, 16, 15]
abbrev dktX12_storesFlash_1 : List UInt8 := dkwX12_storesFlash_1 ++ dktX12_storesFlash_2
def dkwX12_storesFlash_0 : List UInt8 := [42, 180, 1, 0, 17, 6, 0, 161, 0, 17, 42, 180, 0, 86, 157, 0, 10, 42, 180, 0, 98, 154, 0, 4]
abbrev dktX12_storesFlash_0 : List UInt8 := dkwX12_storesFlash_0 ++ dktX12_storesFlash_1
theorem dksX12_storesFlash_0 : cX12_storesFlash.data.toList.drop 0 = dktX12_storesFlash_0 := by decide +kernel
theorem dksX12_storesFlash_1 : cX12_storesFlash.data.toList.drop 24 = dktX12_storesFlash_1 := dk_seg dksX12_storesFlash_0 24 rfl rfl
theorem dksX12_storesFlash_2 : cX12_storesFlash.data.toList.drop 48 = dktX12_storesFlash_2 := dk_seg dksX12_storesFlash_1 24 rfl rfl
theorem dksX12_storesFlash_3 : cX12_storesFlash.data.toList.drop 72 = dktX12_storesFlash_3 := dk_seg dksX12_storesFlash_2 24 rfl rfl
theorem dksX12_storesFlash_4 : cX12_storesFlash.data.toList.drop 96 = dktX12_storesFlash_4 := dk_seg dksX12_storesFlash_3 24 rfl rfl
theorem dksX12_storesFlash_5 : cX12_storesFlash.data.toList.drop 120 = dktX12_storesFlash_5 := dk_seg dksX12_storesFlash_4 24 rfl rfl
theorem dksX12_storesFlash_6 : cX12_storesFlash.data.toList.drop 142 = dktX12_storesFlash_6 := dk_seg dksX12_storesFlash_5 22 rfl rfl
theorem dksX12_storesFlash_7 : cX12_storesFlash.data.toList.drop 166 = dktX12_storesFlash_7 := dk_seg dksX12_storesFlash_6 24 rfl rfl
theorem dksX12_storesFlash_8 : cX12_storesFlash.data.toList.drop 190 = dktX12_storesFlash_8 := dk_seg dksX12_storesFlash_7 24 rfl rfl
theorem dX12_storesFlash_0 : decode cX12_storesFlash 0 = .ok (.aload_n 0, 1) := dk_42 (dk_at dksX12_storesFlash_0 0 rfl rfl)
theorem dX12_storesFlash_1 : decode cX12_storesFlash 1 = .ok (.getfield 256, 3) := dk_180 1 0 (dk_at dksX12_storesFlash_0 1 rfl rfl)
theorem dX12_storesFlash_4 : decode cX12_storesFlash 4 = .ok (.sipush 1536, 3) := dk_17 6 0 (dk_at dksX12_storesFlash_0 4 rfl rfl)
theorem dX12_storesFlash_7 : decode cX12_storesFlash 7 = .ok (.if_icmp .lt 17, 3) := dk_161 0 17 (dk_at dksX12_storesFlash_0 7 rfl rfl)
theorem dX12_storesFlash_10 : decode cX12_storesFlash 10 = .ok (.aload_n 0, 1) := dk_42 (dk_at dksX12_storesFlash_0 10 rfl rfl)
theorem dX12_storesFlash_11 : decode cX12_storesFlash 11 = .ok (.getfield 86, 3) := dk_180 0 86 (dk_at dksX12_storesFlash_0 11 rfl rfl)
theorem dX12_storesFlash_14 : decode cX12_storesFlash 14 = .ok (.ifCond .gt 10, 3) := dk_157 0 10 (dk_at dksX12_storesFlash_0 14 rfl rfl)
theorem dX12_storesFlash_17 : decode cX12_storesFlash 17 = .ok (.aload_n 0, 1) := dk_42 (dk_at dksX12_storesFlash_0 17 rfl rfl)
theorem dX12_storesFlash_18 : decode cX12_storesFlash 18 = .ok (.getfield 98, 3) := dk_180 0 98 (dk_at dksX12_storesFlash_0 18 rfl rfl)
theorem dX12_storesFlash_21 : decode cX12_storesFlash 21 = .ok (.ifCond .ne 4, 3) := dk_154 0 4 (dk_at dksX12_storesFlash_0 21 rfl rfl)
theorem dX12_storesFlash_24 : decode cX12_storesFlash 24 = .ok (.return_, 1) := dk_177 (dk_at dksX12_storesFlash_1 0 rfl rfl)
theorem dX12_storesFlash_25 : decode cX12_storesFlash 25 = .ok (.aload_n 0, 1) := dk_42 (dk_at dksX12_storesFlash_1 1 rfl rfl)
theorem dX12_storesFlash_26 : decode cX12_storesFlash 26 = .ok (.iconst 0, 1) := dk_3 (dk_at dksX12_storesFlash_1 2 rfl rfl)
theorem dX12_storesFlash_27 : decode cX12_storesFlash 27 = .ok (.putfield 98, 3) := dk_181 0 98 (dk_at dksX12_storesFlash_1 3 rfl rfl)
theorem dX12_storesFlash_30 : decode cX12_storesFlash 30 = .ok (.aload_n 0, 1) := dk_42 (dk_at dksX12_storesFlash_1 6 rfl rfl)
theorem dX12_storesFlash_31 : decode cX12_storesFlash 31 = .ok (.bipush 30, 2) := dk_16 30 (dk_at dksX12_storesFlash_1 7 rfl rfl)
theorem dX12_storesFlash_33 : decode cX12_storesFlash 33 = .ok (.invokevirtual 231, 3) := dk_182 0 231 (dk_at dksX12_storesFlash_1 9 rfl rfl)
theorem dX12_storesFlash_36 : decode cX12_storesFlash 36 = .ok (.istore_n 1, 1) := dk_60 (dk_at dksX12_storesFlash_1 12 rfl rfl)
theorem dX12_storesFlash_37 : decode cX12_storesFlash 37 = .ok (.aload_n 0, 1) := dk_42 (dk_at dksX12_storesFlash_1 13 rfl rfl)
theorem dX12_storesFlash_38 : decode cX12_storesFlash 38 = .ok (.getfield 16, 3) := dk_180 0 16 (dk_at dksX12_storesFlash_1 14 rfl rfl)
theorem dX12_storesFlash_41 : decode cX12_storesFlash 41 = .ok (.bipush 87, 2) := dk_16 87 (dk_at dksX12_storesFlash_1 17 rfl rfl)
theorem dX12_storesFlash_43 : decode cX12_storesFlash 43 = .ok (.iaload, 1) := dk_46 (dk_at dksX12_storesFlash_1 19 rfl rfl)
theorem dX12_storesFlash_44 : decode cX12_storesFlash 44 = .ok (.iconst 1, 1) := dk_4 (dk_at dksX12_storesFlash_1 20 rfl rfl)
theorem dX12_storesFlash_45 : decode cX12_storesFlash 45 = .ok (.ishr, 1) := dk_122 (dk_at dksX12_storesFlash_1 21 rfl rfl)
theorem dX12_storesFlash_46 : decode cX12_storesFlash 46 = .ok (.bipush 15, 2) := dk_16 15 (dk_at dksX12_storesFlash_1 22 rfl rfl)
theorem dX12_storesFlash_48 : decode cX12_storesFlash 48 = .ok (.iand, 1) := dk_126 (dk_at dksX12_storesFlash_2 0 rfl rfl)
theorem dX12_storesFlash_49 : decode cX12_storesFlash 49 = .ok (.istore_n 2, 1) := dk_61 (dk_at dksX12_storesFlash_2 1 rfl rfl)
theorem dX12_storesFlash_50 : decode cX12_storesFlash 50 = .ok (.iload_n 1, 1) := dk_27 (dk_at dksX12_storesFlash_2 2 rfl rfl)
theorem dX12_storesFlash_51 : decode cX12_storesFlash 51 = .ok (.bipush 6, 2) := dk_16 6 (dk_at dksX12_storesFlash_2 3 rfl rfl)
theorem dX12_storesFlash_53 : decode cX12_storesFlash 53 = .ok (.ishr, 1) := dk_122 (dk_at dksX12_storesFlash_2 5 rfl rfl)
theorem dX12_storesFlash_54 : decode cX12_storesFlash 54 = .ok (.bipush 63, 2) := dk_16 63 (dk_at dksX12_storesFlash_2 6 rfl rfl)
theorem dX12_storesFlash_56 : decode cX12_storesFlash 56 = .ok (.iand, 1) := dk_126 (dk_at dksX12_storesFlash_2 8 rfl rfl)
theorem dX12_storesFlash_57 : decode cX12_storesFlash 57 = .ok (.istore_n 3, 1) := dk_62 (dk_at dksX12_storesFlash_2 9 rfl rfl)
theorem dX12_storesFlash_58 : decode cX12_storesFlash 58 = .ok (.iload_n 2, 1) := dk_28 (dk_at dksX12_storesFlash_2 10 rfl rfl)
theorem dX12_storesFlash_59 : decode cX12_storesFlash 59 = .ok (.iconst 1, 1) := dk_4 (dk_at dksX12_storesFlash_2 11 rfl rfl)
theorem dX12_storesFlash_60 : decode cX12_storesFlash 60 = .ok (.if_icmp .eq 8, 3) := dk_159 0 8 (dk_at dksX12_storesFlash_2 12 rfl rfl)
theorem dX12_storesFlash_63 : decode cX12_storesFlash 63 = .ok (.iload_n 2, 1) := dk_28 (dk_at dksX12_storesFlash_2 15 rfl rfl)
theorem dX12_storesFlash_64 : decode cX12_storesFlash 64 = .ok (.iconst 2, 1) := dk_5 (dk_at dksX12_storesFlash_2 16 rfl rfl)
theorem dX12_storesFlash_65 : decode cX12_storesFlash 65 = .ok (.if_icmp .ne 25, 3) := dk_160 0 25 (dk_at dksX12_storesFlash_2 17 rfl rfl)
theorem dX12_storesFlash_68 : decode cX12_storesFlash 68 = .ok (.aload_n 0, 1) := dk_42 (dk_at dksX12_storesFlash_2 20 rfl rfl)
theorem dX12_storesFlash_69 : decode cX12_storesFlash 69 = .ok (.bipush 32, 2) := dk_16 32 (dk_at dksX12_storesFlash_2 21 rfl rfl)
theorem dX12_storesFlash_71 : decode cX12_storesFlash 71 = .ok (.iload_n 3, 1) := dk_29 (dk_at dksX12_storesFlash_2 23 rfl rfl)
theorem dX12_storesFlash_72 : decode cX12_storesFlash 72 = .ok (.imul, 1) := dk_104 (dk_at dksX12_storesFlash_3 0 rfl rfl)
theorem dX12_storesFlash_73 : decode cX12_storesFlash 73 = .ok (.iload_n 2, 1) := dk_28 (dk_at dksX12_storesFlash_3 1 rfl rfl)
theorem dX12_storesFlash_74 : decode cX12_storesFlash 74 = .ok (.iconst 1, 1) := dk_4 (dk_at dksX12_storesFlash_3 2 rfl rfl)
theorem dX12_storesFlash_75 : decode cX12_storesFlash 75 = .ok (.if_icmp .ne 7, 3) := dk_160 0 7 (dk_at dksX12_storesFlash_3 3 rfl rfl)
theorem dX12_storesFlash_78 : decode cX12_storesFlash 78 = .ok (.iconst 1, 1) := dk_4 (dk_at dksX12_storesFlash_3 6 rfl rfl)
theorem dX12_storesFlash_79 : decode cX12_storesFlash 79 = .ok (.goto 4, 3) := dk_167 0 4 (dk_at dksX12_storesFlash_3 7 rfl rfl)
theorem dX12_storesFlash_82 : decode cX12_storesFlash 82 = .ok (.iconst 0, 1) := dk_3 (dk_at dksX12_storesFlash_3 10 rfl rfl)
theorem dX12_storesFlash_83 : decode cX12_storesFlash 83 = .ok (.invokevirtual 352, 3) := dk_182 1 96 (dk_at dksX12_storesFlash_3 11 rfl rfl)
theorem dX12_storesFlash_86 : decode cX12_storesFlash 86 = .ok (.ifCond .eq 97, 3) := dk_153 0 97 (dk_at dksX12_storesFlash_3 14 rfl rfl)
theorem dX12_storesFlash_89 : decode cX12_storesFlash 89 = .ok (.return_, 1) := dk_177 (dk_at dksX12_storesFlash_3 17 rfl rfl)
theorem dX12_storesFlash_90 : decode cX12_storesFlash 90 = .ok (.iload_n 2, 1) := dk_28 (dk_at dksX12_storesFlash_3 18 rfl rfl)
theorem dX12_storesFlash_91 : decode cX12_storesFlash 91 = .ok (.ifCond .ne 44, 3) := dk_154 0 44 (dk_at dksX12_storesFlash_3 19 rfl rfl)
theorem dX12_storesFlash_94 : decode cX12_storesFlash 94 = .ok (.iload_n 1, 1) := dk_27 (dk_at dksX12_storesFlash_3 22 rfl rfl)
theorem dX12_storesFlash_95 : decode cX12_storesFlash 95 = .ok (.iconst 1, 1) := dk_4 (dk_at dksX12_storesFlash_3 23 rfl rfl)
theorem dX12_storesFlash_96 : decode cX12_storesFlash 96 = .ok (.ishr, 1) := dk_122 (dk_at dksX12_storesFlash_4 0 rfl rfl)
theorem dX12_storesFlash_97 : decode cX12_storesFlash 97 = .ok (.bipush 31, 2) := dk_16 31 (dk_at dksX12_storesFlash_4 1 rfl rfl)
theorem dX12_storesFlash_99 : decode cX12_storesFlash 99 = .ok (.iand, 1) := dk_126 (dk_at dksX12_storesFlash_4 3 rfl rfl)
theorem dX12_storesFlash_100 : decode cX12_storesFlash 100 = .ok (.istore 4, 2) := dk_54 4 (dk_at dksX12_storesFlash_4 4 rfl rfl)
theorem dX12_storesFlash_102 : decode cX12_storesFlash 102 = .ok (.aload_n 0, 1) := dk_42 (dk_at dksX12_storesFlash_4 6 rfl rfl)
theorem dX12_storesFlash_103 : decode cX12_storesFlash 103 = .ok (.getfield 22, 3) := dk_180 0 22 (dk_at dksX12_storesFlash_4 7 rfl rfl)
theorem dX12_storesFlash_106 : decode cX12_storesFlash 106 = .ok (.iload 4, 2) := dk_21 4 (dk_at dksX12_storesFlash_4 10 rfl rfl)
theorem dX12_storesFlash_108 : decode cX12_storesFlash 108 = .ok (.baload, 1) := dk_51 (dk_at dksX12_storesFlash_4 12 rfl rfl)
theorem dX12_storesFlash_109 : decode cX12_storesFlash 109 = .ok (.ifCond .ne 15, 3) := dk_154 0 15 (dk_at dksX12_storesFlash_4 13 rfl rfl)
theorem dX12_storesFlash_112 : decode cX12_storesFlash 112 = .ok (.aload_n 0, 1) := dk_42 (dk_at dksX12_storesFlash_4 16 rfl rfl)
theorem dX12_storesFlash_113 : decode cX12_storesFlash 113 = .ok (.getfield 13, 3) := dk_180 0 13 (dk_at dksX12_storesFlash_4 17 rfl rfl)
theorem dX12_storesFlash_116 : decode cX12_storesFlash 116 = .ok (.iload 4, 2) := dk_21 4 (dk_at dksX12_storesFlash_4 20 rfl rfl)
theorem dX12_storesFlash_118 : decode cX12_storesFlash 118 = .ok (.aload_n 0, 1) := dk_42 (dk_at dksX12_storesFlash_4 22 rfl rfl)
theorem dX12_storesFlash_119 : decode cX12_storesFlash 119 = .ok (.iconst 0, 1) := dk_3 (dk_at dksX12_storesFlash_4 23 rfl rfl)
theorem dX12_storesFlash_120 : decode cX12_storesFlash 120 = .ok (.invokevirtual 231, 3) := dk_182 0 231 (dk_at dksX12_storesFlash_5 0 rfl rfl)
theorem dX12_storesFlash_123 : decode cX12_storesFlash 123 = .ok (.iastore, 1) := dk_79 (dk_at dksX12_storesFlash_5 3 rfl rfl)
theorem dX12_storesFlash_124 : decode cX12_storesFlash 124 = .ok (.aload_n 0, 1) := dk_42 (dk_at dksX12_storesFlash_5 4 rfl rfl)
theorem dX12_storesFlash_125 : decode cX12_storesFlash 125 = .ok (.getfield 22, 3) := dk_180 0 22 (dk_at dksX12_storesFlash_5 5 rfl rfl)
theorem dX12_storesFlash_128 : decode cX12_storesFlash 128 = .ok (.iload 4, 2) := dk_21 4 (dk_at dksX12_storesFlash_5 8 rfl rfl)
theorem dX12_storesFlash_130 : decode cX12_storesFlash 130 = .ok (.iconst 1, 1) := dk_4 (dk_at dksX12_storesFlash_5 10 rfl rfl)
theorem dX12_storesFlash_131 : decode cX12_storesFlash 131 = .ok (.bastore, 1) := dk_84 (dk_at dksX12_storesFlash_5 11 rfl rfl)
theorem dX12_storesFlash_132 : decode cX12_storesFlash 132 = .ok (.goto 51, 3) := dk_167 0 51 (dk_at dksX12_storesFlash_5 12 rfl rfl)
theorem dX12_storesFlash_135 : decode cX12_storesFlash 135 = .ok (.iload_n 2, 1) := dk_28 (dk_at dksX12_storesFlash_5 15 rfl rfl)
theorem dX12_storesFlash_136 : decode cX12_storesFlash 136 = .ok (.bipush 8, 2) := dk_16 8 (dk_at dksX12_storesFlash_5 16 rfl rfl)
theorem dX12_storesFlash_138 : decode cX12_storesFlash 138 = .ok (.if_icmp .ne 23, 3) := dk_160 0 23 (dk_at dksX12_storesFlash_5 18 rfl rfl)
theorem dX12_storesFlash_141 : decode cX12_storesFlash 141 = .ok (.aload_n 0, 1) := dk_42 (dk_at dksX12_storesFlash_5 21 rfl rfl)
theorem dX12_storesFlash_142 : decode cX12_storesFlash 142 = .ok (.getfield 16, 3) := dk_180 0 16 (dk_at dksX12_storesFlash_6 0 rfl rfl)
theorem dX12_storesFlash_145 : decode cX12_storesFlash 145 = .ok (.bipush 87, 2) := dk_16 87 (dk_at dksX12_storesFlash_6 3 rfl rfl)
theorem dX12_storesFlash_147 : decode cX12_storesFlash 147 = .ok (.dup2, 1) := dk_92 (dk_at dksX12_storesFlash_6 5 rfl rfl)
theorem dX12_storesFlash_148 : decode cX12_storesFlash 148 = .ok (.iaload, 1) := dk_46 (dk_at dksX12_storesFlash_6 6 rfl rfl)
theorem dX12_storesFlash_149 : decode cX12_storesFlash 149 = .ok (.sipush 191, 3) := dk_17 0 191 (dk_at dksX12_storesFlash_6 7 rfl rfl)
theorem dX12_storesFlash_152 : decode cX12_storesFlash 152 = .ok (.iand, 1) := dk_126 (dk_at dksX12_storesFlash_6 10 rfl rfl)
theorem dX12_storesFlash_153 : decode cX12_storesFlash 153 = .ok (.iastore, 1) := dk_79 (dk_at dksX12_storesFlash_6 11 rfl rfl)
theorem dX12_storesFlash_154 : decode cX12_storesFlash 154 = .ok (.aload_n 0, 1) := dk_42 (dk_at dksX12_storesFlash_6 12 rfl rfl)
theorem dX12_storesFlash_155 : decode cX12_storesFlash 155 = .ok (.invokevirtual 122, 3) := dk_182 0 122 (dk_at dksX12_storesFlash_6 13 rfl rfl)
theorem dX12_storesFlash_158 : decode cX12_storesFlash 158 = .ok (.goto 25, 3) := dk_167 0 25 (dk_at dksX12_storesFlash_6 16 rfl rfl)
theorem dX12_storesFlash_161 : decode cX12_storesFlash 161 = .ok (.iload_n 2, 1) := dk_28 (dk_at dksX12_storesFlash_6 19 rfl rfl)
theorem dX12_storesFlash_162 : decode cX12_storesFlash 162 = .ok (.iconst 4, 1) := dk_7 (dk_at dksX12_storesFlash_6 20 rfl rfl)
theorem dX12_storesFlash_163 : decode cX12_storesFlash 163 = .ok (.if_icmp .ne 20, 3) := dk_160 0 20 (dk_at dksX12_storesFlash_6 21 rfl rfl)
theorem dX12_storesFlash_166 : decode cX12_storesFlash 166 = .ok (.aload_n 0, 1) := dk_42 (dk_at dksX12_storesFlash_7 0 rfl rfl)
theorem dX12_storesFlash_167 : decode cX12_storesFlash 167 = .ok (.dup, 1) := dk_89 (dk_at dksX12_storesFlash_7 1 rfl rfl)
theorem dX12_storesFlash_168 : decode cX12_storesFlash 168 = .ok (.getfield 26, 3) := dk_180 0 26 (dk_at dksX12_storesFlash_7 2 rfl rfl)
theorem dX12_storesFlash_171 : decode cX12_storesFlash 171 = .ok (.aload_n 0, 1) := dk_42 (dk_at dksX12_storesFlash_7 5 rfl rfl)
theorem dX12_storesFlash_172 : decode cX12_storesFlash 172 = .ok (.getfield 16, 3) := dk_180 0 16 (dk_at dksX12_storesFlash_7 6 rfl rfl)
theorem dX12_storesFlash_175 : decode cX12_storesFlash 175 = .ok (.iconst 0, 1) := dk_3 (dk_at dksX12_storesFlash_7 9 rfl rfl)
theorem dX12_storesFlash_176 : decode cX12_storesFlash 176 = .ok (.iaload, 1) := dk_46 (dk_at dksX12_storesFlash_7 10 rfl rfl)
theorem dX12_storesFlash_177 : decode cX12_storesFlash 177 = .ok (.iconst 2, 1) := dk_5 (dk_at dksX12_storesFlash_7 11 rfl rfl)
theorem dX12_storesFlash_178 : decode cX12_storesFlash 178 = .ok (.ishr, 1) := dk_122 (dk_at dksX12_storesFlash_7 12 rfl rfl)
theorem dX12_storesFlash_179 : decode cX12_storesFlash 179 = .ok (.iand, 1) := dk_126 (dk_at dksX12_storesFlash_7 13 rfl rfl)
theorem dX12_storesFlash_180 : decode cX12_storesFlash 180 = .ok (.putfield 26, 3) := dk_181 0 26 (dk_at dksX12_storesFlash_7 14 rfl rfl)
theorem dX12_storesFlash_183 : decode cX12_storesFlash 183 = .ok (.aload_n 0, 1) := dk_42 (dk_at dksX12_storesFlash_7 17 rfl rfl)
theorem dX12_storesFlash_184 : decode cX12_storesFlash 184 = .ok (.getfield 16, 3) := dk_180 0 16 (dk_at dksX12_storesFlash_7 18 rfl rfl)
theorem dX12_storesFlash_187 : decode cX12_storesFlash 187 = .ok (.bipush 87, 2) := dk_16 87 (dk_at dksX12_storesFlash_7 21 rfl rfl)
theorem dX12_storesFlash_189 : decode cX12_storesFlash 189 = .ok (.dup2, 1) := dk_92 (dk_at dksX12_storesFlash_7 23 rfl rfl)
theorem dX12_storesFlash_190 : decode cX12_storesFlash 190 = .ok (.iaload, 1) := dk_46 (dk_at dksX12_storesFlash_8 0 rfl rfl)
theorem dX12_storesFlash_191 : decode cX12_storesFlash 191 = .ok (.sipush 224, 3) := dk_17 0 224 (dk_at dksX12_storesFlash_8 1 rfl rfl)
theorem dX12_storesFlash_194 : decode cX12_storesFlash 194 = .ok (.iand, 1) := dk_126 (dk_at dksX12_storesFlash_8 4 rfl rfl)
theorem dX12_storesFlash_195 : decode cX12_storesFlash 195 = .ok (.iastore, 1) := dk_79 (dk_at dksX12_storesFlash_8 5 rfl rfl)
theorem dX12_storesFlash_196 : decode cX12_storesFlash 196 = .ok (.return_, 1) := dk_177 (dk_at dksX12_storesFlash_8 6 rfl rfl)
abbrev cX12_writes : ByteArray := prog_13_method_66_code
def yX12_writes : MethodName := ⟨RX12, "writes", "(IZ)Z"⟩
def dkwX12_writes_6 : List UInt8 := [17, 31, 64, 181, 0, 86, 4, 172]
abbrev dktX12_writes_6 : List UInt8 := dkwX12_writes_6 ++ []
def dkwX12_writes_5 : List UInt8 := [17, 31, 64, 96, 181, 0, 160, 3, 172, 42, 180, 0, 16, 16, 87, 92, 46, 16, 64, 128, 79, 42]
abbrev dktX12_writes_5 : List UInt8 := dkwX12_writes_5 ++ dktX12_writes_6
def dkwX12_writes_4 : List UInt8 := [132, 4, 1, 167, 255, 199, 28, 154, 0, 7, 42, 182, 0, 122, 29, 153, 0, 17, 42, 89, 180, 0, 160]
abbrev dktX12_writes_4 : List UInt8 := dkwX12_writes_4 ++ dktX12_writes_5
def dkwX12_writes_3 : List UInt8 := [153, 0, 22, 42, 180, 0, 7, 27, 21, 4, 96, 92, 46, 42, 180, 0, 13, 21, 4, 46, 126, 79]
abbrev dktX12_writes_3 : List UInt8 := dkwX12_writes_3 ++ dktX12_writes_4
def dkwX12_writes_2 : List UInt8 := [153, 0, 17, 42, 180, 0, 7, 27, 21, 4, 96, 18, 43, 79, 167, 0, 32, 42, 180, 0, 22, 21, 4, 51]
abbrev dktX12_writes_2 : List UInt8 := dkwX12_writes_2 ++ dktX12_writes_3
def dkwX12_writes_1 : List UInt8 := [167, 0, 4, 3, 122, 4, 126, 154, 0, 5, 3, 172, 3, 54, 4, 21, 4, 16, 32, 162, 0, 56, 28]
abbrev dktX12_writes_1 : List UInt8 := dkwX12_writes_1 ++ dktX12_writes_2
def dkwX12_writes_0 : List UInt8 := [27, 17, 6, 0, 161, 0, 7, 4, 167, 0, 4, 3, 62, 42, 180, 0, 26, 29, 153, 0, 7, 5]
abbrev dktX12_writes_0 : List UInt8 := dkwX12_writes_0 ++ dktX12_writes_1
theorem dksX12_writes_0 : cX12_writes.data.toList.drop 0 = dktX12_writes_0 := by decide +kernel
theorem dksX12_writes_1 : cX12_writes.data.toList.drop 22 = dktX12_writes_1 := dk_seg dksX12_writes_0 22 rfl rfl
theorem dksX12_writes_2 : cX12_writes.data.toList.drop 45 = dktX12_writes_2 := dk_seg dksX12_writes_1 23 rfl rfl
theorem dksX12_writes_3 : cX12_writes.data.toList.drop 69 = dktX12_writes_3 := dk_seg dksX12_writes_2 24 rfl rfl
theorem dksX12_writes_4 : cX12_writes.data.toList.drop 91 = dktX12_writes_4 := dk_seg dksX12_writes_3 22 rfl rfl
theorem dksX12_writes_5 : cX12_writes.data.toList.drop 114 = dktX12_writes_5 := dk_seg dksX12_writes_4 23 rfl rfl
theorem dksX12_writes_6 : cX12_writes.data.toList.drop 136 = dktX12_writes_6 := dk_seg dksX12_writes_5 22 rfl rfl
theorem dX12_writes_0 : decode cX12_writes 0 = .ok (.iload_n 1, 1) := dk_27 (dk_at dksX12_writes_0 0 rfl rfl)
theorem dX12_writes_1 : decode cX12_writes 1 = .ok (.sipush 1536, 3) := dk_17 6 0 (dk_at dksX12_writes_0 1 rfl rfl)
theorem dX12_writes_4 : decode cX12_writes 4 = .ok (.if_icmp .lt 7, 3) := dk_161 0 7 (dk_at dksX12_writes_0 4 rfl rfl)
theorem dX12_writes_7 : decode cX12_writes 7 = .ok (.iconst 1, 1) := dk_4 (dk_at dksX12_writes_0 7 rfl rfl)
theorem dX12_writes_8 : decode cX12_writes 8 = .ok (.goto 4, 3) := dk_167 0 4 (dk_at dksX12_writes_0 8 rfl rfl)
theorem dX12_writes_11 : decode cX12_writes 11 = .ok (.iconst 0, 1) := dk_3 (dk_at dksX12_writes_0 11 rfl rfl)
theorem dX12_writes_12 : decode cX12_writes 12 = .ok (.istore_n 3, 1) := dk_62 (dk_at dksX12_writes_0 12 rfl rfl)
theorem dX12_writes_13 : decode cX12_writes 13 = .ok (.aload_n 0, 1) := dk_42 (dk_at dksX12_writes_0 13 rfl rfl)
theorem dX12_writes_14 : decode cX12_writes 14 = .ok (.getfield 26, 3) := dk_180 0 26 (dk_at dksX12_writes_0 14 rfl rfl)
theorem dX12_writes_17 : decode cX12_writes 17 = .ok (.iload_n 3, 1) := dk_29 (dk_at dksX12_writes_0 17 rfl rfl)
theorem dX12_writes_18 : decode cX12_writes 18 = .ok (.ifCond .eq 7, 3) := dk_153 0 7 (dk_at dksX12_writes_0 18 rfl rfl)
theorem dX12_writes_21 : decode cX12_writes 21 = .ok (.iconst 2, 1) := dk_5 (dk_at dksX12_writes_0 21 rfl rfl)
theorem dX12_writes_22 : decode cX12_writes 22 = .ok (.goto 4, 3) := dk_167 0 4 (dk_at dksX12_writes_1 0 rfl rfl)
theorem dX12_writes_25 : decode cX12_writes 25 = .ok (.iconst 0, 1) := dk_3 (dk_at dksX12_writes_1 3 rfl rfl)
theorem dX12_writes_26 : decode cX12_writes 26 = .ok (.ishr, 1) := dk_122 (dk_at dksX12_writes_1 4 rfl rfl)
theorem dX12_writes_27 : decode cX12_writes 27 = .ok (.iconst 1, 1) := dk_4 (dk_at dksX12_writes_1 5 rfl rfl)
theorem dX12_writes_28 : decode cX12_writes 28 = .ok (.iand, 1) := dk_126 (dk_at dksX12_writes_1 6 rfl rfl)
theorem dX12_writes_29 : decode cX12_writes 29 = .ok (.ifCond .ne 5, 3) := dk_154 0 5 (dk_at dksX12_writes_1 7 rfl rfl)
theorem dX12_writes_32 : decode cX12_writes 32 = .ok (.iconst 0, 1) := dk_3 (dk_at dksX12_writes_1 10 rfl rfl)
theorem dX12_writes_33 : decode cX12_writes 33 = .ok (.ireturn, 1) := dk_172 (dk_at dksX12_writes_1 11 rfl rfl)
theorem dX12_writes_34 : decode cX12_writes 34 = .ok (.iconst 0, 1) := dk_3 (dk_at dksX12_writes_1 12 rfl rfl)
theorem dX12_writes_35 : decode cX12_writes 35 = .ok (.istore 4, 2) := dk_54 4 (dk_at dksX12_writes_1 13 rfl rfl)
theorem dX12_writes_37 : decode cX12_writes 37 = .ok (.iload 4, 2) := dk_21 4 (dk_at dksX12_writes_1 15 rfl rfl)
theorem dX12_writes_39 : decode cX12_writes 39 = .ok (.bipush 32, 2) := dk_16 32 (dk_at dksX12_writes_1 17 rfl rfl)
theorem dX12_writes_41 : decode cX12_writes 41 = .ok (.if_icmp .ge 56, 3) := dk_162 0 56 (dk_at dksX12_writes_1 19 rfl rfl)
theorem dX12_writes_44 : decode cX12_writes 44 = .ok (.iload_n 2, 1) := dk_28 (dk_at dksX12_writes_1 22 rfl rfl)
theorem dX12_writes_45 : decode cX12_writes 45 = .ok (.ifCond .eq 17, 3) := dk_153 0 17 (dk_at dksX12_writes_2 0 rfl rfl)
theorem dX12_writes_48 : decode cX12_writes 48 = .ok (.aload_n 0, 1) := dk_42 (dk_at dksX12_writes_2 3 rfl rfl)
theorem dX12_writes_49 : decode cX12_writes 49 = .ok (.getfield 7, 3) := dk_180 0 7 (dk_at dksX12_writes_2 4 rfl rfl)
theorem dX12_writes_52 : decode cX12_writes 52 = .ok (.iload_n 1, 1) := dk_27 (dk_at dksX12_writes_2 7 rfl rfl)
theorem dX12_writes_53 : decode cX12_writes 53 = .ok (.iload 4, 2) := dk_21 4 (dk_at dksX12_writes_2 8 rfl rfl)
theorem dX12_writes_55 : decode cX12_writes 55 = .ok (.iadd, 1) := dk_96 (dk_at dksX12_writes_2 10 rfl rfl)
theorem dX12_writes_56 : decode cX12_writes 56 = .ok (.ldc 43, 2) := dk_18 43 (dk_at dksX12_writes_2 11 rfl rfl)
theorem dX12_writes_58 : decode cX12_writes 58 = .ok (.iastore, 1) := dk_79 (dk_at dksX12_writes_2 13 rfl rfl)
theorem dX12_writes_59 : decode cX12_writes 59 = .ok (.goto 32, 3) := dk_167 0 32 (dk_at dksX12_writes_2 14 rfl rfl)
theorem dX12_writes_62 : decode cX12_writes 62 = .ok (.aload_n 0, 1) := dk_42 (dk_at dksX12_writes_2 17 rfl rfl)
theorem dX12_writes_63 : decode cX12_writes 63 = .ok (.getfield 22, 3) := dk_180 0 22 (dk_at dksX12_writes_2 18 rfl rfl)
theorem dX12_writes_66 : decode cX12_writes 66 = .ok (.iload 4, 2) := dk_21 4 (dk_at dksX12_writes_2 21 rfl rfl)
theorem dX12_writes_68 : decode cX12_writes 68 = .ok (.baload, 1) := dk_51 (dk_at dksX12_writes_2 23 rfl rfl)
theorem dX12_writes_69 : decode cX12_writes 69 = .ok (.ifCond .eq 22, 3) := dk_153 0 22 (dk_at dksX12_writes_3 0 rfl rfl)
theorem dX12_writes_72 : decode cX12_writes 72 = .ok (.aload_n 0, 1) := dk_42 (dk_at dksX12_writes_3 3 rfl rfl)
theorem dX12_writes_73 : decode cX12_writes 73 = .ok (.getfield 7, 3) := dk_180 0 7 (dk_at dksX12_writes_3 4 rfl rfl)
theorem dX12_writes_76 : decode cX12_writes 76 = .ok (.iload_n 1, 1) := dk_27 (dk_at dksX12_writes_3 7 rfl rfl)
theorem dX12_writes_77 : decode cX12_writes 77 = .ok (.iload 4, 2) := dk_21 4 (dk_at dksX12_writes_3 8 rfl rfl)
theorem dX12_writes_79 : decode cX12_writes 79 = .ok (.iadd, 1) := dk_96 (dk_at dksX12_writes_3 10 rfl rfl)
theorem dX12_writes_80 : decode cX12_writes 80 = .ok (.dup2, 1) := dk_92 (dk_at dksX12_writes_3 11 rfl rfl)
theorem dX12_writes_81 : decode cX12_writes 81 = .ok (.iaload, 1) := dk_46 (dk_at dksX12_writes_3 12 rfl rfl)
theorem dX12_writes_82 : decode cX12_writes 82 = .ok (.aload_n 0, 1) := dk_42 (dk_at dksX12_writes_3 13 rfl rfl)
theorem dX12_writes_83 : decode cX12_writes 83 = .ok (.getfield 13, 3) := dk_180 0 13 (dk_at dksX12_writes_3 14 rfl rfl)
theorem dX12_writes_86 : decode cX12_writes 86 = .ok (.iload 4, 2) := dk_21 4 (dk_at dksX12_writes_3 17 rfl rfl)
theorem dX12_writes_88 : decode cX12_writes 88 = .ok (.iaload, 1) := dk_46 (dk_at dksX12_writes_3 19 rfl rfl)
theorem dX12_writes_89 : decode cX12_writes 89 = .ok (.iand, 1) := dk_126 (dk_at dksX12_writes_3 20 rfl rfl)
theorem dX12_writes_90 : decode cX12_writes 90 = .ok (.iastore, 1) := dk_79 (dk_at dksX12_writes_3 21 rfl rfl)
theorem dX12_writes_91 : decode cX12_writes 91 = .ok (.iinc 4 1, 3) := dk_132 4 1 (dk_at dksX12_writes_4 0 rfl rfl)
theorem dX12_writes_94 : decode cX12_writes 94 = .ok (.goto (-57), 3) := dk_167 255 199 (dk_at dksX12_writes_4 3 rfl rfl)
theorem dX12_writes_97 : decode cX12_writes 97 = .ok (.iload_n 2, 1) := dk_28 (dk_at dksX12_writes_4 6 rfl rfl)
theorem dX12_writes_98 : decode cX12_writes 98 = .ok (.ifCond .ne 7, 3) := dk_154 0 7 (dk_at dksX12_writes_4 7 rfl rfl)
theorem dX12_writes_101 : decode cX12_writes 101 = .ok (.aload_n 0, 1) := dk_42 (dk_at dksX12_writes_4 10 rfl rfl)
theorem dX12_writes_102 : decode cX12_writes 102 = .ok (.invokevirtual 122, 3) := dk_182 0 122 (dk_at dksX12_writes_4 11 rfl rfl)
theorem dX12_writes_105 : decode cX12_writes 105 = .ok (.iload_n 3, 1) := dk_29 (dk_at dksX12_writes_4 14 rfl rfl)
theorem dX12_writes_106 : decode cX12_writes 106 = .ok (.ifCond .eq 17, 3) := dk_153 0 17 (dk_at dksX12_writes_4 15 rfl rfl)
theorem dX12_writes_109 : decode cX12_writes 109 = .ok (.aload_n 0, 1) := dk_42 (dk_at dksX12_writes_4 18 rfl rfl)
theorem dX12_writes_110 : decode cX12_writes 110 = .ok (.dup, 1) := dk_89 (dk_at dksX12_writes_4 19 rfl rfl)
theorem dX12_writes_111 : decode cX12_writes 111 = .ok (.getfield 160, 3) := dk_180 0 160 (dk_at dksX12_writes_4 20 rfl rfl)
theorem dX12_writes_114 : decode cX12_writes 114 = .ok (.sipush 8000, 3) := dk_17 31 64 (dk_at dksX12_writes_5 0 rfl rfl)
theorem dX12_writes_117 : decode cX12_writes 117 = .ok (.iadd, 1) := dk_96 (dk_at dksX12_writes_5 3 rfl rfl)
theorem dX12_writes_118 : decode cX12_writes 118 = .ok (.putfield 160, 3) := dk_181 0 160 (dk_at dksX12_writes_5 4 rfl rfl)
theorem dX12_writes_121 : decode cX12_writes 121 = .ok (.iconst 0, 1) := dk_3 (dk_at dksX12_writes_5 7 rfl rfl)
theorem dX12_writes_122 : decode cX12_writes 122 = .ok (.ireturn, 1) := dk_172 (dk_at dksX12_writes_5 8 rfl rfl)
theorem dX12_writes_123 : decode cX12_writes 123 = .ok (.aload_n 0, 1) := dk_42 (dk_at dksX12_writes_5 9 rfl rfl)
theorem dX12_writes_124 : decode cX12_writes 124 = .ok (.getfield 16, 3) := dk_180 0 16 (dk_at dksX12_writes_5 10 rfl rfl)
theorem dX12_writes_127 : decode cX12_writes 127 = .ok (.bipush 87, 2) := dk_16 87 (dk_at dksX12_writes_5 13 rfl rfl)
theorem dX12_writes_129 : decode cX12_writes 129 = .ok (.dup2, 1) := dk_92 (dk_at dksX12_writes_5 15 rfl rfl)
theorem dX12_writes_130 : decode cX12_writes 130 = .ok (.iaload, 1) := dk_46 (dk_at dksX12_writes_5 16 rfl rfl)
theorem dX12_writes_131 : decode cX12_writes 131 = .ok (.bipush 64, 2) := dk_16 64 (dk_at dksX12_writes_5 17 rfl rfl)
theorem dX12_writes_133 : decode cX12_writes 133 = .ok (.ior, 1) := dk_128 (dk_at dksX12_writes_5 19 rfl rfl)
theorem dX12_writes_134 : decode cX12_writes 134 = .ok (.iastore, 1) := dk_79 (dk_at dksX12_writes_5 20 rfl rfl)
theorem dX12_writes_135 : decode cX12_writes 135 = .ok (.aload_n 0, 1) := dk_42 (dk_at dksX12_writes_5 21 rfl rfl)
theorem dX12_writes_136 : decode cX12_writes 136 = .ok (.sipush 8000, 3) := dk_17 31 64 (dk_at dksX12_writes_6 0 rfl rfl)
theorem dX12_writes_139 : decode cX12_writes 139 = .ok (.putfield 86, 3) := dk_181 0 86 (dk_at dksX12_writes_6 3 rfl rfl)
theorem dX12_writes_142 : decode cX12_writes 142 = .ok (.iconst 1, 1) := dk_4 (dk_at dksX12_writes_6 6 rfl rfl)
theorem dX12_writes_143 : decode cX12_writes 143 = .ok (.ireturn, 1) := dk_172 (dk_at dksX12_writes_6 7 rfl rfl)
abbrev cX12_through : ByteArray := prog_13_method_61_code
def yX12_through : MethodName := ⟨RX12, "through", "(I)I"⟩
def dkwX12_through_2 : List UInt8 := [17, 7, 255, 126, 181, 0, 77, 6, 172]
abbrev dktX12_through_2 : List UInt8 := dkwX12_through_2 ++ []
def dkwX12_through_1 : List UInt8 := [19, 1, 87, 159, 0, 5, 4, 172, 42, 42, 180, 0, 77, 182, 0, 169, 42, 42, 16, 30, 182, 0, 231]
abbrev dktX12_through_1 : List UInt8 := dkwX12_through_1 ++ dktX12_through_2
def dkwX12_through_0 : List UInt8 := [27, 19, 1, 86, 160, 0, 19, 42, 42, 16, 30, 182, 0, 231, 17, 7, 255, 126, 181, 0, 77, 5, 172, 27]
abbrev dktX12_through_0 : List UInt8 := dkwX12_through_0 ++ dktX12_through_1
theorem dksX12_through_0 : cX12_through.data.toList.drop 0 = dktX12_through_0 := by decide +kernel
theorem dksX12_through_1 : cX12_through.data.toList.drop 24 = dktX12_through_1 := dk_seg dksX12_through_0 24 rfl rfl
theorem dksX12_through_2 : cX12_through.data.toList.drop 47 = dktX12_through_2 := dk_seg dksX12_through_1 23 rfl rfl
theorem dX12_through_0 : decode cX12_through 0 = .ok (.iload_n 1, 1) := dk_27 (dk_at dksX12_through_0 0 rfl rfl)
theorem dX12_through_1 : decode cX12_through 1 = .ok (.ldc_w 342, 3) := dk_19 1 86 (dk_at dksX12_through_0 1 rfl rfl)
theorem dX12_through_4 : decode cX12_through 4 = .ok (.if_icmp .ne 19, 3) := dk_160 0 19 (dk_at dksX12_through_0 4 rfl rfl)
theorem dX12_through_7 : decode cX12_through 7 = .ok (.aload_n 0, 1) := dk_42 (dk_at dksX12_through_0 7 rfl rfl)
theorem dX12_through_8 : decode cX12_through 8 = .ok (.aload_n 0, 1) := dk_42 (dk_at dksX12_through_0 8 rfl rfl)
theorem dX12_through_9 : decode cX12_through 9 = .ok (.bipush 30, 2) := dk_16 30 (dk_at dksX12_through_0 9 rfl rfl)
theorem dX12_through_11 : decode cX12_through 11 = .ok (.invokevirtual 231, 3) := dk_182 0 231 (dk_at dksX12_through_0 11 rfl rfl)
theorem dX12_through_14 : decode cX12_through 14 = .ok (.sipush 2047, 3) := dk_17 7 255 (dk_at dksX12_through_0 14 rfl rfl)
theorem dX12_through_17 : decode cX12_through 17 = .ok (.iand, 1) := dk_126 (dk_at dksX12_through_0 17 rfl rfl)
theorem dX12_through_18 : decode cX12_through 18 = .ok (.putfield 77, 3) := dk_181 0 77 (dk_at dksX12_through_0 18 rfl rfl)
theorem dX12_through_21 : decode cX12_through 21 = .ok (.iconst 2, 1) := dk_5 (dk_at dksX12_through_0 21 rfl rfl)
theorem dX12_through_22 : decode cX12_through 22 = .ok (.ireturn, 1) := dk_172 (dk_at dksX12_through_0 22 rfl rfl)
theorem dX12_through_23 : decode cX12_through 23 = .ok (.iload_n 1, 1) := dk_27 (dk_at dksX12_through_0 23 rfl rfl)
theorem dX12_through_24 : decode cX12_through 24 = .ok (.ldc_w 343, 3) := dk_19 1 87 (dk_at dksX12_through_1 0 rfl rfl)
theorem dX12_through_27 : decode cX12_through 27 = .ok (.if_icmp .eq 5, 3) := dk_159 0 5 (dk_at dksX12_through_1 3 rfl rfl)
theorem dX12_through_30 : decode cX12_through 30 = .ok (.iconst 1, 1) := dk_4 (dk_at dksX12_through_1 6 rfl rfl)
theorem dX12_through_31 : decode cX12_through 31 = .ok (.ireturn, 1) := dk_172 (dk_at dksX12_through_1 7 rfl rfl)
theorem dX12_through_32 : decode cX12_through 32 = .ok (.aload_n 0, 1) := dk_42 (dk_at dksX12_through_1 8 rfl rfl)
theorem dX12_through_33 : decode cX12_through 33 = .ok (.aload_n 0, 1) := dk_42 (dk_at dksX12_through_1 9 rfl rfl)
theorem dX12_through_34 : decode cX12_through 34 = .ok (.getfield 77, 3) := dk_180 0 77 (dk_at dksX12_through_1 10 rfl rfl)
theorem dX12_through_37 : decode cX12_through 37 = .ok (.invokevirtual 169, 3) := dk_182 0 169 (dk_at dksX12_through_1 13 rfl rfl)
theorem dX12_through_40 : decode cX12_through 40 = .ok (.aload_n 0, 1) := dk_42 (dk_at dksX12_through_1 16 rfl rfl)
theorem dX12_through_41 : decode cX12_through 41 = .ok (.aload_n 0, 1) := dk_42 (dk_at dksX12_through_1 17 rfl rfl)
theorem dX12_through_42 : decode cX12_through 42 = .ok (.bipush 30, 2) := dk_16 30 (dk_at dksX12_through_1 18 rfl rfl)
theorem dX12_through_44 : decode cX12_through 44 = .ok (.invokevirtual 231, 3) := dk_182 0 231 (dk_at dksX12_through_1 20 rfl rfl)
theorem dX12_through_47 : decode cX12_through 47 = .ok (.sipush 2047, 3) := dk_17 7 255 (dk_at dksX12_through_2 0 rfl rfl)
theorem dX12_through_50 : decode cX12_through 50 = .ok (.iand, 1) := dk_126 (dk_at dksX12_through_2 3 rfl rfl)
theorem dX12_through_51 : decode cX12_through 51 = .ok (.putfield 77, 3) := dk_181 0 77 (dk_at dksX12_through_2 4 rfl rfl)
theorem dX12_through_54 : decode cX12_through 54 = .ok (.iconst 3, 1) := dk_6 (dk_at dksX12_through_2 7 rfl rfl)
theorem dX12_through_55 : decode cX12_through 55 = .ok (.ireturn, 1) := dk_172 (dk_at dksX12_through_2 8 rfl rfl)
abbrev cX12_pairs : ByteArray := prog_13_method_63_code
def yX12_pairs : MethodName := ⟨RX12, "pairs", "(I)I"⟩
def dkwX12_pairs_9 : List UInt8 := [159, 0, 7, 4, 167, 0, 4, 3, 182, 0, 172, 5, 172]
abbrev dktX12_pairs_9 : List UInt8 := dkwX12_pairs_9 ++ []
def dkwX12_pairs_8 : List UInt8 := [154, 0, 7, 4, 167, 0, 4, 3, 182, 0, 172, 42, 7, 42, 5, 182, 0, 163, 42, 6, 182, 0, 163]
abbrev dktX12_pairs_8 : List UInt8 := dkwX12_pairs_8 ++ dktX12_pairs_9
def dkwX12_pairs_7 : List UInt8 := [42, 5, 21, 6, 19, 1, 16, 161, 0, 7, 4, 167, 0, 4, 3, 182, 0, 172, 42, 4, 21, 6]
abbrev dktX12_pairs_7 : List UInt8 := dkwX12_pairs_7 ++ dktX12_pairs_8
def dkwX12_pairs_6 : List UInt8 := [21, 4, 19, 1, 16, 161, 0, 15, 21, 6, 19, 1, 16, 162, 0, 7, 4, 167, 0, 4, 3, 182, 0, 172]
abbrev dktX12_pairs_6 : List UInt8 := dkwX12_pairs_6 ++ dktX12_pairs_7
def dkwX12_pairs_5 : List UInt8 := [21, 4, 19, 1, 16, 162, 0, 15, 21, 6, 19, 1, 16, 161, 0, 7, 4, 167, 0, 28, 3, 167, 0, 24]
abbrev dktX12_pairs_5 : List UInt8 := dkwX12_pairs_5 ++ dktX12_pairs_6
def dkwX12_pairs_4 : List UInt8 := [167, 0, 14, 21, 4, 29, 162, 0, 7, 4, 167, 0, 4, 3, 182, 0, 172, 42, 6, 21, 5, 153, 0, 27]
abbrev dktX12_pairs_4 : List UInt8 := dkwX12_pairs_4 ++ dktX12_pairs_5
def dkwX12_pairs_3 : List UInt8 := [182, 0, 238, 42, 3, 21, 5, 153, 0, 20, 21, 4, 29, 96, 18, 43, 164, 0, 7, 4, 167, 0, 18, 3]
abbrev dktX12_pairs_3 : List UInt8 := dkwX12_pairs_3 ++ dktX12_pairs_4
def dkwX12_pairs_2 : List UInt8 := [153, 0, 10, 21, 4, 29, 96, 167, 0, 7, 21, 4, 29, 100, 18, 43, 126, 54, 6, 42, 28, 21, 6]
abbrev dktX12_pairs_2 : List UInt8 := dkwX12_pairs_2 ++ dktX12_pairs_3
def dkwX12_pairs_1 : List UInt8 := [182, 0, 231, 54, 4, 27, 17, 1, 0, 126, 154, 0, 7, 4, 167, 0, 4, 3, 54, 5, 21, 5]
abbrev dktX12_pairs_1 : List UInt8 := dkwX12_pairs_1 ++ dktX12_pairs_2
def dkwX12_pairs_0 : List UInt8 := [16, 24, 27, 6, 122, 16, 6, 126, 96, 61, 27, 16, 15, 126, 27, 5, 122, 16, 48, 126, 128, 62, 42, 28]
abbrev dktX12_pairs_0 : List UInt8 := dkwX12_pairs_0 ++ dktX12_pairs_1
theorem dksX12_pairs_0 : cX12_pairs.data.toList.drop 0 = dktX12_pairs_0 := by decide +kernel
theorem dksX12_pairs_1 : cX12_pairs.data.toList.drop 24 = dktX12_pairs_1 := dk_seg dksX12_pairs_0 24 rfl rfl
theorem dksX12_pairs_2 : cX12_pairs.data.toList.drop 46 = dktX12_pairs_2 := dk_seg dksX12_pairs_1 22 rfl rfl
theorem dksX12_pairs_3 : cX12_pairs.data.toList.drop 69 = dktX12_pairs_3 := dk_seg dksX12_pairs_2 23 rfl rfl
theorem dksX12_pairs_4 : cX12_pairs.data.toList.drop 93 = dktX12_pairs_4 := dk_seg dksX12_pairs_3 24 rfl rfl
theorem dksX12_pairs_5 : cX12_pairs.data.toList.drop 117 = dktX12_pairs_5 := dk_seg dksX12_pairs_4 24 rfl rfl
theorem dksX12_pairs_6 : cX12_pairs.data.toList.drop 141 = dktX12_pairs_6 := dk_seg dksX12_pairs_5 24 rfl rfl
theorem dksX12_pairs_7 : cX12_pairs.data.toList.drop 165 = dktX12_pairs_7 := dk_seg dksX12_pairs_6 24 rfl rfl
theorem dksX12_pairs_8 : cX12_pairs.data.toList.drop 187 = dktX12_pairs_8 := dk_seg dksX12_pairs_7 22 rfl rfl
theorem dksX12_pairs_9 : cX12_pairs.data.toList.drop 210 = dktX12_pairs_9 := dk_seg dksX12_pairs_8 23 rfl rfl
theorem dX12_pairs_0 : decode cX12_pairs 0 = .ok (.bipush 24, 2) := dk_16 24 (dk_at dksX12_pairs_0 0 rfl rfl)
theorem dX12_pairs_2 : decode cX12_pairs 2 = .ok (.iload_n 1, 1) := dk_27 (dk_at dksX12_pairs_0 2 rfl rfl)
theorem dX12_pairs_3 : decode cX12_pairs 3 = .ok (.iconst 3, 1) := dk_6 (dk_at dksX12_pairs_0 3 rfl rfl)
theorem dX12_pairs_4 : decode cX12_pairs 4 = .ok (.ishr, 1) := dk_122 (dk_at dksX12_pairs_0 4 rfl rfl)
theorem dX12_pairs_5 : decode cX12_pairs 5 = .ok (.bipush 6, 2) := dk_16 6 (dk_at dksX12_pairs_0 5 rfl rfl)
theorem dX12_pairs_7 : decode cX12_pairs 7 = .ok (.iand, 1) := dk_126 (dk_at dksX12_pairs_0 7 rfl rfl)
theorem dX12_pairs_8 : decode cX12_pairs 8 = .ok (.iadd, 1) := dk_96 (dk_at dksX12_pairs_0 8 rfl rfl)
theorem dX12_pairs_9 : decode cX12_pairs 9 = .ok (.istore_n 2, 1) := dk_61 (dk_at dksX12_pairs_0 9 rfl rfl)
theorem dX12_pairs_10 : decode cX12_pairs 10 = .ok (.iload_n 1, 1) := dk_27 (dk_at dksX12_pairs_0 10 rfl rfl)
theorem dX12_pairs_11 : decode cX12_pairs 11 = .ok (.bipush 15, 2) := dk_16 15 (dk_at dksX12_pairs_0 11 rfl rfl)
theorem dX12_pairs_13 : decode cX12_pairs 13 = .ok (.iand, 1) := dk_126 (dk_at dksX12_pairs_0 13 rfl rfl)
theorem dX12_pairs_14 : decode cX12_pairs 14 = .ok (.iload_n 1, 1) := dk_27 (dk_at dksX12_pairs_0 14 rfl rfl)
theorem dX12_pairs_15 : decode cX12_pairs 15 = .ok (.iconst 2, 1) := dk_5 (dk_at dksX12_pairs_0 15 rfl rfl)
theorem dX12_pairs_16 : decode cX12_pairs 16 = .ok (.ishr, 1) := dk_122 (dk_at dksX12_pairs_0 16 rfl rfl)
theorem dX12_pairs_17 : decode cX12_pairs 17 = .ok (.bipush 48, 2) := dk_16 48 (dk_at dksX12_pairs_0 17 rfl rfl)
theorem dX12_pairs_19 : decode cX12_pairs 19 = .ok (.iand, 1) := dk_126 (dk_at dksX12_pairs_0 19 rfl rfl)
theorem dX12_pairs_20 : decode cX12_pairs 20 = .ok (.ior, 1) := dk_128 (dk_at dksX12_pairs_0 20 rfl rfl)
theorem dX12_pairs_21 : decode cX12_pairs 21 = .ok (.istore_n 3, 1) := dk_62 (dk_at dksX12_pairs_0 21 rfl rfl)
theorem dX12_pairs_22 : decode cX12_pairs 22 = .ok (.aload_n 0, 1) := dk_42 (dk_at dksX12_pairs_0 22 rfl rfl)
theorem dX12_pairs_23 : decode cX12_pairs 23 = .ok (.iload_n 2, 1) := dk_28 (dk_at dksX12_pairs_0 23 rfl rfl)
theorem dX12_pairs_24 : decode cX12_pairs 24 = .ok (.invokevirtual 231, 3) := dk_182 0 231 (dk_at dksX12_pairs_1 0 rfl rfl)
theorem dX12_pairs_27 : decode cX12_pairs 27 = .ok (.istore 4, 2) := dk_54 4 (dk_at dksX12_pairs_1 3 rfl rfl)
theorem dX12_pairs_29 : decode cX12_pairs 29 = .ok (.iload_n 1, 1) := dk_27 (dk_at dksX12_pairs_1 5 rfl rfl)
theorem dX12_pairs_30 : decode cX12_pairs 30 = .ok (.sipush 256, 3) := dk_17 1 0 (dk_at dksX12_pairs_1 6 rfl rfl)
theorem dX12_pairs_33 : decode cX12_pairs 33 = .ok (.iand, 1) := dk_126 (dk_at dksX12_pairs_1 9 rfl rfl)
theorem dX12_pairs_34 : decode cX12_pairs 34 = .ok (.ifCond .ne 7, 3) := dk_154 0 7 (dk_at dksX12_pairs_1 10 rfl rfl)
theorem dX12_pairs_37 : decode cX12_pairs 37 = .ok (.iconst 1, 1) := dk_4 (dk_at dksX12_pairs_1 13 rfl rfl)
theorem dX12_pairs_38 : decode cX12_pairs 38 = .ok (.goto 4, 3) := dk_167 0 4 (dk_at dksX12_pairs_1 14 rfl rfl)
theorem dX12_pairs_41 : decode cX12_pairs 41 = .ok (.iconst 0, 1) := dk_3 (dk_at dksX12_pairs_1 17 rfl rfl)
theorem dX12_pairs_42 : decode cX12_pairs 42 = .ok (.istore 5, 2) := dk_54 5 (dk_at dksX12_pairs_1 18 rfl rfl)
theorem dX12_pairs_44 : decode cX12_pairs 44 = .ok (.iload 5, 2) := dk_21 5 (dk_at dksX12_pairs_1 20 rfl rfl)
theorem dX12_pairs_46 : decode cX12_pairs 46 = .ok (.ifCond .eq 10, 3) := dk_153 0 10 (dk_at dksX12_pairs_2 0 rfl rfl)
theorem dX12_pairs_49 : decode cX12_pairs 49 = .ok (.iload 4, 2) := dk_21 4 (dk_at dksX12_pairs_2 3 rfl rfl)
theorem dX12_pairs_51 : decode cX12_pairs 51 = .ok (.iload_n 3, 1) := dk_29 (dk_at dksX12_pairs_2 5 rfl rfl)
theorem dX12_pairs_52 : decode cX12_pairs 52 = .ok (.iadd, 1) := dk_96 (dk_at dksX12_pairs_2 6 rfl rfl)
theorem dX12_pairs_53 : decode cX12_pairs 53 = .ok (.goto 7, 3) := dk_167 0 7 (dk_at dksX12_pairs_2 7 rfl rfl)
theorem dX12_pairs_56 : decode cX12_pairs 56 = .ok (.iload 4, 2) := dk_21 4 (dk_at dksX12_pairs_2 10 rfl rfl)
theorem dX12_pairs_58 : decode cX12_pairs 58 = .ok (.iload_n 3, 1) := dk_29 (dk_at dksX12_pairs_2 12 rfl rfl)
theorem dX12_pairs_59 : decode cX12_pairs 59 = .ok (.isub, 1) := dk_100 (dk_at dksX12_pairs_2 13 rfl rfl)
theorem dX12_pairs_60 : decode cX12_pairs 60 = .ok (.ldc 43, 2) := dk_18 43 (dk_at dksX12_pairs_2 14 rfl rfl)
theorem dX12_pairs_62 : decode cX12_pairs 62 = .ok (.iand, 1) := dk_126 (dk_at dksX12_pairs_2 16 rfl rfl)
theorem dX12_pairs_63 : decode cX12_pairs 63 = .ok (.istore 6, 2) := dk_54 6 (dk_at dksX12_pairs_2 17 rfl rfl)
theorem dX12_pairs_65 : decode cX12_pairs 65 = .ok (.aload_n 0, 1) := dk_42 (dk_at dksX12_pairs_2 19 rfl rfl)
theorem dX12_pairs_66 : decode cX12_pairs 66 = .ok (.iload_n 2, 1) := dk_28 (dk_at dksX12_pairs_2 20 rfl rfl)
theorem dX12_pairs_67 : decode cX12_pairs 67 = .ok (.iload 6, 2) := dk_21 6 (dk_at dksX12_pairs_2 21 rfl rfl)
theorem dX12_pairs_69 : decode cX12_pairs 69 = .ok (.invokevirtual 238, 3) := dk_182 0 238 (dk_at dksX12_pairs_3 0 rfl rfl)
theorem dX12_pairs_72 : decode cX12_pairs 72 = .ok (.aload_n 0, 1) := dk_42 (dk_at dksX12_pairs_3 3 rfl rfl)
theorem dX12_pairs_73 : decode cX12_pairs 73 = .ok (.iconst 0, 1) := dk_3 (dk_at dksX12_pairs_3 4 rfl rfl)
theorem dX12_pairs_74 : decode cX12_pairs 74 = .ok (.iload 5, 2) := dk_21 5 (dk_at dksX12_pairs_3 5 rfl rfl)
theorem dX12_pairs_76 : decode cX12_pairs 76 = .ok (.ifCond .eq 20, 3) := dk_153 0 20 (dk_at dksX12_pairs_3 7 rfl rfl)
theorem dX12_pairs_79 : decode cX12_pairs 79 = .ok (.iload 4, 2) := dk_21 4 (dk_at dksX12_pairs_3 10 rfl rfl)
theorem dX12_pairs_81 : decode cX12_pairs 81 = .ok (.iload_n 3, 1) := dk_29 (dk_at dksX12_pairs_3 12 rfl rfl)
theorem dX12_pairs_82 : decode cX12_pairs 82 = .ok (.iadd, 1) := dk_96 (dk_at dksX12_pairs_3 13 rfl rfl)
theorem dX12_pairs_83 : decode cX12_pairs 83 = .ok (.ldc 43, 2) := dk_18 43 (dk_at dksX12_pairs_3 14 rfl rfl)
theorem dX12_pairs_85 : decode cX12_pairs 85 = .ok (.if_icmp .le 7, 3) := dk_164 0 7 (dk_at dksX12_pairs_3 16 rfl rfl)
theorem dX12_pairs_88 : decode cX12_pairs 88 = .ok (.iconst 1, 1) := dk_4 (dk_at dksX12_pairs_3 19 rfl rfl)
theorem dX12_pairs_89 : decode cX12_pairs 89 = .ok (.goto 18, 3) := dk_167 0 18 (dk_at dksX12_pairs_3 20 rfl rfl)
theorem dX12_pairs_92 : decode cX12_pairs 92 = .ok (.iconst 0, 1) := dk_3 (dk_at dksX12_pairs_3 23 rfl rfl)
theorem dX12_pairs_93 : decode cX12_pairs 93 = .ok (.goto 14, 3) := dk_167 0 14 (dk_at dksX12_pairs_4 0 rfl rfl)
theorem dX12_pairs_96 : decode cX12_pairs 96 = .ok (.iload 4, 2) := dk_21 4 (dk_at dksX12_pairs_4 3 rfl rfl)
theorem dX12_pairs_98 : decode cX12_pairs 98 = .ok (.iload_n 3, 1) := dk_29 (dk_at dksX12_pairs_4 5 rfl rfl)
theorem dX12_pairs_99 : decode cX12_pairs 99 = .ok (.if_icmp .ge 7, 3) := dk_162 0 7 (dk_at dksX12_pairs_4 6 rfl rfl)
theorem dX12_pairs_102 : decode cX12_pairs 102 = .ok (.iconst 1, 1) := dk_4 (dk_at dksX12_pairs_4 9 rfl rfl)
theorem dX12_pairs_103 : decode cX12_pairs 103 = .ok (.goto 4, 3) := dk_167 0 4 (dk_at dksX12_pairs_4 10 rfl rfl)
theorem dX12_pairs_106 : decode cX12_pairs 106 = .ok (.iconst 0, 1) := dk_3 (dk_at dksX12_pairs_4 13 rfl rfl)
theorem dX12_pairs_107 : decode cX12_pairs 107 = .ok (.invokevirtual 172, 3) := dk_182 0 172 (dk_at dksX12_pairs_4 14 rfl rfl)
theorem dX12_pairs_110 : decode cX12_pairs 110 = .ok (.aload_n 0, 1) := dk_42 (dk_at dksX12_pairs_4 17 rfl rfl)
theorem dX12_pairs_111 : decode cX12_pairs 111 = .ok (.iconst 3, 1) := dk_6 (dk_at dksX12_pairs_4 18 rfl rfl)
theorem dX12_pairs_112 : decode cX12_pairs 112 = .ok (.iload 5, 2) := dk_21 5 (dk_at dksX12_pairs_4 19 rfl rfl)
theorem dX12_pairs_114 : decode cX12_pairs 114 = .ok (.ifCond .eq 27, 3) := dk_153 0 27 (dk_at dksX12_pairs_4 21 rfl rfl)
theorem dX12_pairs_117 : decode cX12_pairs 117 = .ok (.iload 4, 2) := dk_21 4 (dk_at dksX12_pairs_5 0 rfl rfl)
theorem dX12_pairs_119 : decode cX12_pairs 119 = .ok (.ldc_w 272, 3) := dk_19 1 16 (dk_at dksX12_pairs_5 2 rfl rfl)
theorem dX12_pairs_122 : decode cX12_pairs 122 = .ok (.if_icmp .ge 15, 3) := dk_162 0 15 (dk_at dksX12_pairs_5 5 rfl rfl)
theorem dX12_pairs_125 : decode cX12_pairs 125 = .ok (.iload 6, 2) := dk_21 6 (dk_at dksX12_pairs_5 8 rfl rfl)
theorem dX12_pairs_127 : decode cX12_pairs 127 = .ok (.ldc_w 272, 3) := dk_19 1 16 (dk_at dksX12_pairs_5 10 rfl rfl)
theorem dX12_pairs_130 : decode cX12_pairs 130 = .ok (.if_icmp .lt 7, 3) := dk_161 0 7 (dk_at dksX12_pairs_5 13 rfl rfl)
theorem dX12_pairs_133 : decode cX12_pairs 133 = .ok (.iconst 1, 1) := dk_4 (dk_at dksX12_pairs_5 16 rfl rfl)
theorem dX12_pairs_134 : decode cX12_pairs 134 = .ok (.goto 28, 3) := dk_167 0 28 (dk_at dksX12_pairs_5 17 rfl rfl)
theorem dX12_pairs_137 : decode cX12_pairs 137 = .ok (.iconst 0, 1) := dk_3 (dk_at dksX12_pairs_5 20 rfl rfl)
theorem dX12_pairs_138 : decode cX12_pairs 138 = .ok (.goto 24, 3) := dk_167 0 24 (dk_at dksX12_pairs_5 21 rfl rfl)
theorem dX12_pairs_141 : decode cX12_pairs 141 = .ok (.iload 4, 2) := dk_21 4 (dk_at dksX12_pairs_6 0 rfl rfl)
theorem dX12_pairs_143 : decode cX12_pairs 143 = .ok (.ldc_w 272, 3) := dk_19 1 16 (dk_at dksX12_pairs_6 2 rfl rfl)
theorem dX12_pairs_146 : decode cX12_pairs 146 = .ok (.if_icmp .lt 15, 3) := dk_161 0 15 (dk_at dksX12_pairs_6 5 rfl rfl)
theorem dX12_pairs_149 : decode cX12_pairs 149 = .ok (.iload 6, 2) := dk_21 6 (dk_at dksX12_pairs_6 8 rfl rfl)
theorem dX12_pairs_151 : decode cX12_pairs 151 = .ok (.ldc_w 272, 3) := dk_19 1 16 (dk_at dksX12_pairs_6 10 rfl rfl)
theorem dX12_pairs_154 : decode cX12_pairs 154 = .ok (.if_icmp .ge 7, 3) := dk_162 0 7 (dk_at dksX12_pairs_6 13 rfl rfl)
theorem dX12_pairs_157 : decode cX12_pairs 157 = .ok (.iconst 1, 1) := dk_4 (dk_at dksX12_pairs_6 16 rfl rfl)
theorem dX12_pairs_158 : decode cX12_pairs 158 = .ok (.goto 4, 3) := dk_167 0 4 (dk_at dksX12_pairs_6 17 rfl rfl)
theorem dX12_pairs_161 : decode cX12_pairs 161 = .ok (.iconst 0, 1) := dk_3 (dk_at dksX12_pairs_6 20 rfl rfl)
theorem dX12_pairs_162 : decode cX12_pairs 162 = .ok (.invokevirtual 172, 3) := dk_182 0 172 (dk_at dksX12_pairs_6 21 rfl rfl)
theorem dX12_pairs_165 : decode cX12_pairs 165 = .ok (.aload_n 0, 1) := dk_42 (dk_at dksX12_pairs_7 0 rfl rfl)
theorem dX12_pairs_166 : decode cX12_pairs 166 = .ok (.iconst 2, 1) := dk_5 (dk_at dksX12_pairs_7 1 rfl rfl)
theorem dX12_pairs_167 : decode cX12_pairs 167 = .ok (.iload 6, 2) := dk_21 6 (dk_at dksX12_pairs_7 2 rfl rfl)
theorem dX12_pairs_169 : decode cX12_pairs 169 = .ok (.ldc_w 272, 3) := dk_19 1 16 (dk_at dksX12_pairs_7 4 rfl rfl)
theorem dX12_pairs_172 : decode cX12_pairs 172 = .ok (.if_icmp .lt 7, 3) := dk_161 0 7 (dk_at dksX12_pairs_7 7 rfl rfl)
theorem dX12_pairs_175 : decode cX12_pairs 175 = .ok (.iconst 1, 1) := dk_4 (dk_at dksX12_pairs_7 10 rfl rfl)
theorem dX12_pairs_176 : decode cX12_pairs 176 = .ok (.goto 4, 3) := dk_167 0 4 (dk_at dksX12_pairs_7 11 rfl rfl)
theorem dX12_pairs_179 : decode cX12_pairs 179 = .ok (.iconst 0, 1) := dk_3 (dk_at dksX12_pairs_7 14 rfl rfl)
theorem dX12_pairs_180 : decode cX12_pairs 180 = .ok (.invokevirtual 172, 3) := dk_182 0 172 (dk_at dksX12_pairs_7 15 rfl rfl)
theorem dX12_pairs_183 : decode cX12_pairs 183 = .ok (.aload_n 0, 1) := dk_42 (dk_at dksX12_pairs_7 18 rfl rfl)
theorem dX12_pairs_184 : decode cX12_pairs 184 = .ok (.iconst 1, 1) := dk_4 (dk_at dksX12_pairs_7 19 rfl rfl)
theorem dX12_pairs_185 : decode cX12_pairs 185 = .ok (.iload 6, 2) := dk_21 6 (dk_at dksX12_pairs_7 20 rfl rfl)
theorem dX12_pairs_187 : decode cX12_pairs 187 = .ok (.ifCond .ne 7, 3) := dk_154 0 7 (dk_at dksX12_pairs_8 0 rfl rfl)
theorem dX12_pairs_190 : decode cX12_pairs 190 = .ok (.iconst 1, 1) := dk_4 (dk_at dksX12_pairs_8 3 rfl rfl)
theorem dX12_pairs_191 : decode cX12_pairs 191 = .ok (.goto 4, 3) := dk_167 0 4 (dk_at dksX12_pairs_8 4 rfl rfl)
theorem dX12_pairs_194 : decode cX12_pairs 194 = .ok (.iconst 0, 1) := dk_3 (dk_at dksX12_pairs_8 7 rfl rfl)
theorem dX12_pairs_195 : decode cX12_pairs 195 = .ok (.invokevirtual 172, 3) := dk_182 0 172 (dk_at dksX12_pairs_8 8 rfl rfl)
theorem dX12_pairs_198 : decode cX12_pairs 198 = .ok (.aload_n 0, 1) := dk_42 (dk_at dksX12_pairs_8 11 rfl rfl)
theorem dX12_pairs_199 : decode cX12_pairs 199 = .ok (.iconst 4, 1) := dk_7 (dk_at dksX12_pairs_8 12 rfl rfl)
theorem dX12_pairs_200 : decode cX12_pairs 200 = .ok (.aload_n 0, 1) := dk_42 (dk_at dksX12_pairs_8 13 rfl rfl)
theorem dX12_pairs_201 : decode cX12_pairs 201 = .ok (.iconst 2, 1) := dk_5 (dk_at dksX12_pairs_8 14 rfl rfl)
theorem dX12_pairs_202 : decode cX12_pairs 202 = .ok (.invokevirtual 163, 3) := dk_182 0 163 (dk_at dksX12_pairs_8 15 rfl rfl)
theorem dX12_pairs_205 : decode cX12_pairs 205 = .ok (.aload_n 0, 1) := dk_42 (dk_at dksX12_pairs_8 18 rfl rfl)
theorem dX12_pairs_206 : decode cX12_pairs 206 = .ok (.iconst 3, 1) := dk_6 (dk_at dksX12_pairs_8 19 rfl rfl)
theorem dX12_pairs_207 : decode cX12_pairs 207 = .ok (.invokevirtual 163, 3) := dk_182 0 163 (dk_at dksX12_pairs_8 20 rfl rfl)
theorem dX12_pairs_210 : decode cX12_pairs 210 = .ok (.if_icmp .eq 7, 3) := dk_159 0 7 (dk_at dksX12_pairs_9 0 rfl rfl)
theorem dX12_pairs_213 : decode cX12_pairs 213 = .ok (.iconst 1, 1) := dk_4 (dk_at dksX12_pairs_9 3 rfl rfl)
theorem dX12_pairs_214 : decode cX12_pairs 214 = .ok (.goto 4, 3) := dk_167 0 4 (dk_at dksX12_pairs_9 4 rfl rfl)
theorem dX12_pairs_217 : decode cX12_pairs 217 = .ok (.iconst 0, 1) := dk_3 (dk_at dksX12_pairs_9 7 rfl rfl)
theorem dX12_pairs_218 : decode cX12_pairs 218 = .ok (.invokevirtual 172, 3) := dk_182 0 172 (dk_at dksX12_pairs_9 8 rfl rfl)
theorem dX12_pairs_221 : decode cX12_pairs 221 = .ok (.iconst 2, 1) := dk_5 (dk_at dksX12_pairs_9 11 rfl rfl)
theorem dX12_pairs_222 : decode cX12_pairs 222 = .ok (.ireturn, 1) := dk_172 (dk_at dksX12_pairs_9 12 rfl rfl)
abbrev cX12_portBits : ByteArray := prog_13_method_64_code
def yX12_portBits : MethodName := ⟨RX12, "portBits", "(I)I"⟩
def dkwX12_portBits_5 : List UInt8 := [21, 5, 29, 2, 130, 126, 182, 0, 234, 5, 172]
abbrev dktX12_portBits_5 : List UInt8 := dkwX12_portBits_5 ++ []
def dkwX12_portBits_4 : List UInt8 := [5, 172, 42, 28, 182, 0, 241, 54, 5, 42, 28, 21, 4, 153, 0, 10, 21, 5, 29, 128, 167, 0, 9]
abbrev dktX12_portBits_4 : List UInt8 := dkwX12_portBits_4 ++ dktX12_portBits_5
def dkwX12_portBits_3 : List UInt8 := [172, 28, 16, 35, 159, 0, 9, 28, 16, 53, 160, 0, 16, 21, 4, 153, 0, 9, 42, 28, 29, 182, 0, 234]
abbrev dktX12_portBits_3 : List UInt8 := dkwX12_portBits_3 ++ dktX12_portBits_4
def dkwX12_portBits_2 : List UInt8 := [126, 153, 0, 7, 4, 167, 0, 4, 3, 21, 4, 160, 0, 12, 4, 42, 182, 1, 43, 96, 167, 0, 4, 4]
abbrev dktX12_portBits_2 : List UInt8 := dkwX12_portBits_2 ++ dktX12_portBits_3
def dkwX12_portBits_1 : List UInt8 := [153, 0, 7, 4, 167, 0, 4, 3, 54, 4, 27, 17, 1, 0, 126, 153, 0, 34, 42, 28, 182, 0, 241, 29]
abbrev dktX12_portBits_1 : List UInt8 := dkwX12_portBits_1 ++ dktX12_portBits_2
def dkwX12_portBits_0 : List UInt8 := [16, 32, 27, 6, 122, 16, 31, 126, 96, 61, 4, 27, 16, 7, 126, 120, 62, 27, 17, 2, 0, 126]
abbrev dktX12_portBits_0 : List UInt8 := dkwX12_portBits_0 ++ dktX12_portBits_1
theorem dksX12_portBits_0 : cX12_portBits.data.toList.drop 0 = dktX12_portBits_0 := by decide +kernel
theorem dksX12_portBits_1 : cX12_portBits.data.toList.drop 22 = dktX12_portBits_1 := dk_seg dksX12_portBits_0 22 rfl rfl
theorem dksX12_portBits_2 : cX12_portBits.data.toList.drop 46 = dktX12_portBits_2 := dk_seg dksX12_portBits_1 24 rfl rfl
theorem dksX12_portBits_3 : cX12_portBits.data.toList.drop 70 = dktX12_portBits_3 := dk_seg dksX12_portBits_2 24 rfl rfl
theorem dksX12_portBits_4 : cX12_portBits.data.toList.drop 94 = dktX12_portBits_4 := dk_seg dksX12_portBits_3 24 rfl rfl
theorem dksX12_portBits_5 : cX12_portBits.data.toList.drop 117 = dktX12_portBits_5 := dk_seg dksX12_portBits_4 23 rfl rfl
theorem dX12_portBits_0 : decode cX12_portBits 0 = .ok (.bipush 32, 2) := dk_16 32 (dk_at dksX12_portBits_0 0 rfl rfl)
theorem dX12_portBits_2 : decode cX12_portBits 2 = .ok (.iload_n 1, 1) := dk_27 (dk_at dksX12_portBits_0 2 rfl rfl)
theorem dX12_portBits_3 : decode cX12_portBits 3 = .ok (.iconst 3, 1) := dk_6 (dk_at dksX12_portBits_0 3 rfl rfl)
theorem dX12_portBits_4 : decode cX12_portBits 4 = .ok (.ishr, 1) := dk_122 (dk_at dksX12_portBits_0 4 rfl rfl)
theorem dX12_portBits_5 : decode cX12_portBits 5 = .ok (.bipush 31, 2) := dk_16 31 (dk_at dksX12_portBits_0 5 rfl rfl)
theorem dX12_portBits_7 : decode cX12_portBits 7 = .ok (.iand, 1) := dk_126 (dk_at dksX12_portBits_0 7 rfl rfl)
theorem dX12_portBits_8 : decode cX12_portBits 8 = .ok (.iadd, 1) := dk_96 (dk_at dksX12_portBits_0 8 rfl rfl)
theorem dX12_portBits_9 : decode cX12_portBits 9 = .ok (.istore_n 2, 1) := dk_61 (dk_at dksX12_portBits_0 9 rfl rfl)
theorem dX12_portBits_10 : decode cX12_portBits 10 = .ok (.iconst 1, 1) := dk_4 (dk_at dksX12_portBits_0 10 rfl rfl)
theorem dX12_portBits_11 : decode cX12_portBits 11 = .ok (.iload_n 1, 1) := dk_27 (dk_at dksX12_portBits_0 11 rfl rfl)
theorem dX12_portBits_12 : decode cX12_portBits 12 = .ok (.bipush 7, 2) := dk_16 7 (dk_at dksX12_portBits_0 12 rfl rfl)
theorem dX12_portBits_14 : decode cX12_portBits 14 = .ok (.iand, 1) := dk_126 (dk_at dksX12_portBits_0 14 rfl rfl)
theorem dX12_portBits_15 : decode cX12_portBits 15 = .ok (.ishl, 1) := dk_120 (dk_at dksX12_portBits_0 15 rfl rfl)
theorem dX12_portBits_16 : decode cX12_portBits 16 = .ok (.istore_n 3, 1) := dk_62 (dk_at dksX12_portBits_0 16 rfl rfl)
theorem dX12_portBits_17 : decode cX12_portBits 17 = .ok (.iload_n 1, 1) := dk_27 (dk_at dksX12_portBits_0 17 rfl rfl)
theorem dX12_portBits_18 : decode cX12_portBits 18 = .ok (.sipush 512, 3) := dk_17 2 0 (dk_at dksX12_portBits_0 18 rfl rfl)
theorem dX12_portBits_21 : decode cX12_portBits 21 = .ok (.iand, 1) := dk_126 (dk_at dksX12_portBits_0 21 rfl rfl)
theorem dX12_portBits_22 : decode cX12_portBits 22 = .ok (.ifCond .eq 7, 3) := dk_153 0 7 (dk_at dksX12_portBits_1 0 rfl rfl)
theorem dX12_portBits_25 : decode cX12_portBits 25 = .ok (.iconst 1, 1) := dk_4 (dk_at dksX12_portBits_1 3 rfl rfl)
theorem dX12_portBits_26 : decode cX12_portBits 26 = .ok (.goto 4, 3) := dk_167 0 4 (dk_at dksX12_portBits_1 4 rfl rfl)
theorem dX12_portBits_29 : decode cX12_portBits 29 = .ok (.iconst 0, 1) := dk_3 (dk_at dksX12_portBits_1 7 rfl rfl)
theorem dX12_portBits_30 : decode cX12_portBits 30 = .ok (.istore 4, 2) := dk_54 4 (dk_at dksX12_portBits_1 8 rfl rfl)
theorem dX12_portBits_32 : decode cX12_portBits 32 = .ok (.iload_n 1, 1) := dk_27 (dk_at dksX12_portBits_1 10 rfl rfl)
theorem dX12_portBits_33 : decode cX12_portBits 33 = .ok (.sipush 256, 3) := dk_17 1 0 (dk_at dksX12_portBits_1 11 rfl rfl)
theorem dX12_portBits_36 : decode cX12_portBits 36 = .ok (.iand, 1) := dk_126 (dk_at dksX12_portBits_1 14 rfl rfl)
theorem dX12_portBits_37 : decode cX12_portBits 37 = .ok (.ifCond .eq 34, 3) := dk_153 0 34 (dk_at dksX12_portBits_1 15 rfl rfl)
theorem dX12_portBits_40 : decode cX12_portBits 40 = .ok (.aload_n 0, 1) := dk_42 (dk_at dksX12_portBits_1 18 rfl rfl)
theorem dX12_portBits_41 : decode cX12_portBits 41 = .ok (.iload_n 2, 1) := dk_28 (dk_at dksX12_portBits_1 19 rfl rfl)
theorem dX12_portBits_42 : decode cX12_portBits 42 = .ok (.invokevirtual 241, 3) := dk_182 0 241 (dk_at dksX12_portBits_1 20 rfl rfl)
theorem dX12_portBits_45 : decode cX12_portBits 45 = .ok (.iload_n 3, 1) := dk_29 (dk_at dksX12_portBits_1 23 rfl rfl)
theorem dX12_portBits_46 : decode cX12_portBits 46 = .ok (.iand, 1) := dk_126 (dk_at dksX12_portBits_2 0 rfl rfl)
theorem dX12_portBits_47 : decode cX12_portBits 47 = .ok (.ifCond .eq 7, 3) := dk_153 0 7 (dk_at dksX12_portBits_2 1 rfl rfl)
theorem dX12_portBits_50 : decode cX12_portBits 50 = .ok (.iconst 1, 1) := dk_4 (dk_at dksX12_portBits_2 4 rfl rfl)
theorem dX12_portBits_51 : decode cX12_portBits 51 = .ok (.goto 4, 3) := dk_167 0 4 (dk_at dksX12_portBits_2 5 rfl rfl)
theorem dX12_portBits_54 : decode cX12_portBits 54 = .ok (.iconst 0, 1) := dk_3 (dk_at dksX12_portBits_2 8 rfl rfl)
theorem dX12_portBits_55 : decode cX12_portBits 55 = .ok (.iload 4, 2) := dk_21 4 (dk_at dksX12_portBits_2 9 rfl rfl)
theorem dX12_portBits_57 : decode cX12_portBits 57 = .ok (.if_icmp .ne 12, 3) := dk_160 0 12 (dk_at dksX12_portBits_2 11 rfl rfl)
theorem dX12_portBits_60 : decode cX12_portBits 60 = .ok (.iconst 1, 1) := dk_4 (dk_at dksX12_portBits_2 14 rfl rfl)
theorem dX12_portBits_61 : decode cX12_portBits 61 = .ok (.aload_n 0, 1) := dk_42 (dk_at dksX12_portBits_2 15 rfl rfl)
theorem dX12_portBits_62 : decode cX12_portBits 62 = .ok (.invokevirtual 299, 3) := dk_182 1 43 (dk_at dksX12_portBits_2 16 rfl rfl)
theorem dX12_portBits_65 : decode cX12_portBits 65 = .ok (.iadd, 1) := dk_96 (dk_at dksX12_portBits_2 19 rfl rfl)
theorem dX12_portBits_66 : decode cX12_portBits 66 = .ok (.goto 4, 3) := dk_167 0 4 (dk_at dksX12_portBits_2 20 rfl rfl)
theorem dX12_portBits_69 : decode cX12_portBits 69 = .ok (.iconst 1, 1) := dk_4 (dk_at dksX12_portBits_2 23 rfl rfl)
theorem dX12_portBits_70 : decode cX12_portBits 70 = .ok (.ireturn, 1) := dk_172 (dk_at dksX12_portBits_3 0 rfl rfl)
theorem dX12_portBits_71 : decode cX12_portBits 71 = .ok (.iload_n 2, 1) := dk_28 (dk_at dksX12_portBits_3 1 rfl rfl)
theorem dX12_portBits_72 : decode cX12_portBits 72 = .ok (.bipush 35, 2) := dk_16 35 (dk_at dksX12_portBits_3 2 rfl rfl)
theorem dX12_portBits_74 : decode cX12_portBits 74 = .ok (.if_icmp .eq 9, 3) := dk_159 0 9 (dk_at dksX12_portBits_3 4 rfl rfl)
theorem dX12_portBits_77 : decode cX12_portBits 77 = .ok (.iload_n 2, 1) := dk_28 (dk_at dksX12_portBits_3 7 rfl rfl)
theorem dX12_portBits_78 : decode cX12_portBits 78 = .ok (.bipush 53, 2) := dk_16 53 (dk_at dksX12_portBits_3 8 rfl rfl)
theorem dX12_portBits_80 : decode cX12_portBits 80 = .ok (.if_icmp .ne 16, 3) := dk_160 0 16 (dk_at dksX12_portBits_3 10 rfl rfl)
theorem dX12_portBits_83 : decode cX12_portBits 83 = .ok (.iload 4, 2) := dk_21 4 (dk_at dksX12_portBits_3 13 rfl rfl)
theorem dX12_portBits_85 : decode cX12_portBits 85 = .ok (.ifCond .eq 9, 3) := dk_153 0 9 (dk_at dksX12_portBits_3 15 rfl rfl)
theorem dX12_portBits_88 : decode cX12_portBits 88 = .ok (.aload_n 0, 1) := dk_42 (dk_at dksX12_portBits_3 18 rfl rfl)
theorem dX12_portBits_89 : decode cX12_portBits 89 = .ok (.iload_n 2, 1) := dk_28 (dk_at dksX12_portBits_3 19 rfl rfl)
theorem dX12_portBits_90 : decode cX12_portBits 90 = .ok (.iload_n 3, 1) := dk_29 (dk_at dksX12_portBits_3 20 rfl rfl)
theorem dX12_portBits_91 : decode cX12_portBits 91 = .ok (.invokevirtual 234, 3) := dk_182 0 234 (dk_at dksX12_portBits_3 21 rfl rfl)
theorem dX12_portBits_94 : decode cX12_portBits 94 = .ok (.iconst 2, 1) := dk_5 (dk_at dksX12_portBits_4 0 rfl rfl)
theorem dX12_portBits_95 : decode cX12_portBits 95 = .ok (.ireturn, 1) := dk_172 (dk_at dksX12_portBits_4 1 rfl rfl)
theorem dX12_portBits_96 : decode cX12_portBits 96 = .ok (.aload_n 0, 1) := dk_42 (dk_at dksX12_portBits_4 2 rfl rfl)
theorem dX12_portBits_97 : decode cX12_portBits 97 = .ok (.iload_n 2, 1) := dk_28 (dk_at dksX12_portBits_4 3 rfl rfl)
theorem dX12_portBits_98 : decode cX12_portBits 98 = .ok (.invokevirtual 241, 3) := dk_182 0 241 (dk_at dksX12_portBits_4 4 rfl rfl)
theorem dX12_portBits_101 : decode cX12_portBits 101 = .ok (.istore 5, 2) := dk_54 5 (dk_at dksX12_portBits_4 7 rfl rfl)
theorem dX12_portBits_103 : decode cX12_portBits 103 = .ok (.aload_n 0, 1) := dk_42 (dk_at dksX12_portBits_4 9 rfl rfl)
theorem dX12_portBits_104 : decode cX12_portBits 104 = .ok (.iload_n 2, 1) := dk_28 (dk_at dksX12_portBits_4 10 rfl rfl)
theorem dX12_portBits_105 : decode cX12_portBits 105 = .ok (.iload 4, 2) := dk_21 4 (dk_at dksX12_portBits_4 11 rfl rfl)
theorem dX12_portBits_107 : decode cX12_portBits 107 = .ok (.ifCond .eq 10, 3) := dk_153 0 10 (dk_at dksX12_portBits_4 13 rfl rfl)
theorem dX12_portBits_110 : decode cX12_portBits 110 = .ok (.iload 5, 2) := dk_21 5 (dk_at dksX12_portBits_4 16 rfl rfl)
theorem dX12_portBits_112 : decode cX12_portBits 112 = .ok (.iload_n 3, 1) := dk_29 (dk_at dksX12_portBits_4 18 rfl rfl)
theorem dX12_portBits_113 : decode cX12_portBits 113 = .ok (.ior, 1) := dk_128 (dk_at dksX12_portBits_4 19 rfl rfl)
theorem dX12_portBits_114 : decode cX12_portBits 114 = .ok (.goto 9, 3) := dk_167 0 9 (dk_at dksX12_portBits_4 20 rfl rfl)
theorem dX12_portBits_117 : decode cX12_portBits 117 = .ok (.iload 5, 2) := dk_21 5 (dk_at dksX12_portBits_5 0 rfl rfl)
theorem dX12_portBits_119 : decode cX12_portBits 119 = .ok (.iload_n 3, 1) := dk_29 (dk_at dksX12_portBits_5 2 rfl rfl)
theorem dX12_portBits_120 : decode cX12_portBits 120 = .ok (.iconst (-1), 1) := dk_2 (dk_at dksX12_portBits_5 3 rfl rfl)
theorem dX12_portBits_121 : decode cX12_portBits 121 = .ok (.ixor, 1) := dk_130 (dk_at dksX12_portBits_5 4 rfl rfl)
theorem dX12_portBits_122 : decode cX12_portBits 122 = .ok (.iand, 1) := dk_126 (dk_at dksX12_portBits_5 5 rfl rfl)
theorem dX12_portBits_123 : decode cX12_portBits 123 = .ok (.invokevirtual 234, 3) := dk_182 0 234 (dk_at dksX12_portBits_5 6 rfl rfl)
theorem dX12_portBits_126 : decode cX12_portBits 126 = .ok (.iconst 2, 1) := dk_5 (dk_at dksX12_portBits_5 9 rfl rfl)
theorem dX12_portBits_127 : decode cX12_portBits 127 = .ok (.ireturn, 1) := dk_172 (dk_at dksX12_portBits_5 10 rfl rfl)
abbrev cX12_displaced : ByteArray := prog_13_method_50_code
def yX12_displaced : MethodName := ⟨RX12, "displaced", "(I)I"⟩
def dkwX12_displaced_3 : List UInt8 := [182, 0, 234, 167, 0, 15, 42, 180, 0, 16, 21, 4, 42, 29, 182, 0, 241, 79, 5, 172]
abbrev dktX12_displaced_3 : List UInt8 := dkwX12_displaced_3 ++ []
def dkwX12_displaced_2 : List UInt8 := [122, 16, 31, 126, 54, 4, 27, 17, 2, 0, 126, 153, 0, 18, 42, 29, 42, 180, 0, 16, 21, 4, 46]
abbrev dktX12_displaced_2 : List UInt8 := dkwX12_displaced_2 ++ dktX12_displaced_3
def dkwX12_displaced_1 : List UInt8 := [16, 8, 126, 153, 0, 8, 16, 28, 167, 0, 5, 16, 30, 182, 0, 231, 28, 96, 18, 43, 126, 62, 27, 7]
abbrev dktX12_displaced_1 : List UInt8 := dkwX12_displaced_1 ++ dktX12_displaced_2
def dkwX12_displaced_0 : List UInt8 := [27, 16, 7, 126, 27, 16, 7, 122, 16, 24, 126, 128, 27, 16, 8, 122, 16, 32, 126, 128, 61, 42, 27]
abbrev dktX12_displaced_0 : List UInt8 := dkwX12_displaced_0 ++ dktX12_displaced_1
theorem dksX12_displaced_0 : cX12_displaced.data.toList.drop 0 = dktX12_displaced_0 := by decide +kernel
theorem dksX12_displaced_1 : cX12_displaced.data.toList.drop 23 = dktX12_displaced_1 := dk_seg dksX12_displaced_0 23 rfl rfl
theorem dksX12_displaced_2 : cX12_displaced.data.toList.drop 47 = dktX12_displaced_2 := dk_seg dksX12_displaced_1 24 rfl rfl
theorem dksX12_displaced_3 : cX12_displaced.data.toList.drop 70 = dktX12_displaced_3 := dk_seg dksX12_displaced_2 23 rfl rfl
theorem dX12_displaced_0 : decode cX12_displaced 0 = .ok (.iload_n 1, 1) := dk_27 (dk_at dksX12_displaced_0 0 rfl rfl)
theorem dX12_displaced_1 : decode cX12_displaced 1 = .ok (.bipush 7, 2) := dk_16 7 (dk_at dksX12_displaced_0 1 rfl rfl)
theorem dX12_displaced_3 : decode cX12_displaced 3 = .ok (.iand, 1) := dk_126 (dk_at dksX12_displaced_0 3 rfl rfl)
theorem dX12_displaced_4 : decode cX12_displaced 4 = .ok (.iload_n 1, 1) := dk_27 (dk_at dksX12_displaced_0 4 rfl rfl)
theorem dX12_displaced_5 : decode cX12_displaced 5 = .ok (.bipush 7, 2) := dk_16 7 (dk_at dksX12_displaced_0 5 rfl rfl)
theorem dX12_displaced_7 : decode cX12_displaced 7 = .ok (.ishr, 1) := dk_122 (dk_at dksX12_displaced_0 7 rfl rfl)
theorem dX12_displaced_8 : decode cX12_displaced 8 = .ok (.bipush 24, 2) := dk_16 24 (dk_at dksX12_displaced_0 8 rfl rfl)
theorem dX12_displaced_10 : decode cX12_displaced 10 = .ok (.iand, 1) := dk_126 (dk_at dksX12_displaced_0 10 rfl rfl)
theorem dX12_displaced_11 : decode cX12_displaced 11 = .ok (.ior, 1) := dk_128 (dk_at dksX12_displaced_0 11 rfl rfl)
theorem dX12_displaced_12 : decode cX12_displaced 12 = .ok (.iload_n 1, 1) := dk_27 (dk_at dksX12_displaced_0 12 rfl rfl)
theorem dX12_displaced_13 : decode cX12_displaced 13 = .ok (.bipush 8, 2) := dk_16 8 (dk_at dksX12_displaced_0 13 rfl rfl)
theorem dX12_displaced_15 : decode cX12_displaced 15 = .ok (.ishr, 1) := dk_122 (dk_at dksX12_displaced_0 15 rfl rfl)
theorem dX12_displaced_16 : decode cX12_displaced 16 = .ok (.bipush 32, 2) := dk_16 32 (dk_at dksX12_displaced_0 16 rfl rfl)
theorem dX12_displaced_18 : decode cX12_displaced 18 = .ok (.iand, 1) := dk_126 (dk_at dksX12_displaced_0 18 rfl rfl)
theorem dX12_displaced_19 : decode cX12_displaced 19 = .ok (.ior, 1) := dk_128 (dk_at dksX12_displaced_0 19 rfl rfl)
theorem dX12_displaced_20 : decode cX12_displaced 20 = .ok (.istore_n 2, 1) := dk_61 (dk_at dksX12_displaced_0 20 rfl rfl)
theorem dX12_displaced_21 : decode cX12_displaced 21 = .ok (.aload_n 0, 1) := dk_42 (dk_at dksX12_displaced_0 21 rfl rfl)
theorem dX12_displaced_22 : decode cX12_displaced 22 = .ok (.iload_n 1, 1) := dk_27 (dk_at dksX12_displaced_0 22 rfl rfl)
theorem dX12_displaced_23 : decode cX12_displaced 23 = .ok (.bipush 8, 2) := dk_16 8 (dk_at dksX12_displaced_1 0 rfl rfl)
theorem dX12_displaced_25 : decode cX12_displaced 25 = .ok (.iand, 1) := dk_126 (dk_at dksX12_displaced_1 2 rfl rfl)
theorem dX12_displaced_26 : decode cX12_displaced 26 = .ok (.ifCond .eq 8, 3) := dk_153 0 8 (dk_at dksX12_displaced_1 3 rfl rfl)
theorem dX12_displaced_29 : decode cX12_displaced 29 = .ok (.bipush 28, 2) := dk_16 28 (dk_at dksX12_displaced_1 6 rfl rfl)
theorem dX12_displaced_31 : decode cX12_displaced 31 = .ok (.goto 5, 3) := dk_167 0 5 (dk_at dksX12_displaced_1 8 rfl rfl)
theorem dX12_displaced_34 : decode cX12_displaced 34 = .ok (.bipush 30, 2) := dk_16 30 (dk_at dksX12_displaced_1 11 rfl rfl)
theorem dX12_displaced_36 : decode cX12_displaced 36 = .ok (.invokevirtual 231, 3) := dk_182 0 231 (dk_at dksX12_displaced_1 13 rfl rfl)
theorem dX12_displaced_39 : decode cX12_displaced 39 = .ok (.iload_n 2, 1) := dk_28 (dk_at dksX12_displaced_1 16 rfl rfl)
theorem dX12_displaced_40 : decode cX12_displaced 40 = .ok (.iadd, 1) := dk_96 (dk_at dksX12_displaced_1 17 rfl rfl)
theorem dX12_displaced_41 : decode cX12_displaced 41 = .ok (.ldc 43, 2) := dk_18 43 (dk_at dksX12_displaced_1 18 rfl rfl)
theorem dX12_displaced_43 : decode cX12_displaced 43 = .ok (.iand, 1) := dk_126 (dk_at dksX12_displaced_1 20 rfl rfl)
theorem dX12_displaced_44 : decode cX12_displaced 44 = .ok (.istore_n 3, 1) := dk_62 (dk_at dksX12_displaced_1 21 rfl rfl)
theorem dX12_displaced_45 : decode cX12_displaced 45 = .ok (.iload_n 1, 1) := dk_27 (dk_at dksX12_displaced_1 22 rfl rfl)
theorem dX12_displaced_46 : decode cX12_displaced 46 = .ok (.iconst 4, 1) := dk_7 (dk_at dksX12_displaced_1 23 rfl rfl)
theorem dX12_displaced_47 : decode cX12_displaced 47 = .ok (.ishr, 1) := dk_122 (dk_at dksX12_displaced_2 0 rfl rfl)
theorem dX12_displaced_48 : decode cX12_displaced 48 = .ok (.bipush 31, 2) := dk_16 31 (dk_at dksX12_displaced_2 1 rfl rfl)
theorem dX12_displaced_50 : decode cX12_displaced 50 = .ok (.iand, 1) := dk_126 (dk_at dksX12_displaced_2 3 rfl rfl)
theorem dX12_displaced_51 : decode cX12_displaced 51 = .ok (.istore 4, 2) := dk_54 4 (dk_at dksX12_displaced_2 4 rfl rfl)
theorem dX12_displaced_53 : decode cX12_displaced 53 = .ok (.iload_n 1, 1) := dk_27 (dk_at dksX12_displaced_2 6 rfl rfl)
theorem dX12_displaced_54 : decode cX12_displaced 54 = .ok (.sipush 512, 3) := dk_17 2 0 (dk_at dksX12_displaced_2 7 rfl rfl)
theorem dX12_displaced_57 : decode cX12_displaced 57 = .ok (.iand, 1) := dk_126 (dk_at dksX12_displaced_2 10 rfl rfl)
theorem dX12_displaced_58 : decode cX12_displaced 58 = .ok (.ifCond .eq 18, 3) := dk_153 0 18 (dk_at dksX12_displaced_2 11 rfl rfl)
theorem dX12_displaced_61 : decode cX12_displaced 61 = .ok (.aload_n 0, 1) := dk_42 (dk_at dksX12_displaced_2 14 rfl rfl)
theorem dX12_displaced_62 : decode cX12_displaced 62 = .ok (.iload_n 3, 1) := dk_29 (dk_at dksX12_displaced_2 15 rfl rfl)
theorem dX12_displaced_63 : decode cX12_displaced 63 = .ok (.aload_n 0, 1) := dk_42 (dk_at dksX12_displaced_2 16 rfl rfl)
theorem dX12_displaced_64 : decode cX12_displaced 64 = .ok (.getfield 16, 3) := dk_180 0 16 (dk_at dksX12_displaced_2 17 rfl rfl)
theorem dX12_displaced_67 : decode cX12_displaced 67 = .ok (.iload 4, 2) := dk_21 4 (dk_at dksX12_displaced_2 20 rfl rfl)
theorem dX12_displaced_69 : decode cX12_displaced 69 = .ok (.iaload, 1) := dk_46 (dk_at dksX12_displaced_2 22 rfl rfl)
theorem dX12_displaced_70 : decode cX12_displaced 70 = .ok (.invokevirtual 234, 3) := dk_182 0 234 (dk_at dksX12_displaced_3 0 rfl rfl)
theorem dX12_displaced_73 : decode cX12_displaced 73 = .ok (.goto 15, 3) := dk_167 0 15 (dk_at dksX12_displaced_3 3 rfl rfl)
theorem dX12_displaced_76 : decode cX12_displaced 76 = .ok (.aload_n 0, 1) := dk_42 (dk_at dksX12_displaced_3 6 rfl rfl)
theorem dX12_displaced_77 : decode cX12_displaced 77 = .ok (.getfield 16, 3) := dk_180 0 16 (dk_at dksX12_displaced_3 7 rfl rfl)
theorem dX12_displaced_80 : decode cX12_displaced 80 = .ok (.iload 4, 2) := dk_21 4 (dk_at dksX12_displaced_3 10 rfl rfl)
theorem dX12_displaced_82 : decode cX12_displaced 82 = .ok (.aload_n 0, 1) := dk_42 (dk_at dksX12_displaced_3 12 rfl rfl)
theorem dX12_displaced_83 : decode cX12_displaced 83 = .ok (.iload_n 3, 1) := dk_29 (dk_at dksX12_displaced_3 13 rfl rfl)
theorem dX12_displaced_84 : decode cX12_displaced 84 = .ok (.invokevirtual 241, 3) := dk_182 0 241 (dk_at dksX12_displaced_3 14 rfl rfl)
theorem dX12_displaced_87 : decode cX12_displaced 87 = .ok (.iastore, 1) := dk_79 (dk_at dksX12_displaced_3 17 rfl rfl)
theorem dX12_displaced_88 : decode cX12_displaced 88 = .ok (.iconst 2, 1) := dk_5 (dk_at dksX12_displaced_3 18 rfl rfl)
theorem dX12_displaced_89 : decode cX12_displaced 89 = .ok (.ireturn, 1) := dk_172 (dk_at dksX12_displaced_3 19 rfl rfl)
abbrev cX12_ports : ByteArray := prog_13_method_51_code
def yX12_ports : MethodName := ⟨RX12, "ports", "(I)I"⟩
def dkwX12_ports_2 : List UInt8 := [180, 0, 16, 29, 42, 28, 182, 0, 241, 79, 4, 172]
abbrev dktX12_ports_2 : List UInt8 := dkwX12_ports_2 ++ []
def dkwX12_ports_1 : List UInt8 := [17, 8, 0, 126, 153, 0, 17, 42, 28, 42, 180, 0, 16, 29, 46, 182, 0, 234, 167, 0, 14, 42]
abbrev dktX12_ports_1 : List UInt8 := dkwX12_ports_1 ++ dktX12_ports_2
def dkwX12_ports_0 : List UInt8 := [16, 32, 27, 16, 15, 126, 27, 8, 122, 16, 48, 126, 128, 96, 61, 27, 7, 122, 16, 31, 126, 62, 27]
abbrev dktX12_ports_0 : List UInt8 := dkwX12_ports_0 ++ dktX12_ports_1
theorem dksX12_ports_0 : cX12_ports.data.toList.drop 0 = dktX12_ports_0 := by decide +kernel
theorem dksX12_ports_1 : cX12_ports.data.toList.drop 23 = dktX12_ports_1 := dk_seg dksX12_ports_0 23 rfl rfl
theorem dksX12_ports_2 : cX12_ports.data.toList.drop 45 = dktX12_ports_2 := dk_seg dksX12_ports_1 22 rfl rfl
theorem dX12_ports_0 : decode cX12_ports 0 = .ok (.bipush 32, 2) := dk_16 32 (dk_at dksX12_ports_0 0 rfl rfl)
theorem dX12_ports_2 : decode cX12_ports 2 = .ok (.iload_n 1, 1) := dk_27 (dk_at dksX12_ports_0 2 rfl rfl)
theorem dX12_ports_3 : decode cX12_ports 3 = .ok (.bipush 15, 2) := dk_16 15 (dk_at dksX12_ports_0 3 rfl rfl)
theorem dX12_ports_5 : decode cX12_ports 5 = .ok (.iand, 1) := dk_126 (dk_at dksX12_ports_0 5 rfl rfl)
theorem dX12_ports_6 : decode cX12_ports 6 = .ok (.iload_n 1, 1) := dk_27 (dk_at dksX12_ports_0 6 rfl rfl)
theorem dX12_ports_7 : decode cX12_ports 7 = .ok (.iconst 5, 1) := dk_8 (dk_at dksX12_ports_0 7 rfl rfl)
theorem dX12_ports_8 : decode cX12_ports 8 = .ok (.ishr, 1) := dk_122 (dk_at dksX12_ports_0 8 rfl rfl)
theorem dX12_ports_9 : decode cX12_ports 9 = .ok (.bipush 48, 2) := dk_16 48 (dk_at dksX12_ports_0 9 rfl rfl)
theorem dX12_ports_11 : decode cX12_ports 11 = .ok (.iand, 1) := dk_126 (dk_at dksX12_ports_0 11 rfl rfl)
theorem dX12_ports_12 : decode cX12_ports 12 = .ok (.ior, 1) := dk_128 (dk_at dksX12_ports_0 12 rfl rfl)
theorem dX12_ports_13 : decode cX12_ports 13 = .ok (.iadd, 1) := dk_96 (dk_at dksX12_ports_0 13 rfl rfl)
theorem dX12_ports_14 : decode cX12_ports 14 = .ok (.istore_n 2, 1) := dk_61 (dk_at dksX12_ports_0 14 rfl rfl)
theorem dX12_ports_15 : decode cX12_ports 15 = .ok (.iload_n 1, 1) := dk_27 (dk_at dksX12_ports_0 15 rfl rfl)
theorem dX12_ports_16 : decode cX12_ports 16 = .ok (.iconst 4, 1) := dk_7 (dk_at dksX12_ports_0 16 rfl rfl)
theorem dX12_ports_17 : decode cX12_ports 17 = .ok (.ishr, 1) := dk_122 (dk_at dksX12_ports_0 17 rfl rfl)
theorem dX12_ports_18 : decode cX12_ports 18 = .ok (.bipush 31, 2) := dk_16 31 (dk_at dksX12_ports_0 18 rfl rfl)
theorem dX12_ports_20 : decode cX12_ports 20 = .ok (.iand, 1) := dk_126 (dk_at dksX12_ports_0 20 rfl rfl)
theorem dX12_ports_21 : decode cX12_ports 21 = .ok (.istore_n 3, 1) := dk_62 (dk_at dksX12_ports_0 21 rfl rfl)
theorem dX12_ports_22 : decode cX12_ports 22 = .ok (.iload_n 1, 1) := dk_27 (dk_at dksX12_ports_0 22 rfl rfl)
theorem dX12_ports_23 : decode cX12_ports 23 = .ok (.sipush 2048, 3) := dk_17 8 0 (dk_at dksX12_ports_1 0 rfl rfl)
theorem dX12_ports_26 : decode cX12_ports 26 = .ok (.iand, 1) := dk_126 (dk_at dksX12_ports_1 3 rfl rfl)
theorem dX12_ports_27 : decode cX12_ports 27 = .ok (.ifCond .eq 17, 3) := dk_153 0 17 (dk_at dksX12_ports_1 4 rfl rfl)
theorem dX12_ports_30 : decode cX12_ports 30 = .ok (.aload_n 0, 1) := dk_42 (dk_at dksX12_ports_1 7 rfl rfl)
theorem dX12_ports_31 : decode cX12_ports 31 = .ok (.iload_n 2, 1) := dk_28 (dk_at dksX12_ports_1 8 rfl rfl)
theorem dX12_ports_32 : decode cX12_ports 32 = .ok (.aload_n 0, 1) := dk_42 (dk_at dksX12_ports_1 9 rfl rfl)
theorem dX12_ports_33 : decode cX12_ports 33 = .ok (.getfield 16, 3) := dk_180 0 16 (dk_at dksX12_ports_1 10 rfl rfl)
theorem dX12_ports_36 : decode cX12_ports 36 = .ok (.iload_n 3, 1) := dk_29 (dk_at dksX12_ports_1 13 rfl rfl)
theorem dX12_ports_37 : decode cX12_ports 37 = .ok (.iaload, 1) := dk_46 (dk_at dksX12_ports_1 14 rfl rfl)
theorem dX12_ports_38 : decode cX12_ports 38 = .ok (.invokevirtual 234, 3) := dk_182 0 234 (dk_at dksX12_ports_1 15 rfl rfl)
theorem dX12_ports_41 : decode cX12_ports 41 = .ok (.goto 14, 3) := dk_167 0 14 (dk_at dksX12_ports_1 18 rfl rfl)
theorem dX12_ports_44 : decode cX12_ports 44 = .ok (.aload_n 0, 1) := dk_42 (dk_at dksX12_ports_1 21 rfl rfl)
theorem dX12_ports_45 : decode cX12_ports 45 = .ok (.getfield 16, 3) := dk_180 0 16 (dk_at dksX12_ports_2 0 rfl rfl)
theorem dX12_ports_48 : decode cX12_ports 48 = .ok (.iload_n 3, 1) := dk_29 (dk_at dksX12_ports_2 3 rfl rfl)
theorem dX12_ports_49 : decode cX12_ports 49 = .ok (.aload_n 0, 1) := dk_42 (dk_at dksX12_ports_2 4 rfl rfl)
theorem dX12_ports_50 : decode cX12_ports 50 = .ok (.iload_n 2, 1) := dk_28 (dk_at dksX12_ports_2 5 rfl rfl)
theorem dX12_ports_51 : decode cX12_ports 51 = .ok (.invokevirtual 241, 3) := dk_182 0 241 (dk_at dksX12_ports_2 6 rfl rfl)
theorem dX12_ports_54 : decode cX12_ports 54 = .ok (.iastore, 1) := dk_79 (dk_at dksX12_ports_2 9 rfl rfl)
theorem dX12_ports_55 : decode cX12_ports 55 = .ok (.iconst 1, 1) := dk_4 (dk_at dksX12_ports_2 10 rfl rfl)
theorem dX12_ports_56 : decode cX12_ports 56 = .ok (.ireturn, 1) := dk_172 (dk_at dksX12_ports_2 11 rfl rfl)
abbrev cX12_bits : ByteArray := prog_13_method_53_code
def yX12_bits : MethodName := ⟨RX12, "bits", "(I)I"⟩
def dkwX12_bits_10 : List UInt8 := [160, 0, 12, 4, 42, 182, 1, 43, 96, 167, 0, 4, 4, 172]
abbrev dktX12_bits_10 : List UInt8 := dkwX12_bits_10 ++ []
def dkwX12_bits_9 : List UInt8 := [182, 0, 172, 4, 172, 21, 4, 27, 16, 9, 122, 4, 126, 4, 160, 0, 7, 4, 167, 0, 4, 3]
abbrev dktX12_bits_9 : List UInt8 := dkwX12_bits_9 ++ dktX12_bits_10
def dkwX12_bits_8 : List UInt8 := [167, 0, 15, 42, 180, 0, 16, 29, 46, 4, 28, 120, 2, 130, 126, 79, 4, 172, 42, 16, 6, 21, 4]
abbrev dktX12_bits_8 : List UInt8 := dkwX12_bits_8 ++ dktX12_bits_9
def dkwX12_bits_7 : List UInt8 := [42, 180, 0, 16, 29, 42, 16, 6, 182, 0, 163, 153, 0, 16, 42, 180, 0, 16, 29, 46, 4, 28, 120, 128]
abbrev dktX12_bits_7 : List UInt8 := dkwX12_bits_7 ++ dktX12_bits_8
def dkwX12_bits_6 : List UInt8 := [171, 0, 0, 0, 0, 0, 0, 80, 0, 0, 0, 2, 0, 0, 0, 0, 0, 0, 0, 28, 0, 0, 0, 1, 0, 0, 0, 70]
abbrev dktX12_bits_6 : List UInt8 := dkwX12_bits_6 ++ dktX12_bits_7
def dkwX12_bits_5 : List UInt8 := [122, 6, 126]
abbrev dktX12_bits_5 : List UInt8 := dkwX12_bits_5 ++ dktX12_bits_6
def dkwX12_bits_4 : List UInt8 := [42, 180, 0, 16, 29, 46, 28, 122, 4, 126, 4, 160, 0, 7, 4, 167, 0, 4, 3, 54, 4, 27, 16, 9]
abbrev dktX12_bits_4 : List UInt8 := dkwX12_bits_4 ++ dktX12_bits_5
def dkwX12_bits_3 : List UInt8 := [167, 0, 5, 21, 4, 96, 17, 7, 255, 126, 181, 0, 77, 5, 172, 27, 16, 8, 126, 153, 0, 5, 4, 172]
abbrev dktX12_bits_3 : List UInt8 := dkwX12_bits_3 ++ dktX12_bits_4
def dkwX12_bits_2 : List UInt8 := [160, 0, 5, 4, 172, 42, 42, 180, 0, 77, 21, 4, 16, 64, 161, 0, 12, 21, 4, 17, 0, 128, 100]
abbrev dktX12_bits_2 : List UInt8 := dkwX12_bits_2 ++ dktX12_bits_3
def dkwX12_bits_1 : List UInt8 := [16, 127, 126, 54, 4, 42, 28, 182, 0, 163, 27, 17, 4, 0, 126, 153, 0, 7, 4, 167, 0, 4, 3]
abbrev dktX12_bits_1 : List UInt8 := dkwX12_bits_1 ++ dktX12_bits_2
def dkwX12_bits_0 : List UInt8 := [27, 16, 7, 126, 61, 27, 7, 122, 16, 31, 126, 62, 27, 17, 8, 0, 126, 154, 0, 67, 27, 6, 122]
abbrev dktX12_bits_0 : List UInt8 := dkwX12_bits_0 ++ dktX12_bits_1
theorem dksX12_bits_0 : cX12_bits.data.toList.drop 0 = dktX12_bits_0 := by decide +kernel
theorem dksX12_bits_1 : cX12_bits.data.toList.drop 23 = dktX12_bits_1 := dk_seg dksX12_bits_0 23 rfl rfl
theorem dksX12_bits_2 : cX12_bits.data.toList.drop 46 = dktX12_bits_2 := dk_seg dksX12_bits_1 23 rfl rfl
theorem dksX12_bits_3 : cX12_bits.data.toList.drop 69 = dktX12_bits_3 := dk_seg dksX12_bits_2 23 rfl rfl
theorem dksX12_bits_4 : cX12_bits.data.toList.drop 93 = dktX12_bits_4 := dk_seg dksX12_bits_3 24 rfl rfl
theorem dksX12_bits_5 : cX12_bits.data.toList.drop 117 = dktX12_bits_5 := dk_seg dksX12_bits_4 24 rfl rfl
theorem dksX12_bits_6 : cX12_bits.data.toList.drop 120 = dktX12_bits_6 := dk_seg dksX12_bits_5 3 rfl rfl
theorem dksX12_bits_7 : cX12_bits.data.toList.drop 148 = dktX12_bits_7 := dk_seg dksX12_bits_6 28 rfl rfl
theorem dksX12_bits_8 : cX12_bits.data.toList.drop 172 = dktX12_bits_8 := dk_seg dksX12_bits_7 24 rfl rfl
theorem dksX12_bits_9 : cX12_bits.data.toList.drop 195 = dktX12_bits_9 := dk_seg dksX12_bits_8 23 rfl rfl
theorem dksX12_bits_10 : cX12_bits.data.toList.drop 217 = dktX12_bits_10 := dk_seg dksX12_bits_9 22 rfl rfl
theorem dX12_bits_0 : decode cX12_bits 0 = .ok (.iload_n 1, 1) := dk_27 (dk_at dksX12_bits_0 0 rfl rfl)
theorem dX12_bits_1 : decode cX12_bits 1 = .ok (.bipush 7, 2) := dk_16 7 (dk_at dksX12_bits_0 1 rfl rfl)
theorem dX12_bits_3 : decode cX12_bits 3 = .ok (.iand, 1) := dk_126 (dk_at dksX12_bits_0 3 rfl rfl)
theorem dX12_bits_4 : decode cX12_bits 4 = .ok (.istore_n 2, 1) := dk_61 (dk_at dksX12_bits_0 4 rfl rfl)
theorem dX12_bits_5 : decode cX12_bits 5 = .ok (.iload_n 1, 1) := dk_27 (dk_at dksX12_bits_0 5 rfl rfl)
theorem dX12_bits_6 : decode cX12_bits 6 = .ok (.iconst 4, 1) := dk_7 (dk_at dksX12_bits_0 6 rfl rfl)
theorem dX12_bits_7 : decode cX12_bits 7 = .ok (.ishr, 1) := dk_122 (dk_at dksX12_bits_0 7 rfl rfl)
theorem dX12_bits_8 : decode cX12_bits 8 = .ok (.bipush 31, 2) := dk_16 31 (dk_at dksX12_bits_0 8 rfl rfl)
theorem dX12_bits_10 : decode cX12_bits 10 = .ok (.iand, 1) := dk_126 (dk_at dksX12_bits_0 10 rfl rfl)
theorem dX12_bits_11 : decode cX12_bits 11 = .ok (.istore_n 3, 1) := dk_62 (dk_at dksX12_bits_0 11 rfl rfl)
theorem dX12_bits_12 : decode cX12_bits 12 = .ok (.iload_n 1, 1) := dk_27 (dk_at dksX12_bits_0 12 rfl rfl)
theorem dX12_bits_13 : decode cX12_bits 13 = .ok (.sipush 2048, 3) := dk_17 8 0 (dk_at dksX12_bits_0 13 rfl rfl)
theorem dX12_bits_16 : decode cX12_bits 16 = .ok (.iand, 1) := dk_126 (dk_at dksX12_bits_0 16 rfl rfl)
theorem dX12_bits_17 : decode cX12_bits 17 = .ok (.ifCond .ne 67, 3) := dk_154 0 67 (dk_at dksX12_bits_0 17 rfl rfl)
theorem dX12_bits_20 : decode cX12_bits 20 = .ok (.iload_n 1, 1) := dk_27 (dk_at dksX12_bits_0 20 rfl rfl)
theorem dX12_bits_21 : decode cX12_bits 21 = .ok (.iconst 3, 1) := dk_6 (dk_at dksX12_bits_0 21 rfl rfl)
theorem dX12_bits_22 : decode cX12_bits 22 = .ok (.ishr, 1) := dk_122 (dk_at dksX12_bits_0 22 rfl rfl)
theorem dX12_bits_23 : decode cX12_bits 23 = .ok (.bipush 127, 2) := dk_16 127 (dk_at dksX12_bits_1 0 rfl rfl)
theorem dX12_bits_25 : decode cX12_bits 25 = .ok (.iand, 1) := dk_126 (dk_at dksX12_bits_1 2 rfl rfl)
theorem dX12_bits_26 : decode cX12_bits 26 = .ok (.istore 4, 2) := dk_54 4 (dk_at dksX12_bits_1 3 rfl rfl)
theorem dX12_bits_28 : decode cX12_bits 28 = .ok (.aload_n 0, 1) := dk_42 (dk_at dksX12_bits_1 5 rfl rfl)
theorem dX12_bits_29 : decode cX12_bits 29 = .ok (.iload_n 2, 1) := dk_28 (dk_at dksX12_bits_1 6 rfl rfl)
theorem dX12_bits_30 : decode cX12_bits 30 = .ok (.invokevirtual 163, 3) := dk_182 0 163 (dk_at dksX12_bits_1 7 rfl rfl)
theorem dX12_bits_33 : decode cX12_bits 33 = .ok (.iload_n 1, 1) := dk_27 (dk_at dksX12_bits_1 10 rfl rfl)
theorem dX12_bits_34 : decode cX12_bits 34 = .ok (.sipush 1024, 3) := dk_17 4 0 (dk_at dksX12_bits_1 11 rfl rfl)
theorem dX12_bits_37 : decode cX12_bits 37 = .ok (.iand, 1) := dk_126 (dk_at dksX12_bits_1 14 rfl rfl)
theorem dX12_bits_38 : decode cX12_bits 38 = .ok (.ifCond .eq 7, 3) := dk_153 0 7 (dk_at dksX12_bits_1 15 rfl rfl)
theorem dX12_bits_41 : decode cX12_bits 41 = .ok (.iconst 1, 1) := dk_4 (dk_at dksX12_bits_1 18 rfl rfl)
theorem dX12_bits_42 : decode cX12_bits 42 = .ok (.goto 4, 3) := dk_167 0 4 (dk_at dksX12_bits_1 19 rfl rfl)
theorem dX12_bits_45 : decode cX12_bits 45 = .ok (.iconst 0, 1) := dk_3 (dk_at dksX12_bits_1 22 rfl rfl)
theorem dX12_bits_46 : decode cX12_bits 46 = .ok (.if_icmp .ne 5, 3) := dk_160 0 5 (dk_at dksX12_bits_2 0 rfl rfl)
theorem dX12_bits_49 : decode cX12_bits 49 = .ok (.iconst 1, 1) := dk_4 (dk_at dksX12_bits_2 3 rfl rfl)
theorem dX12_bits_50 : decode cX12_bits 50 = .ok (.ireturn, 1) := dk_172 (dk_at dksX12_bits_2 4 rfl rfl)
theorem dX12_bits_51 : decode cX12_bits 51 = .ok (.aload_n 0, 1) := dk_42 (dk_at dksX12_bits_2 5 rfl rfl)
theorem dX12_bits_52 : decode cX12_bits 52 = .ok (.aload_n 0, 1) := dk_42 (dk_at dksX12_bits_2 6 rfl rfl)
theorem dX12_bits_53 : decode cX12_bits 53 = .ok (.getfield 77, 3) := dk_180 0 77 (dk_at dksX12_bits_2 7 rfl rfl)
theorem dX12_bits_56 : decode cX12_bits 56 = .ok (.iload 4, 2) := dk_21 4 (dk_at dksX12_bits_2 10 rfl rfl)
theorem dX12_bits_58 : decode cX12_bits 58 = .ok (.bipush 64, 2) := dk_16 64 (dk_at dksX12_bits_2 12 rfl rfl)
theorem dX12_bits_60 : decode cX12_bits 60 = .ok (.if_icmp .lt 12, 3) := dk_161 0 12 (dk_at dksX12_bits_2 14 rfl rfl)
theorem dX12_bits_63 : decode cX12_bits 63 = .ok (.iload 4, 2) := dk_21 4 (dk_at dksX12_bits_2 17 rfl rfl)
theorem dX12_bits_65 : decode cX12_bits 65 = .ok (.sipush 128, 3) := dk_17 0 128 (dk_at dksX12_bits_2 19 rfl rfl)
theorem dX12_bits_68 : decode cX12_bits 68 = .ok (.isub, 1) := dk_100 (dk_at dksX12_bits_2 22 rfl rfl)
theorem dX12_bits_69 : decode cX12_bits 69 = .ok (.goto 5, 3) := dk_167 0 5 (dk_at dksX12_bits_3 0 rfl rfl)
theorem dX12_bits_72 : decode cX12_bits 72 = .ok (.iload 4, 2) := dk_21 4 (dk_at dksX12_bits_3 3 rfl rfl)
theorem dX12_bits_74 : decode cX12_bits 74 = .ok (.iadd, 1) := dk_96 (dk_at dksX12_bits_3 5 rfl rfl)
theorem dX12_bits_75 : decode cX12_bits 75 = .ok (.sipush 2047, 3) := dk_17 7 255 (dk_at dksX12_bits_3 6 rfl rfl)
theorem dX12_bits_78 : decode cX12_bits 78 = .ok (.iand, 1) := dk_126 (dk_at dksX12_bits_3 9 rfl rfl)
theorem dX12_bits_79 : decode cX12_bits 79 = .ok (.putfield 77, 3) := dk_181 0 77 (dk_at dksX12_bits_3 10 rfl rfl)
theorem dX12_bits_82 : decode cX12_bits 82 = .ok (.iconst 2, 1) := dk_5 (dk_at dksX12_bits_3 13 rfl rfl)
theorem dX12_bits_83 : decode cX12_bits 83 = .ok (.ireturn, 1) := dk_172 (dk_at dksX12_bits_3 14 rfl rfl)
theorem dX12_bits_84 : decode cX12_bits 84 = .ok (.iload_n 1, 1) := dk_27 (dk_at dksX12_bits_3 15 rfl rfl)
theorem dX12_bits_85 : decode cX12_bits 85 = .ok (.bipush 8, 2) := dk_16 8 (dk_at dksX12_bits_3 16 rfl rfl)
theorem dX12_bits_87 : decode cX12_bits 87 = .ok (.iand, 1) := dk_126 (dk_at dksX12_bits_3 18 rfl rfl)
theorem dX12_bits_88 : decode cX12_bits 88 = .ok (.ifCond .eq 5, 3) := dk_153 0 5 (dk_at dksX12_bits_3 19 rfl rfl)
theorem dX12_bits_91 : decode cX12_bits 91 = .ok (.iconst 1, 1) := dk_4 (dk_at dksX12_bits_3 22 rfl rfl)
theorem dX12_bits_92 : decode cX12_bits 92 = .ok (.ireturn, 1) := dk_172 (dk_at dksX12_bits_3 23 rfl rfl)
theorem dX12_bits_93 : decode cX12_bits 93 = .ok (.aload_n 0, 1) := dk_42 (dk_at dksX12_bits_4 0 rfl rfl)
theorem dX12_bits_94 : decode cX12_bits 94 = .ok (.getfield 16, 3) := dk_180 0 16 (dk_at dksX12_bits_4 1 rfl rfl)
theorem dX12_bits_97 : decode cX12_bits 97 = .ok (.iload_n 3, 1) := dk_29 (dk_at dksX12_bits_4 4 rfl rfl)
theorem dX12_bits_98 : decode cX12_bits 98 = .ok (.iaload, 1) := dk_46 (dk_at dksX12_bits_4 5 rfl rfl)
theorem dX12_bits_99 : decode cX12_bits 99 = .ok (.iload_n 2, 1) := dk_28 (dk_at dksX12_bits_4 6 rfl rfl)
theorem dX12_bits_100 : decode cX12_bits 100 = .ok (.ishr, 1) := dk_122 (dk_at dksX12_bits_4 7 rfl rfl)
theorem dX12_bits_101 : decode cX12_bits 101 = .ok (.iconst 1, 1) := dk_4 (dk_at dksX12_bits_4 8 rfl rfl)
theorem dX12_bits_102 : decode cX12_bits 102 = .ok (.iand, 1) := dk_126 (dk_at dksX12_bits_4 9 rfl rfl)
theorem dX12_bits_103 : decode cX12_bits 103 = .ok (.iconst 1, 1) := dk_4 (dk_at dksX12_bits_4 10 rfl rfl)
theorem dX12_bits_104 : decode cX12_bits 104 = .ok (.if_icmp .ne 7, 3) := dk_160 0 7 (dk_at dksX12_bits_4 11 rfl rfl)
theorem dX12_bits_107 : decode cX12_bits 107 = .ok (.iconst 1, 1) := dk_4 (dk_at dksX12_bits_4 14 rfl rfl)
theorem dX12_bits_108 : decode cX12_bits 108 = .ok (.goto 4, 3) := dk_167 0 4 (dk_at dksX12_bits_4 15 rfl rfl)
theorem dX12_bits_111 : decode cX12_bits 111 = .ok (.iconst 0, 1) := dk_3 (dk_at dksX12_bits_4 18 rfl rfl)
theorem dX12_bits_112 : decode cX12_bits 112 = .ok (.istore 4, 2) := dk_54 4 (dk_at dksX12_bits_4 19 rfl rfl)
theorem dX12_bits_114 : decode cX12_bits 114 = .ok (.iload_n 1, 1) := dk_27 (dk_at dksX12_bits_4 21 rfl rfl)
theorem dX12_bits_115 : decode cX12_bits 115 = .ok (.bipush 9, 2) := dk_16 9 (dk_at dksX12_bits_4 22 rfl rfl)
theorem dX12_bits_117 : decode cX12_bits 117 = .ok (.ishr, 1) := dk_122 (dk_at dksX12_bits_5 0 rfl rfl)
theorem dX12_bits_118 : decode cX12_bits 118 = .ok (.iconst 3, 1) := dk_6 (dk_at dksX12_bits_5 1 rfl rfl)
theorem dX12_bits_119 : decode cX12_bits 119 = .ok (.iand, 1) := dk_126 (dk_at dksX12_bits_5 2 rfl rfl)
theorem dX12_bits_120 : decode cX12_bits 120 = .ok (.lookupswitch 80 #[(0, 28), (1, 70)], 28) := by decide +kernel
theorem dX12_bits_148 : decode cX12_bits 148 = .ok (.aload_n 0, 1) := dk_42 (dk_at dksX12_bits_7 0 rfl rfl)
theorem dX12_bits_149 : decode cX12_bits 149 = .ok (.getfield 16, 3) := dk_180 0 16 (dk_at dksX12_bits_7 1 rfl rfl)
theorem dX12_bits_152 : decode cX12_bits 152 = .ok (.iload_n 3, 1) := dk_29 (dk_at dksX12_bits_7 4 rfl rfl)
theorem dX12_bits_153 : decode cX12_bits 153 = .ok (.aload_n 0, 1) := dk_42 (dk_at dksX12_bits_7 5 rfl rfl)
theorem dX12_bits_154 : decode cX12_bits 154 = .ok (.bipush 6, 2) := dk_16 6 (dk_at dksX12_bits_7 6 rfl rfl)
theorem dX12_bits_156 : decode cX12_bits 156 = .ok (.invokevirtual 163, 3) := dk_182 0 163 (dk_at dksX12_bits_7 8 rfl rfl)
theorem dX12_bits_159 : decode cX12_bits 159 = .ok (.ifCond .eq 16, 3) := dk_153 0 16 (dk_at dksX12_bits_7 11 rfl rfl)
theorem dX12_bits_162 : decode cX12_bits 162 = .ok (.aload_n 0, 1) := dk_42 (dk_at dksX12_bits_7 14 rfl rfl)
theorem dX12_bits_163 : decode cX12_bits 163 = .ok (.getfield 16, 3) := dk_180 0 16 (dk_at dksX12_bits_7 15 rfl rfl)
theorem dX12_bits_166 : decode cX12_bits 166 = .ok (.iload_n 3, 1) := dk_29 (dk_at dksX12_bits_7 18 rfl rfl)
theorem dX12_bits_167 : decode cX12_bits 167 = .ok (.iaload, 1) := dk_46 (dk_at dksX12_bits_7 19 rfl rfl)
theorem dX12_bits_168 : decode cX12_bits 168 = .ok (.iconst 1, 1) := dk_4 (dk_at dksX12_bits_7 20 rfl rfl)
theorem dX12_bits_169 : decode cX12_bits 169 = .ok (.iload_n 2, 1) := dk_28 (dk_at dksX12_bits_7 21 rfl rfl)
theorem dX12_bits_170 : decode cX12_bits 170 = .ok (.ishl, 1) := dk_120 (dk_at dksX12_bits_7 22 rfl rfl)
theorem dX12_bits_171 : decode cX12_bits 171 = .ok (.ior, 1) := dk_128 (dk_at dksX12_bits_7 23 rfl rfl)
theorem dX12_bits_172 : decode cX12_bits 172 = .ok (.goto 15, 3) := dk_167 0 15 (dk_at dksX12_bits_8 0 rfl rfl)
theorem dX12_bits_175 : decode cX12_bits 175 = .ok (.aload_n 0, 1) := dk_42 (dk_at dksX12_bits_8 3 rfl rfl)
theorem dX12_bits_176 : decode cX12_bits 176 = .ok (.getfield 16, 3) := dk_180 0 16 (dk_at dksX12_bits_8 4 rfl rfl)
theorem dX12_bits_179 : decode cX12_bits 179 = .ok (.iload_n 3, 1) := dk_29 (dk_at dksX12_bits_8 7 rfl rfl)
theorem dX12_bits_180 : decode cX12_bits 180 = .ok (.iaload, 1) := dk_46 (dk_at dksX12_bits_8 8 rfl rfl)
theorem dX12_bits_181 : decode cX12_bits 181 = .ok (.iconst 1, 1) := dk_4 (dk_at dksX12_bits_8 9 rfl rfl)
theorem dX12_bits_182 : decode cX12_bits 182 = .ok (.iload_n 2, 1) := dk_28 (dk_at dksX12_bits_8 10 rfl rfl)
theorem dX12_bits_183 : decode cX12_bits 183 = .ok (.ishl, 1) := dk_120 (dk_at dksX12_bits_8 11 rfl rfl)
theorem dX12_bits_184 : decode cX12_bits 184 = .ok (.iconst (-1), 1) := dk_2 (dk_at dksX12_bits_8 12 rfl rfl)
theorem dX12_bits_185 : decode cX12_bits 185 = .ok (.ixor, 1) := dk_130 (dk_at dksX12_bits_8 13 rfl rfl)
theorem dX12_bits_186 : decode cX12_bits 186 = .ok (.iand, 1) := dk_126 (dk_at dksX12_bits_8 14 rfl rfl)
theorem dX12_bits_187 : decode cX12_bits 187 = .ok (.iastore, 1) := dk_79 (dk_at dksX12_bits_8 15 rfl rfl)
theorem dX12_bits_188 : decode cX12_bits 188 = .ok (.iconst 1, 1) := dk_4 (dk_at dksX12_bits_8 16 rfl rfl)
theorem dX12_bits_189 : decode cX12_bits 189 = .ok (.ireturn, 1) := dk_172 (dk_at dksX12_bits_8 17 rfl rfl)
theorem dX12_bits_190 : decode cX12_bits 190 = .ok (.aload_n 0, 1) := dk_42 (dk_at dksX12_bits_8 18 rfl rfl)
theorem dX12_bits_191 : decode cX12_bits 191 = .ok (.bipush 6, 2) := dk_16 6 (dk_at dksX12_bits_8 19 rfl rfl)
theorem dX12_bits_193 : decode cX12_bits 193 = .ok (.iload 4, 2) := dk_21 4 (dk_at dksX12_bits_8 21 rfl rfl)
theorem dX12_bits_195 : decode cX12_bits 195 = .ok (.invokevirtual 172, 3) := dk_182 0 172 (dk_at dksX12_bits_9 0 rfl rfl)
theorem dX12_bits_198 : decode cX12_bits 198 = .ok (.iconst 1, 1) := dk_4 (dk_at dksX12_bits_9 3 rfl rfl)
theorem dX12_bits_199 : decode cX12_bits 199 = .ok (.ireturn, 1) := dk_172 (dk_at dksX12_bits_9 4 rfl rfl)
theorem dX12_bits_200 : decode cX12_bits 200 = .ok (.iload 4, 2) := dk_21 4 (dk_at dksX12_bits_9 5 rfl rfl)
theorem dX12_bits_202 : decode cX12_bits 202 = .ok (.iload_n 1, 1) := dk_27 (dk_at dksX12_bits_9 7 rfl rfl)
theorem dX12_bits_203 : decode cX12_bits 203 = .ok (.bipush 9, 2) := dk_16 9 (dk_at dksX12_bits_9 8 rfl rfl)
theorem dX12_bits_205 : decode cX12_bits 205 = .ok (.ishr, 1) := dk_122 (dk_at dksX12_bits_9 10 rfl rfl)
theorem dX12_bits_206 : decode cX12_bits 206 = .ok (.iconst 1, 1) := dk_4 (dk_at dksX12_bits_9 11 rfl rfl)
theorem dX12_bits_207 : decode cX12_bits 207 = .ok (.iand, 1) := dk_126 (dk_at dksX12_bits_9 12 rfl rfl)
theorem dX12_bits_208 : decode cX12_bits 208 = .ok (.iconst 1, 1) := dk_4 (dk_at dksX12_bits_9 13 rfl rfl)
theorem dX12_bits_209 : decode cX12_bits 209 = .ok (.if_icmp .ne 7, 3) := dk_160 0 7 (dk_at dksX12_bits_9 14 rfl rfl)
theorem dX12_bits_212 : decode cX12_bits 212 = .ok (.iconst 1, 1) := dk_4 (dk_at dksX12_bits_9 17 rfl rfl)
theorem dX12_bits_213 : decode cX12_bits 213 = .ok (.goto 4, 3) := dk_167 0 4 (dk_at dksX12_bits_9 18 rfl rfl)
theorem dX12_bits_216 : decode cX12_bits 216 = .ok (.iconst 0, 1) := dk_3 (dk_at dksX12_bits_9 21 rfl rfl)
theorem dX12_bits_217 : decode cX12_bits 217 = .ok (.if_icmp .ne 12, 3) := dk_160 0 12 (dk_at dksX12_bits_10 0 rfl rfl)
theorem dX12_bits_220 : decode cX12_bits 220 = .ok (.iconst 1, 1) := dk_4 (dk_at dksX12_bits_10 3 rfl rfl)
theorem dX12_bits_221 : decode cX12_bits 221 = .ok (.aload_n 0, 1) := dk_42 (dk_at dksX12_bits_10 4 rfl rfl)
theorem dX12_bits_222 : decode cX12_bits 222 = .ok (.invokevirtual 299, 3) := dk_182 1 43 (dk_at dksX12_bits_10 5 rfl rfl)
theorem dX12_bits_225 : decode cX12_bits 225 = .ok (.iadd, 1) := dk_96 (dk_at dksX12_bits_10 8 rfl rfl)
theorem dX12_bits_226 : decode cX12_bits 226 = .ok (.goto 4, 3) := dk_167 0 4 (dk_at dksX12_bits_10 9 rfl rfl)
theorem dX12_bits_229 : decode cX12_bits 229 = .ok (.iconst 1, 1) := dk_4 (dk_at dksX12_bits_10 12 rfl rfl)
theorem dX12_bits_230 : decode cX12_bits 230 = .ok (.ireturn, 1) := dk_172 (dk_at dksX12_bits_10 13 rfl rfl)
abbrev cX12_relative : ByteArray := prog_13_method_52_code
def yX12_relative : MethodName := ⟨RX12, "relative", "(I)I"⟩
def dkwX12_relative_2 : List UInt8 := [167, 0, 4, 5, 172]
abbrev dktX12_relative_2 : List UInt8 := dkwX12_relative_2 ++ []
def dkwX12_relative_1 : List UInt8 := [42, 180, 0, 77, 28, 96, 17, 7, 255, 126, 181, 0, 77, 27, 16, 12, 122, 16, 13, 160, 0, 7, 6]
abbrev dktX12_relative_1 : List UInt8 := dkwX12_relative_1 ++ dktX12_relative_2
def dkwX12_relative_0 : List UInt8 := [27, 17, 15, 255, 126, 61, 27, 16, 12, 122, 16, 13, 160, 0, 11, 42, 42, 180, 0, 77, 182, 0, 169, 42]
abbrev dktX12_relative_0 : List UInt8 := dkwX12_relative_0 ++ dktX12_relative_1
theorem dksX12_relative_0 : cX12_relative.data.toList.drop 0 = dktX12_relative_0 := by decide +kernel
theorem dksX12_relative_1 : cX12_relative.data.toList.drop 24 = dktX12_relative_1 := dk_seg dksX12_relative_0 24 rfl rfl
theorem dksX12_relative_2 : cX12_relative.data.toList.drop 47 = dktX12_relative_2 := dk_seg dksX12_relative_1 23 rfl rfl
theorem dX12_relative_0 : decode cX12_relative 0 = .ok (.iload_n 1, 1) := dk_27 (dk_at dksX12_relative_0 0 rfl rfl)
theorem dX12_relative_1 : decode cX12_relative 1 = .ok (.sipush 4095, 3) := dk_17 15 255 (dk_at dksX12_relative_0 1 rfl rfl)
theorem dX12_relative_4 : decode cX12_relative 4 = .ok (.iand, 1) := dk_126 (dk_at dksX12_relative_0 4 rfl rfl)
theorem dX12_relative_5 : decode cX12_relative 5 = .ok (.istore_n 2, 1) := dk_61 (dk_at dksX12_relative_0 5 rfl rfl)
theorem dX12_relative_6 : decode cX12_relative 6 = .ok (.iload_n 1, 1) := dk_27 (dk_at dksX12_relative_0 6 rfl rfl)
theorem dX12_relative_7 : decode cX12_relative 7 = .ok (.bipush 12, 2) := dk_16 12 (dk_at dksX12_relative_0 7 rfl rfl)
theorem dX12_relative_9 : decode cX12_relative 9 = .ok (.ishr, 1) := dk_122 (dk_at dksX12_relative_0 9 rfl rfl)
theorem dX12_relative_10 : decode cX12_relative 10 = .ok (.bipush 13, 2) := dk_16 13 (dk_at dksX12_relative_0 10 rfl rfl)
theorem dX12_relative_12 : decode cX12_relative 12 = .ok (.if_icmp .ne 11, 3) := dk_160 0 11 (dk_at dksX12_relative_0 12 rfl rfl)
theorem dX12_relative_15 : decode cX12_relative 15 = .ok (.aload_n 0, 1) := dk_42 (dk_at dksX12_relative_0 15 rfl rfl)
theorem dX12_relative_16 : decode cX12_relative 16 = .ok (.aload_n 0, 1) := dk_42 (dk_at dksX12_relative_0 16 rfl rfl)
theorem dX12_relative_17 : decode cX12_relative 17 = .ok (.getfield 77, 3) := dk_180 0 77 (dk_at dksX12_relative_0 17 rfl rfl)
theorem dX12_relative_20 : decode cX12_relative 20 = .ok (.invokevirtual 169, 3) := dk_182 0 169 (dk_at dksX12_relative_0 20 rfl rfl)
theorem dX12_relative_23 : decode cX12_relative 23 = .ok (.aload_n 0, 1) := dk_42 (dk_at dksX12_relative_0 23 rfl rfl)
theorem dX12_relative_24 : decode cX12_relative 24 = .ok (.aload_n 0, 1) := dk_42 (dk_at dksX12_relative_1 0 rfl rfl)
theorem dX12_relative_25 : decode cX12_relative 25 = .ok (.getfield 77, 3) := dk_180 0 77 (dk_at dksX12_relative_1 1 rfl rfl)
theorem dX12_relative_28 : decode cX12_relative 28 = .ok (.iload_n 2, 1) := dk_28 (dk_at dksX12_relative_1 4 rfl rfl)
theorem dX12_relative_29 : decode cX12_relative 29 = .ok (.iadd, 1) := dk_96 (dk_at dksX12_relative_1 5 rfl rfl)
theorem dX12_relative_30 : decode cX12_relative 30 = .ok (.sipush 2047, 3) := dk_17 7 255 (dk_at dksX12_relative_1 6 rfl rfl)
theorem dX12_relative_33 : decode cX12_relative 33 = .ok (.iand, 1) := dk_126 (dk_at dksX12_relative_1 9 rfl rfl)
theorem dX12_relative_34 : decode cX12_relative 34 = .ok (.putfield 77, 3) := dk_181 0 77 (dk_at dksX12_relative_1 10 rfl rfl)
theorem dX12_relative_37 : decode cX12_relative 37 = .ok (.iload_n 1, 1) := dk_27 (dk_at dksX12_relative_1 13 rfl rfl)
theorem dX12_relative_38 : decode cX12_relative 38 = .ok (.bipush 12, 2) := dk_16 12 (dk_at dksX12_relative_1 14 rfl rfl)
theorem dX12_relative_40 : decode cX12_relative 40 = .ok (.ishr, 1) := dk_122 (dk_at dksX12_relative_1 16 rfl rfl)
theorem dX12_relative_41 : decode cX12_relative 41 = .ok (.bipush 13, 2) := dk_16 13 (dk_at dksX12_relative_1 17 rfl rfl)
theorem dX12_relative_43 : decode cX12_relative 43 = .ok (.if_icmp .ne 7, 3) := dk_160 0 7 (dk_at dksX12_relative_1 19 rfl rfl)
theorem dX12_relative_46 : decode cX12_relative 46 = .ok (.iconst 3, 1) := dk_6 (dk_at dksX12_relative_1 22 rfl rfl)
theorem dX12_relative_47 : decode cX12_relative 47 = .ok (.goto 4, 3) := dk_167 0 4 (dk_at dksX12_relative_2 0 rfl rfl)
theorem dX12_relative_50 : decode cX12_relative 50 = .ok (.iconst 2, 1) := dk_5 (dk_at dksX12_relative_2 3 rfl rfl)
theorem dX12_relative_51 : decode cX12_relative 51 = .ok (.ireturn, 1) := dk_172 (dk_at dksX12_relative_2 4 rfl rfl)
abbrev cX12_passes : ByteArray := prog_13_method_21_code
def yX12_passes : MethodName := ⟨RX12, "passes", "()Z"⟩
def dkwX12_passes_2 : List UInt8 := [180, 0, 16, 16, 63, 92, 46, 17, 0, 253, 126, 79, 42, 182, 0, 191, 172]
abbrev dktX12_passes_2 : List UInt8 := dkwX12_passes_2 ++ []
def dkwX12_passes_1 : List UInt8 := [180, 0, 95, 158, 0, 33, 42, 89, 180, 0, 95, 4, 100, 181, 0, 95, 42, 180, 0, 95, 154, 0, 16, 42]
abbrev dktX12_passes_1 : List UInt8 := dkwX12_passes_1 ++ dktX12_passes_2
def dkwX12_passes_0 : List UInt8 := [42, 89, 180, 0, 179, 4, 96, 181, 0, 179, 42, 182, 0, 182, 42, 182, 0, 185, 42, 182, 0, 188, 42]
abbrev dktX12_passes_0 : List UInt8 := dkwX12_passes_0 ++ dktX12_passes_1
theorem dksX12_passes_0 : cX12_passes.data.toList.drop 0 = dktX12_passes_0 := by decide +kernel
theorem dksX12_passes_1 : cX12_passes.data.toList.drop 23 = dktX12_passes_1 := dk_seg dksX12_passes_0 23 rfl rfl
theorem dksX12_passes_2 : cX12_passes.data.toList.drop 47 = dktX12_passes_2 := dk_seg dksX12_passes_1 24 rfl rfl
theorem dX12_passes_0 : decode cX12_passes 0 = .ok (.aload_n 0, 1) := dk_42 (dk_at dksX12_passes_0 0 rfl rfl)
theorem dX12_passes_1 : decode cX12_passes 1 = .ok (.dup, 1) := dk_89 (dk_at dksX12_passes_0 1 rfl rfl)
theorem dX12_passes_2 : decode cX12_passes 2 = .ok (.getfield 179, 3) := dk_180 0 179 (dk_at dksX12_passes_0 2 rfl rfl)
theorem dX12_passes_5 : decode cX12_passes 5 = .ok (.iconst 1, 1) := dk_4 (dk_at dksX12_passes_0 5 rfl rfl)
theorem dX12_passes_6 : decode cX12_passes 6 = .ok (.iadd, 1) := dk_96 (dk_at dksX12_passes_0 6 rfl rfl)
theorem dX12_passes_7 : decode cX12_passes 7 = .ok (.putfield 179, 3) := dk_181 0 179 (dk_at dksX12_passes_0 7 rfl rfl)
theorem dX12_passes_10 : decode cX12_passes 10 = .ok (.aload_n 0, 1) := dk_42 (dk_at dksX12_passes_0 10 rfl rfl)
theorem dX12_passes_11 : decode cX12_passes 11 = .ok (.invokevirtual 182, 3) := dk_182 0 182 (dk_at dksX12_passes_0 11 rfl rfl)
theorem dX12_passes_14 : decode cX12_passes 14 = .ok (.aload_n 0, 1) := dk_42 (dk_at dksX12_passes_0 14 rfl rfl)
theorem dX12_passes_15 : decode cX12_passes 15 = .ok (.invokevirtual 185, 3) := dk_182 0 185 (dk_at dksX12_passes_0 15 rfl rfl)
theorem dX12_passes_18 : decode cX12_passes 18 = .ok (.aload_n 0, 1) := dk_42 (dk_at dksX12_passes_0 18 rfl rfl)
theorem dX12_passes_19 : decode cX12_passes 19 = .ok (.invokevirtual 188, 3) := dk_182 0 188 (dk_at dksX12_passes_0 19 rfl rfl)
theorem dX12_passes_22 : decode cX12_passes 22 = .ok (.aload_n 0, 1) := dk_42 (dk_at dksX12_passes_0 22 rfl rfl)
theorem dX12_passes_23 : decode cX12_passes 23 = .ok (.getfield 95, 3) := dk_180 0 95 (dk_at dksX12_passes_1 0 rfl rfl)
theorem dX12_passes_26 : decode cX12_passes 26 = .ok (.ifCond .le 33, 3) := dk_158 0 33 (dk_at dksX12_passes_1 3 rfl rfl)
theorem dX12_passes_29 : decode cX12_passes 29 = .ok (.aload_n 0, 1) := dk_42 (dk_at dksX12_passes_1 6 rfl rfl)
theorem dX12_passes_30 : decode cX12_passes 30 = .ok (.dup, 1) := dk_89 (dk_at dksX12_passes_1 7 rfl rfl)
theorem dX12_passes_31 : decode cX12_passes 31 = .ok (.getfield 95, 3) := dk_180 0 95 (dk_at dksX12_passes_1 8 rfl rfl)
theorem dX12_passes_34 : decode cX12_passes 34 = .ok (.iconst 1, 1) := dk_4 (dk_at dksX12_passes_1 11 rfl rfl)
theorem dX12_passes_35 : decode cX12_passes 35 = .ok (.isub, 1) := dk_100 (dk_at dksX12_passes_1 12 rfl rfl)
theorem dX12_passes_36 : decode cX12_passes 36 = .ok (.putfield 95, 3) := dk_181 0 95 (dk_at dksX12_passes_1 13 rfl rfl)
theorem dX12_passes_39 : decode cX12_passes 39 = .ok (.aload_n 0, 1) := dk_42 (dk_at dksX12_passes_1 16 rfl rfl)
theorem dX12_passes_40 : decode cX12_passes 40 = .ok (.getfield 95, 3) := dk_180 0 95 (dk_at dksX12_passes_1 17 rfl rfl)
theorem dX12_passes_43 : decode cX12_passes 43 = .ok (.ifCond .ne 16, 3) := dk_154 0 16 (dk_at dksX12_passes_1 20 rfl rfl)
theorem dX12_passes_46 : decode cX12_passes 46 = .ok (.aload_n 0, 1) := dk_42 (dk_at dksX12_passes_1 23 rfl rfl)
theorem dX12_passes_47 : decode cX12_passes 47 = .ok (.getfield 16, 3) := dk_180 0 16 (dk_at dksX12_passes_2 0 rfl rfl)
theorem dX12_passes_50 : decode cX12_passes 50 = .ok (.bipush 63, 2) := dk_16 63 (dk_at dksX12_passes_2 3 rfl rfl)
theorem dX12_passes_52 : decode cX12_passes 52 = .ok (.dup2, 1) := dk_92 (dk_at dksX12_passes_2 5 rfl rfl)
theorem dX12_passes_53 : decode cX12_passes 53 = .ok (.iaload, 1) := dk_46 (dk_at dksX12_passes_2 6 rfl rfl)
theorem dX12_passes_54 : decode cX12_passes 54 = .ok (.sipush 253, 3) := dk_17 0 253 (dk_at dksX12_passes_2 7 rfl rfl)
theorem dX12_passes_57 : decode cX12_passes 57 = .ok (.iand, 1) := dk_126 (dk_at dksX12_passes_2 10 rfl rfl)
theorem dX12_passes_58 : decode cX12_passes 58 = .ok (.iastore, 1) := dk_79 (dk_at dksX12_passes_2 11 rfl rfl)
theorem dX12_passes_59 : decode cX12_passes 59 = .ok (.aload_n 0, 1) := dk_42 (dk_at dksX12_passes_2 12 rfl rfl)
theorem dX12_passes_60 : decode cX12_passes 60 = .ok (.invokevirtual 191, 3) := dk_182 0 191 (dk_at dksX12_passes_2 13 rfl rfl)
theorem dX12_passes_63 : decode cX12_passes 63 = .ok (.ireturn, 1) := dk_172 (dk_at dksX12_passes_2 16 rfl rfl)
abbrev cX12_windows : ByteArray := prog_13_method_22_code
def yX12_windows : MethodName := ⟨RX12, "windows", "()V"⟩
def dkwX12_windows_7 : List UInt8 := [181, 0, 86, 42, 180, 0, 86, 154, 0, 16, 42, 180, 0, 16, 16, 87, 92, 46, 17, 0, 224, 126, 79, 177]
abbrev dktX12_windows_7 : List UInt8 := dkwX12_windows_7 ++ []
def dkwX12_windows_6 : List UInt8 := [16, 63, 92, 46, 17, 0, 251, 126, 79, 42, 180, 0, 86, 158, 0, 33, 42, 89, 180, 0, 86, 4, 100]
abbrev dktX12_windows_6 : List UInt8 := dkwX12_windows_6 ++ dktX12_windows_7
def dkwX12_windows_5 : List UInt8 := [158, 0, 33, 42, 89, 180, 0, 107, 4, 100, 181, 0, 107, 42, 180, 0, 107, 154, 0, 16, 42, 180, 0, 16]
abbrev dktX12_windows_5 : List UInt8 := dkwX12_windows_5 ++ dktX12_windows_6
def dkwX12_windows_4 : List UInt8 := [180, 0, 104, 154, 0, 16, 42, 180, 0, 16, 16, 85, 92, 46, 17, 0, 254, 126, 79, 42, 180, 0, 107]
abbrev dktX12_windows_4 : List UInt8 := dkwX12_windows_4 ++ dktX12_windows_5
def dkwX12_windows_3 : List UInt8 := [17, 0, 239, 126, 79, 42, 180, 0, 104, 158, 0, 33, 42, 89, 180, 0, 104, 4, 100, 181, 0, 104, 42]
abbrev dktX12_windows_3 : List UInt8 := dkwX12_windows_3 ++ dktX12_windows_4
def dkwX12_windows_2 : List UInt8 := [180, 0, 101, 4, 100, 181, 0, 101, 42, 180, 0, 101, 154, 0, 16, 42, 180, 0, 16, 16, 96, 92, 46]
abbrev dktX12_windows_2 : List UInt8 := dkwX12_windows_2 ++ dktX12_windows_3
def dkwX12_windows_1 : List UInt8 := [42, 180, 0, 16, 16, 87, 92, 46, 17, 0, 224, 126, 79, 42, 180, 0, 101, 158, 0, 33, 42, 89]
abbrev dktX12_windows_1 : List UInt8 := dkwX12_windows_1 ++ dktX12_windows_2
def dkwX12_windows_0 : List UInt8 := [42, 180, 0, 98, 158, 0, 33, 42, 89, 180, 0, 98, 4, 100, 181, 0, 98, 42, 180, 0, 98, 154, 0, 16]
abbrev dktX12_windows_0 : List UInt8 := dkwX12_windows_0 ++ dktX12_windows_1
theorem dksX12_windows_0 : cX12_windows.data.toList.drop 0 = dktX12_windows_0 := by decide +kernel
theorem dksX12_windows_1 : cX12_windows.data.toList.drop 24 = dktX12_windows_1 := dk_seg dksX12_windows_0 24 rfl rfl
theorem dksX12_windows_2 : cX12_windows.data.toList.drop 46 = dktX12_windows_2 := dk_seg dksX12_windows_1 22 rfl rfl
theorem dksX12_windows_3 : cX12_windows.data.toList.drop 69 = dktX12_windows_3 := dk_seg dksX12_windows_2 23 rfl rfl
theorem dksX12_windows_4 : cX12_windows.data.toList.drop 92 = dktX12_windows_4 := dk_seg dksX12_windows_3 23 rfl rfl
theorem dksX12_windows_5 : cX12_windows.data.toList.drop 115 = dktX12_windows_5 := dk_seg dksX12_windows_4 23 rfl rfl
theorem dksX12_windows_6 : cX12_windows.data.toList.drop 139 = dktX12_windows_6 := dk_seg dksX12_windows_5 24 rfl rfl
theorem dksX12_windows_7 : cX12_windows.data.toList.drop 162 = dktX12_windows_7 := dk_seg dksX12_windows_6 23 rfl rfl
theorem dX12_windows_0 : decode cX12_windows 0 = .ok (.aload_n 0, 1) := dk_42 (dk_at dksX12_windows_0 0 rfl rfl)
theorem dX12_windows_1 : decode cX12_windows 1 = .ok (.getfield 98, 3) := dk_180 0 98 (dk_at dksX12_windows_0 1 rfl rfl)
theorem dX12_windows_4 : decode cX12_windows 4 = .ok (.ifCond .le 33, 3) := dk_158 0 33 (dk_at dksX12_windows_0 4 rfl rfl)
theorem dX12_windows_7 : decode cX12_windows 7 = .ok (.aload_n 0, 1) := dk_42 (dk_at dksX12_windows_0 7 rfl rfl)
theorem dX12_windows_8 : decode cX12_windows 8 = .ok (.dup, 1) := dk_89 (dk_at dksX12_windows_0 8 rfl rfl)
theorem dX12_windows_9 : decode cX12_windows 9 = .ok (.getfield 98, 3) := dk_180 0 98 (dk_at dksX12_windows_0 9 rfl rfl)
theorem dX12_windows_12 : decode cX12_windows 12 = .ok (.iconst 1, 1) := dk_4 (dk_at dksX12_windows_0 12 rfl rfl)
theorem dX12_windows_13 : decode cX12_windows 13 = .ok (.isub, 1) := dk_100 (dk_at dksX12_windows_0 13 rfl rfl)
theorem dX12_windows_14 : decode cX12_windows 14 = .ok (.putfield 98, 3) := dk_181 0 98 (dk_at dksX12_windows_0 14 rfl rfl)
theorem dX12_windows_17 : decode cX12_windows 17 = .ok (.aload_n 0, 1) := dk_42 (dk_at dksX12_windows_0 17 rfl rfl)
theorem dX12_windows_18 : decode cX12_windows 18 = .ok (.getfield 98, 3) := dk_180 0 98 (dk_at dksX12_windows_0 18 rfl rfl)
theorem dX12_windows_21 : decode cX12_windows 21 = .ok (.ifCond .ne 16, 3) := dk_154 0 16 (dk_at dksX12_windows_0 21 rfl rfl)
theorem dX12_windows_24 : decode cX12_windows 24 = .ok (.aload_n 0, 1) := dk_42 (dk_at dksX12_windows_1 0 rfl rfl)
theorem dX12_windows_25 : decode cX12_windows 25 = .ok (.getfield 16, 3) := dk_180 0 16 (dk_at dksX12_windows_1 1 rfl rfl)
theorem dX12_windows_28 : decode cX12_windows 28 = .ok (.bipush 87, 2) := dk_16 87 (dk_at dksX12_windows_1 4 rfl rfl)
theorem dX12_windows_30 : decode cX12_windows 30 = .ok (.dup2, 1) := dk_92 (dk_at dksX12_windows_1 6 rfl rfl)
theorem dX12_windows_31 : decode cX12_windows 31 = .ok (.iaload, 1) := dk_46 (dk_at dksX12_windows_1 7 rfl rfl)
theorem dX12_windows_32 : decode cX12_windows 32 = .ok (.sipush 224, 3) := dk_17 0 224 (dk_at dksX12_windows_1 8 rfl rfl)
theorem dX12_windows_35 : decode cX12_windows 35 = .ok (.iand, 1) := dk_126 (dk_at dksX12_windows_1 11 rfl rfl)
theorem dX12_windows_36 : decode cX12_windows 36 = .ok (.iastore, 1) := dk_79 (dk_at dksX12_windows_1 12 rfl rfl)
theorem dX12_windows_37 : decode cX12_windows 37 = .ok (.aload_n 0, 1) := dk_42 (dk_at dksX12_windows_1 13 rfl rfl)
theorem dX12_windows_38 : decode cX12_windows 38 = .ok (.getfield 101, 3) := dk_180 0 101 (dk_at dksX12_windows_1 14 rfl rfl)
theorem dX12_windows_41 : decode cX12_windows 41 = .ok (.ifCond .le 33, 3) := dk_158 0 33 (dk_at dksX12_windows_1 17 rfl rfl)
theorem dX12_windows_44 : decode cX12_windows 44 = .ok (.aload_n 0, 1) := dk_42 (dk_at dksX12_windows_1 20 rfl rfl)
theorem dX12_windows_45 : decode cX12_windows 45 = .ok (.dup, 1) := dk_89 (dk_at dksX12_windows_1 21 rfl rfl)
theorem dX12_windows_46 : decode cX12_windows 46 = .ok (.getfield 101, 3) := dk_180 0 101 (dk_at dksX12_windows_2 0 rfl rfl)
theorem dX12_windows_49 : decode cX12_windows 49 = .ok (.iconst 1, 1) := dk_4 (dk_at dksX12_windows_2 3 rfl rfl)
theorem dX12_windows_50 : decode cX12_windows 50 = .ok (.isub, 1) := dk_100 (dk_at dksX12_windows_2 4 rfl rfl)
theorem dX12_windows_51 : decode cX12_windows 51 = .ok (.putfield 101, 3) := dk_181 0 101 (dk_at dksX12_windows_2 5 rfl rfl)
theorem dX12_windows_54 : decode cX12_windows 54 = .ok (.aload_n 0, 1) := dk_42 (dk_at dksX12_windows_2 8 rfl rfl)
theorem dX12_windows_55 : decode cX12_windows 55 = .ok (.getfield 101, 3) := dk_180 0 101 (dk_at dksX12_windows_2 9 rfl rfl)
theorem dX12_windows_58 : decode cX12_windows 58 = .ok (.ifCond .ne 16, 3) := dk_154 0 16 (dk_at dksX12_windows_2 12 rfl rfl)
theorem dX12_windows_61 : decode cX12_windows 61 = .ok (.aload_n 0, 1) := dk_42 (dk_at dksX12_windows_2 15 rfl rfl)
theorem dX12_windows_62 : decode cX12_windows 62 = .ok (.getfield 16, 3) := dk_180 0 16 (dk_at dksX12_windows_2 16 rfl rfl)
theorem dX12_windows_65 : decode cX12_windows 65 = .ok (.bipush 96, 2) := dk_16 96 (dk_at dksX12_windows_2 19 rfl rfl)
theorem dX12_windows_67 : decode cX12_windows 67 = .ok (.dup2, 1) := dk_92 (dk_at dksX12_windows_2 21 rfl rfl)
theorem dX12_windows_68 : decode cX12_windows 68 = .ok (.iaload, 1) := dk_46 (dk_at dksX12_windows_2 22 rfl rfl)
theorem dX12_windows_69 : decode cX12_windows 69 = .ok (.sipush 239, 3) := dk_17 0 239 (dk_at dksX12_windows_3 0 rfl rfl)
theorem dX12_windows_72 : decode cX12_windows 72 = .ok (.iand, 1) := dk_126 (dk_at dksX12_windows_3 3 rfl rfl)
theorem dX12_windows_73 : decode cX12_windows 73 = .ok (.iastore, 1) := dk_79 (dk_at dksX12_windows_3 4 rfl rfl)
theorem dX12_windows_74 : decode cX12_windows 74 = .ok (.aload_n 0, 1) := dk_42 (dk_at dksX12_windows_3 5 rfl rfl)
theorem dX12_windows_75 : decode cX12_windows 75 = .ok (.getfield 104, 3) := dk_180 0 104 (dk_at dksX12_windows_3 6 rfl rfl)
theorem dX12_windows_78 : decode cX12_windows 78 = .ok (.ifCond .le 33, 3) := dk_158 0 33 (dk_at dksX12_windows_3 9 rfl rfl)
theorem dX12_windows_81 : decode cX12_windows 81 = .ok (.aload_n 0, 1) := dk_42 (dk_at dksX12_windows_3 12 rfl rfl)
theorem dX12_windows_82 : decode cX12_windows 82 = .ok (.dup, 1) := dk_89 (dk_at dksX12_windows_3 13 rfl rfl)
theorem dX12_windows_83 : decode cX12_windows 83 = .ok (.getfield 104, 3) := dk_180 0 104 (dk_at dksX12_windows_3 14 rfl rfl)
theorem dX12_windows_86 : decode cX12_windows 86 = .ok (.iconst 1, 1) := dk_4 (dk_at dksX12_windows_3 17 rfl rfl)
theorem dX12_windows_87 : decode cX12_windows 87 = .ok (.isub, 1) := dk_100 (dk_at dksX12_windows_3 18 rfl rfl)
theorem dX12_windows_88 : decode cX12_windows 88 = .ok (.putfield 104, 3) := dk_181 0 104 (dk_at dksX12_windows_3 19 rfl rfl)
theorem dX12_windows_91 : decode cX12_windows 91 = .ok (.aload_n 0, 1) := dk_42 (dk_at dksX12_windows_3 22 rfl rfl)
theorem dX12_windows_92 : decode cX12_windows 92 = .ok (.getfield 104, 3) := dk_180 0 104 (dk_at dksX12_windows_4 0 rfl rfl)
theorem dX12_windows_95 : decode cX12_windows 95 = .ok (.ifCond .ne 16, 3) := dk_154 0 16 (dk_at dksX12_windows_4 3 rfl rfl)
theorem dX12_windows_98 : decode cX12_windows 98 = .ok (.aload_n 0, 1) := dk_42 (dk_at dksX12_windows_4 6 rfl rfl)
theorem dX12_windows_99 : decode cX12_windows 99 = .ok (.getfield 16, 3) := dk_180 0 16 (dk_at dksX12_windows_4 7 rfl rfl)
theorem dX12_windows_102 : decode cX12_windows 102 = .ok (.bipush 85, 2) := dk_16 85 (dk_at dksX12_windows_4 10 rfl rfl)
theorem dX12_windows_104 : decode cX12_windows 104 = .ok (.dup2, 1) := dk_92 (dk_at dksX12_windows_4 12 rfl rfl)
theorem dX12_windows_105 : decode cX12_windows 105 = .ok (.iaload, 1) := dk_46 (dk_at dksX12_windows_4 13 rfl rfl)
theorem dX12_windows_106 : decode cX12_windows 106 = .ok (.sipush 254, 3) := dk_17 0 254 (dk_at dksX12_windows_4 14 rfl rfl)
theorem dX12_windows_109 : decode cX12_windows 109 = .ok (.iand, 1) := dk_126 (dk_at dksX12_windows_4 17 rfl rfl)
theorem dX12_windows_110 : decode cX12_windows 110 = .ok (.iastore, 1) := dk_79 (dk_at dksX12_windows_4 18 rfl rfl)
theorem dX12_windows_111 : decode cX12_windows 111 = .ok (.aload_n 0, 1) := dk_42 (dk_at dksX12_windows_4 19 rfl rfl)
theorem dX12_windows_112 : decode cX12_windows 112 = .ok (.getfield 107, 3) := dk_180 0 107 (dk_at dksX12_windows_4 20 rfl rfl)
theorem dX12_windows_115 : decode cX12_windows 115 = .ok (.ifCond .le 33, 3) := dk_158 0 33 (dk_at dksX12_windows_5 0 rfl rfl)
theorem dX12_windows_118 : decode cX12_windows 118 = .ok (.aload_n 0, 1) := dk_42 (dk_at dksX12_windows_5 3 rfl rfl)
theorem dX12_windows_119 : decode cX12_windows 119 = .ok (.dup, 1) := dk_89 (dk_at dksX12_windows_5 4 rfl rfl)
theorem dX12_windows_120 : decode cX12_windows 120 = .ok (.getfield 107, 3) := dk_180 0 107 (dk_at dksX12_windows_5 5 rfl rfl)
theorem dX12_windows_123 : decode cX12_windows 123 = .ok (.iconst 1, 1) := dk_4 (dk_at dksX12_windows_5 8 rfl rfl)
theorem dX12_windows_124 : decode cX12_windows 124 = .ok (.isub, 1) := dk_100 (dk_at dksX12_windows_5 9 rfl rfl)
theorem dX12_windows_125 : decode cX12_windows 125 = .ok (.putfield 107, 3) := dk_181 0 107 (dk_at dksX12_windows_5 10 rfl rfl)
theorem dX12_windows_128 : decode cX12_windows 128 = .ok (.aload_n 0, 1) := dk_42 (dk_at dksX12_windows_5 13 rfl rfl)
theorem dX12_windows_129 : decode cX12_windows 129 = .ok (.getfield 107, 3) := dk_180 0 107 (dk_at dksX12_windows_5 14 rfl rfl)
theorem dX12_windows_132 : decode cX12_windows 132 = .ok (.ifCond .ne 16, 3) := dk_154 0 16 (dk_at dksX12_windows_5 17 rfl rfl)
theorem dX12_windows_135 : decode cX12_windows 135 = .ok (.aload_n 0, 1) := dk_42 (dk_at dksX12_windows_5 20 rfl rfl)
theorem dX12_windows_136 : decode cX12_windows 136 = .ok (.getfield 16, 3) := dk_180 0 16 (dk_at dksX12_windows_5 21 rfl rfl)
theorem dX12_windows_139 : decode cX12_windows 139 = .ok (.bipush 63, 2) := dk_16 63 (dk_at dksX12_windows_6 0 rfl rfl)
theorem dX12_windows_141 : decode cX12_windows 141 = .ok (.dup2, 1) := dk_92 (dk_at dksX12_windows_6 2 rfl rfl)
theorem dX12_windows_142 : decode cX12_windows 142 = .ok (.iaload, 1) := dk_46 (dk_at dksX12_windows_6 3 rfl rfl)
theorem dX12_windows_143 : decode cX12_windows 143 = .ok (.sipush 251, 3) := dk_17 0 251 (dk_at dksX12_windows_6 4 rfl rfl)
theorem dX12_windows_146 : decode cX12_windows 146 = .ok (.iand, 1) := dk_126 (dk_at dksX12_windows_6 7 rfl rfl)
theorem dX12_windows_147 : decode cX12_windows 147 = .ok (.iastore, 1) := dk_79 (dk_at dksX12_windows_6 8 rfl rfl)
theorem dX12_windows_148 : decode cX12_windows 148 = .ok (.aload_n 0, 1) := dk_42 (dk_at dksX12_windows_6 9 rfl rfl)
theorem dX12_windows_149 : decode cX12_windows 149 = .ok (.getfield 86, 3) := dk_180 0 86 (dk_at dksX12_windows_6 10 rfl rfl)
theorem dX12_windows_152 : decode cX12_windows 152 = .ok (.ifCond .le 33, 3) := dk_158 0 33 (dk_at dksX12_windows_6 13 rfl rfl)
theorem dX12_windows_155 : decode cX12_windows 155 = .ok (.aload_n 0, 1) := dk_42 (dk_at dksX12_windows_6 16 rfl rfl)
theorem dX12_windows_156 : decode cX12_windows 156 = .ok (.dup, 1) := dk_89 (dk_at dksX12_windows_6 17 rfl rfl)
theorem dX12_windows_157 : decode cX12_windows 157 = .ok (.getfield 86, 3) := dk_180 0 86 (dk_at dksX12_windows_6 18 rfl rfl)
theorem dX12_windows_160 : decode cX12_windows 160 = .ok (.iconst 1, 1) := dk_4 (dk_at dksX12_windows_6 21 rfl rfl)
theorem dX12_windows_161 : decode cX12_windows 161 = .ok (.isub, 1) := dk_100 (dk_at dksX12_windows_6 22 rfl rfl)
theorem dX12_windows_162 : decode cX12_windows 162 = .ok (.putfield 86, 3) := dk_181 0 86 (dk_at dksX12_windows_7 0 rfl rfl)
theorem dX12_windows_165 : decode cX12_windows 165 = .ok (.aload_n 0, 1) := dk_42 (dk_at dksX12_windows_7 3 rfl rfl)
theorem dX12_windows_166 : decode cX12_windows 166 = .ok (.getfield 86, 3) := dk_180 0 86 (dk_at dksX12_windows_7 4 rfl rfl)
theorem dX12_windows_169 : decode cX12_windows 169 = .ok (.ifCond .ne 16, 3) := dk_154 0 16 (dk_at dksX12_windows_7 7 rfl rfl)
theorem dX12_windows_172 : decode cX12_windows 172 = .ok (.aload_n 0, 1) := dk_42 (dk_at dksX12_windows_7 10 rfl rfl)
theorem dX12_windows_173 : decode cX12_windows 173 = .ok (.getfield 16, 3) := dk_180 0 16 (dk_at dksX12_windows_7 11 rfl rfl)
theorem dX12_windows_176 : decode cX12_windows 176 = .ok (.bipush 87, 2) := dk_16 87 (dk_at dksX12_windows_7 14 rfl rfl)
theorem dX12_windows_178 : decode cX12_windows 178 = .ok (.dup2, 1) := dk_92 (dk_at dksX12_windows_7 16 rfl rfl)
theorem dX12_windows_179 : decode cX12_windows 179 = .ok (.iaload, 1) := dk_46 (dk_at dksX12_windows_7 17 rfl rfl)
theorem dX12_windows_180 : decode cX12_windows 180 = .ok (.sipush 224, 3) := dk_17 0 224 (dk_at dksX12_windows_7 18 rfl rfl)
theorem dX12_windows_183 : decode cX12_windows 183 = .ok (.iand, 1) := dk_126 (dk_at dksX12_windows_7 21 rfl rfl)
theorem dX12_windows_184 : decode cX12_windows 184 = .ok (.iastore, 1) := dk_79 (dk_at dksX12_windows_7 22 rfl rfl)
theorem dX12_windows_185 : decode cX12_windows 185 = .ok (.return_, 1) := dk_177 (dk_at dksX12_windows_7 23 rfl rfl)
abbrev cX12_timer : ByteArray := prog_13_method_23_code
def yX12_timer : MethodName := ⟨RX12, "timer", "()V"⟩
def dkwX12_timer_8 : List UInt8 := [42, 180, 0, 16, 16, 71, 46, 160, 0, 14, 42, 180, 0, 16, 16, 53, 92, 46, 5, 128, 79, 177]
abbrev dktX12_timer_8 : List UInt8 := dkwX12_timer_8 ++ []
def dkwX12_timer_7 : List UInt8 := [16, 70, 46, 154, 0, 14, 42, 180, 0, 16, 16, 53, 92, 46, 4, 128, 79, 42, 180, 0, 16, 16, 70, 46]
abbrev dktX12_timer_7 : List UInt8 := dkwX12_timer_7 ++ dktX12_timer_8
def dkwX12_timer_6 : List UInt8 := [180, 0, 16, 16, 70, 42, 180, 0, 16, 16, 70, 46, 4, 96, 17, 0, 255, 126, 79, 42, 180, 0, 16]
abbrev dktX12_timer_6 : List UInt8 := dkwX12_timer_6 ++ dktX12_timer_7
def dkwX12_timer_5 : List UInt8 := [46, 42, 180, 0, 16, 16, 71, 46, 160, 0, 14, 42, 180, 0, 16, 16, 70, 3, 79, 167, 0, 44, 42]
abbrev dktX12_timer_5 : List UInt8 := dkwX12_timer_5 ++ dktX12_timer_6
def dkwX12_timer_4 : List UInt8 := [61, 28, 154, 0, 4, 177, 42, 180, 0, 16, 16, 68, 46, 5, 126, 153, 0, 31, 42, 180, 0, 16, 16, 70]
abbrev dktX12_timer_4 : List UInt8 := dkwX12_timer_4 ++ dktX12_timer_5
def dkwX12_timer_3 : List UInt8 := [17, 1, 0, 112, 153, 0, 15, 27, 8, 160, 0, 14, 42, 180, 0, 89, 154, 0, 7, 4, 167, 0, 4, 3]
abbrev dktX12_timer_3 : List UInt8 := dkwX12_timer_3 ++ dktX12_timer_4
def dkwX12_timer_2 : List UInt8 := [160, 0, 13, 42, 180, 0, 89, 16, 64, 112, 153, 0, 31, 27, 7, 160, 0, 14, 42, 180, 0, 89]
abbrev dktX12_timer_2 : List UInt8 := dkwX12_timer_2 ++ dktX12_timer_3
def dkwX12_timer_1 : List UInt8 := [60, 27, 4, 159, 0, 61, 27, 5, 160, 0, 13, 42, 180, 0, 89, 16, 8, 112, 153, 0, 46, 27, 6]
abbrev dktX12_timer_1 : List UInt8 := dkwX12_timer_1 ++ dktX12_timer_2
def dkwX12_timer_0 : List UInt8 := [42, 42, 180, 0, 89, 4, 96, 17, 3, 255, 126, 181, 0, 89, 42, 180, 0, 16, 16, 69, 46, 16, 7, 126]
abbrev dktX12_timer_0 : List UInt8 := dkwX12_timer_0 ++ dktX12_timer_1
theorem dksX12_timer_0 : cX12_timer.data.toList.drop 0 = dktX12_timer_0 := by decide +kernel
theorem dksX12_timer_1 : cX12_timer.data.toList.drop 24 = dktX12_timer_1 := dk_seg dksX12_timer_0 24 rfl rfl
theorem dksX12_timer_2 : cX12_timer.data.toList.drop 47 = dktX12_timer_2 := dk_seg dksX12_timer_1 23 rfl rfl
theorem dksX12_timer_3 : cX12_timer.data.toList.drop 69 = dktX12_timer_3 := dk_seg dksX12_timer_2 22 rfl rfl
theorem dksX12_timer_4 : cX12_timer.data.toList.drop 93 = dktX12_timer_4 := dk_seg dksX12_timer_3 24 rfl rfl
theorem dksX12_timer_5 : cX12_timer.data.toList.drop 117 = dktX12_timer_5 := dk_seg dksX12_timer_4 24 rfl rfl
theorem dksX12_timer_6 : cX12_timer.data.toList.drop 140 = dktX12_timer_6 := dk_seg dksX12_timer_5 23 rfl rfl
theorem dksX12_timer_7 : cX12_timer.data.toList.drop 163 = dktX12_timer_7 := dk_seg dksX12_timer_6 23 rfl rfl
theorem dksX12_timer_8 : cX12_timer.data.toList.drop 187 = dktX12_timer_8 := dk_seg dksX12_timer_7 24 rfl rfl
theorem dX12_timer_0 : decode cX12_timer 0 = .ok (.aload_n 0, 1) := dk_42 (dk_at dksX12_timer_0 0 rfl rfl)
theorem dX12_timer_1 : decode cX12_timer 1 = .ok (.aload_n 0, 1) := dk_42 (dk_at dksX12_timer_0 1 rfl rfl)
theorem dX12_timer_2 : decode cX12_timer 2 = .ok (.getfield 89, 3) := dk_180 0 89 (dk_at dksX12_timer_0 2 rfl rfl)
theorem dX12_timer_5 : decode cX12_timer 5 = .ok (.iconst 1, 1) := dk_4 (dk_at dksX12_timer_0 5 rfl rfl)
theorem dX12_timer_6 : decode cX12_timer 6 = .ok (.iadd, 1) := dk_96 (dk_at dksX12_timer_0 6 rfl rfl)
theorem dX12_timer_7 : decode cX12_timer 7 = .ok (.sipush 1023, 3) := dk_17 3 255 (dk_at dksX12_timer_0 7 rfl rfl)
theorem dX12_timer_10 : decode cX12_timer 10 = .ok (.iand, 1) := dk_126 (dk_at dksX12_timer_0 10 rfl rfl)
theorem dX12_timer_11 : decode cX12_timer 11 = .ok (.putfield 89, 3) := dk_181 0 89 (dk_at dksX12_timer_0 11 rfl rfl)
theorem dX12_timer_14 : decode cX12_timer 14 = .ok (.aload_n 0, 1) := dk_42 (dk_at dksX12_timer_0 14 rfl rfl)
theorem dX12_timer_15 : decode cX12_timer 15 = .ok (.getfield 16, 3) := dk_180 0 16 (dk_at dksX12_timer_0 15 rfl rfl)
theorem dX12_timer_18 : decode cX12_timer 18 = .ok (.bipush 69, 2) := dk_16 69 (dk_at dksX12_timer_0 18 rfl rfl)
theorem dX12_timer_20 : decode cX12_timer 20 = .ok (.iaload, 1) := dk_46 (dk_at dksX12_timer_0 20 rfl rfl)
theorem dX12_timer_21 : decode cX12_timer 21 = .ok (.bipush 7, 2) := dk_16 7 (dk_at dksX12_timer_0 21 rfl rfl)
theorem dX12_timer_23 : decode cX12_timer 23 = .ok (.iand, 1) := dk_126 (dk_at dksX12_timer_0 23 rfl rfl)
theorem dX12_timer_24 : decode cX12_timer 24 = .ok (.istore_n 1, 1) := dk_60 (dk_at dksX12_timer_1 0 rfl rfl)
theorem dX12_timer_25 : decode cX12_timer 25 = .ok (.iload_n 1, 1) := dk_27 (dk_at dksX12_timer_1 1 rfl rfl)
theorem dX12_timer_26 : decode cX12_timer 26 = .ok (.iconst 1, 1) := dk_4 (dk_at dksX12_timer_1 2 rfl rfl)
theorem dX12_timer_27 : decode cX12_timer 27 = .ok (.if_icmp .eq 61, 3) := dk_159 0 61 (dk_at dksX12_timer_1 3 rfl rfl)
theorem dX12_timer_30 : decode cX12_timer 30 = .ok (.iload_n 1, 1) := dk_27 (dk_at dksX12_timer_1 6 rfl rfl)
theorem dX12_timer_31 : decode cX12_timer 31 = .ok (.iconst 2, 1) := dk_5 (dk_at dksX12_timer_1 7 rfl rfl)
theorem dX12_timer_32 : decode cX12_timer 32 = .ok (.if_icmp .ne 13, 3) := dk_160 0 13 (dk_at dksX12_timer_1 8 rfl rfl)
theorem dX12_timer_35 : decode cX12_timer 35 = .ok (.aload_n 0, 1) := dk_42 (dk_at dksX12_timer_1 11 rfl rfl)
theorem dX12_timer_36 : decode cX12_timer 36 = .ok (.getfield 89, 3) := dk_180 0 89 (dk_at dksX12_timer_1 12 rfl rfl)
theorem dX12_timer_39 : decode cX12_timer 39 = .ok (.bipush 8, 2) := dk_16 8 (dk_at dksX12_timer_1 15 rfl rfl)
theorem dX12_timer_41 : decode cX12_timer 41 = .ok (.irem, 1) := dk_112 (dk_at dksX12_timer_1 17 rfl rfl)
theorem dX12_timer_42 : decode cX12_timer 42 = .ok (.ifCond .eq 46, 3) := dk_153 0 46 (dk_at dksX12_timer_1 18 rfl rfl)
theorem dX12_timer_45 : decode cX12_timer 45 = .ok (.iload_n 1, 1) := dk_27 (dk_at dksX12_timer_1 21 rfl rfl)
theorem dX12_timer_46 : decode cX12_timer 46 = .ok (.iconst 3, 1) := dk_6 (dk_at dksX12_timer_1 22 rfl rfl)
theorem dX12_timer_47 : decode cX12_timer 47 = .ok (.if_icmp .ne 13, 3) := dk_160 0 13 (dk_at dksX12_timer_2 0 rfl rfl)
theorem dX12_timer_50 : decode cX12_timer 50 = .ok (.aload_n 0, 1) := dk_42 (dk_at dksX12_timer_2 3 rfl rfl)
theorem dX12_timer_51 : decode cX12_timer 51 = .ok (.getfield 89, 3) := dk_180 0 89 (dk_at dksX12_timer_2 4 rfl rfl)
theorem dX12_timer_54 : decode cX12_timer 54 = .ok (.bipush 64, 2) := dk_16 64 (dk_at dksX12_timer_2 7 rfl rfl)
theorem dX12_timer_56 : decode cX12_timer 56 = .ok (.irem, 1) := dk_112 (dk_at dksX12_timer_2 9 rfl rfl)
theorem dX12_timer_57 : decode cX12_timer 57 = .ok (.ifCond .eq 31, 3) := dk_153 0 31 (dk_at dksX12_timer_2 10 rfl rfl)
theorem dX12_timer_60 : decode cX12_timer 60 = .ok (.iload_n 1, 1) := dk_27 (dk_at dksX12_timer_2 13 rfl rfl)
theorem dX12_timer_61 : decode cX12_timer 61 = .ok (.iconst 4, 1) := dk_7 (dk_at dksX12_timer_2 14 rfl rfl)
theorem dX12_timer_62 : decode cX12_timer 62 = .ok (.if_icmp .ne 14, 3) := dk_160 0 14 (dk_at dksX12_timer_2 15 rfl rfl)
theorem dX12_timer_65 : decode cX12_timer 65 = .ok (.aload_n 0, 1) := dk_42 (dk_at dksX12_timer_2 18 rfl rfl)
theorem dX12_timer_66 : decode cX12_timer 66 = .ok (.getfield 89, 3) := dk_180 0 89 (dk_at dksX12_timer_2 19 rfl rfl)
theorem dX12_timer_69 : decode cX12_timer 69 = .ok (.sipush 256, 3) := dk_17 1 0 (dk_at dksX12_timer_3 0 rfl rfl)
theorem dX12_timer_72 : decode cX12_timer 72 = .ok (.irem, 1) := dk_112 (dk_at dksX12_timer_3 3 rfl rfl)
theorem dX12_timer_73 : decode cX12_timer 73 = .ok (.ifCond .eq 15, 3) := dk_153 0 15 (dk_at dksX12_timer_3 4 rfl rfl)
theorem dX12_timer_76 : decode cX12_timer 76 = .ok (.iload_n 1, 1) := dk_27 (dk_at dksX12_timer_3 7 rfl rfl)
theorem dX12_timer_77 : decode cX12_timer 77 = .ok (.iconst 5, 1) := dk_8 (dk_at dksX12_timer_3 8 rfl rfl)
theorem dX12_timer_78 : decode cX12_timer 78 = .ok (.if_icmp .ne 14, 3) := dk_160 0 14 (dk_at dksX12_timer_3 9 rfl rfl)
theorem dX12_timer_81 : decode cX12_timer 81 = .ok (.aload_n 0, 1) := dk_42 (dk_at dksX12_timer_3 12 rfl rfl)
theorem dX12_timer_82 : decode cX12_timer 82 = .ok (.getfield 89, 3) := dk_180 0 89 (dk_at dksX12_timer_3 13 rfl rfl)
theorem dX12_timer_85 : decode cX12_timer 85 = .ok (.ifCond .ne 7, 3) := dk_154 0 7 (dk_at dksX12_timer_3 16 rfl rfl)
theorem dX12_timer_88 : decode cX12_timer 88 = .ok (.iconst 1, 1) := dk_4 (dk_at dksX12_timer_3 19 rfl rfl)
theorem dX12_timer_89 : decode cX12_timer 89 = .ok (.goto 4, 3) := dk_167 0 4 (dk_at dksX12_timer_3 20 rfl rfl)
theorem dX12_timer_92 : decode cX12_timer 92 = .ok (.iconst 0, 1) := dk_3 (dk_at dksX12_timer_3 23 rfl rfl)
theorem dX12_timer_93 : decode cX12_timer 93 = .ok (.istore_n 2, 1) := dk_61 (dk_at dksX12_timer_4 0 rfl rfl)
theorem dX12_timer_94 : decode cX12_timer 94 = .ok (.iload_n 2, 1) := dk_28 (dk_at dksX12_timer_4 1 rfl rfl)
theorem dX12_timer_95 : decode cX12_timer 95 = .ok (.ifCond .ne 4, 3) := dk_154 0 4 (dk_at dksX12_timer_4 2 rfl rfl)
theorem dX12_timer_98 : decode cX12_timer 98 = .ok (.return_, 1) := dk_177 (dk_at dksX12_timer_4 5 rfl rfl)
theorem dX12_timer_99 : decode cX12_timer 99 = .ok (.aload_n 0, 1) := dk_42 (dk_at dksX12_timer_4 6 rfl rfl)
theorem dX12_timer_100 : decode cX12_timer 100 = .ok (.getfield 16, 3) := dk_180 0 16 (dk_at dksX12_timer_4 7 rfl rfl)
theorem dX12_timer_103 : decode cX12_timer 103 = .ok (.bipush 68, 2) := dk_16 68 (dk_at dksX12_timer_4 10 rfl rfl)
theorem dX12_timer_105 : decode cX12_timer 105 = .ok (.iaload, 1) := dk_46 (dk_at dksX12_timer_4 12 rfl rfl)
theorem dX12_timer_106 : decode cX12_timer 106 = .ok (.iconst 2, 1) := dk_5 (dk_at dksX12_timer_4 13 rfl rfl)
theorem dX12_timer_107 : decode cX12_timer 107 = .ok (.iand, 1) := dk_126 (dk_at dksX12_timer_4 14 rfl rfl)
theorem dX12_timer_108 : decode cX12_timer 108 = .ok (.ifCond .eq 31, 3) := dk_153 0 31 (dk_at dksX12_timer_4 15 rfl rfl)
theorem dX12_timer_111 : decode cX12_timer 111 = .ok (.aload_n 0, 1) := dk_42 (dk_at dksX12_timer_4 18 rfl rfl)
theorem dX12_timer_112 : decode cX12_timer 112 = .ok (.getfield 16, 3) := dk_180 0 16 (dk_at dksX12_timer_4 19 rfl rfl)
theorem dX12_timer_115 : decode cX12_timer 115 = .ok (.bipush 70, 2) := dk_16 70 (dk_at dksX12_timer_4 22 rfl rfl)
theorem dX12_timer_117 : decode cX12_timer 117 = .ok (.iaload, 1) := dk_46 (dk_at dksX12_timer_5 0 rfl rfl)
theorem dX12_timer_118 : decode cX12_timer 118 = .ok (.aload_n 0, 1) := dk_42 (dk_at dksX12_timer_5 1 rfl rfl)
theorem dX12_timer_119 : decode cX12_timer 119 = .ok (.getfield 16, 3) := dk_180 0 16 (dk_at dksX12_timer_5 2 rfl rfl)
theorem dX12_timer_122 : decode cX12_timer 122 = .ok (.bipush 71, 2) := dk_16 71 (dk_at dksX12_timer_5 5 rfl rfl)
theorem dX12_timer_124 : decode cX12_timer 124 = .ok (.iaload, 1) := dk_46 (dk_at dksX12_timer_5 7 rfl rfl)
theorem dX12_timer_125 : decode cX12_timer 125 = .ok (.if_icmp .ne 14, 3) := dk_160 0 14 (dk_at dksX12_timer_5 8 rfl rfl)
theorem dX12_timer_128 : decode cX12_timer 128 = .ok (.aload_n 0, 1) := dk_42 (dk_at dksX12_timer_5 11 rfl rfl)
theorem dX12_timer_129 : decode cX12_timer 129 = .ok (.getfield 16, 3) := dk_180 0 16 (dk_at dksX12_timer_5 12 rfl rfl)
theorem dX12_timer_132 : decode cX12_timer 132 = .ok (.bipush 70, 2) := dk_16 70 (dk_at dksX12_timer_5 15 rfl rfl)
theorem dX12_timer_134 : decode cX12_timer 134 = .ok (.iconst 0, 1) := dk_3 (dk_at dksX12_timer_5 17 rfl rfl)
theorem dX12_timer_135 : decode cX12_timer 135 = .ok (.iastore, 1) := dk_79 (dk_at dksX12_timer_5 18 rfl rfl)
theorem dX12_timer_136 : decode cX12_timer 136 = .ok (.goto 44, 3) := dk_167 0 44 (dk_at dksX12_timer_5 19 rfl rfl)
theorem dX12_timer_139 : decode cX12_timer 139 = .ok (.aload_n 0, 1) := dk_42 (dk_at dksX12_timer_5 22 rfl rfl)
theorem dX12_timer_140 : decode cX12_timer 140 = .ok (.getfield 16, 3) := dk_180 0 16 (dk_at dksX12_timer_6 0 rfl rfl)
theorem dX12_timer_143 : decode cX12_timer 143 = .ok (.bipush 70, 2) := dk_16 70 (dk_at dksX12_timer_6 3 rfl rfl)
theorem dX12_timer_145 : decode cX12_timer 145 = .ok (.aload_n 0, 1) := dk_42 (dk_at dksX12_timer_6 5 rfl rfl)
theorem dX12_timer_146 : decode cX12_timer 146 = .ok (.getfield 16, 3) := dk_180 0 16 (dk_at dksX12_timer_6 6 rfl rfl)
theorem dX12_timer_149 : decode cX12_timer 149 = .ok (.bipush 70, 2) := dk_16 70 (dk_at dksX12_timer_6 9 rfl rfl)
theorem dX12_timer_151 : decode cX12_timer 151 = .ok (.iaload, 1) := dk_46 (dk_at dksX12_timer_6 11 rfl rfl)
theorem dX12_timer_152 : decode cX12_timer 152 = .ok (.iconst 1, 1) := dk_4 (dk_at dksX12_timer_6 12 rfl rfl)
theorem dX12_timer_153 : decode cX12_timer 153 = .ok (.iadd, 1) := dk_96 (dk_at dksX12_timer_6 13 rfl rfl)
theorem dX12_timer_154 : decode cX12_timer 154 = .ok (.sipush 255, 3) := dk_17 0 255 (dk_at dksX12_timer_6 14 rfl rfl)
theorem dX12_timer_157 : decode cX12_timer 157 = .ok (.iand, 1) := dk_126 (dk_at dksX12_timer_6 17 rfl rfl)
theorem dX12_timer_158 : decode cX12_timer 158 = .ok (.iastore, 1) := dk_79 (dk_at dksX12_timer_6 18 rfl rfl)
theorem dX12_timer_159 : decode cX12_timer 159 = .ok (.aload_n 0, 1) := dk_42 (dk_at dksX12_timer_6 19 rfl rfl)
theorem dX12_timer_160 : decode cX12_timer 160 = .ok (.getfield 16, 3) := dk_180 0 16 (dk_at dksX12_timer_6 20 rfl rfl)
theorem dX12_timer_163 : decode cX12_timer 163 = .ok (.bipush 70, 2) := dk_16 70 (dk_at dksX12_timer_7 0 rfl rfl)
theorem dX12_timer_165 : decode cX12_timer 165 = .ok (.iaload, 1) := dk_46 (dk_at dksX12_timer_7 2 rfl rfl)
theorem dX12_timer_166 : decode cX12_timer 166 = .ok (.ifCond .ne 14, 3) := dk_154 0 14 (dk_at dksX12_timer_7 3 rfl rfl)
theorem dX12_timer_169 : decode cX12_timer 169 = .ok (.aload_n 0, 1) := dk_42 (dk_at dksX12_timer_7 6 rfl rfl)
theorem dX12_timer_170 : decode cX12_timer 170 = .ok (.getfield 16, 3) := dk_180 0 16 (dk_at dksX12_timer_7 7 rfl rfl)
theorem dX12_timer_173 : decode cX12_timer 173 = .ok (.bipush 53, 2) := dk_16 53 (dk_at dksX12_timer_7 10 rfl rfl)
theorem dX12_timer_175 : decode cX12_timer 175 = .ok (.dup2, 1) := dk_92 (dk_at dksX12_timer_7 12 rfl rfl)
theorem dX12_timer_176 : decode cX12_timer 176 = .ok (.iaload, 1) := dk_46 (dk_at dksX12_timer_7 13 rfl rfl)
theorem dX12_timer_177 : decode cX12_timer 177 = .ok (.iconst 1, 1) := dk_4 (dk_at dksX12_timer_7 14 rfl rfl)
theorem dX12_timer_178 : decode cX12_timer 178 = .ok (.ior, 1) := dk_128 (dk_at dksX12_timer_7 15 rfl rfl)
theorem dX12_timer_179 : decode cX12_timer 179 = .ok (.iastore, 1) := dk_79 (dk_at dksX12_timer_7 16 rfl rfl)
theorem dX12_timer_180 : decode cX12_timer 180 = .ok (.aload_n 0, 1) := dk_42 (dk_at dksX12_timer_7 17 rfl rfl)
theorem dX12_timer_181 : decode cX12_timer 181 = .ok (.getfield 16, 3) := dk_180 0 16 (dk_at dksX12_timer_7 18 rfl rfl)
theorem dX12_timer_184 : decode cX12_timer 184 = .ok (.bipush 70, 2) := dk_16 70 (dk_at dksX12_timer_7 21 rfl rfl)
theorem dX12_timer_186 : decode cX12_timer 186 = .ok (.iaload, 1) := dk_46 (dk_at dksX12_timer_7 23 rfl rfl)
theorem dX12_timer_187 : decode cX12_timer 187 = .ok (.aload_n 0, 1) := dk_42 (dk_at dksX12_timer_8 0 rfl rfl)
theorem dX12_timer_188 : decode cX12_timer 188 = .ok (.getfield 16, 3) := dk_180 0 16 (dk_at dksX12_timer_8 1 rfl rfl)
theorem dX12_timer_191 : decode cX12_timer 191 = .ok (.bipush 71, 2) := dk_16 71 (dk_at dksX12_timer_8 4 rfl rfl)
theorem dX12_timer_193 : decode cX12_timer 193 = .ok (.iaload, 1) := dk_46 (dk_at dksX12_timer_8 6 rfl rfl)
theorem dX12_timer_194 : decode cX12_timer 194 = .ok (.if_icmp .ne 14, 3) := dk_160 0 14 (dk_at dksX12_timer_8 7 rfl rfl)
theorem dX12_timer_197 : decode cX12_timer 197 = .ok (.aload_n 0, 1) := dk_42 (dk_at dksX12_timer_8 10 rfl rfl)
theorem dX12_timer_198 : decode cX12_timer 198 = .ok (.getfield 16, 3) := dk_180 0 16 (dk_at dksX12_timer_8 11 rfl rfl)
theorem dX12_timer_201 : decode cX12_timer 201 = .ok (.bipush 53, 2) := dk_16 53 (dk_at dksX12_timer_8 14 rfl rfl)
theorem dX12_timer_203 : decode cX12_timer 203 = .ok (.dup2, 1) := dk_92 (dk_at dksX12_timer_8 16 rfl rfl)
theorem dX12_timer_204 : decode cX12_timer 204 = .ok (.iaload, 1) := dk_46 (dk_at dksX12_timer_8 17 rfl rfl)
theorem dX12_timer_205 : decode cX12_timer 205 = .ok (.iconst 2, 1) := dk_5 (dk_at dksX12_timer_8 18 rfl rfl)
theorem dX12_timer_206 : decode cX12_timer 206 = .ok (.ior, 1) := dk_128 (dk_at dksX12_timer_8 19 rfl rfl)
theorem dX12_timer_207 : decode cX12_timer 207 = .ok (.iastore, 1) := dk_79 (dk_at dksX12_timer_8 20 rfl rfl)
theorem dX12_timer_208 : decode cX12_timer 208 = .ok (.return_, 1) := dk_177 (dk_at dksX12_timer_8 21 rfl rfl)
abbrev cX12_line : ByteArray := prog_13_method_25_code
def yX12_line : MethodName := ⟨RX12, "line", "()V"⟩
def dkwX12_line_12 : List UInt8 := [181, 0, 138, 42, 89, 180, 0, 119, 4, 96, 181, 0, 119, 42, 182, 0, 141, 177]
abbrev dktX12_line_12 : List UInt8 := dkwX12_line_12 ++ []
def dkwX12_line_11 : List UInt8 := [180, 0, 119, 154, 0, 14, 42, 42, 180, 0, 207, 181, 0, 128, 167, 0, 11, 42, 42, 180, 0, 207]
abbrev dktX12_line_11 : List UInt8 := dkwX12_line_11 ++ dktX12_line_12
def dkwX12_line_10 : List UInt8 := [177, 42, 180, 0, 119, 5, 160, 0, 17, 42, 180, 0, 16, 17, 0, 192, 92, 46, 16, 8, 128, 79, 177, 42]
abbrev dktX12_line_10 : List UInt8 := dkwX12_line_10 ++ dktX12_line_11
def dkwX12_line_9 : List UInt8 := [181, 0, 116, 42, 180, 0, 116, 157, 0, 17, 42, 180, 0, 16, 17, 0, 193, 46, 16, 16, 126, 154, 0, 4]
abbrev dktX12_line_9 : List UInt8 := dkwX12_line_9 ++ dktX12_line_10
def dkwX12_line_8 : List UInt8 := [132, 1, 1, 167, 255, 231, 42, 42, 182, 0, 198, 181, 0, 116, 177, 42, 89, 180, 0, 116, 4, 100]
abbrev dktX12_line_8 : List UInt8 := dkwX12_line_8 ++ dktX12_line_9
def dkwX12_line_7 : List UInt8 := [60, 27, 42, 180, 0, 204, 162, 0, 23, 42, 180, 0, 37, 27, 42, 180, 0, 37, 27, 4, 96, 46, 79]
abbrev dktX12_line_7 : List UInt8 := dkwX12_line_7 ++ dktX12_line_8
def dkwX12_line_6 : List UInt8 := [158, 0, 61, 42, 42, 180, 0, 37, 3, 46, 181, 0, 207, 42, 89, 180, 0, 204, 4, 100, 181, 0, 204, 3]
abbrev dktX12_line_6 : List UInt8 := dkwX12_line_6 ++ dktX12_line_7
def dkwX12_line_5 : List UInt8 := [180, 0, 16, 17, 0, 192, 92, 46, 16, 64, 128, 79, 42, 180, 0, 116, 154, 0, 69, 42, 180, 0, 204]
abbrev dktX12_line_5 : List UInt8 := dkwX12_line_5 ++ dktX12_line_6
def dkwX12_line_4 : List UInt8 := [42, 180, 0, 195, 79, 42, 89, 180, 0, 201, 4, 96, 181, 0, 201, 42, 180, 0, 110, 2, 160, 0, 16, 42]
abbrev dktX12_line_4 : List UInt8 := dkwX12_line_4 ++ dktX12_line_5
def dkwX12_line_3 : List UInt8 := [180, 0, 113, 154, 0, 57, 42, 180, 0, 201, 17, 3, 232, 162, 0, 16, 42, 180, 0, 40, 42, 180, 0, 201]
abbrev dktX12_line_3 : List UInt8 := dkwX12_line_3 ++ dktX12_line_4
def dkwX12_line_2 : List UInt8 := [79, 167, 0, 81, 42, 180, 0, 113, 158, 0, 74, 42, 89, 180, 0, 113, 4, 100, 181, 0, 113, 42]
abbrev dktX12_line_2 : List UInt8 := dkwX12_line_2 ++ dktX12_line_3
def dkwX12_line_1 : List UInt8 := [2, 181, 0, 110, 42, 42, 182, 0, 198, 181, 0, 113, 42, 180, 0, 16, 17, 0, 192, 92, 46, 16, 32, 128]
abbrev dktX12_line_1 : List UInt8 := dkwX12_line_1 ++ dktX12_line_2
def dkwX12_line_0 : List UInt8 := [42, 180, 0, 113, 154, 0, 48, 42, 180, 0, 110, 2, 159, 0, 40, 42, 42, 180, 0, 110, 181, 0, 195, 42]
abbrev dktX12_line_0 : List UInt8 := dkwX12_line_0 ++ dktX12_line_1
theorem dksX12_line_0 : cX12_line.data.toList.drop 0 = dktX12_line_0 := by decide +kernel
theorem dksX12_line_1 : cX12_line.data.toList.drop 24 = dktX12_line_1 := dk_seg dksX12_line_0 24 rfl rfl
theorem dksX12_line_2 : cX12_line.data.toList.drop 48 = dktX12_line_2 := dk_seg dksX12_line_1 24 rfl rfl
theorem dksX12_line_3 : cX12_line.data.toList.drop 70 = dktX12_line_3 := dk_seg dksX12_line_2 22 rfl rfl
theorem dksX12_line_4 : cX12_line.data.toList.drop 94 = dktX12_line_4 := dk_seg dksX12_line_3 24 rfl rfl
theorem dksX12_line_5 : cX12_line.data.toList.drop 118 = dktX12_line_5 := dk_seg dksX12_line_4 24 rfl rfl
theorem dksX12_line_6 : cX12_line.data.toList.drop 141 = dktX12_line_6 := dk_seg dksX12_line_5 23 rfl rfl
theorem dksX12_line_7 : cX12_line.data.toList.drop 165 = dktX12_line_7 := dk_seg dksX12_line_6 24 rfl rfl
theorem dksX12_line_8 : cX12_line.data.toList.drop 188 = dktX12_line_8 := dk_seg dksX12_line_7 23 rfl rfl
theorem dksX12_line_9 : cX12_line.data.toList.drop 210 = dktX12_line_9 := dk_seg dksX12_line_8 22 rfl rfl
theorem dksX12_line_10 : cX12_line.data.toList.drop 234 = dktX12_line_10 := dk_seg dksX12_line_9 24 rfl rfl
theorem dksX12_line_11 : cX12_line.data.toList.drop 258 = dktX12_line_11 := dk_seg dksX12_line_10 24 rfl rfl
theorem dksX12_line_12 : cX12_line.data.toList.drop 280 = dktX12_line_12 := dk_seg dksX12_line_11 22 rfl rfl
theorem dX12_line_0 : decode cX12_line 0 = .ok (.aload_n 0, 1) := dk_42 (dk_at dksX12_line_0 0 rfl rfl)
theorem dX12_line_1 : decode cX12_line 1 = .ok (.getfield 113, 3) := dk_180 0 113 (dk_at dksX12_line_0 1 rfl rfl)
theorem dX12_line_4 : decode cX12_line 4 = .ok (.ifCond .ne 48, 3) := dk_154 0 48 (dk_at dksX12_line_0 4 rfl rfl)
theorem dX12_line_7 : decode cX12_line 7 = .ok (.aload_n 0, 1) := dk_42 (dk_at dksX12_line_0 7 rfl rfl)
theorem dX12_line_8 : decode cX12_line 8 = .ok (.getfield 110, 3) := dk_180 0 110 (dk_at dksX12_line_0 8 rfl rfl)
theorem dX12_line_11 : decode cX12_line 11 = .ok (.iconst (-1), 1) := dk_2 (dk_at dksX12_line_0 11 rfl rfl)
theorem dX12_line_12 : decode cX12_line 12 = .ok (.if_icmp .eq 40, 3) := dk_159 0 40 (dk_at dksX12_line_0 12 rfl rfl)
theorem dX12_line_15 : decode cX12_line 15 = .ok (.aload_n 0, 1) := dk_42 (dk_at dksX12_line_0 15 rfl rfl)
theorem dX12_line_16 : decode cX12_line 16 = .ok (.aload_n 0, 1) := dk_42 (dk_at dksX12_line_0 16 rfl rfl)
theorem dX12_line_17 : decode cX12_line 17 = .ok (.getfield 110, 3) := dk_180 0 110 (dk_at dksX12_line_0 17 rfl rfl)
theorem dX12_line_20 : decode cX12_line 20 = .ok (.putfield 195, 3) := dk_181 0 195 (dk_at dksX12_line_0 20 rfl rfl)
theorem dX12_line_23 : decode cX12_line 23 = .ok (.aload_n 0, 1) := dk_42 (dk_at dksX12_line_0 23 rfl rfl)
theorem dX12_line_24 : decode cX12_line 24 = .ok (.iconst (-1), 1) := dk_2 (dk_at dksX12_line_1 0 rfl rfl)
theorem dX12_line_25 : decode cX12_line 25 = .ok (.putfield 110, 3) := dk_181 0 110 (dk_at dksX12_line_1 1 rfl rfl)
theorem dX12_line_28 : decode cX12_line 28 = .ok (.aload_n 0, 1) := dk_42 (dk_at dksX12_line_1 4 rfl rfl)
theorem dX12_line_29 : decode cX12_line 29 = .ok (.aload_n 0, 1) := dk_42 (dk_at dksX12_line_1 5 rfl rfl)
theorem dX12_line_30 : decode cX12_line 30 = .ok (.invokevirtual 198, 3) := dk_182 0 198 (dk_at dksX12_line_1 6 rfl rfl)
theorem dX12_line_33 : decode cX12_line 33 = .ok (.putfield 113, 3) := dk_181 0 113 (dk_at dksX12_line_1 9 rfl rfl)
theorem dX12_line_36 : decode cX12_line 36 = .ok (.aload_n 0, 1) := dk_42 (dk_at dksX12_line_1 12 rfl rfl)
theorem dX12_line_37 : decode cX12_line 37 = .ok (.getfield 16, 3) := dk_180 0 16 (dk_at dksX12_line_1 13 rfl rfl)
theorem dX12_line_40 : decode cX12_line 40 = .ok (.sipush 192, 3) := dk_17 0 192 (dk_at dksX12_line_1 16 rfl rfl)
theorem dX12_line_43 : decode cX12_line 43 = .ok (.dup2, 1) := dk_92 (dk_at dksX12_line_1 19 rfl rfl)
theorem dX12_line_44 : decode cX12_line 44 = .ok (.iaload, 1) := dk_46 (dk_at dksX12_line_1 20 rfl rfl)
theorem dX12_line_45 : decode cX12_line 45 = .ok (.bipush 32, 2) := dk_16 32 (dk_at dksX12_line_1 21 rfl rfl)
theorem dX12_line_47 : decode cX12_line 47 = .ok (.ior, 1) := dk_128 (dk_at dksX12_line_1 23 rfl rfl)
theorem dX12_line_48 : decode cX12_line 48 = .ok (.iastore, 1) := dk_79 (dk_at dksX12_line_2 0 rfl rfl)
theorem dX12_line_49 : decode cX12_line 49 = .ok (.goto 81, 3) := dk_167 0 81 (dk_at dksX12_line_2 1 rfl rfl)
theorem dX12_line_52 : decode cX12_line 52 = .ok (.aload_n 0, 1) := dk_42 (dk_at dksX12_line_2 4 rfl rfl)
theorem dX12_line_53 : decode cX12_line 53 = .ok (.getfield 113, 3) := dk_180 0 113 (dk_at dksX12_line_2 5 rfl rfl)
theorem dX12_line_56 : decode cX12_line 56 = .ok (.ifCond .le 74, 3) := dk_158 0 74 (dk_at dksX12_line_2 8 rfl rfl)
theorem dX12_line_59 : decode cX12_line 59 = .ok (.aload_n 0, 1) := dk_42 (dk_at dksX12_line_2 11 rfl rfl)
theorem dX12_line_60 : decode cX12_line 60 = .ok (.dup, 1) := dk_89 (dk_at dksX12_line_2 12 rfl rfl)
theorem dX12_line_61 : decode cX12_line 61 = .ok (.getfield 113, 3) := dk_180 0 113 (dk_at dksX12_line_2 13 rfl rfl)
theorem dX12_line_64 : decode cX12_line 64 = .ok (.iconst 1, 1) := dk_4 (dk_at dksX12_line_2 16 rfl rfl)
theorem dX12_line_65 : decode cX12_line 65 = .ok (.isub, 1) := dk_100 (dk_at dksX12_line_2 17 rfl rfl)
theorem dX12_line_66 : decode cX12_line 66 = .ok (.putfield 113, 3) := dk_181 0 113 (dk_at dksX12_line_2 18 rfl rfl)
theorem dX12_line_69 : decode cX12_line 69 = .ok (.aload_n 0, 1) := dk_42 (dk_at dksX12_line_2 21 rfl rfl)
theorem dX12_line_70 : decode cX12_line 70 = .ok (.getfield 113, 3) := dk_180 0 113 (dk_at dksX12_line_3 0 rfl rfl)
theorem dX12_line_73 : decode cX12_line 73 = .ok (.ifCond .ne 57, 3) := dk_154 0 57 (dk_at dksX12_line_3 3 rfl rfl)
theorem dX12_line_76 : decode cX12_line 76 = .ok (.aload_n 0, 1) := dk_42 (dk_at dksX12_line_3 6 rfl rfl)
theorem dX12_line_77 : decode cX12_line 77 = .ok (.getfield 201, 3) := dk_180 0 201 (dk_at dksX12_line_3 7 rfl rfl)
theorem dX12_line_80 : decode cX12_line 80 = .ok (.sipush 1000, 3) := dk_17 3 232 (dk_at dksX12_line_3 10 rfl rfl)
theorem dX12_line_83 : decode cX12_line 83 = .ok (.if_icmp .ge 16, 3) := dk_162 0 16 (dk_at dksX12_line_3 13 rfl rfl)
theorem dX12_line_86 : decode cX12_line 86 = .ok (.aload_n 0, 1) := dk_42 (dk_at dksX12_line_3 16 rfl rfl)
theorem dX12_line_87 : decode cX12_line 87 = .ok (.getfield 40, 3) := dk_180 0 40 (dk_at dksX12_line_3 17 rfl rfl)
theorem dX12_line_90 : decode cX12_line 90 = .ok (.aload_n 0, 1) := dk_42 (dk_at dksX12_line_3 20 rfl rfl)
theorem dX12_line_91 : decode cX12_line 91 = .ok (.getfield 201, 3) := dk_180 0 201 (dk_at dksX12_line_3 21 rfl rfl)
theorem dX12_line_94 : decode cX12_line 94 = .ok (.aload_n 0, 1) := dk_42 (dk_at dksX12_line_4 0 rfl rfl)
theorem dX12_line_95 : decode cX12_line 95 = .ok (.getfield 195, 3) := dk_180 0 195 (dk_at dksX12_line_4 1 rfl rfl)
theorem dX12_line_98 : decode cX12_line 98 = .ok (.iastore, 1) := dk_79 (dk_at dksX12_line_4 4 rfl rfl)
theorem dX12_line_99 : decode cX12_line 99 = .ok (.aload_n 0, 1) := dk_42 (dk_at dksX12_line_4 5 rfl rfl)
theorem dX12_line_100 : decode cX12_line 100 = .ok (.dup, 1) := dk_89 (dk_at dksX12_line_4 6 rfl rfl)
theorem dX12_line_101 : decode cX12_line 101 = .ok (.getfield 201, 3) := dk_180 0 201 (dk_at dksX12_line_4 7 rfl rfl)
theorem dX12_line_104 : decode cX12_line 104 = .ok (.iconst 1, 1) := dk_4 (dk_at dksX12_line_4 10 rfl rfl)
theorem dX12_line_105 : decode cX12_line 105 = .ok (.iadd, 1) := dk_96 (dk_at dksX12_line_4 11 rfl rfl)
theorem dX12_line_106 : decode cX12_line 106 = .ok (.putfield 201, 3) := dk_181 0 201 (dk_at dksX12_line_4 12 rfl rfl)
theorem dX12_line_109 : decode cX12_line 109 = .ok (.aload_n 0, 1) := dk_42 (dk_at dksX12_line_4 15 rfl rfl)
theorem dX12_line_110 : decode cX12_line 110 = .ok (.getfield 110, 3) := dk_180 0 110 (dk_at dksX12_line_4 16 rfl rfl)
theorem dX12_line_113 : decode cX12_line 113 = .ok (.iconst (-1), 1) := dk_2 (dk_at dksX12_line_4 19 rfl rfl)
theorem dX12_line_114 : decode cX12_line 114 = .ok (.if_icmp .ne 16, 3) := dk_160 0 16 (dk_at dksX12_line_4 20 rfl rfl)
theorem dX12_line_117 : decode cX12_line 117 = .ok (.aload_n 0, 1) := dk_42 (dk_at dksX12_line_4 23 rfl rfl)
theorem dX12_line_118 : decode cX12_line 118 = .ok (.getfield 16, 3) := dk_180 0 16 (dk_at dksX12_line_5 0 rfl rfl)
theorem dX12_line_121 : decode cX12_line 121 = .ok (.sipush 192, 3) := dk_17 0 192 (dk_at dksX12_line_5 3 rfl rfl)
theorem dX12_line_124 : decode cX12_line 124 = .ok (.dup2, 1) := dk_92 (dk_at dksX12_line_5 6 rfl rfl)
theorem dX12_line_125 : decode cX12_line 125 = .ok (.iaload, 1) := dk_46 (dk_at dksX12_line_5 7 rfl rfl)
theorem dX12_line_126 : decode cX12_line 126 = .ok (.bipush 64, 2) := dk_16 64 (dk_at dksX12_line_5 8 rfl rfl)
theorem dX12_line_128 : decode cX12_line 128 = .ok (.ior, 1) := dk_128 (dk_at dksX12_line_5 10 rfl rfl)
theorem dX12_line_129 : decode cX12_line 129 = .ok (.iastore, 1) := dk_79 (dk_at dksX12_line_5 11 rfl rfl)
theorem dX12_line_130 : decode cX12_line 130 = .ok (.aload_n 0, 1) := dk_42 (dk_at dksX12_line_5 12 rfl rfl)
theorem dX12_line_131 : decode cX12_line 131 = .ok (.getfield 116, 3) := dk_180 0 116 (dk_at dksX12_line_5 13 rfl rfl)
theorem dX12_line_134 : decode cX12_line 134 = .ok (.ifCond .ne 69, 3) := dk_154 0 69 (dk_at dksX12_line_5 16 rfl rfl)
theorem dX12_line_137 : decode cX12_line 137 = .ok (.aload_n 0, 1) := dk_42 (dk_at dksX12_line_5 19 rfl rfl)
theorem dX12_line_138 : decode cX12_line 138 = .ok (.getfield 204, 3) := dk_180 0 204 (dk_at dksX12_line_5 20 rfl rfl)
theorem dX12_line_141 : decode cX12_line 141 = .ok (.ifCond .le 61, 3) := dk_158 0 61 (dk_at dksX12_line_6 0 rfl rfl)
theorem dX12_line_144 : decode cX12_line 144 = .ok (.aload_n 0, 1) := dk_42 (dk_at dksX12_line_6 3 rfl rfl)
theorem dX12_line_145 : decode cX12_line 145 = .ok (.aload_n 0, 1) := dk_42 (dk_at dksX12_line_6 4 rfl rfl)
theorem dX12_line_146 : decode cX12_line 146 = .ok (.getfield 37, 3) := dk_180 0 37 (dk_at dksX12_line_6 5 rfl rfl)
theorem dX12_line_149 : decode cX12_line 149 = .ok (.iconst 0, 1) := dk_3 (dk_at dksX12_line_6 8 rfl rfl)
theorem dX12_line_150 : decode cX12_line 150 = .ok (.iaload, 1) := dk_46 (dk_at dksX12_line_6 9 rfl rfl)
theorem dX12_line_151 : decode cX12_line 151 = .ok (.putfield 207, 3) := dk_181 0 207 (dk_at dksX12_line_6 10 rfl rfl)
theorem dX12_line_154 : decode cX12_line 154 = .ok (.aload_n 0, 1) := dk_42 (dk_at dksX12_line_6 13 rfl rfl)
theorem dX12_line_155 : decode cX12_line 155 = .ok (.dup, 1) := dk_89 (dk_at dksX12_line_6 14 rfl rfl)
theorem dX12_line_156 : decode cX12_line 156 = .ok (.getfield 204, 3) := dk_180 0 204 (dk_at dksX12_line_6 15 rfl rfl)
theorem dX12_line_159 : decode cX12_line 159 = .ok (.iconst 1, 1) := dk_4 (dk_at dksX12_line_6 18 rfl rfl)
theorem dX12_line_160 : decode cX12_line 160 = .ok (.isub, 1) := dk_100 (dk_at dksX12_line_6 19 rfl rfl)
theorem dX12_line_161 : decode cX12_line 161 = .ok (.putfield 204, 3) := dk_181 0 204 (dk_at dksX12_line_6 20 rfl rfl)
theorem dX12_line_164 : decode cX12_line 164 = .ok (.iconst 0, 1) := dk_3 (dk_at dksX12_line_6 23 rfl rfl)
theorem dX12_line_165 : decode cX12_line 165 = .ok (.istore_n 1, 1) := dk_60 (dk_at dksX12_line_7 0 rfl rfl)
theorem dX12_line_166 : decode cX12_line 166 = .ok (.iload_n 1, 1) := dk_27 (dk_at dksX12_line_7 1 rfl rfl)
theorem dX12_line_167 : decode cX12_line 167 = .ok (.aload_n 0, 1) := dk_42 (dk_at dksX12_line_7 2 rfl rfl)
theorem dX12_line_168 : decode cX12_line 168 = .ok (.getfield 204, 3) := dk_180 0 204 (dk_at dksX12_line_7 3 rfl rfl)
theorem dX12_line_171 : decode cX12_line 171 = .ok (.if_icmp .ge 23, 3) := dk_162 0 23 (dk_at dksX12_line_7 6 rfl rfl)
theorem dX12_line_174 : decode cX12_line 174 = .ok (.aload_n 0, 1) := dk_42 (dk_at dksX12_line_7 9 rfl rfl)
theorem dX12_line_175 : decode cX12_line 175 = .ok (.getfield 37, 3) := dk_180 0 37 (dk_at dksX12_line_7 10 rfl rfl)
theorem dX12_line_178 : decode cX12_line 178 = .ok (.iload_n 1, 1) := dk_27 (dk_at dksX12_line_7 13 rfl rfl)
theorem dX12_line_179 : decode cX12_line 179 = .ok (.aload_n 0, 1) := dk_42 (dk_at dksX12_line_7 14 rfl rfl)
theorem dX12_line_180 : decode cX12_line 180 = .ok (.getfield 37, 3) := dk_180 0 37 (dk_at dksX12_line_7 15 rfl rfl)
theorem dX12_line_183 : decode cX12_line 183 = .ok (.iload_n 1, 1) := dk_27 (dk_at dksX12_line_7 18 rfl rfl)
theorem dX12_line_184 : decode cX12_line 184 = .ok (.iconst 1, 1) := dk_4 (dk_at dksX12_line_7 19 rfl rfl)
theorem dX12_line_185 : decode cX12_line 185 = .ok (.iadd, 1) := dk_96 (dk_at dksX12_line_7 20 rfl rfl)
theorem dX12_line_186 : decode cX12_line 186 = .ok (.iaload, 1) := dk_46 (dk_at dksX12_line_7 21 rfl rfl)
theorem dX12_line_187 : decode cX12_line 187 = .ok (.iastore, 1) := dk_79 (dk_at dksX12_line_7 22 rfl rfl)
theorem dX12_line_188 : decode cX12_line 188 = .ok (.iinc 1 1, 3) := dk_132 1 1 (dk_at dksX12_line_8 0 rfl rfl)
theorem dX12_line_191 : decode cX12_line 191 = .ok (.goto (-25), 3) := dk_167 255 231 (dk_at dksX12_line_8 3 rfl rfl)
theorem dX12_line_194 : decode cX12_line 194 = .ok (.aload_n 0, 1) := dk_42 (dk_at dksX12_line_8 6 rfl rfl)
theorem dX12_line_195 : decode cX12_line 195 = .ok (.aload_n 0, 1) := dk_42 (dk_at dksX12_line_8 7 rfl rfl)
theorem dX12_line_196 : decode cX12_line 196 = .ok (.invokevirtual 198, 3) := dk_182 0 198 (dk_at dksX12_line_8 8 rfl rfl)
theorem dX12_line_199 : decode cX12_line 199 = .ok (.putfield 116, 3) := dk_181 0 116 (dk_at dksX12_line_8 11 rfl rfl)
theorem dX12_line_202 : decode cX12_line 202 = .ok (.return_, 1) := dk_177 (dk_at dksX12_line_8 14 rfl rfl)
theorem dX12_line_203 : decode cX12_line 203 = .ok (.aload_n 0, 1) := dk_42 (dk_at dksX12_line_8 15 rfl rfl)
theorem dX12_line_204 : decode cX12_line 204 = .ok (.dup, 1) := dk_89 (dk_at dksX12_line_8 16 rfl rfl)
theorem dX12_line_205 : decode cX12_line 205 = .ok (.getfield 116, 3) := dk_180 0 116 (dk_at dksX12_line_8 17 rfl rfl)
theorem dX12_line_208 : decode cX12_line 208 = .ok (.iconst 1, 1) := dk_4 (dk_at dksX12_line_8 20 rfl rfl)
theorem dX12_line_209 : decode cX12_line 209 = .ok (.isub, 1) := dk_100 (dk_at dksX12_line_8 21 rfl rfl)
theorem dX12_line_210 : decode cX12_line 210 = .ok (.putfield 116, 3) := dk_181 0 116 (dk_at dksX12_line_9 0 rfl rfl)
theorem dX12_line_213 : decode cX12_line 213 = .ok (.aload_n 0, 1) := dk_42 (dk_at dksX12_line_9 3 rfl rfl)
theorem dX12_line_214 : decode cX12_line 214 = .ok (.getfield 116, 3) := dk_180 0 116 (dk_at dksX12_line_9 4 rfl rfl)
theorem dX12_line_217 : decode cX12_line 217 = .ok (.ifCond .gt 17, 3) := dk_157 0 17 (dk_at dksX12_line_9 7 rfl rfl)
theorem dX12_line_220 : decode cX12_line 220 = .ok (.aload_n 0, 1) := dk_42 (dk_at dksX12_line_9 10 rfl rfl)
theorem dX12_line_221 : decode cX12_line 221 = .ok (.getfield 16, 3) := dk_180 0 16 (dk_at dksX12_line_9 11 rfl rfl)
theorem dX12_line_224 : decode cX12_line 224 = .ok (.sipush 193, 3) := dk_17 0 193 (dk_at dksX12_line_9 14 rfl rfl)
theorem dX12_line_227 : decode cX12_line 227 = .ok (.iaload, 1) := dk_46 (dk_at dksX12_line_9 17 rfl rfl)
theorem dX12_line_228 : decode cX12_line 228 = .ok (.bipush 16, 2) := dk_16 16 (dk_at dksX12_line_9 18 rfl rfl)
theorem dX12_line_230 : decode cX12_line 230 = .ok (.iand, 1) := dk_126 (dk_at dksX12_line_9 20 rfl rfl)
theorem dX12_line_231 : decode cX12_line 231 = .ok (.ifCond .ne 4, 3) := dk_154 0 4 (dk_at dksX12_line_9 21 rfl rfl)
theorem dX12_line_234 : decode cX12_line 234 = .ok (.return_, 1) := dk_177 (dk_at dksX12_line_10 0 rfl rfl)
theorem dX12_line_235 : decode cX12_line 235 = .ok (.aload_n 0, 1) := dk_42 (dk_at dksX12_line_10 1 rfl rfl)
theorem dX12_line_236 : decode cX12_line 236 = .ok (.getfield 119, 3) := dk_180 0 119 (dk_at dksX12_line_10 2 rfl rfl)
theorem dX12_line_239 : decode cX12_line 239 = .ok (.iconst 2, 1) := dk_5 (dk_at dksX12_line_10 5 rfl rfl)
theorem dX12_line_240 : decode cX12_line 240 = .ok (.if_icmp .ne 17, 3) := dk_160 0 17 (dk_at dksX12_line_10 6 rfl rfl)
theorem dX12_line_243 : decode cX12_line 243 = .ok (.aload_n 0, 1) := dk_42 (dk_at dksX12_line_10 9 rfl rfl)
theorem dX12_line_244 : decode cX12_line 244 = .ok (.getfield 16, 3) := dk_180 0 16 (dk_at dksX12_line_10 10 rfl rfl)
theorem dX12_line_247 : decode cX12_line 247 = .ok (.sipush 192, 3) := dk_17 0 192 (dk_at dksX12_line_10 13 rfl rfl)
theorem dX12_line_250 : decode cX12_line 250 = .ok (.dup2, 1) := dk_92 (dk_at dksX12_line_10 16 rfl rfl)
theorem dX12_line_251 : decode cX12_line 251 = .ok (.iaload, 1) := dk_46 (dk_at dksX12_line_10 17 rfl rfl)
theorem dX12_line_252 : decode cX12_line 252 = .ok (.bipush 8, 2) := dk_16 8 (dk_at dksX12_line_10 18 rfl rfl)
theorem dX12_line_254 : decode cX12_line 254 = .ok (.ior, 1) := dk_128 (dk_at dksX12_line_10 20 rfl rfl)
theorem dX12_line_255 : decode cX12_line 255 = .ok (.iastore, 1) := dk_79 (dk_at dksX12_line_10 21 rfl rfl)
theorem dX12_line_256 : decode cX12_line 256 = .ok (.return_, 1) := dk_177 (dk_at dksX12_line_10 22 rfl rfl)
theorem dX12_line_257 : decode cX12_line 257 = .ok (.aload_n 0, 1) := dk_42 (dk_at dksX12_line_10 23 rfl rfl)
theorem dX12_line_258 : decode cX12_line 258 = .ok (.getfield 119, 3) := dk_180 0 119 (dk_at dksX12_line_11 0 rfl rfl)
theorem dX12_line_261 : decode cX12_line 261 = .ok (.ifCond .ne 14, 3) := dk_154 0 14 (dk_at dksX12_line_11 3 rfl rfl)
theorem dX12_line_264 : decode cX12_line 264 = .ok (.aload_n 0, 1) := dk_42 (dk_at dksX12_line_11 6 rfl rfl)
theorem dX12_line_265 : decode cX12_line 265 = .ok (.aload_n 0, 1) := dk_42 (dk_at dksX12_line_11 7 rfl rfl)
theorem dX12_line_266 : decode cX12_line 266 = .ok (.getfield 207, 3) := dk_180 0 207 (dk_at dksX12_line_11 8 rfl rfl)
theorem dX12_line_269 : decode cX12_line 269 = .ok (.putfield 128, 3) := dk_181 0 128 (dk_at dksX12_line_11 11 rfl rfl)
theorem dX12_line_272 : decode cX12_line 272 = .ok (.goto 11, 3) := dk_167 0 11 (dk_at dksX12_line_11 14 rfl rfl)
theorem dX12_line_275 : decode cX12_line 275 = .ok (.aload_n 0, 1) := dk_42 (dk_at dksX12_line_11 17 rfl rfl)
theorem dX12_line_276 : decode cX12_line 276 = .ok (.aload_n 0, 1) := dk_42 (dk_at dksX12_line_11 18 rfl rfl)
theorem dX12_line_277 : decode cX12_line 277 = .ok (.getfield 207, 3) := dk_180 0 207 (dk_at dksX12_line_11 19 rfl rfl)
theorem dX12_line_280 : decode cX12_line 280 = .ok (.putfield 138, 3) := dk_181 0 138 (dk_at dksX12_line_12 0 rfl rfl)
theorem dX12_line_283 : decode cX12_line 283 = .ok (.aload_n 0, 1) := dk_42 (dk_at dksX12_line_12 3 rfl rfl)
theorem dX12_line_284 : decode cX12_line 284 = .ok (.dup, 1) := dk_89 (dk_at dksX12_line_12 4 rfl rfl)
theorem dX12_line_285 : decode cX12_line 285 = .ok (.getfield 119, 3) := dk_180 0 119 (dk_at dksX12_line_12 5 rfl rfl)
theorem dX12_line_288 : decode cX12_line 288 = .ok (.iconst 1, 1) := dk_4 (dk_at dksX12_line_12 8 rfl rfl)
theorem dX12_line_289 : decode cX12_line 289 = .ok (.iadd, 1) := dk_96 (dk_at dksX12_line_12 9 rfl rfl)
theorem dX12_line_290 : decode cX12_line 290 = .ok (.putfield 119, 3) := dk_181 0 119 (dk_at dksX12_line_12 10 rfl rfl)
theorem dX12_line_293 : decode cX12_line 293 = .ok (.aload_n 0, 1) := dk_42 (dk_at dksX12_line_12 13 rfl rfl)
theorem dX12_line_294 : decode cX12_line 294 = .ok (.invokevirtual 141, 3) := dk_182 0 141 (dk_at dksX12_line_12 14 rfl rfl)
theorem dX12_line_297 : decode cX12_line 297 = .ok (.return_, 1) := dk_177 (dk_at dksX12_line_12 17 rfl rfl)
abbrev cX12_frame : ByteArray := prog_13_method_24_code
def yX12_frame : MethodName := ⟨RX12, "frame", "()I"⟩
def dkwX12_frame_1 : List UInt8 := [96, 42, 180, 0, 16, 17, 0, 192, 46, 5, 126, 153, 0, 8, 16, 80, 167, 0, 6, 17, 0, 160, 104, 172]
abbrev dktX12_frame_1 : List UInt8 := dkwX12_frame_1 ++ []
def dkwX12_frame_0 : List UInt8 := [42, 180, 0, 16, 17, 0, 197, 46, 16, 15, 126, 16, 8, 120, 42, 180, 0, 16, 17, 0, 196, 46, 128, 4]
abbrev dktX12_frame_0 : List UInt8 := dkwX12_frame_0 ++ dktX12_frame_1
theorem dksX12_frame_0 : cX12_frame.data.toList.drop 0 = dktX12_frame_0 := by decide +kernel
theorem dksX12_frame_1 : cX12_frame.data.toList.drop 24 = dktX12_frame_1 := dk_seg dksX12_frame_0 24 rfl rfl
theorem dX12_frame_0 : decode cX12_frame 0 = .ok (.aload_n 0, 1) := dk_42 (dk_at dksX12_frame_0 0 rfl rfl)
theorem dX12_frame_1 : decode cX12_frame 1 = .ok (.getfield 16, 3) := dk_180 0 16 (dk_at dksX12_frame_0 1 rfl rfl)
theorem dX12_frame_4 : decode cX12_frame 4 = .ok (.sipush 197, 3) := dk_17 0 197 (dk_at dksX12_frame_0 4 rfl rfl)
theorem dX12_frame_7 : decode cX12_frame 7 = .ok (.iaload, 1) := dk_46 (dk_at dksX12_frame_0 7 rfl rfl)
theorem dX12_frame_8 : decode cX12_frame 8 = .ok (.bipush 15, 2) := dk_16 15 (dk_at dksX12_frame_0 8 rfl rfl)
theorem dX12_frame_10 : decode cX12_frame 10 = .ok (.iand, 1) := dk_126 (dk_at dksX12_frame_0 10 rfl rfl)
theorem dX12_frame_11 : decode cX12_frame 11 = .ok (.bipush 8, 2) := dk_16 8 (dk_at dksX12_frame_0 11 rfl rfl)
theorem dX12_frame_13 : decode cX12_frame 13 = .ok (.ishl, 1) := dk_120 (dk_at dksX12_frame_0 13 rfl rfl)
theorem dX12_frame_14 : decode cX12_frame 14 = .ok (.aload_n 0, 1) := dk_42 (dk_at dksX12_frame_0 14 rfl rfl)
theorem dX12_frame_15 : decode cX12_frame 15 = .ok (.getfield 16, 3) := dk_180 0 16 (dk_at dksX12_frame_0 15 rfl rfl)
theorem dX12_frame_18 : decode cX12_frame 18 = .ok (.sipush 196, 3) := dk_17 0 196 (dk_at dksX12_frame_0 18 rfl rfl)
theorem dX12_frame_21 : decode cX12_frame 21 = .ok (.iaload, 1) := dk_46 (dk_at dksX12_frame_0 21 rfl rfl)
theorem dX12_frame_22 : decode cX12_frame 22 = .ok (.ior, 1) := dk_128 (dk_at dksX12_frame_0 22 rfl rfl)
theorem dX12_frame_23 : decode cX12_frame 23 = .ok (.iconst 1, 1) := dk_4 (dk_at dksX12_frame_0 23 rfl rfl)
theorem dX12_frame_24 : decode cX12_frame 24 = .ok (.iadd, 1) := dk_96 (dk_at dksX12_frame_1 0 rfl rfl)
theorem dX12_frame_25 : decode cX12_frame 25 = .ok (.aload_n 0, 1) := dk_42 (dk_at dksX12_frame_1 1 rfl rfl)
theorem dX12_frame_26 : decode cX12_frame 26 = .ok (.getfield 16, 3) := dk_180 0 16 (dk_at dksX12_frame_1 2 rfl rfl)
theorem dX12_frame_29 : decode cX12_frame 29 = .ok (.sipush 192, 3) := dk_17 0 192 (dk_at dksX12_frame_1 5 rfl rfl)
theorem dX12_frame_32 : decode cX12_frame 32 = .ok (.iaload, 1) := dk_46 (dk_at dksX12_frame_1 8 rfl rfl)
theorem dX12_frame_33 : decode cX12_frame 33 = .ok (.iconst 2, 1) := dk_5 (dk_at dksX12_frame_1 9 rfl rfl)
theorem dX12_frame_34 : decode cX12_frame 34 = .ok (.iand, 1) := dk_126 (dk_at dksX12_frame_1 10 rfl rfl)
theorem dX12_frame_35 : decode cX12_frame 35 = .ok (.ifCond .eq 8, 3) := dk_153 0 8 (dk_at dksX12_frame_1 11 rfl rfl)
theorem dX12_frame_38 : decode cX12_frame 38 = .ok (.bipush 80, 2) := dk_16 80 (dk_at dksX12_frame_1 14 rfl rfl)
theorem dX12_frame_40 : decode cX12_frame 40 = .ok (.goto 6, 3) := dk_167 0 6 (dk_at dksX12_frame_1 16 rfl rfl)
theorem dX12_frame_43 : decode cX12_frame 43 = .ok (.sipush 160, 3) := dk_17 0 160 (dk_at dksX12_frame_1 19 rfl rfl)
theorem dX12_frame_46 : decode cX12_frame 46 = .ok (.imul, 1) := dk_104 (dk_at dksX12_frame_1 22 rfl rfl)
theorem dX12_frame_47 : decode cX12_frame 47 = .ok (.ireturn, 1) := dk_172 (dk_at dksX12_frame_1 23 rfl rfl)
abbrev cX12_dog : ByteArray := prog_13_method_26_code
def yX12_dog : MethodName := ⟨RX12, "dog", "()Z"⟩
def dkwX12_dog_5 : List UInt8 := [4, 96, 181, 0, 210, 42, 16, 8, 182, 0, 56, 3, 172]
abbrev dktX12_dog_5 : List UInt8 := dkwX12_dog_5 ++ []
def dkwX12_dog_4 : List UInt8 := [126, 153, 0, 18, 42, 180, 0, 16, 16, 96, 92, 46, 17, 0, 128, 128, 79, 4, 172, 42, 89, 180, 0, 210]
abbrev dktX12_dog_4 : List UInt8 := dkwX12_dog_4 ++ dktX12_dog_5
def dkwX12_dog_3 : List UInt8 := [167, 0, 4, 27, 120, 162, 0, 5, 4, 172, 42, 3, 181, 0, 92, 42, 180, 0, 16, 16, 96, 46, 16, 64]
abbrev dktX12_dog_3 : List UInt8 := dkwX12_dog_3 ++ dktX12_dog_4
def dkwX12_dog_2 : List UInt8 := [46, 5, 122, 16, 8, 126, 128, 60, 42, 180, 0, 92, 17, 16, 0, 27, 16, 11, 164, 0, 8, 16, 11]
abbrev dktX12_dog_2 : List UInt8 := dkwX12_dog_2 ++ dktX12_dog_3
def dkwX12_dog_1 : List UInt8 := [180, 0, 92, 4, 96, 181, 0, 92, 42, 180, 0, 16, 16, 96, 46, 16, 7, 126, 42, 180, 0, 16, 16, 96]
abbrev dktX12_dog_1 : List UInt8 := dkwX12_dog_1 ++ dktX12_dog_2
def dkwX12_dog_0 : List UInt8 := [42, 180, 0, 16, 16, 96, 46, 16, 72, 126, 154, 0, 10, 42, 3, 181, 0, 92, 4, 172, 42, 89]
abbrev dktX12_dog_0 : List UInt8 := dkwX12_dog_0 ++ dktX12_dog_1
theorem dksX12_dog_0 : cX12_dog.data.toList.drop 0 = dktX12_dog_0 := by decide +kernel
theorem dksX12_dog_1 : cX12_dog.data.toList.drop 22 = dktX12_dog_1 := dk_seg dksX12_dog_0 22 rfl rfl
theorem dksX12_dog_2 : cX12_dog.data.toList.drop 46 = dktX12_dog_2 := dk_seg dksX12_dog_1 24 rfl rfl
theorem dksX12_dog_3 : cX12_dog.data.toList.drop 69 = dktX12_dog_3 := dk_seg dksX12_dog_2 23 rfl rfl
theorem dksX12_dog_4 : cX12_dog.data.toList.drop 93 = dktX12_dog_4 := dk_seg dksX12_dog_3 24 rfl rfl
theorem dksX12_dog_5 : cX12_dog.data.toList.drop 117 = dktX12_dog_5 := dk_seg dksX12_dog_4 24 rfl rfl
theorem dX12_dog_0 : decode cX12_dog 0 = .ok (.aload_n 0, 1) := dk_42 (dk_at dksX12_dog_0 0 rfl rfl)
theorem dX12_dog_1 : decode cX12_dog 1 = .ok (.getfield 16, 3) := dk_180 0 16 (dk_at dksX12_dog_0 1 rfl rfl)
theorem dX12_dog_4 : decode cX12_dog 4 = .ok (.bipush 96, 2) := dk_16 96 (dk_at dksX12_dog_0 4 rfl rfl)
theorem dX12_dog_6 : decode cX12_dog 6 = .ok (.iaload, 1) := dk_46 (dk_at dksX12_dog_0 6 rfl rfl)
theorem dX12_dog_7 : decode cX12_dog 7 = .ok (.bipush 72, 2) := dk_16 72 (dk_at dksX12_dog_0 7 rfl rfl)
theorem dX12_dog_9 : decode cX12_dog 9 = .ok (.iand, 1) := dk_126 (dk_at dksX12_dog_0 9 rfl rfl)
theorem dX12_dog_10 : decode cX12_dog 10 = .ok (.ifCond .ne 10, 3) := dk_154 0 10 (dk_at dksX12_dog_0 10 rfl rfl)
theorem dX12_dog_13 : decode cX12_dog 13 = .ok (.aload_n 0, 1) := dk_42 (dk_at dksX12_dog_0 13 rfl rfl)
theorem dX12_dog_14 : decode cX12_dog 14 = .ok (.iconst 0, 1) := dk_3 (dk_at dksX12_dog_0 14 rfl rfl)
theorem dX12_dog_15 : decode cX12_dog 15 = .ok (.putfield 92, 3) := dk_181 0 92 (dk_at dksX12_dog_0 15 rfl rfl)
theorem dX12_dog_18 : decode cX12_dog 18 = .ok (.iconst 1, 1) := dk_4 (dk_at dksX12_dog_0 18 rfl rfl)
theorem dX12_dog_19 : decode cX12_dog 19 = .ok (.ireturn, 1) := dk_172 (dk_at dksX12_dog_0 19 rfl rfl)
theorem dX12_dog_20 : decode cX12_dog 20 = .ok (.aload_n 0, 1) := dk_42 (dk_at dksX12_dog_0 20 rfl rfl)
theorem dX12_dog_21 : decode cX12_dog 21 = .ok (.dup, 1) := dk_89 (dk_at dksX12_dog_0 21 rfl rfl)
theorem dX12_dog_22 : decode cX12_dog 22 = .ok (.getfield 92, 3) := dk_180 0 92 (dk_at dksX12_dog_1 0 rfl rfl)
theorem dX12_dog_25 : decode cX12_dog 25 = .ok (.iconst 1, 1) := dk_4 (dk_at dksX12_dog_1 3 rfl rfl)
theorem dX12_dog_26 : decode cX12_dog 26 = .ok (.iadd, 1) := dk_96 (dk_at dksX12_dog_1 4 rfl rfl)
theorem dX12_dog_27 : decode cX12_dog 27 = .ok (.putfield 92, 3) := dk_181 0 92 (dk_at dksX12_dog_1 5 rfl rfl)
theorem dX12_dog_30 : decode cX12_dog 30 = .ok (.aload_n 0, 1) := dk_42 (dk_at dksX12_dog_1 8 rfl rfl)
theorem dX12_dog_31 : decode cX12_dog 31 = .ok (.getfield 16, 3) := dk_180 0 16 (dk_at dksX12_dog_1 9 rfl rfl)
theorem dX12_dog_34 : decode cX12_dog 34 = .ok (.bipush 96, 2) := dk_16 96 (dk_at dksX12_dog_1 12 rfl rfl)
theorem dX12_dog_36 : decode cX12_dog 36 = .ok (.iaload, 1) := dk_46 (dk_at dksX12_dog_1 14 rfl rfl)
theorem dX12_dog_37 : decode cX12_dog 37 = .ok (.bipush 7, 2) := dk_16 7 (dk_at dksX12_dog_1 15 rfl rfl)
theorem dX12_dog_39 : decode cX12_dog 39 = .ok (.iand, 1) := dk_126 (dk_at dksX12_dog_1 17 rfl rfl)
theorem dX12_dog_40 : decode cX12_dog 40 = .ok (.aload_n 0, 1) := dk_42 (dk_at dksX12_dog_1 18 rfl rfl)
theorem dX12_dog_41 : decode cX12_dog 41 = .ok (.getfield 16, 3) := dk_180 0 16 (dk_at dksX12_dog_1 19 rfl rfl)
theorem dX12_dog_44 : decode cX12_dog 44 = .ok (.bipush 96, 2) := dk_16 96 (dk_at dksX12_dog_1 22 rfl rfl)
theorem dX12_dog_46 : decode cX12_dog 46 = .ok (.iaload, 1) := dk_46 (dk_at dksX12_dog_2 0 rfl rfl)
theorem dX12_dog_47 : decode cX12_dog 47 = .ok (.iconst 2, 1) := dk_5 (dk_at dksX12_dog_2 1 rfl rfl)
theorem dX12_dog_48 : decode cX12_dog 48 = .ok (.ishr, 1) := dk_122 (dk_at dksX12_dog_2 2 rfl rfl)
theorem dX12_dog_49 : decode cX12_dog 49 = .ok (.bipush 8, 2) := dk_16 8 (dk_at dksX12_dog_2 3 rfl rfl)
theorem dX12_dog_51 : decode cX12_dog 51 = .ok (.iand, 1) := dk_126 (dk_at dksX12_dog_2 5 rfl rfl)
theorem dX12_dog_52 : decode cX12_dog 52 = .ok (.ior, 1) := dk_128 (dk_at dksX12_dog_2 6 rfl rfl)
theorem dX12_dog_53 : decode cX12_dog 53 = .ok (.istore_n 1, 1) := dk_60 (dk_at dksX12_dog_2 7 rfl rfl)
theorem dX12_dog_54 : decode cX12_dog 54 = .ok (.aload_n 0, 1) := dk_42 (dk_at dksX12_dog_2 8 rfl rfl)
theorem dX12_dog_55 : decode cX12_dog 55 = .ok (.getfield 92, 3) := dk_180 0 92 (dk_at dksX12_dog_2 9 rfl rfl)
theorem dX12_dog_58 : decode cX12_dog 58 = .ok (.sipush 4096, 3) := dk_17 16 0 (dk_at dksX12_dog_2 12 rfl rfl)
theorem dX12_dog_61 : decode cX12_dog 61 = .ok (.iload_n 1, 1) := dk_27 (dk_at dksX12_dog_2 15 rfl rfl)
theorem dX12_dog_62 : decode cX12_dog 62 = .ok (.bipush 11, 2) := dk_16 11 (dk_at dksX12_dog_2 16 rfl rfl)
theorem dX12_dog_64 : decode cX12_dog 64 = .ok (.if_icmp .le 8, 3) := dk_164 0 8 (dk_at dksX12_dog_2 18 rfl rfl)
theorem dX12_dog_67 : decode cX12_dog 67 = .ok (.bipush 11, 2) := dk_16 11 (dk_at dksX12_dog_2 21 rfl rfl)
theorem dX12_dog_69 : decode cX12_dog 69 = .ok (.goto 4, 3) := dk_167 0 4 (dk_at dksX12_dog_3 0 rfl rfl)
theorem dX12_dog_72 : decode cX12_dog 72 = .ok (.iload_n 1, 1) := dk_27 (dk_at dksX12_dog_3 3 rfl rfl)
theorem dX12_dog_73 : decode cX12_dog 73 = .ok (.ishl, 1) := dk_120 (dk_at dksX12_dog_3 4 rfl rfl)
theorem dX12_dog_74 : decode cX12_dog 74 = .ok (.if_icmp .ge 5, 3) := dk_162 0 5 (dk_at dksX12_dog_3 5 rfl rfl)
theorem dX12_dog_77 : decode cX12_dog 77 = .ok (.iconst 1, 1) := dk_4 (dk_at dksX12_dog_3 8 rfl rfl)
theorem dX12_dog_78 : decode cX12_dog 78 = .ok (.ireturn, 1) := dk_172 (dk_at dksX12_dog_3 9 rfl rfl)
theorem dX12_dog_79 : decode cX12_dog 79 = .ok (.aload_n 0, 1) := dk_42 (dk_at dksX12_dog_3 10 rfl rfl)
theorem dX12_dog_80 : decode cX12_dog 80 = .ok (.iconst 0, 1) := dk_3 (dk_at dksX12_dog_3 11 rfl rfl)
theorem dX12_dog_81 : decode cX12_dog 81 = .ok (.putfield 92, 3) := dk_181 0 92 (dk_at dksX12_dog_3 12 rfl rfl)
theorem dX12_dog_84 : decode cX12_dog 84 = .ok (.aload_n 0, 1) := dk_42 (dk_at dksX12_dog_3 15 rfl rfl)
theorem dX12_dog_85 : decode cX12_dog 85 = .ok (.getfield 16, 3) := dk_180 0 16 (dk_at dksX12_dog_3 16 rfl rfl)
theorem dX12_dog_88 : decode cX12_dog 88 = .ok (.bipush 96, 2) := dk_16 96 (dk_at dksX12_dog_3 19 rfl rfl)
theorem dX12_dog_90 : decode cX12_dog 90 = .ok (.iaload, 1) := dk_46 (dk_at dksX12_dog_3 21 rfl rfl)
theorem dX12_dog_91 : decode cX12_dog 91 = .ok (.bipush 64, 2) := dk_16 64 (dk_at dksX12_dog_3 22 rfl rfl)
theorem dX12_dog_93 : decode cX12_dog 93 = .ok (.iand, 1) := dk_126 (dk_at dksX12_dog_4 0 rfl rfl)
theorem dX12_dog_94 : decode cX12_dog 94 = .ok (.ifCond .eq 18, 3) := dk_153 0 18 (dk_at dksX12_dog_4 1 rfl rfl)
theorem dX12_dog_97 : decode cX12_dog 97 = .ok (.aload_n 0, 1) := dk_42 (dk_at dksX12_dog_4 4 rfl rfl)
theorem dX12_dog_98 : decode cX12_dog 98 = .ok (.getfield 16, 3) := dk_180 0 16 (dk_at dksX12_dog_4 5 rfl rfl)
theorem dX12_dog_101 : decode cX12_dog 101 = .ok (.bipush 96, 2) := dk_16 96 (dk_at dksX12_dog_4 8 rfl rfl)
theorem dX12_dog_103 : decode cX12_dog 103 = .ok (.dup2, 1) := dk_92 (dk_at dksX12_dog_4 10 rfl rfl)
theorem dX12_dog_104 : decode cX12_dog 104 = .ok (.iaload, 1) := dk_46 (dk_at dksX12_dog_4 11 rfl rfl)
theorem dX12_dog_105 : decode cX12_dog 105 = .ok (.sipush 128, 3) := dk_17 0 128 (dk_at dksX12_dog_4 12 rfl rfl)
theorem dX12_dog_108 : decode cX12_dog 108 = .ok (.ior, 1) := dk_128 (dk_at dksX12_dog_4 15 rfl rfl)
theorem dX12_dog_109 : decode cX12_dog 109 = .ok (.iastore, 1) := dk_79 (dk_at dksX12_dog_4 16 rfl rfl)
theorem dX12_dog_110 : decode cX12_dog 110 = .ok (.iconst 1, 1) := dk_4 (dk_at dksX12_dog_4 17 rfl rfl)
theorem dX12_dog_111 : decode cX12_dog 111 = .ok (.ireturn, 1) := dk_172 (dk_at dksX12_dog_4 18 rfl rfl)
theorem dX12_dog_112 : decode cX12_dog 112 = .ok (.aload_n 0, 1) := dk_42 (dk_at dksX12_dog_4 19 rfl rfl)
theorem dX12_dog_113 : decode cX12_dog 113 = .ok (.dup, 1) := dk_89 (dk_at dksX12_dog_4 20 rfl rfl)
theorem dX12_dog_114 : decode cX12_dog 114 = .ok (.getfield 210, 3) := dk_180 0 210 (dk_at dksX12_dog_4 21 rfl rfl)
theorem dX12_dog_117 : decode cX12_dog 117 = .ok (.iconst 1, 1) := dk_4 (dk_at dksX12_dog_5 0 rfl rfl)
theorem dX12_dog_118 : decode cX12_dog 118 = .ok (.iadd, 1) := dk_96 (dk_at dksX12_dog_5 1 rfl rfl)
theorem dX12_dog_119 : decode cX12_dog 119 = .ok (.putfield 210, 3) := dk_181 0 210 (dk_at dksX12_dog_5 2 rfl rfl)
theorem dX12_dog_122 : decode cX12_dog 122 = .ok (.aload_n 0, 1) := dk_42 (dk_at dksX12_dog_5 5 rfl rfl)
theorem dX12_dog_123 : decode cX12_dog 123 = .ok (.bipush 8, 2) := dk_16 8 (dk_at dksX12_dog_5 6 rfl rfl)
theorem dX12_dog_125 : decode cX12_dog 125 = .ok (.invokevirtual 56, 3) := dk_182 0 56 (dk_at dksX12_dog_5 8 rfl rfl)
theorem dX12_dog_128 : decode cX12_dog 128 = .ok (.iconst 0, 1) := dk_3 (dk_at dksX12_dog_5 11 rfl rfl)
theorem dX12_dog_129 : decode cX12_dog 129 = .ok (.ireturn, 1) := dk_172 (dk_at dksX12_dog_5 12 rfl rfl)
abbrev cX12_run : ByteArray := prog_13_method_68_code
def yX12_run : MethodName := ⟨RX12, "run", "(I)I"⟩
def dkwX12_run_2 : List UInt8 := [61, 132, 3, 1, 167, 255, 241, 28, 172]
abbrev dktX12_run_2 : List UInt8 := dkwX12_run_2 ++ []
def dkwX12_run_1 : List UInt8 := [42, 180, 0, 33, 154, 0, 5, 3, 172, 3, 61, 3, 62, 29, 27, 162, 0, 16, 28, 42, 182, 1, 100, 96]
abbrev dktX12_run_1 : List UInt8 := dkwX12_run_1 ++ dktX12_run_2
def dkwX12_run_0 : List UInt8 := [42, 27, 4, 161, 0, 14, 27, 17, 19, 136, 163, 0, 7, 4, 167, 0, 4, 3, 182, 1, 103, 153, 0, 10]
abbrev dktX12_run_0 : List UInt8 := dkwX12_run_0 ++ dktX12_run_1
theorem dksX12_run_0 : cX12_run.data.toList.drop 0 = dktX12_run_0 := by decide +kernel
theorem dksX12_run_1 : cX12_run.data.toList.drop 24 = dktX12_run_1 := dk_seg dksX12_run_0 24 rfl rfl
theorem dksX12_run_2 : cX12_run.data.toList.drop 48 = dktX12_run_2 := dk_seg dksX12_run_1 24 rfl rfl
theorem dX12_run_0 : decode cX12_run 0 = .ok (.aload_n 0, 1) := dk_42 (dk_at dksX12_run_0 0 rfl rfl)
theorem dX12_run_1 : decode cX12_run 1 = .ok (.iload_n 1, 1) := dk_27 (dk_at dksX12_run_0 1 rfl rfl)
theorem dX12_run_2 : decode cX12_run 2 = .ok (.iconst 1, 1) := dk_4 (dk_at dksX12_run_0 2 rfl rfl)
theorem dX12_run_3 : decode cX12_run 3 = .ok (.if_icmp .lt 14, 3) := dk_161 0 14 (dk_at dksX12_run_0 3 rfl rfl)
theorem dX12_run_6 : decode cX12_run 6 = .ok (.iload_n 1, 1) := dk_27 (dk_at dksX12_run_0 6 rfl rfl)
theorem dX12_run_7 : decode cX12_run 7 = .ok (.sipush 5000, 3) := dk_17 19 136 (dk_at dksX12_run_0 7 rfl rfl)
theorem dX12_run_10 : decode cX12_run 10 = .ok (.if_icmp .gt 7, 3) := dk_163 0 7 (dk_at dksX12_run_0 10 rfl rfl)
theorem dX12_run_13 : decode cX12_run 13 = .ok (.iconst 1, 1) := dk_4 (dk_at dksX12_run_0 13 rfl rfl)
theorem dX12_run_14 : decode cX12_run 14 = .ok (.goto 4, 3) := dk_167 0 4 (dk_at dksX12_run_0 14 rfl rfl)
theorem dX12_run_17 : decode cX12_run 17 = .ok (.iconst 0, 1) := dk_3 (dk_at dksX12_run_0 17 rfl rfl)
theorem dX12_run_18 : decode cX12_run 18 = .ok (.invokevirtual 359, 3) := dk_182 1 103 (dk_at dksX12_run_0 18 rfl rfl)
theorem dX12_run_21 : decode cX12_run 21 = .ok (.ifCond .eq 10, 3) := dk_153 0 10 (dk_at dksX12_run_0 21 rfl rfl)
theorem dX12_run_24 : decode cX12_run 24 = .ok (.aload_n 0, 1) := dk_42 (dk_at dksX12_run_1 0 rfl rfl)
theorem dX12_run_25 : decode cX12_run 25 = .ok (.getfield 33, 3) := dk_180 0 33 (dk_at dksX12_run_1 1 rfl rfl)
theorem dX12_run_28 : decode cX12_run 28 = .ok (.ifCond .ne 5, 3) := dk_154 0 5 (dk_at dksX12_run_1 4 rfl rfl)
theorem dX12_run_31 : decode cX12_run 31 = .ok (.iconst 0, 1) := dk_3 (dk_at dksX12_run_1 7 rfl rfl)
theorem dX12_run_32 : decode cX12_run 32 = .ok (.ireturn, 1) := dk_172 (dk_at dksX12_run_1 8 rfl rfl)
theorem dX12_run_33 : decode cX12_run 33 = .ok (.iconst 0, 1) := dk_3 (dk_at dksX12_run_1 9 rfl rfl)
theorem dX12_run_34 : decode cX12_run 34 = .ok (.istore_n 2, 1) := dk_61 (dk_at dksX12_run_1 10 rfl rfl)
theorem dX12_run_35 : decode cX12_run 35 = .ok (.iconst 0, 1) := dk_3 (dk_at dksX12_run_1 11 rfl rfl)
theorem dX12_run_36 : decode cX12_run 36 = .ok (.istore_n 3, 1) := dk_62 (dk_at dksX12_run_1 12 rfl rfl)
theorem dX12_run_37 : decode cX12_run 37 = .ok (.iload_n 3, 1) := dk_29 (dk_at dksX12_run_1 13 rfl rfl)
theorem dX12_run_38 : decode cX12_run 38 = .ok (.iload_n 1, 1) := dk_27 (dk_at dksX12_run_1 14 rfl rfl)
theorem dX12_run_39 : decode cX12_run 39 = .ok (.if_icmp .ge 16, 3) := dk_162 0 16 (dk_at dksX12_run_1 15 rfl rfl)
theorem dX12_run_42 : decode cX12_run 42 = .ok (.iload_n 2, 1) := dk_28 (dk_at dksX12_run_1 18 rfl rfl)
theorem dX12_run_43 : decode cX12_run 43 = .ok (.aload_n 0, 1) := dk_42 (dk_at dksX12_run_1 19 rfl rfl)
theorem dX12_run_44 : decode cX12_run 44 = .ok (.invokevirtual 356, 3) := dk_182 1 100 (dk_at dksX12_run_1 20 rfl rfl)
theorem dX12_run_47 : decode cX12_run 47 = .ok (.iadd, 1) := dk_96 (dk_at dksX12_run_1 23 rfl rfl)
theorem dX12_run_48 : decode cX12_run 48 = .ok (.istore_n 2, 1) := dk_61 (dk_at dksX12_run_2 0 rfl rfl)
theorem dX12_run_49 : decode cX12_run 49 = .ok (.iinc 3 1, 3) := dk_132 3 1 (dk_at dksX12_run_2 1 rfl rfl)
theorem dX12_run_52 : decode cX12_run 52 = .ok (.goto (-15), 3) := dk_167 255 241 (dk_at dksX12_run_2 4 rfl rfl)
theorem dX12_run_55 : decode cX12_run 55 = .ok (.iload_n 2, 1) := dk_28 (dk_at dksX12_run_2 7 rfl rfl)
theorem dX12_run_56 : decode cX12_run 56 = .ok (.ireturn, 1) := dk_172 (dk_at dksX12_run_2 8 rfl rfl)
abbrev cX12_right : ByteArray := prog_13_method_5_code
def yX12_right : MethodName := ⟨RX12, "right", "(Z)Z"⟩
def dkwX12_right_0 : List UInt8 := [42, 27, 153, 0, 7, 3, 167, 0, 4, 4, 181, 0, 74, 27, 172]
abbrev dktX12_right_0 : List UInt8 := dkwX12_right_0 ++ []
theorem dksX12_right_0 : cX12_right.data.toList.drop 0 = dktX12_right_0 := by decide +kernel
theorem dX12_right_0 : decode cX12_right 0 = .ok (.aload_n 0, 1) := dk_42 (dk_at dksX12_right_0 0 rfl rfl)
theorem dX12_right_1 : decode cX12_right 1 = .ok (.iload_n 1, 1) := dk_27 (dk_at dksX12_right_0 1 rfl rfl)
theorem dX12_right_2 : decode cX12_right 2 = .ok (.ifCond .eq 7, 3) := dk_153 0 7 (dk_at dksX12_right_0 2 rfl rfl)
theorem dX12_right_5 : decode cX12_right 5 = .ok (.iconst 0, 1) := dk_3 (dk_at dksX12_right_0 5 rfl rfl)
theorem dX12_right_6 : decode cX12_right 6 = .ok (.goto 4, 3) := dk_167 0 4 (dk_at dksX12_right_0 6 rfl rfl)
theorem dX12_right_9 : decode cX12_right 9 = .ok (.iconst 1, 1) := dk_4 (dk_at dksX12_right_0 9 rfl rfl)
theorem dX12_right_10 : decode cX12_right 10 = .ok (.putfield 74, 3) := dk_181 0 74 (dk_at dksX12_right_0 10 rfl rfl)
theorem dX12_right_13 : decode cX12_right 13 = .ok (.iload_n 1, 1) := dk_27 (dk_at dksX12_right_0 13 rfl rfl)
theorem dX12_right_14 : decode cX12_right 14 = .ok (.ireturn, 1) := dk_172 (dk_at dksX12_right_0 14 rfl rfl)
abbrev cX12_pass : ByteArray := prog_13_method_69_code
def yX12_pass : MethodName := ⟨RX12, "pass", "(I)I"⟩
def dkwX12_pass_2 : List UInt8 := [167, 255, 244, 28, 172]
abbrev dktX12_pass_2 : List UInt8 := dkwX12_pass_2 ++ []
def dkwX12_pass_1 : List UInt8 := [42, 180, 0, 33, 154, 0, 5, 3, 172, 3, 61, 28, 27, 162, 0, 13, 28, 42, 182, 1, 100, 96, 61]
abbrev dktX12_pass_1 : List UInt8 := dkwX12_pass_1 ++ dktX12_pass_2
def dkwX12_pass_0 : List UInt8 := [42, 27, 4, 161, 0, 14, 27, 19, 1, 107, 163, 0, 7, 4, 167, 0, 4, 3, 182, 1, 103, 153, 0, 10]
abbrev dktX12_pass_0 : List UInt8 := dkwX12_pass_0 ++ dktX12_pass_1
theorem dksX12_pass_0 : cX12_pass.data.toList.drop 0 = dktX12_pass_0 := by decide +kernel
theorem dksX12_pass_1 : cX12_pass.data.toList.drop 24 = dktX12_pass_1 := dk_seg dksX12_pass_0 24 rfl rfl
theorem dksX12_pass_2 : cX12_pass.data.toList.drop 47 = dktX12_pass_2 := dk_seg dksX12_pass_1 23 rfl rfl
theorem dX12_pass_0 : decode cX12_pass 0 = .ok (.aload_n 0, 1) := dk_42 (dk_at dksX12_pass_0 0 rfl rfl)
theorem dX12_pass_1 : decode cX12_pass 1 = .ok (.iload_n 1, 1) := dk_27 (dk_at dksX12_pass_0 1 rfl rfl)
theorem dX12_pass_2 : decode cX12_pass 2 = .ok (.iconst 1, 1) := dk_4 (dk_at dksX12_pass_0 2 rfl rfl)
theorem dX12_pass_3 : decode cX12_pass 3 = .ok (.if_icmp .lt 14, 3) := dk_161 0 14 (dk_at dksX12_pass_0 3 rfl rfl)
theorem dX12_pass_6 : decode cX12_pass 6 = .ok (.iload_n 1, 1) := dk_27 (dk_at dksX12_pass_0 6 rfl rfl)
theorem dX12_pass_7 : decode cX12_pass 7 = .ok (.ldc_w 363, 3) := dk_19 1 107 (dk_at dksX12_pass_0 7 rfl rfl)
theorem dX12_pass_10 : decode cX12_pass 10 = .ok (.if_icmp .gt 7, 3) := dk_163 0 7 (dk_at dksX12_pass_0 10 rfl rfl)
theorem dX12_pass_13 : decode cX12_pass 13 = .ok (.iconst 1, 1) := dk_4 (dk_at dksX12_pass_0 13 rfl rfl)
theorem dX12_pass_14 : decode cX12_pass 14 = .ok (.goto 4, 3) := dk_167 0 4 (dk_at dksX12_pass_0 14 rfl rfl)
theorem dX12_pass_17 : decode cX12_pass 17 = .ok (.iconst 0, 1) := dk_3 (dk_at dksX12_pass_0 17 rfl rfl)
theorem dX12_pass_18 : decode cX12_pass 18 = .ok (.invokevirtual 359, 3) := dk_182 1 103 (dk_at dksX12_pass_0 18 rfl rfl)
theorem dX12_pass_21 : decode cX12_pass 21 = .ok (.ifCond .eq 10, 3) := dk_153 0 10 (dk_at dksX12_pass_0 21 rfl rfl)
theorem dX12_pass_24 : decode cX12_pass 24 = .ok (.aload_n 0, 1) := dk_42 (dk_at dksX12_pass_1 0 rfl rfl)
theorem dX12_pass_25 : decode cX12_pass 25 = .ok (.getfield 33, 3) := dk_180 0 33 (dk_at dksX12_pass_1 1 rfl rfl)
theorem dX12_pass_28 : decode cX12_pass 28 = .ok (.ifCond .ne 5, 3) := dk_154 0 5 (dk_at dksX12_pass_1 4 rfl rfl)
theorem dX12_pass_31 : decode cX12_pass 31 = .ok (.iconst 0, 1) := dk_3 (dk_at dksX12_pass_1 7 rfl rfl)
theorem dX12_pass_32 : decode cX12_pass 32 = .ok (.ireturn, 1) := dk_172 (dk_at dksX12_pass_1 8 rfl rfl)
theorem dX12_pass_33 : decode cX12_pass 33 = .ok (.iconst 0, 1) := dk_3 (dk_at dksX12_pass_1 9 rfl rfl)
theorem dX12_pass_34 : decode cX12_pass 34 = .ok (.istore_n 2, 1) := dk_61 (dk_at dksX12_pass_1 10 rfl rfl)
theorem dX12_pass_35 : decode cX12_pass 35 = .ok (.iload_n 2, 1) := dk_28 (dk_at dksX12_pass_1 11 rfl rfl)
theorem dX12_pass_36 : decode cX12_pass 36 = .ok (.iload_n 1, 1) := dk_27 (dk_at dksX12_pass_1 12 rfl rfl)
theorem dX12_pass_37 : decode cX12_pass 37 = .ok (.if_icmp .ge 13, 3) := dk_162 0 13 (dk_at dksX12_pass_1 13 rfl rfl)
theorem dX12_pass_40 : decode cX12_pass 40 = .ok (.iload_n 2, 1) := dk_28 (dk_at dksX12_pass_1 16 rfl rfl)
theorem dX12_pass_41 : decode cX12_pass 41 = .ok (.aload_n 0, 1) := dk_42 (dk_at dksX12_pass_1 17 rfl rfl)
theorem dX12_pass_42 : decode cX12_pass 42 = .ok (.invokevirtual 356, 3) := dk_182 1 100 (dk_at dksX12_pass_1 18 rfl rfl)
theorem dX12_pass_45 : decode cX12_pass 45 = .ok (.iadd, 1) := dk_96 (dk_at dksX12_pass_1 21 rfl rfl)
theorem dX12_pass_46 : decode cX12_pass 46 = .ok (.istore_n 2, 1) := dk_61 (dk_at dksX12_pass_1 22 rfl rfl)
theorem dX12_pass_47 : decode cX12_pass 47 = .ok (.goto (-12), 3) := dk_167 255 244 (dk_at dksX12_pass_2 0 rfl rfl)
theorem dX12_pass_50 : decode cX12_pass 50 = .ok (.iload_n 2, 1) := dk_28 (dk_at dksX12_pass_2 3 rfl rfl)
theorem dX12_pass_51 : decode cX12_pass 51 = .ok (.ireturn, 1) := dk_172 (dk_at dksX12_pass_2 4 rfl rfl)
abbrev cX12_host : ByteArray := prog_13_method_70_code
def yX12_host : MethodName := ⟨RX12, "host", "(I)I"⟩
def dkwX12_host_1 : List UInt8 := [180, 0, 204, 27, 17, 0, 255, 126, 79, 42, 89, 180, 0, 204, 4, 96, 181, 0, 204, 42, 180, 0, 204, 172]
abbrev dktX12_host_1 : List UInt8 := dkwX12_host_1 ++ []
def dkwX12_host_0 : List UInt8 := [42, 3, 181, 0, 74, 42, 180, 0, 204, 17, 1, 44, 160, 0, 5, 2, 172, 42, 180, 0, 37, 42]
abbrev dktX12_host_0 : List UInt8 := dkwX12_host_0 ++ dktX12_host_1
theorem dksX12_host_0 : cX12_host.data.toList.drop 0 = dktX12_host_0 := by decide +kernel
theorem dksX12_host_1 : cX12_host.data.toList.drop 22 = dktX12_host_1 := dk_seg dksX12_host_0 22 rfl rfl
theorem dX12_host_0 : decode cX12_host 0 = .ok (.aload_n 0, 1) := dk_42 (dk_at dksX12_host_0 0 rfl rfl)
theorem dX12_host_1 : decode cX12_host 1 = .ok (.iconst 0, 1) := dk_3 (dk_at dksX12_host_0 1 rfl rfl)
theorem dX12_host_2 : decode cX12_host 2 = .ok (.putfield 74, 3) := dk_181 0 74 (dk_at dksX12_host_0 2 rfl rfl)
theorem dX12_host_5 : decode cX12_host 5 = .ok (.aload_n 0, 1) := dk_42 (dk_at dksX12_host_0 5 rfl rfl)
theorem dX12_host_6 : decode cX12_host 6 = .ok (.getfield 204, 3) := dk_180 0 204 (dk_at dksX12_host_0 6 rfl rfl)
theorem dX12_host_9 : decode cX12_host 9 = .ok (.sipush 300, 3) := dk_17 1 44 (dk_at dksX12_host_0 9 rfl rfl)
theorem dX12_host_12 : decode cX12_host 12 = .ok (.if_icmp .ne 5, 3) := dk_160 0 5 (dk_at dksX12_host_0 12 rfl rfl)
theorem dX12_host_15 : decode cX12_host 15 = .ok (.iconst (-1), 1) := dk_2 (dk_at dksX12_host_0 15 rfl rfl)
theorem dX12_host_16 : decode cX12_host 16 = .ok (.ireturn, 1) := dk_172 (dk_at dksX12_host_0 16 rfl rfl)
theorem dX12_host_17 : decode cX12_host 17 = .ok (.aload_n 0, 1) := dk_42 (dk_at dksX12_host_0 17 rfl rfl)
theorem dX12_host_18 : decode cX12_host 18 = .ok (.getfield 37, 3) := dk_180 0 37 (dk_at dksX12_host_0 18 rfl rfl)
theorem dX12_host_21 : decode cX12_host 21 = .ok (.aload_n 0, 1) := dk_42 (dk_at dksX12_host_0 21 rfl rfl)
theorem dX12_host_22 : decode cX12_host 22 = .ok (.getfield 204, 3) := dk_180 0 204 (dk_at dksX12_host_1 0 rfl rfl)
theorem dX12_host_25 : decode cX12_host 25 = .ok (.iload_n 1, 1) := dk_27 (dk_at dksX12_host_1 3 rfl rfl)
theorem dX12_host_26 : decode cX12_host 26 = .ok (.sipush 255, 3) := dk_17 0 255 (dk_at dksX12_host_1 4 rfl rfl)
theorem dX12_host_29 : decode cX12_host 29 = .ok (.iand, 1) := dk_126 (dk_at dksX12_host_1 7 rfl rfl)
theorem dX12_host_30 : decode cX12_host 30 = .ok (.iastore, 1) := dk_79 (dk_at dksX12_host_1 8 rfl rfl)
theorem dX12_host_31 : decode cX12_host 31 = .ok (.aload_n 0, 1) := dk_42 (dk_at dksX12_host_1 9 rfl rfl)
theorem dX12_host_32 : decode cX12_host 32 = .ok (.dup, 1) := dk_89 (dk_at dksX12_host_1 10 rfl rfl)
theorem dX12_host_33 : decode cX12_host 33 = .ok (.getfield 204, 3) := dk_180 0 204 (dk_at dksX12_host_1 11 rfl rfl)
theorem dX12_host_36 : decode cX12_host 36 = .ok (.iconst 1, 1) := dk_4 (dk_at dksX12_host_1 14 rfl rfl)
theorem dX12_host_37 : decode cX12_host 37 = .ok (.iadd, 1) := dk_96 (dk_at dksX12_host_1 15 rfl rfl)
theorem dX12_host_38 : decode cX12_host 38 = .ok (.putfield 204, 3) := dk_181 0 204 (dk_at dksX12_host_1 16 rfl rfl)
theorem dX12_host_41 : decode cX12_host 41 = .ok (.aload_n 0, 1) := dk_42 (dk_at dksX12_host_1 19 rfl rfl)
theorem dX12_host_42 : decode cX12_host 42 = .ok (.getfield 204, 3) := dk_180 0 204 (dk_at dksX12_host_1 20 rfl rfl)
theorem dX12_host_45 : decode cX12_host 45 = .ok (.ireturn, 1) := dk_172 (dk_at dksX12_host_1 23 rfl rfl)
abbrev cX12_sent : ByteArray := prog_13_method_71_code
def yX12_sent : MethodName := ⟨RX12, "sent", "()I"⟩
def dkwX12_sent_0 : List UInt8 := [42, 3, 181, 0, 74, 42, 180, 0, 201, 172]
abbrev dktX12_sent_0 : List UInt8 := dkwX12_sent_0 ++ []
theorem dksX12_sent_0 : cX12_sent.data.toList.drop 0 = dktX12_sent_0 := by decide +kernel
theorem dX12_sent_0 : decode cX12_sent 0 = .ok (.aload_n 0, 1) := dk_42 (dk_at dksX12_sent_0 0 rfl rfl)
theorem dX12_sent_1 : decode cX12_sent 1 = .ok (.iconst 0, 1) := dk_3 (dk_at dksX12_sent_0 1 rfl rfl)
theorem dX12_sent_2 : decode cX12_sent 2 = .ok (.putfield 74, 3) := dk_181 0 74 (dk_at dksX12_sent_0 2 rfl rfl)
theorem dX12_sent_5 : decode cX12_sent 5 = .ok (.aload_n 0, 1) := dk_42 (dk_at dksX12_sent_0 5 rfl rfl)
theorem dX12_sent_6 : decode cX12_sent 6 = .ok (.getfield 201, 3) := dk_180 0 201 (dk_at dksX12_sent_0 6 rfl rfl)
theorem dX12_sent_9 : decode cX12_sent 9 = .ok (.ireturn, 1) := dk_172 (dk_at dksX12_sent_0 9 rfl rfl)
abbrev cX12_got : ByteArray := prog_13_method_72_code
def yX12_got : MethodName := ⟨RX12, "got", "(I)I"⟩
def dkwX12_got_1 : List UInt8 := [3, 182, 1, 103, 153, 0, 12, 42, 180, 0, 40, 27, 46, 167, 0, 4, 3, 172]
abbrev dktX12_got_1 : List UInt8 := dkwX12_got_1 ++ []
def dkwX12_got_0 : List UInt8 := [42, 27, 155, 0, 22, 27, 42, 180, 0, 201, 162, 0, 14, 27, 17, 3, 232, 162, 0, 7, 4, 167, 0, 4]
abbrev dktX12_got_0 : List UInt8 := dkwX12_got_0 ++ dktX12_got_1
theorem dksX12_got_0 : cX12_got.data.toList.drop 0 = dktX12_got_0 := by decide +kernel
theorem dksX12_got_1 : cX12_got.data.toList.drop 24 = dktX12_got_1 := dk_seg dksX12_got_0 24 rfl rfl
theorem dX12_got_0 : decode cX12_got 0 = .ok (.aload_n 0, 1) := dk_42 (dk_at dksX12_got_0 0 rfl rfl)
theorem dX12_got_1 : decode cX12_got 1 = .ok (.iload_n 1, 1) := dk_27 (dk_at dksX12_got_0 1 rfl rfl)
theorem dX12_got_2 : decode cX12_got 2 = .ok (.ifCond .lt 22, 3) := dk_155 0 22 (dk_at dksX12_got_0 2 rfl rfl)
theorem dX12_got_5 : decode cX12_got 5 = .ok (.iload_n 1, 1) := dk_27 (dk_at dksX12_got_0 5 rfl rfl)
theorem dX12_got_6 : decode cX12_got 6 = .ok (.aload_n 0, 1) := dk_42 (dk_at dksX12_got_0 6 rfl rfl)
theorem dX12_got_7 : decode cX12_got 7 = .ok (.getfield 201, 3) := dk_180 0 201 (dk_at dksX12_got_0 7 rfl rfl)
theorem dX12_got_10 : decode cX12_got 10 = .ok (.if_icmp .ge 14, 3) := dk_162 0 14 (dk_at dksX12_got_0 10 rfl rfl)
theorem dX12_got_13 : decode cX12_got 13 = .ok (.iload_n 1, 1) := dk_27 (dk_at dksX12_got_0 13 rfl rfl)
theorem dX12_got_14 : decode cX12_got 14 = .ok (.sipush 1000, 3) := dk_17 3 232 (dk_at dksX12_got_0 14 rfl rfl)
theorem dX12_got_17 : decode cX12_got 17 = .ok (.if_icmp .ge 7, 3) := dk_162 0 7 (dk_at dksX12_got_0 17 rfl rfl)
theorem dX12_got_20 : decode cX12_got 20 = .ok (.iconst 1, 1) := dk_4 (dk_at dksX12_got_0 20 rfl rfl)
theorem dX12_got_21 : decode cX12_got 21 = .ok (.goto 4, 3) := dk_167 0 4 (dk_at dksX12_got_0 21 rfl rfl)
theorem dX12_got_24 : decode cX12_got 24 = .ok (.iconst 0, 1) := dk_3 (dk_at dksX12_got_1 0 rfl rfl)
theorem dX12_got_25 : decode cX12_got 25 = .ok (.invokevirtual 359, 3) := dk_182 1 103 (dk_at dksX12_got_1 1 rfl rfl)
theorem dX12_got_28 : decode cX12_got 28 = .ok (.ifCond .eq 12, 3) := dk_153 0 12 (dk_at dksX12_got_1 4 rfl rfl)
theorem dX12_got_31 : decode cX12_got 31 = .ok (.aload_n 0, 1) := dk_42 (dk_at dksX12_got_1 7 rfl rfl)
theorem dX12_got_32 : decode cX12_got 32 = .ok (.getfield 40, 3) := dk_180 0 40 (dk_at dksX12_got_1 8 rfl rfl)
theorem dX12_got_35 : decode cX12_got 35 = .ok (.iload_n 1, 1) := dk_27 (dk_at dksX12_got_1 11 rfl rfl)
theorem dX12_got_36 : decode cX12_got 36 = .ok (.iaload, 1) := dk_46 (dk_at dksX12_got_1 12 rfl rfl)
theorem dX12_got_37 : decode cX12_got 37 = .ok (.goto 4, 3) := dk_167 0 4 (dk_at dksX12_got_1 13 rfl rfl)
theorem dX12_got_40 : decode cX12_got 40 = .ok (.iconst 0, 1) := dk_3 (dk_at dksX12_got_1 16 rfl rfl)
theorem dX12_got_41 : decode cX12_got 41 = .ok (.ireturn, 1) := dk_172 (dk_at dksX12_got_1 17 rfl rfl)
abbrev cX12_burn : ByteArray := prog_13_method_73_code
def yX12_burn : MethodName := ⟨RX12, "burn", "(IIIIII)I"⟩
def dkwX12_burn_3 : List UInt8 := [182, 1, 108, 172]
abbrev dktX12_burn_3 : List UInt8 := dkwX12_burn_3 ++ []
def dkwX12_burn_2 : List UInt8 := [21, 4, 182, 1, 108, 54, 7, 42, 27, 21, 7, 21, 5, 182, 1, 108, 54, 7, 42, 27, 21, 7, 21, 6]
abbrev dktX12_burn_2 : List UInt8 := dkwX12_burn_2 ++ dktX12_burn_3
def dkwX12_burn_1 : List UInt8 := [172, 42, 27, 3, 28, 182, 1, 108, 54, 7, 42, 27, 21, 7, 29, 182, 1, 108, 54, 7, 42, 27, 21, 7]
abbrev dktX12_burn_1 : List UInt8 := dkwX12_burn_1 ++ dktX12_burn_2
def dkwX12_burn_0 : List UInt8 := [42, 27, 155, 0, 14, 27, 17, 8, 0, 162, 0, 7, 4, 167, 0, 4, 3, 182, 1, 103, 154, 0, 5, 3]
abbrev dktX12_burn_0 : List UInt8 := dkwX12_burn_0 ++ dktX12_burn_1
theorem dksX12_burn_0 : cX12_burn.data.toList.drop 0 = dktX12_burn_0 := by decide +kernel
theorem dksX12_burn_1 : cX12_burn.data.toList.drop 24 = dktX12_burn_1 := dk_seg dksX12_burn_0 24 rfl rfl
theorem dksX12_burn_2 : cX12_burn.data.toList.drop 48 = dktX12_burn_2 := dk_seg dksX12_burn_1 24 rfl rfl
theorem dksX12_burn_3 : cX12_burn.data.toList.drop 72 = dktX12_burn_3 := dk_seg dksX12_burn_2 24 rfl rfl
theorem dX12_burn_0 : decode cX12_burn 0 = .ok (.aload_n 0, 1) := dk_42 (dk_at dksX12_burn_0 0 rfl rfl)
theorem dX12_burn_1 : decode cX12_burn 1 = .ok (.iload_n 1, 1) := dk_27 (dk_at dksX12_burn_0 1 rfl rfl)
theorem dX12_burn_2 : decode cX12_burn 2 = .ok (.ifCond .lt 14, 3) := dk_155 0 14 (dk_at dksX12_burn_0 2 rfl rfl)
theorem dX12_burn_5 : decode cX12_burn 5 = .ok (.iload_n 1, 1) := dk_27 (dk_at dksX12_burn_0 5 rfl rfl)
theorem dX12_burn_6 : decode cX12_burn 6 = .ok (.sipush 2048, 3) := dk_17 8 0 (dk_at dksX12_burn_0 6 rfl rfl)
theorem dX12_burn_9 : decode cX12_burn 9 = .ok (.if_icmp .ge 7, 3) := dk_162 0 7 (dk_at dksX12_burn_0 9 rfl rfl)
theorem dX12_burn_12 : decode cX12_burn 12 = .ok (.iconst 1, 1) := dk_4 (dk_at dksX12_burn_0 12 rfl rfl)
theorem dX12_burn_13 : decode cX12_burn 13 = .ok (.goto 4, 3) := dk_167 0 4 (dk_at dksX12_burn_0 13 rfl rfl)
theorem dX12_burn_16 : decode cX12_burn 16 = .ok (.iconst 0, 1) := dk_3 (dk_at dksX12_burn_0 16 rfl rfl)
theorem dX12_burn_17 : decode cX12_burn 17 = .ok (.invokevirtual 359, 3) := dk_182 1 103 (dk_at dksX12_burn_0 17 rfl rfl)
theorem dX12_burn_20 : decode cX12_burn 20 = .ok (.ifCond .ne 5, 3) := dk_154 0 5 (dk_at dksX12_burn_0 20 rfl rfl)
theorem dX12_burn_23 : decode cX12_burn 23 = .ok (.iconst 0, 1) := dk_3 (dk_at dksX12_burn_0 23 rfl rfl)
theorem dX12_burn_24 : decode cX12_burn 24 = .ok (.ireturn, 1) := dk_172 (dk_at dksX12_burn_1 0 rfl rfl)
theorem dX12_burn_25 : decode cX12_burn 25 = .ok (.aload_n 0, 1) := dk_42 (dk_at dksX12_burn_1 1 rfl rfl)
theorem dX12_burn_26 : decode cX12_burn 26 = .ok (.iload_n 1, 1) := dk_27 (dk_at dksX12_burn_1 2 rfl rfl)
theorem dX12_burn_27 : decode cX12_burn 27 = .ok (.iconst 0, 1) := dk_3 (dk_at dksX12_burn_1 3 rfl rfl)
theorem dX12_burn_28 : decode cX12_burn 28 = .ok (.iload_n 2, 1) := dk_28 (dk_at dksX12_burn_1 4 rfl rfl)
theorem dX12_burn_29 : decode cX12_burn 29 = .ok (.invokevirtual 364, 3) := dk_182 1 108 (dk_at dksX12_burn_1 5 rfl rfl)
theorem dX12_burn_32 : decode cX12_burn 32 = .ok (.istore 7, 2) := dk_54 7 (dk_at dksX12_burn_1 8 rfl rfl)
theorem dX12_burn_34 : decode cX12_burn 34 = .ok (.aload_n 0, 1) := dk_42 (dk_at dksX12_burn_1 10 rfl rfl)
theorem dX12_burn_35 : decode cX12_burn 35 = .ok (.iload_n 1, 1) := dk_27 (dk_at dksX12_burn_1 11 rfl rfl)
theorem dX12_burn_36 : decode cX12_burn 36 = .ok (.iload 7, 2) := dk_21 7 (dk_at dksX12_burn_1 12 rfl rfl)
theorem dX12_burn_38 : decode cX12_burn 38 = .ok (.iload_n 3, 1) := dk_29 (dk_at dksX12_burn_1 14 rfl rfl)
theorem dX12_burn_39 : decode cX12_burn 39 = .ok (.invokevirtual 364, 3) := dk_182 1 108 (dk_at dksX12_burn_1 15 rfl rfl)
theorem dX12_burn_42 : decode cX12_burn 42 = .ok (.istore 7, 2) := dk_54 7 (dk_at dksX12_burn_1 18 rfl rfl)
theorem dX12_burn_44 : decode cX12_burn 44 = .ok (.aload_n 0, 1) := dk_42 (dk_at dksX12_burn_1 20 rfl rfl)
theorem dX12_burn_45 : decode cX12_burn 45 = .ok (.iload_n 1, 1) := dk_27 (dk_at dksX12_burn_1 21 rfl rfl)
theorem dX12_burn_46 : decode cX12_burn 46 = .ok (.iload 7, 2) := dk_21 7 (dk_at dksX12_burn_1 22 rfl rfl)
theorem dX12_burn_48 : decode cX12_burn 48 = .ok (.iload 4, 2) := dk_21 4 (dk_at dksX12_burn_2 0 rfl rfl)
theorem dX12_burn_50 : decode cX12_burn 50 = .ok (.invokevirtual 364, 3) := dk_182 1 108 (dk_at dksX12_burn_2 2 rfl rfl)
theorem dX12_burn_53 : decode cX12_burn 53 = .ok (.istore 7, 2) := dk_54 7 (dk_at dksX12_burn_2 5 rfl rfl)
theorem dX12_burn_55 : decode cX12_burn 55 = .ok (.aload_n 0, 1) := dk_42 (dk_at dksX12_burn_2 7 rfl rfl)
theorem dX12_burn_56 : decode cX12_burn 56 = .ok (.iload_n 1, 1) := dk_27 (dk_at dksX12_burn_2 8 rfl rfl)
theorem dX12_burn_57 : decode cX12_burn 57 = .ok (.iload 7, 2) := dk_21 7 (dk_at dksX12_burn_2 9 rfl rfl)
theorem dX12_burn_59 : decode cX12_burn 59 = .ok (.iload 5, 2) := dk_21 5 (dk_at dksX12_burn_2 11 rfl rfl)
theorem dX12_burn_61 : decode cX12_burn 61 = .ok (.invokevirtual 364, 3) := dk_182 1 108 (dk_at dksX12_burn_2 13 rfl rfl)
theorem dX12_burn_64 : decode cX12_burn 64 = .ok (.istore 7, 2) := dk_54 7 (dk_at dksX12_burn_2 16 rfl rfl)
theorem dX12_burn_66 : decode cX12_burn 66 = .ok (.aload_n 0, 1) := dk_42 (dk_at dksX12_burn_2 18 rfl rfl)
theorem dX12_burn_67 : decode cX12_burn 67 = .ok (.iload_n 1, 1) := dk_27 (dk_at dksX12_burn_2 19 rfl rfl)
theorem dX12_burn_68 : decode cX12_burn 68 = .ok (.iload 7, 2) := dk_21 7 (dk_at dksX12_burn_2 20 rfl rfl)
theorem dX12_burn_70 : decode cX12_burn 70 = .ok (.iload 6, 2) := dk_21 6 (dk_at dksX12_burn_2 22 rfl rfl)
theorem dX12_burn_72 : decode cX12_burn 72 = .ok (.invokevirtual 364, 3) := dk_182 1 108 (dk_at dksX12_burn_3 0 rfl rfl)
theorem dX12_burn_75 : decode cX12_burn 75 = .ok (.ireturn, 1) := dk_172 (dk_at dksX12_burn_3 3 rfl rfl)
abbrev cX12_burnt : ByteArray := prog_13_method_74_code
def yX12_burnt : MethodName := ⟨RX12, "burnt", "(III)I"⟩
def dkwX12_burnt_2 : List UInt8 := [18, 43, 126, 79, 132, 4, 1, 21, 4, 172]
abbrev dktX12_burnt_2 : List UInt8 := dkwX12_burnt_2 ++ []
def dkwX12_burnt_1 : List UInt8 := [124, 79, 132, 4, 1, 27, 21, 4, 96, 17, 8, 0, 162, 0, 19, 42, 180, 0, 7, 27, 21, 4, 96, 29]
abbrev dktX12_burnt_1 : List UInt8 := dkwX12_burnt_1 ++ dktX12_burnt_2
def dkwX12_burnt_0 : List UInt8 := [28, 54, 4, 27, 21, 4, 96, 17, 8, 0, 162, 0, 19, 42, 180, 0, 7, 27, 21, 4, 96, 29, 16, 16]
abbrev dktX12_burnt_0 : List UInt8 := dkwX12_burnt_0 ++ dktX12_burnt_1
theorem dksX12_burnt_0 : cX12_burnt.data.toList.drop 0 = dktX12_burnt_0 := by decide +kernel
theorem dksX12_burnt_1 : cX12_burnt.data.toList.drop 24 = dktX12_burnt_1 := dk_seg dksX12_burnt_0 24 rfl rfl
theorem dksX12_burnt_2 : cX12_burnt.data.toList.drop 48 = dktX12_burnt_2 := dk_seg dksX12_burnt_1 24 rfl rfl
theorem dX12_burnt_0 : decode cX12_burnt 0 = .ok (.iload_n 2, 1) := dk_28 (dk_at dksX12_burnt_0 0 rfl rfl)
theorem dX12_burnt_1 : decode cX12_burnt 1 = .ok (.istore 4, 2) := dk_54 4 (dk_at dksX12_burnt_0 1 rfl rfl)
theorem dX12_burnt_3 : decode cX12_burnt 3 = .ok (.iload_n 1, 1) := dk_27 (dk_at dksX12_burnt_0 3 rfl rfl)
theorem dX12_burnt_4 : decode cX12_burnt 4 = .ok (.iload 4, 2) := dk_21 4 (dk_at dksX12_burnt_0 4 rfl rfl)
theorem dX12_burnt_6 : decode cX12_burnt 6 = .ok (.iadd, 1) := dk_96 (dk_at dksX12_burnt_0 6 rfl rfl)
theorem dX12_burnt_7 : decode cX12_burnt 7 = .ok (.sipush 2048, 3) := dk_17 8 0 (dk_at dksX12_burnt_0 7 rfl rfl)
theorem dX12_burnt_10 : decode cX12_burnt 10 = .ok (.if_icmp .ge 19, 3) := dk_162 0 19 (dk_at dksX12_burnt_0 10 rfl rfl)
theorem dX12_burnt_13 : decode cX12_burnt 13 = .ok (.aload_n 0, 1) := dk_42 (dk_at dksX12_burnt_0 13 rfl rfl)
theorem dX12_burnt_14 : decode cX12_burnt 14 = .ok (.getfield 7, 3) := dk_180 0 7 (dk_at dksX12_burnt_0 14 rfl rfl)
theorem dX12_burnt_17 : decode cX12_burnt 17 = .ok (.iload_n 1, 1) := dk_27 (dk_at dksX12_burnt_0 17 rfl rfl)
theorem dX12_burnt_18 : decode cX12_burnt 18 = .ok (.iload 4, 2) := dk_21 4 (dk_at dksX12_burnt_0 18 rfl rfl)
theorem dX12_burnt_20 : decode cX12_burnt 20 = .ok (.iadd, 1) := dk_96 (dk_at dksX12_burnt_0 20 rfl rfl)
theorem dX12_burnt_21 : decode cX12_burnt 21 = .ok (.iload_n 3, 1) := dk_29 (dk_at dksX12_burnt_0 21 rfl rfl)
theorem dX12_burnt_22 : decode cX12_burnt 22 = .ok (.bipush 16, 2) := dk_16 16 (dk_at dksX12_burnt_0 22 rfl rfl)
theorem dX12_burnt_24 : decode cX12_burnt 24 = .ok (.iushr, 1) := dk_124 (dk_at dksX12_burnt_1 0 rfl rfl)
theorem dX12_burnt_25 : decode cX12_burnt 25 = .ok (.iastore, 1) := dk_79 (dk_at dksX12_burnt_1 1 rfl rfl)
theorem dX12_burnt_26 : decode cX12_burnt 26 = .ok (.iinc 4 1, 3) := dk_132 4 1 (dk_at dksX12_burnt_1 2 rfl rfl)
theorem dX12_burnt_29 : decode cX12_burnt 29 = .ok (.iload_n 1, 1) := dk_27 (dk_at dksX12_burnt_1 5 rfl rfl)
theorem dX12_burnt_30 : decode cX12_burnt 30 = .ok (.iload 4, 2) := dk_21 4 (dk_at dksX12_burnt_1 6 rfl rfl)
theorem dX12_burnt_32 : decode cX12_burnt 32 = .ok (.iadd, 1) := dk_96 (dk_at dksX12_burnt_1 8 rfl rfl)
theorem dX12_burnt_33 : decode cX12_burnt 33 = .ok (.sipush 2048, 3) := dk_17 8 0 (dk_at dksX12_burnt_1 9 rfl rfl)
theorem dX12_burnt_36 : decode cX12_burnt 36 = .ok (.if_icmp .ge 19, 3) := dk_162 0 19 (dk_at dksX12_burnt_1 12 rfl rfl)
theorem dX12_burnt_39 : decode cX12_burnt 39 = .ok (.aload_n 0, 1) := dk_42 (dk_at dksX12_burnt_1 15 rfl rfl)
theorem dX12_burnt_40 : decode cX12_burnt 40 = .ok (.getfield 7, 3) := dk_180 0 7 (dk_at dksX12_burnt_1 16 rfl rfl)
theorem dX12_burnt_43 : decode cX12_burnt 43 = .ok (.iload_n 1, 1) := dk_27 (dk_at dksX12_burnt_1 19 rfl rfl)
theorem dX12_burnt_44 : decode cX12_burnt 44 = .ok (.iload 4, 2) := dk_21 4 (dk_at dksX12_burnt_1 20 rfl rfl)
theorem dX12_burnt_46 : decode cX12_burnt 46 = .ok (.iadd, 1) := dk_96 (dk_at dksX12_burnt_1 22 rfl rfl)
theorem dX12_burnt_47 : decode cX12_burnt 47 = .ok (.iload_n 3, 1) := dk_29 (dk_at dksX12_burnt_1 23 rfl rfl)
theorem dX12_burnt_48 : decode cX12_burnt 48 = .ok (.ldc 43, 2) := dk_18 43 (dk_at dksX12_burnt_2 0 rfl rfl)
theorem dX12_burnt_50 : decode cX12_burnt 50 = .ok (.iand, 1) := dk_126 (dk_at dksX12_burnt_2 2 rfl rfl)
theorem dX12_burnt_51 : decode cX12_burnt 51 = .ok (.iastore, 1) := dk_79 (dk_at dksX12_burnt_2 3 rfl rfl)
theorem dX12_burnt_52 : decode cX12_burnt 52 = .ok (.iinc 4 1, 3) := dk_132 4 1 (dk_at dksX12_burnt_2 4 rfl rfl)
theorem dX12_burnt_55 : decode cX12_burnt 55 = .ok (.iload 4, 2) := dk_21 4 (dk_at dksX12_burnt_2 7 rfl rfl)
theorem dX12_burnt_57 : decode cX12_burnt 57 = .ok (.ireturn, 1) := dk_172 (dk_at dksX12_burnt_2 9 rfl rfl)
abbrev cX12_word : ByteArray := prog_13_method_75_code
def yX12_word : MethodName := ⟨RX12, "word", "(I)I"⟩
def dkwX12_word_1 : List UInt8 := [180, 0, 7, 27, 46, 167, 0, 4, 3, 172]
abbrev dktX12_word_1 : List UInt8 := dkwX12_word_1 ++ []
def dkwX12_word_0 : List UInt8 := [42, 27, 155, 0, 14, 27, 17, 8, 0, 162, 0, 7, 4, 167, 0, 4, 3, 182, 1, 103, 153, 0, 12, 42]
abbrev dktX12_word_0 : List UInt8 := dkwX12_word_0 ++ dktX12_word_1
theorem dksX12_word_0 : cX12_word.data.toList.drop 0 = dktX12_word_0 := by decide +kernel
theorem dksX12_word_1 : cX12_word.data.toList.drop 24 = dktX12_word_1 := dk_seg dksX12_word_0 24 rfl rfl
theorem dX12_word_0 : decode cX12_word 0 = .ok (.aload_n 0, 1) := dk_42 (dk_at dksX12_word_0 0 rfl rfl)
theorem dX12_word_1 : decode cX12_word 1 = .ok (.iload_n 1, 1) := dk_27 (dk_at dksX12_word_0 1 rfl rfl)
theorem dX12_word_2 : decode cX12_word 2 = .ok (.ifCond .lt 14, 3) := dk_155 0 14 (dk_at dksX12_word_0 2 rfl rfl)
theorem dX12_word_5 : decode cX12_word 5 = .ok (.iload_n 1, 1) := dk_27 (dk_at dksX12_word_0 5 rfl rfl)
theorem dX12_word_6 : decode cX12_word 6 = .ok (.sipush 2048, 3) := dk_17 8 0 (dk_at dksX12_word_0 6 rfl rfl)
theorem dX12_word_9 : decode cX12_word 9 = .ok (.if_icmp .ge 7, 3) := dk_162 0 7 (dk_at dksX12_word_0 9 rfl rfl)
theorem dX12_word_12 : decode cX12_word 12 = .ok (.iconst 1, 1) := dk_4 (dk_at dksX12_word_0 12 rfl rfl)
theorem dX12_word_13 : decode cX12_word 13 = .ok (.goto 4, 3) := dk_167 0 4 (dk_at dksX12_word_0 13 rfl rfl)
theorem dX12_word_16 : decode cX12_word 16 = .ok (.iconst 0, 1) := dk_3 (dk_at dksX12_word_0 16 rfl rfl)
theorem dX12_word_17 : decode cX12_word 17 = .ok (.invokevirtual 359, 3) := dk_182 1 103 (dk_at dksX12_word_0 17 rfl rfl)
theorem dX12_word_20 : decode cX12_word 20 = .ok (.ifCond .eq 12, 3) := dk_153 0 12 (dk_at dksX12_word_0 20 rfl rfl)
theorem dX12_word_23 : decode cX12_word 23 = .ok (.aload_n 0, 1) := dk_42 (dk_at dksX12_word_0 23 rfl rfl)
theorem dX12_word_24 : decode cX12_word 24 = .ok (.getfield 7, 3) := dk_180 0 7 (dk_at dksX12_word_1 0 rfl rfl)
theorem dX12_word_27 : decode cX12_word 27 = .ok (.iload_n 1, 1) := dk_27 (dk_at dksX12_word_1 3 rfl rfl)
theorem dX12_word_28 : decode cX12_word 28 = .ok (.iaload, 1) := dk_46 (dk_at dksX12_word_1 4 rfl rfl)
theorem dX12_word_29 : decode cX12_word 29 = .ok (.goto 4, 3) := dk_167 0 4 (dk_at dksX12_word_1 5 rfl rfl)
theorem dX12_word_32 : decode cX12_word 32 = .ok (.iconst 0, 1) := dk_3 (dk_at dksX12_word_1 8 rfl rfl)
theorem dX12_word_33 : decode cX12_word 33 = .ok (.ireturn, 1) := dk_172 (dk_at dksX12_word_1 9 rfl rfl)
abbrev cX12_data : ByteArray := prog_13_method_76_code
def yX12_data : MethodName := ⟨RX12, "data", "(I)I"⟩
def dkwX12_data_1 : List UInt8 := [27, 182, 0, 134, 167, 0, 4, 3, 172]
abbrev dktX12_data_1 : List UInt8 := dkwX12_data_1 ++ []
def dkwX12_data_0 : List UInt8 := [42, 27, 155, 0, 14, 27, 17, 5, 0, 162, 0, 7, 4, 167, 0, 4, 3, 182, 1, 103, 153, 0, 11, 42]
abbrev dktX12_data_0 : List UInt8 := dkwX12_data_0 ++ dktX12_data_1
theorem dksX12_data_0 : cX12_data.data.toList.drop 0 = dktX12_data_0 := by decide +kernel
theorem dksX12_data_1 : cX12_data.data.toList.drop 24 = dktX12_data_1 := dk_seg dksX12_data_0 24 rfl rfl
theorem dX12_data_0 : decode cX12_data 0 = .ok (.aload_n 0, 1) := dk_42 (dk_at dksX12_data_0 0 rfl rfl)
theorem dX12_data_1 : decode cX12_data 1 = .ok (.iload_n 1, 1) := dk_27 (dk_at dksX12_data_0 1 rfl rfl)
theorem dX12_data_2 : decode cX12_data 2 = .ok (.ifCond .lt 14, 3) := dk_155 0 14 (dk_at dksX12_data_0 2 rfl rfl)
theorem dX12_data_5 : decode cX12_data 5 = .ok (.iload_n 1, 1) := dk_27 (dk_at dksX12_data_0 5 rfl rfl)
theorem dX12_data_6 : decode cX12_data 6 = .ok (.sipush 1280, 3) := dk_17 5 0 (dk_at dksX12_data_0 6 rfl rfl)
theorem dX12_data_9 : decode cX12_data 9 = .ok (.if_icmp .ge 7, 3) := dk_162 0 7 (dk_at dksX12_data_0 9 rfl rfl)
theorem dX12_data_12 : decode cX12_data 12 = .ok (.iconst 1, 1) := dk_4 (dk_at dksX12_data_0 12 rfl rfl)
theorem dX12_data_13 : decode cX12_data 13 = .ok (.goto 4, 3) := dk_167 0 4 (dk_at dksX12_data_0 13 rfl rfl)
theorem dX12_data_16 : decode cX12_data 16 = .ok (.iconst 0, 1) := dk_3 (dk_at dksX12_data_0 16 rfl rfl)
theorem dX12_data_17 : decode cX12_data 17 = .ok (.invokevirtual 359, 3) := dk_182 1 103 (dk_at dksX12_data_0 17 rfl rfl)
theorem dX12_data_20 : decode cX12_data 20 = .ok (.ifCond .eq 11, 3) := dk_153 0 11 (dk_at dksX12_data_0 20 rfl rfl)
theorem dX12_data_23 : decode cX12_data 23 = .ok (.aload_n 0, 1) := dk_42 (dk_at dksX12_data_0 23 rfl rfl)
theorem dX12_data_24 : decode cX12_data 24 = .ok (.iload_n 1, 1) := dk_27 (dk_at dksX12_data_1 0 rfl rfl)
theorem dX12_data_25 : decode cX12_data 25 = .ok (.invokevirtual 134, 3) := dk_182 0 134 (dk_at dksX12_data_1 1 rfl rfl)
theorem dX12_data_28 : decode cX12_data 28 = .ok (.goto 4, 3) := dk_167 0 4 (dk_at dksX12_data_1 4 rfl rfl)
theorem dX12_data_31 : decode cX12_data 31 = .ok (.iconst 0, 1) := dk_3 (dk_at dksX12_data_1 7 rfl rfl)
theorem dX12_data_32 : decode cX12_data 32 = .ok (.ireturn, 1) := dk_172 (dk_at dksX12_data_1 8 rfl rfl)
abbrev cX12_put : ByteArray := prog_13_method_77_code
def yX12_put : MethodName := ⟨RX12, "put", "(II)V"⟩
def dkwX12_put_2 : List UInt8 := [42, 180, 0, 16, 27, 28, 17, 0, 255, 126, 79, 177]
abbrev dktX12_put_2 : List UInt8 := dkwX12_put_2 ++ []
def dkwX12_put_1 : List UInt8 := [17, 1, 0, 161, 0, 14, 27, 17, 5, 0, 162, 0, 7, 4, 167, 0, 4, 3, 182, 1, 103, 153, 0, 14]
abbrev dktX12_put_1 : List UInt8 := dkwX12_put_1 ++ dktX12_put_2
def dkwX12_put_0 : List UInt8 := [42, 27, 155, 0, 9, 27, 16, 32, 161, 0, 29, 27, 16, 93, 161, 0, 9, 27, 16, 95, 164, 0, 17, 27]
abbrev dktX12_put_0 : List UInt8 := dkwX12_put_0 ++ dktX12_put_1
theorem dksX12_put_0 : cX12_put.data.toList.drop 0 = dktX12_put_0 := by decide +kernel
theorem dksX12_put_1 : cX12_put.data.toList.drop 24 = dktX12_put_1 := dk_seg dksX12_put_0 24 rfl rfl
theorem dksX12_put_2 : cX12_put.data.toList.drop 48 = dktX12_put_2 := dk_seg dksX12_put_1 24 rfl rfl
theorem dX12_put_0 : decode cX12_put 0 = .ok (.aload_n 0, 1) := dk_42 (dk_at dksX12_put_0 0 rfl rfl)
theorem dX12_put_1 : decode cX12_put 1 = .ok (.iload_n 1, 1) := dk_27 (dk_at dksX12_put_0 1 rfl rfl)
theorem dX12_put_2 : decode cX12_put 2 = .ok (.ifCond .lt 9, 3) := dk_155 0 9 (dk_at dksX12_put_0 2 rfl rfl)
theorem dX12_put_5 : decode cX12_put 5 = .ok (.iload_n 1, 1) := dk_27 (dk_at dksX12_put_0 5 rfl rfl)
theorem dX12_put_6 : decode cX12_put 6 = .ok (.bipush 32, 2) := dk_16 32 (dk_at dksX12_put_0 6 rfl rfl)
theorem dX12_put_8 : decode cX12_put 8 = .ok (.if_icmp .lt 29, 3) := dk_161 0 29 (dk_at dksX12_put_0 8 rfl rfl)
theorem dX12_put_11 : decode cX12_put 11 = .ok (.iload_n 1, 1) := dk_27 (dk_at dksX12_put_0 11 rfl rfl)
theorem dX12_put_12 : decode cX12_put 12 = .ok (.bipush 93, 2) := dk_16 93 (dk_at dksX12_put_0 12 rfl rfl)
theorem dX12_put_14 : decode cX12_put 14 = .ok (.if_icmp .lt 9, 3) := dk_161 0 9 (dk_at dksX12_put_0 14 rfl rfl)
theorem dX12_put_17 : decode cX12_put 17 = .ok (.iload_n 1, 1) := dk_27 (dk_at dksX12_put_0 17 rfl rfl)
theorem dX12_put_18 : decode cX12_put 18 = .ok (.bipush 95, 2) := dk_16 95 (dk_at dksX12_put_0 18 rfl rfl)
theorem dX12_put_20 : decode cX12_put 20 = .ok (.if_icmp .le 17, 3) := dk_164 0 17 (dk_at dksX12_put_0 20 rfl rfl)
theorem dX12_put_23 : decode cX12_put 23 = .ok (.iload_n 1, 1) := dk_27 (dk_at dksX12_put_0 23 rfl rfl)
theorem dX12_put_24 : decode cX12_put 24 = .ok (.sipush 256, 3) := dk_17 1 0 (dk_at dksX12_put_1 0 rfl rfl)
theorem dX12_put_27 : decode cX12_put 27 = .ok (.if_icmp .lt 14, 3) := dk_161 0 14 (dk_at dksX12_put_1 3 rfl rfl)
theorem dX12_put_30 : decode cX12_put 30 = .ok (.iload_n 1, 1) := dk_27 (dk_at dksX12_put_1 6 rfl rfl)
theorem dX12_put_31 : decode cX12_put 31 = .ok (.sipush 1280, 3) := dk_17 5 0 (dk_at dksX12_put_1 7 rfl rfl)
theorem dX12_put_34 : decode cX12_put 34 = .ok (.if_icmp .ge 7, 3) := dk_162 0 7 (dk_at dksX12_put_1 10 rfl rfl)
theorem dX12_put_37 : decode cX12_put 37 = .ok (.iconst 1, 1) := dk_4 (dk_at dksX12_put_1 13 rfl rfl)
theorem dX12_put_38 : decode cX12_put 38 = .ok (.goto 4, 3) := dk_167 0 4 (dk_at dksX12_put_1 14 rfl rfl)
theorem dX12_put_41 : decode cX12_put 41 = .ok (.iconst 0, 1) := dk_3 (dk_at dksX12_put_1 17 rfl rfl)
theorem dX12_put_42 : decode cX12_put 42 = .ok (.invokevirtual 359, 3) := dk_182 1 103 (dk_at dksX12_put_1 18 rfl rfl)
theorem dX12_put_45 : decode cX12_put 45 = .ok (.ifCond .eq 14, 3) := dk_153 0 14 (dk_at dksX12_put_1 21 rfl rfl)
theorem dX12_put_48 : decode cX12_put 48 = .ok (.aload_n 0, 1) := dk_42 (dk_at dksX12_put_2 0 rfl rfl)
theorem dX12_put_49 : decode cX12_put 49 = .ok (.getfield 16, 3) := dk_180 0 16 (dk_at dksX12_put_2 1 rfl rfl)
theorem dX12_put_52 : decode cX12_put 52 = .ok (.iload_n 1, 1) := dk_27 (dk_at dksX12_put_2 4 rfl rfl)
theorem dX12_put_53 : decode cX12_put 53 = .ok (.iload_n 2, 1) := dk_28 (dk_at dksX12_put_2 5 rfl rfl)
theorem dX12_put_54 : decode cX12_put 54 = .ok (.sipush 255, 3) := dk_17 0 255 (dk_at dksX12_put_2 6 rfl rfl)
theorem dX12_put_57 : decode cX12_put 57 = .ok (.iand, 1) := dk_126 (dk_at dksX12_put_2 9 rfl rfl)
theorem dX12_put_58 : decode cX12_put 58 = .ok (.iastore, 1) := dk_79 (dk_at dksX12_put_2 10 rfl rfl)
theorem dX12_put_59 : decode cX12_put 59 = .ok (.return_, 1) := dk_177 (dk_at dksX12_put_2 11 rfl rfl)
abbrev cX12_eeprom : ByteArray := prog_13_method_78_code
def yX12_eeprom : MethodName := ⟨RX12, "eeprom", "(I)I"⟩
def dkwX12_eeprom_1 : List UInt8 := [180, 0, 19, 27, 46, 167, 0, 4, 3, 172]
abbrev dktX12_eeprom_1 : List UInt8 := dkwX12_eeprom_1 ++ []
def dkwX12_eeprom_0 : List UInt8 := [42, 27, 155, 0, 14, 27, 17, 1, 0, 162, 0, 7, 4, 167, 0, 4, 3, 182, 1, 103, 153, 0, 12, 42]
abbrev dktX12_eeprom_0 : List UInt8 := dkwX12_eeprom_0 ++ dktX12_eeprom_1
theorem dksX12_eeprom_0 : cX12_eeprom.data.toList.drop 0 = dktX12_eeprom_0 := by decide +kernel
theorem dksX12_eeprom_1 : cX12_eeprom.data.toList.drop 24 = dktX12_eeprom_1 := dk_seg dksX12_eeprom_0 24 rfl rfl
theorem dX12_eeprom_0 : decode cX12_eeprom 0 = .ok (.aload_n 0, 1) := dk_42 (dk_at dksX12_eeprom_0 0 rfl rfl)
theorem dX12_eeprom_1 : decode cX12_eeprom 1 = .ok (.iload_n 1, 1) := dk_27 (dk_at dksX12_eeprom_0 1 rfl rfl)
theorem dX12_eeprom_2 : decode cX12_eeprom 2 = .ok (.ifCond .lt 14, 3) := dk_155 0 14 (dk_at dksX12_eeprom_0 2 rfl rfl)
theorem dX12_eeprom_5 : decode cX12_eeprom 5 = .ok (.iload_n 1, 1) := dk_27 (dk_at dksX12_eeprom_0 5 rfl rfl)
theorem dX12_eeprom_6 : decode cX12_eeprom 6 = .ok (.sipush 256, 3) := dk_17 1 0 (dk_at dksX12_eeprom_0 6 rfl rfl)
theorem dX12_eeprom_9 : decode cX12_eeprom 9 = .ok (.if_icmp .ge 7, 3) := dk_162 0 7 (dk_at dksX12_eeprom_0 9 rfl rfl)
theorem dX12_eeprom_12 : decode cX12_eeprom 12 = .ok (.iconst 1, 1) := dk_4 (dk_at dksX12_eeprom_0 12 rfl rfl)
theorem dX12_eeprom_13 : decode cX12_eeprom 13 = .ok (.goto 4, 3) := dk_167 0 4 (dk_at dksX12_eeprom_0 13 rfl rfl)
theorem dX12_eeprom_16 : decode cX12_eeprom 16 = .ok (.iconst 0, 1) := dk_3 (dk_at dksX12_eeprom_0 16 rfl rfl)
theorem dX12_eeprom_17 : decode cX12_eeprom 17 = .ok (.invokevirtual 359, 3) := dk_182 1 103 (dk_at dksX12_eeprom_0 17 rfl rfl)
theorem dX12_eeprom_20 : decode cX12_eeprom 20 = .ok (.ifCond .eq 12, 3) := dk_153 0 12 (dk_at dksX12_eeprom_0 20 rfl rfl)
theorem dX12_eeprom_23 : decode cX12_eeprom 23 = .ok (.aload_n 0, 1) := dk_42 (dk_at dksX12_eeprom_0 23 rfl rfl)
theorem dX12_eeprom_24 : decode cX12_eeprom 24 = .ok (.getfield 19, 3) := dk_180 0 19 (dk_at dksX12_eeprom_1 0 rfl rfl)
theorem dX12_eeprom_27 : decode cX12_eeprom 27 = .ok (.iload_n 1, 1) := dk_27 (dk_at dksX12_eeprom_1 3 rfl rfl)
theorem dX12_eeprom_28 : decode cX12_eeprom 28 = .ok (.iaload, 1) := dk_46 (dk_at dksX12_eeprom_1 4 rfl rfl)
theorem dX12_eeprom_29 : decode cX12_eeprom 29 = .ok (.goto 4, 3) := dk_167 0 4 (dk_at dksX12_eeprom_1 5 rfl rfl)
theorem dX12_eeprom_32 : decode cX12_eeprom 32 = .ok (.iconst 0, 1) := dk_3 (dk_at dksX12_eeprom_1 8 rfl rfl)
theorem dX12_eeprom_33 : decode cX12_eeprom 33 = .ok (.ireturn, 1) := dk_172 (dk_at dksX12_eeprom_1 9 rfl rfl)
abbrev cX12_pins : ByteArray := prog_13_method_79_code
def yX12_pins : MethodName := ⟨RX12, "pins", "(I)I"⟩
def dkwX12_pins_0 : List UInt8 := [42, 3, 181, 0, 74, 42, 180, 0, 131, 61, 42, 27, 17, 0, 255, 126, 181, 0, 131, 28, 172]
abbrev dktX12_pins_0 : List UInt8 := dkwX12_pins_0 ++ []
theorem dksX12_pins_0 : cX12_pins.data.toList.drop 0 = dktX12_pins_0 := by decide +kernel
theorem dX12_pins_0 : decode cX12_pins 0 = .ok (.aload_n 0, 1) := dk_42 (dk_at dksX12_pins_0 0 rfl rfl)
theorem dX12_pins_1 : decode cX12_pins 1 = .ok (.iconst 0, 1) := dk_3 (dk_at dksX12_pins_0 1 rfl rfl)
theorem dX12_pins_2 : decode cX12_pins 2 = .ok (.putfield 74, 3) := dk_181 0 74 (dk_at dksX12_pins_0 2 rfl rfl)
theorem dX12_pins_5 : decode cX12_pins 5 = .ok (.aload_n 0, 1) := dk_42 (dk_at dksX12_pins_0 5 rfl rfl)
theorem dX12_pins_6 : decode cX12_pins 6 = .ok (.getfield 131, 3) := dk_180 0 131 (dk_at dksX12_pins_0 6 rfl rfl)
theorem dX12_pins_9 : decode cX12_pins 9 = .ok (.istore_n 2, 1) := dk_61 (dk_at dksX12_pins_0 9 rfl rfl)
theorem dX12_pins_10 : decode cX12_pins 10 = .ok (.aload_n 0, 1) := dk_42 (dk_at dksX12_pins_0 10 rfl rfl)
theorem dX12_pins_11 : decode cX12_pins 11 = .ok (.iload_n 1, 1) := dk_27 (dk_at dksX12_pins_0 11 rfl rfl)
theorem dX12_pins_12 : decode cX12_pins 12 = .ok (.sipush 255, 3) := dk_17 0 255 (dk_at dksX12_pins_0 12 rfl rfl)
theorem dX12_pins_15 : decode cX12_pins 15 = .ok (.iand, 1) := dk_126 (dk_at dksX12_pins_0 15 rfl rfl)
theorem dX12_pins_16 : decode cX12_pins 16 = .ok (.putfield 131, 3) := dk_181 0 131 (dk_at dksX12_pins_0 16 rfl rfl)
theorem dX12_pins_19 : decode cX12_pins 19 = .ok (.iload_n 2, 1) := dk_28 (dk_at dksX12_pins_0 19 rfl rfl)
theorem dX12_pins_20 : decode cX12_pins 20 = .ok (.ireturn, 1) := dk_172 (dk_at dksX12_pins_0 20 rfl rfl)
abbrev cX12_fuses : ByteArray := prog_13_method_80_code
def yX12_fuses : MethodName := ⟨RX12, "fuses", "(I)I"⟩
def dkwX12_fuses_1 : List UInt8 := [181, 0, 26, 42, 27, 7, 122, 4, 126, 181, 0, 30, 28, 172]
abbrev dktX12_fuses_1 : List UInt8 := dkwX12_fuses_1 ++ []
def dkwX12_fuses_0 : List UInt8 := [42, 3, 181, 0, 74, 42, 180, 0, 30, 7, 120, 42, 180, 0, 26, 128, 61, 42, 27, 16, 15, 126]
abbrev dktX12_fuses_0 : List UInt8 := dkwX12_fuses_0 ++ dktX12_fuses_1
theorem dksX12_fuses_0 : cX12_fuses.data.toList.drop 0 = dktX12_fuses_0 := by decide +kernel
theorem dksX12_fuses_1 : cX12_fuses.data.toList.drop 22 = dktX12_fuses_1 := dk_seg dksX12_fuses_0 22 rfl rfl
theorem dX12_fuses_0 : decode cX12_fuses 0 = .ok (.aload_n 0, 1) := dk_42 (dk_at dksX12_fuses_0 0 rfl rfl)
theorem dX12_fuses_1 : decode cX12_fuses 1 = .ok (.iconst 0, 1) := dk_3 (dk_at dksX12_fuses_0 1 rfl rfl)
theorem dX12_fuses_2 : decode cX12_fuses 2 = .ok (.putfield 74, 3) := dk_181 0 74 (dk_at dksX12_fuses_0 2 rfl rfl)
theorem dX12_fuses_5 : decode cX12_fuses 5 = .ok (.aload_n 0, 1) := dk_42 (dk_at dksX12_fuses_0 5 rfl rfl)
theorem dX12_fuses_6 : decode cX12_fuses 6 = .ok (.getfield 30, 3) := dk_180 0 30 (dk_at dksX12_fuses_0 6 rfl rfl)
theorem dX12_fuses_9 : decode cX12_fuses 9 = .ok (.iconst 4, 1) := dk_7 (dk_at dksX12_fuses_0 9 rfl rfl)
theorem dX12_fuses_10 : decode cX12_fuses 10 = .ok (.ishl, 1) := dk_120 (dk_at dksX12_fuses_0 10 rfl rfl)
theorem dX12_fuses_11 : decode cX12_fuses 11 = .ok (.aload_n 0, 1) := dk_42 (dk_at dksX12_fuses_0 11 rfl rfl)
theorem dX12_fuses_12 : decode cX12_fuses 12 = .ok (.getfield 26, 3) := dk_180 0 26 (dk_at dksX12_fuses_0 12 rfl rfl)
theorem dX12_fuses_15 : decode cX12_fuses 15 = .ok (.ior, 1) := dk_128 (dk_at dksX12_fuses_0 15 rfl rfl)
theorem dX12_fuses_16 : decode cX12_fuses 16 = .ok (.istore_n 2, 1) := dk_61 (dk_at dksX12_fuses_0 16 rfl rfl)
theorem dX12_fuses_17 : decode cX12_fuses 17 = .ok (.aload_n 0, 1) := dk_42 (dk_at dksX12_fuses_0 17 rfl rfl)
theorem dX12_fuses_18 : decode cX12_fuses 18 = .ok (.iload_n 1, 1) := dk_27 (dk_at dksX12_fuses_0 18 rfl rfl)
theorem dX12_fuses_19 : decode cX12_fuses 19 = .ok (.bipush 15, 2) := dk_16 15 (dk_at dksX12_fuses_0 19 rfl rfl)
theorem dX12_fuses_21 : decode cX12_fuses 21 = .ok (.iand, 1) := dk_126 (dk_at dksX12_fuses_0 21 rfl rfl)
theorem dX12_fuses_22 : decode cX12_fuses 22 = .ok (.putfield 26, 3) := dk_181 0 26 (dk_at dksX12_fuses_1 0 rfl rfl)
theorem dX12_fuses_25 : decode cX12_fuses 25 = .ok (.aload_n 0, 1) := dk_42 (dk_at dksX12_fuses_1 3 rfl rfl)
theorem dX12_fuses_26 : decode cX12_fuses 26 = .ok (.iload_n 1, 1) := dk_27 (dk_at dksX12_fuses_1 4 rfl rfl)
theorem dX12_fuses_27 : decode cX12_fuses 27 = .ok (.iconst 4, 1) := dk_7 (dk_at dksX12_fuses_1 5 rfl rfl)
theorem dX12_fuses_28 : decode cX12_fuses 28 = .ok (.ishr, 1) := dk_122 (dk_at dksX12_fuses_1 6 rfl rfl)
theorem dX12_fuses_29 : decode cX12_fuses 29 = .ok (.iconst 1, 1) := dk_4 (dk_at dksX12_fuses_1 7 rfl rfl)
theorem dX12_fuses_30 : decode cX12_fuses 30 = .ok (.iand, 1) := dk_126 (dk_at dksX12_fuses_1 8 rfl rfl)
theorem dX12_fuses_31 : decode cX12_fuses 31 = .ok (.putfield 30, 3) := dk_181 0 30 (dk_at dksX12_fuses_1 9 rfl rfl)
theorem dX12_fuses_34 : decode cX12_fuses 34 = .ok (.iload_n 2, 1) := dk_28 (dk_at dksX12_fuses_1 12 rfl rfl)
theorem dX12_fuses_35 : decode cX12_fuses 35 = .ok (.ireturn, 1) := dk_172 (dk_at dksX12_fuses_1 13 rfl rfl)
abbrev cX12_start : ByteArray := prog_13_method_81_code
def yX12_start : MethodName := ⟨RX12, "start", "(I)V"⟩
def dkwX12_start_1 : List UInt8 := [42, 27, 181, 0, 77, 42, 3, 181, 0, 80, 177]
abbrev dktX12_start_1 : List UInt8 := dkwX12_start_1 ++ []
def dkwX12_start_0 : List UInt8 := [42, 27, 155, 0, 14, 27, 17, 8, 0, 162, 0, 7, 4, 167, 0, 4, 3, 182, 1, 103, 154, 0, 4, 177]
abbrev dktX12_start_0 : List UInt8 := dkwX12_start_0 ++ dktX12_start_1
theorem dksX12_start_0 : cX12_start.data.toList.drop 0 = dktX12_start_0 := by decide +kernel
theorem dksX12_start_1 : cX12_start.data.toList.drop 24 = dktX12_start_1 := dk_seg dksX12_start_0 24 rfl rfl
theorem dX12_start_0 : decode cX12_start 0 = .ok (.aload_n 0, 1) := dk_42 (dk_at dksX12_start_0 0 rfl rfl)
theorem dX12_start_1 : decode cX12_start 1 = .ok (.iload_n 1, 1) := dk_27 (dk_at dksX12_start_0 1 rfl rfl)
theorem dX12_start_2 : decode cX12_start 2 = .ok (.ifCond .lt 14, 3) := dk_155 0 14 (dk_at dksX12_start_0 2 rfl rfl)
theorem dX12_start_5 : decode cX12_start 5 = .ok (.iload_n 1, 1) := dk_27 (dk_at dksX12_start_0 5 rfl rfl)
theorem dX12_start_6 : decode cX12_start 6 = .ok (.sipush 2048, 3) := dk_17 8 0 (dk_at dksX12_start_0 6 rfl rfl)
theorem dX12_start_9 : decode cX12_start 9 = .ok (.if_icmp .ge 7, 3) := dk_162 0 7 (dk_at dksX12_start_0 9 rfl rfl)
theorem dX12_start_12 : decode cX12_start 12 = .ok (.iconst 1, 1) := dk_4 (dk_at dksX12_start_0 12 rfl rfl)
theorem dX12_start_13 : decode cX12_start 13 = .ok (.goto 4, 3) := dk_167 0 4 (dk_at dksX12_start_0 13 rfl rfl)
theorem dX12_start_16 : decode cX12_start 16 = .ok (.iconst 0, 1) := dk_3 (dk_at dksX12_start_0 16 rfl rfl)
theorem dX12_start_17 : decode cX12_start 17 = .ok (.invokevirtual 359, 3) := dk_182 1 103 (dk_at dksX12_start_0 17 rfl rfl)
theorem dX12_start_20 : decode cX12_start 20 = .ok (.ifCond .ne 4, 3) := dk_154 0 4 (dk_at dksX12_start_0 20 rfl rfl)
theorem dX12_start_23 : decode cX12_start 23 = .ok (.return_, 1) := dk_177 (dk_at dksX12_start_0 23 rfl rfl)
theorem dX12_start_24 : decode cX12_start 24 = .ok (.aload_n 0, 1) := dk_42 (dk_at dksX12_start_1 0 rfl rfl)
theorem dX12_start_25 : decode cX12_start 25 = .ok (.iload_n 1, 1) := dk_27 (dk_at dksX12_start_1 1 rfl rfl)
theorem dX12_start_26 : decode cX12_start 26 = .ok (.putfield 77, 3) := dk_181 0 77 (dk_at dksX12_start_1 2 rfl rfl)
theorem dX12_start_29 : decode cX12_start 29 = .ok (.aload_n 0, 1) := dk_42 (dk_at dksX12_start_1 5 rfl rfl)
theorem dX12_start_30 : decode cX12_start 30 = .ok (.iconst 0, 1) := dk_3 (dk_at dksX12_start_1 6 rfl rfl)
theorem dX12_start_31 : decode cX12_start 31 = .ok (.putfield 80, 3) := dk_181 0 80 (dk_at dksX12_start_1 7 rfl rfl)
theorem dX12_start_34 : decode cX12_start 34 = .ok (.return_, 1) := dk_177 (dk_at dksX12_start_1 10 rfl rfl)
abbrev cX12_reset : ByteArray := prog_13_method_82_code
def yX12_reset : MethodName := ⟨RX12, "reset", "()V"⟩
def dkwX12_reset_0 : List UInt8 := [42, 3, 181, 0, 74, 42, 180, 0, 33, 153, 0, 8, 42, 5, 182, 0, 56, 177]
abbrev dktX12_reset_0 : List UInt8 := dkwX12_reset_0 ++ []
theorem dksX12_reset_0 : cX12_reset.data.toList.drop 0 = dktX12_reset_0 := by decide +kernel
theorem dX12_reset_0 : decode cX12_reset 0 = .ok (.aload_n 0, 1) := dk_42 (dk_at dksX12_reset_0 0 rfl rfl)
theorem dX12_reset_1 : decode cX12_reset 1 = .ok (.iconst 0, 1) := dk_3 (dk_at dksX12_reset_0 1 rfl rfl)
theorem dX12_reset_2 : decode cX12_reset 2 = .ok (.putfield 74, 3) := dk_181 0 74 (dk_at dksX12_reset_0 2 rfl rfl)
theorem dX12_reset_5 : decode cX12_reset 5 = .ok (.aload_n 0, 1) := dk_42 (dk_at dksX12_reset_0 5 rfl rfl)
theorem dX12_reset_6 : decode cX12_reset 6 = .ok (.getfield 33, 3) := dk_180 0 33 (dk_at dksX12_reset_0 6 rfl rfl)
theorem dX12_reset_9 : decode cX12_reset 9 = .ok (.ifCond .eq 8, 3) := dk_153 0 8 (dk_at dksX12_reset_0 9 rfl rfl)
theorem dX12_reset_12 : decode cX12_reset 12 = .ok (.aload_n 0, 1) := dk_42 (dk_at dksX12_reset_0 12 rfl rfl)
theorem dX12_reset_13 : decode cX12_reset 13 = .ok (.iconst 2, 1) := dk_5 (dk_at dksX12_reset_0 13 rfl rfl)
theorem dX12_reset_14 : decode cX12_reset 14 = .ok (.invokevirtual 56, 3) := dk_182 0 56 (dk_at dksX12_reset_0 14 rfl rfl)
theorem dX12_reset_17 : decode cX12_reset 17 = .ok (.return_, 1) := dk_177 (dk_at dksX12_reset_0 17 rfl rfl)
abbrev cX12_power : ByteArray := prog_13_method_83_code
def yX12_power : MethodName := ⟨RX12, "power", "(Z)Z"⟩
def dkwX12_power_2 : List UInt8 := [180, 0, 16, 29, 3, 79, 132, 3, 1, 167, 255, 226, 42, 4, 182, 0, 56, 28, 172]
abbrev dktX12_power_2 : List UInt8 := dkwX12_power_2 ++ []
def dkwX12_power_1 : List UInt8 := [62, 29, 17, 5, 0, 162, 0, 29, 29, 16, 32, 161, 0, 10, 29, 17, 1, 0, 161, 0, 10, 42]
abbrev dktX12_power_1 : List UInt8 := dkwX12_power_1 ++ dktX12_power_2
def dkwX12_power_0 : List UInt8 := [42, 3, 181, 0, 74, 42, 180, 0, 33, 61, 42, 27, 181, 0, 33, 27, 153, 0, 47, 28, 154, 0, 43, 3]
abbrev dktX12_power_0 : List UInt8 := dkwX12_power_0 ++ dktX12_power_1
theorem dksX12_power_0 : cX12_power.data.toList.drop 0 = dktX12_power_0 := by decide +kernel
theorem dksX12_power_1 : cX12_power.data.toList.drop 24 = dktX12_power_1 := dk_seg dksX12_power_0 24 rfl rfl
theorem dksX12_power_2 : cX12_power.data.toList.drop 46 = dktX12_power_2 := dk_seg dksX12_power_1 22 rfl rfl
theorem dX12_power_0 : decode cX12_power 0 = .ok (.aload_n 0, 1) := dk_42 (dk_at dksX12_power_0 0 rfl rfl)
theorem dX12_power_1 : decode cX12_power 1 = .ok (.iconst 0, 1) := dk_3 (dk_at dksX12_power_0 1 rfl rfl)
theorem dX12_power_2 : decode cX12_power 2 = .ok (.putfield 74, 3) := dk_181 0 74 (dk_at dksX12_power_0 2 rfl rfl)
theorem dX12_power_5 : decode cX12_power 5 = .ok (.aload_n 0, 1) := dk_42 (dk_at dksX12_power_0 5 rfl rfl)
theorem dX12_power_6 : decode cX12_power 6 = .ok (.getfield 33, 3) := dk_180 0 33 (dk_at dksX12_power_0 6 rfl rfl)
theorem dX12_power_9 : decode cX12_power 9 = .ok (.istore_n 2, 1) := dk_61 (dk_at dksX12_power_0 9 rfl rfl)
theorem dX12_power_10 : decode cX12_power 10 = .ok (.aload_n 0, 1) := dk_42 (dk_at dksX12_power_0 10 rfl rfl)
theorem dX12_power_11 : decode cX12_power 11 = .ok (.iload_n 1, 1) := dk_27 (dk_at dksX12_power_0 11 rfl rfl)
theorem dX12_power_12 : decode cX12_power 12 = .ok (.putfield 33, 3) := dk_181 0 33 (dk_at dksX12_power_0 12 rfl rfl)
theorem dX12_power_15 : decode cX12_power 15 = .ok (.iload_n 1, 1) := dk_27 (dk_at dksX12_power_0 15 rfl rfl)
theorem dX12_power_16 : decode cX12_power 16 = .ok (.ifCond .eq 47, 3) := dk_153 0 47 (dk_at dksX12_power_0 16 rfl rfl)
theorem dX12_power_19 : decode cX12_power 19 = .ok (.iload_n 2, 1) := dk_28 (dk_at dksX12_power_0 19 rfl rfl)
theorem dX12_power_20 : decode cX12_power 20 = .ok (.ifCond .ne 43, 3) := dk_154 0 43 (dk_at dksX12_power_0 20 rfl rfl)
theorem dX12_power_23 : decode cX12_power 23 = .ok (.iconst 0, 1) := dk_3 (dk_at dksX12_power_0 23 rfl rfl)
theorem dX12_power_24 : decode cX12_power 24 = .ok (.istore_n 3, 1) := dk_62 (dk_at dksX12_power_1 0 rfl rfl)
theorem dX12_power_25 : decode cX12_power 25 = .ok (.iload_n 3, 1) := dk_29 (dk_at dksX12_power_1 1 rfl rfl)
theorem dX12_power_26 : decode cX12_power 26 = .ok (.sipush 1280, 3) := dk_17 5 0 (dk_at dksX12_power_1 2 rfl rfl)
theorem dX12_power_29 : decode cX12_power 29 = .ok (.if_icmp .ge 29, 3) := dk_162 0 29 (dk_at dksX12_power_1 5 rfl rfl)
theorem dX12_power_32 : decode cX12_power 32 = .ok (.iload_n 3, 1) := dk_29 (dk_at dksX12_power_1 8 rfl rfl)
theorem dX12_power_33 : decode cX12_power 33 = .ok (.bipush 32, 2) := dk_16 32 (dk_at dksX12_power_1 9 rfl rfl)
theorem dX12_power_35 : decode cX12_power 35 = .ok (.if_icmp .lt 10, 3) := dk_161 0 10 (dk_at dksX12_power_1 11 rfl rfl)
theorem dX12_power_38 : decode cX12_power 38 = .ok (.iload_n 3, 1) := dk_29 (dk_at dksX12_power_1 14 rfl rfl)
theorem dX12_power_39 : decode cX12_power 39 = .ok (.sipush 256, 3) := dk_17 1 0 (dk_at dksX12_power_1 15 rfl rfl)
theorem dX12_power_42 : decode cX12_power 42 = .ok (.if_icmp .lt 10, 3) := dk_161 0 10 (dk_at dksX12_power_1 18 rfl rfl)
theorem dX12_power_45 : decode cX12_power 45 = .ok (.aload_n 0, 1) := dk_42 (dk_at dksX12_power_1 21 rfl rfl)
theorem dX12_power_46 : decode cX12_power 46 = .ok (.getfield 16, 3) := dk_180 0 16 (dk_at dksX12_power_2 0 rfl rfl)
theorem dX12_power_49 : decode cX12_power 49 = .ok (.iload_n 3, 1) := dk_29 (dk_at dksX12_power_2 3 rfl rfl)
theorem dX12_power_50 : decode cX12_power 50 = .ok (.iconst 0, 1) := dk_3 (dk_at dksX12_power_2 4 rfl rfl)
theorem dX12_power_51 : decode cX12_power 51 = .ok (.iastore, 1) := dk_79 (dk_at dksX12_power_2 5 rfl rfl)
theorem dX12_power_52 : decode cX12_power 52 = .ok (.iinc 3 1, 3) := dk_132 3 1 (dk_at dksX12_power_2 6 rfl rfl)
theorem dX12_power_55 : decode cX12_power 55 = .ok (.goto (-30), 3) := dk_167 255 226 (dk_at dksX12_power_2 9 rfl rfl)
theorem dX12_power_58 : decode cX12_power 58 = .ok (.aload_n 0, 1) := dk_42 (dk_at dksX12_power_2 12 rfl rfl)
theorem dX12_power_59 : decode cX12_power 59 = .ok (.iconst 1, 1) := dk_4 (dk_at dksX12_power_2 13 rfl rfl)
theorem dX12_power_60 : decode cX12_power 60 = .ok (.invokevirtual 56, 3) := dk_182 0 56 (dk_at dksX12_power_2 14 rfl rfl)
theorem dX12_power_63 : decode cX12_power 63 = .ok (.iload_n 2, 1) := dk_28 (dk_at dksX12_power_2 17 rfl rfl)
theorem dX12_power_64 : decode cX12_power 64 = .ok (.ireturn, 1) := dk_172 (dk_at dksX12_power_2 18 rfl rfl)
abbrev cX12_about : ByteArray := prog_13_method_84_code
def yX12_about : MethodName := ⟨RX12, "about", "(I)I"⟩
def dkwX12_about_9 : List UInt8 := [42, 180, 0, 33, 153, 0, 7, 4, 167, 0, 4, 3, 172, 42, 182, 0, 216, 172]
abbrev dktX12_about_9 : List UInt8 := dkwX12_about_9 ++ []
def dkwX12_about_8 : List UInt8 := [180, 0, 95, 172, 42, 180, 0, 98, 172, 42, 180, 0, 101, 172, 42, 180, 0, 104, 172, 42, 180, 0, 107, 172]
abbrev dktX12_about_8 : List UInt8 := dkwX12_about_8 ++ dktX12_about_9
def dkwX12_about_7 : List UInt8 := [172, 42, 180, 0, 204, 172, 42, 180, 0, 119, 172, 42, 180, 0, 113, 172, 42, 180, 0, 116, 172, 42]
abbrev dktX12_about_7 : List UInt8 := dkwX12_about_7 ++ dktX12_about_8
def dkwX12_about_6 : List UInt8 := [4, 167, 0, 4, 3, 96, 61, 132, 3, 1, 167, 255, 230, 28, 172, 42, 180, 0, 92, 172, 42, 180, 0, 89]
abbrev dktX12_about_6 : List UInt8 := dkwX12_about_6 ++ dktX12_about_7
def dkwX12_about_5 : List UInt8 := [180, 0, 86, 172, 3, 61, 3, 62, 29, 16, 32, 162, 0, 26, 28, 42, 180, 0, 22, 29, 51, 153, 0, 7]
abbrev dktX12_about_5 : List UInt8 := dkwX12_about_5 ++ dktX12_about_6
def dkwX12_about_4 : List UInt8 := [172, 42, 180, 0, 179, 172, 42, 180, 0, 213, 172, 42, 180, 0, 176, 172, 42, 180, 0, 210, 172, 42]
abbrev dktX12_about_4 : List UInt8 := dkwX12_about_4 ++ dktX12_about_5
def dkwX12_about_3 : List UInt8 := [42, 180, 0, 77, 172, 42, 16, 93, 182, 0, 231, 172, 42, 180, 0, 80, 153, 0, 7, 4, 167, 0, 4, 3]
abbrev dktX12_about_3 : List UInt8 := dkwX12_about_3 ++ dktX12_about_4
def dkwX12_about_2 : List UInt8 := [170, 0, 0, 0, 0, 0, 252, 0, 0, 0, 0, 0, 0, 0, 20, 0, 0, 0, 99, 0, 0, 0, 104, 0, 0, 0, 111, 0, 0, 0, 124, 0, 0, 0, 129, 0, 0, 0, 134, 0, 0, 0, 139, 0, 0, 0, 144, 0, 0, 0, 149, 0, 0, 0, 184, 0, 0, 0, 189, 0, 0, 0, 194, 0, 0, 0, 199, 0, 0, 0, 204, 0, 0, 0, 209, 0, 0, 0, 214, 0, 0, 0, 219, 0, 0, 0, 224, 0, 0, 0, 229, 0, 0, 0, 234, 0, 0, 0, 239]
abbrev dktX12_about_2 : List UInt8 := dkwX12_about_2 ++ dktX12_about_3
def dkwX12_about_1 : List UInt8 := [27]
abbrev dktX12_about_1 : List UInt8 := dkwX12_about_1 ++ dktX12_about_2
def dkwX12_about_0 : List UInt8 := [42, 27, 155, 0, 13, 27, 16, 21, 163, 0, 7, 4, 167, 0, 4, 3, 182, 1, 103, 154, 0, 5, 3, 172]
abbrev dktX12_about_0 : List UInt8 := dkwX12_about_0 ++ dktX12_about_1
theorem dksX12_about_0 : cX12_about.data.toList.drop 0 = dktX12_about_0 := by decide +kernel
theorem dksX12_about_1 : cX12_about.data.toList.drop 24 = dktX12_about_1 := dk_seg dksX12_about_0 24 rfl rfl
theorem dksX12_about_2 : cX12_about.data.toList.drop 25 = dktX12_about_2 := dk_seg dksX12_about_1 1 rfl rfl
theorem dksX12_about_3 : cX12_about.data.toList.drop 124 = dktX12_about_3 := dk_seg dksX12_about_2 99 rfl rfl
theorem dksX12_about_4 : cX12_about.data.toList.drop 148 = dktX12_about_4 := dk_seg dksX12_about_3 24 rfl rfl
theorem dksX12_about_5 : cX12_about.data.toList.drop 170 = dktX12_about_5 := dk_seg dksX12_about_4 22 rfl rfl
theorem dksX12_about_6 : cX12_about.data.toList.drop 194 = dktX12_about_6 := dk_seg dksX12_about_5 24 rfl rfl
theorem dksX12_about_7 : cX12_about.data.toList.drop 218 = dktX12_about_7 := dk_seg dksX12_about_6 24 rfl rfl
theorem dksX12_about_8 : cX12_about.data.toList.drop 240 = dktX12_about_8 := dk_seg dksX12_about_7 22 rfl rfl
theorem dksX12_about_9 : cX12_about.data.toList.drop 264 = dktX12_about_9 := dk_seg dksX12_about_8 24 rfl rfl
theorem dX12_about_0 : decode cX12_about 0 = .ok (.aload_n 0, 1) := dk_42 (dk_at dksX12_about_0 0 rfl rfl)
theorem dX12_about_1 : decode cX12_about 1 = .ok (.iload_n 1, 1) := dk_27 (dk_at dksX12_about_0 1 rfl rfl)
theorem dX12_about_2 : decode cX12_about 2 = .ok (.ifCond .lt 13, 3) := dk_155 0 13 (dk_at dksX12_about_0 2 rfl rfl)
theorem dX12_about_5 : decode cX12_about 5 = .ok (.iload_n 1, 1) := dk_27 (dk_at dksX12_about_0 5 rfl rfl)
theorem dX12_about_6 : decode cX12_about 6 = .ok (.bipush 21, 2) := dk_16 21 (dk_at dksX12_about_0 6 rfl rfl)
theorem dX12_about_8 : decode cX12_about 8 = .ok (.if_icmp .gt 7, 3) := dk_163 0 7 (dk_at dksX12_about_0 8 rfl rfl)
theorem dX12_about_11 : decode cX12_about 11 = .ok (.iconst 1, 1) := dk_4 (dk_at dksX12_about_0 11 rfl rfl)
theorem dX12_about_12 : decode cX12_about 12 = .ok (.goto 4, 3) := dk_167 0 4 (dk_at dksX12_about_0 12 rfl rfl)
theorem dX12_about_15 : decode cX12_about 15 = .ok (.iconst 0, 1) := dk_3 (dk_at dksX12_about_0 15 rfl rfl)
theorem dX12_about_16 : decode cX12_about 16 = .ok (.invokevirtual 359, 3) := dk_182 1 103 (dk_at dksX12_about_0 16 rfl rfl)
theorem dX12_about_19 : decode cX12_about 19 = .ok (.ifCond .ne 5, 3) := dk_154 0 5 (dk_at dksX12_about_0 19 rfl rfl)
theorem dX12_about_22 : decode cX12_about 22 = .ok (.iconst 0, 1) := dk_3 (dk_at dksX12_about_0 22 rfl rfl)
theorem dX12_about_23 : decode cX12_about 23 = .ok (.ireturn, 1) := dk_172 (dk_at dksX12_about_0 23 rfl rfl)
theorem dX12_about_24 : decode cX12_about 24 = .ok (.iload_n 1, 1) := dk_27 (dk_at dksX12_about_1 0 rfl rfl)
theorem dX12_about_25 : decode cX12_about 25 = .ok (.tableswitch 252 0 20 #[99, 104, 111, 124, 129, 134, 139, 144, 149, 184, 189, 194, 199, 204, 209, 214, 219, 224, 229, 234, 239], 99) := by decide +kernel
theorem dX12_about_124 : decode cX12_about 124 = .ok (.aload_n 0, 1) := dk_42 (dk_at dksX12_about_3 0 rfl rfl)
theorem dX12_about_125 : decode cX12_about 125 = .ok (.getfield 77, 3) := dk_180 0 77 (dk_at dksX12_about_3 1 rfl rfl)
theorem dX12_about_128 : decode cX12_about 128 = .ok (.ireturn, 1) := dk_172 (dk_at dksX12_about_3 4 rfl rfl)
theorem dX12_about_129 : decode cX12_about 129 = .ok (.aload_n 0, 1) := dk_42 (dk_at dksX12_about_3 5 rfl rfl)
theorem dX12_about_130 : decode cX12_about 130 = .ok (.bipush 93, 2) := dk_16 93 (dk_at dksX12_about_3 6 rfl rfl)
theorem dX12_about_132 : decode cX12_about 132 = .ok (.invokevirtual 231, 3) := dk_182 0 231 (dk_at dksX12_about_3 8 rfl rfl)
theorem dX12_about_135 : decode cX12_about 135 = .ok (.ireturn, 1) := dk_172 (dk_at dksX12_about_3 11 rfl rfl)
theorem dX12_about_136 : decode cX12_about 136 = .ok (.aload_n 0, 1) := dk_42 (dk_at dksX12_about_3 12 rfl rfl)
theorem dX12_about_137 : decode cX12_about 137 = .ok (.getfield 80, 3) := dk_180 0 80 (dk_at dksX12_about_3 13 rfl rfl)
theorem dX12_about_140 : decode cX12_about 140 = .ok (.ifCond .eq 7, 3) := dk_153 0 7 (dk_at dksX12_about_3 16 rfl rfl)
theorem dX12_about_143 : decode cX12_about 143 = .ok (.iconst 1, 1) := dk_4 (dk_at dksX12_about_3 19 rfl rfl)
theorem dX12_about_144 : decode cX12_about 144 = .ok (.goto 4, 3) := dk_167 0 4 (dk_at dksX12_about_3 20 rfl rfl)
theorem dX12_about_147 : decode cX12_about 147 = .ok (.iconst 0, 1) := dk_3 (dk_at dksX12_about_3 23 rfl rfl)
theorem dX12_about_148 : decode cX12_about 148 = .ok (.ireturn, 1) := dk_172 (dk_at dksX12_about_4 0 rfl rfl)
theorem dX12_about_149 : decode cX12_about 149 = .ok (.aload_n 0, 1) := dk_42 (dk_at dksX12_about_4 1 rfl rfl)
theorem dX12_about_150 : decode cX12_about 150 = .ok (.getfield 179, 3) := dk_180 0 179 (dk_at dksX12_about_4 2 rfl rfl)
theorem dX12_about_153 : decode cX12_about 153 = .ok (.ireturn, 1) := dk_172 (dk_at dksX12_about_4 5 rfl rfl)
theorem dX12_about_154 : decode cX12_about 154 = .ok (.aload_n 0, 1) := dk_42 (dk_at dksX12_about_4 6 rfl rfl)
theorem dX12_about_155 : decode cX12_about 155 = .ok (.getfield 213, 3) := dk_180 0 213 (dk_at dksX12_about_4 7 rfl rfl)
theorem dX12_about_158 : decode cX12_about 158 = .ok (.ireturn, 1) := dk_172 (dk_at dksX12_about_4 10 rfl rfl)
theorem dX12_about_159 : decode cX12_about 159 = .ok (.aload_n 0, 1) := dk_42 (dk_at dksX12_about_4 11 rfl rfl)
theorem dX12_about_160 : decode cX12_about 160 = .ok (.getfield 176, 3) := dk_180 0 176 (dk_at dksX12_about_4 12 rfl rfl)
theorem dX12_about_163 : decode cX12_about 163 = .ok (.ireturn, 1) := dk_172 (dk_at dksX12_about_4 15 rfl rfl)
theorem dX12_about_164 : decode cX12_about 164 = .ok (.aload_n 0, 1) := dk_42 (dk_at dksX12_about_4 16 rfl rfl)
theorem dX12_about_165 : decode cX12_about 165 = .ok (.getfield 210, 3) := dk_180 0 210 (dk_at dksX12_about_4 17 rfl rfl)
theorem dX12_about_168 : decode cX12_about 168 = .ok (.ireturn, 1) := dk_172 (dk_at dksX12_about_4 20 rfl rfl)
theorem dX12_about_169 : decode cX12_about 169 = .ok (.aload_n 0, 1) := dk_42 (dk_at dksX12_about_4 21 rfl rfl)
theorem dX12_about_170 : decode cX12_about 170 = .ok (.getfield 86, 3) := dk_180 0 86 (dk_at dksX12_about_5 0 rfl rfl)
theorem dX12_about_173 : decode cX12_about 173 = .ok (.ireturn, 1) := dk_172 (dk_at dksX12_about_5 3 rfl rfl)
theorem dX12_about_174 : decode cX12_about 174 = .ok (.iconst 0, 1) := dk_3 (dk_at dksX12_about_5 4 rfl rfl)
theorem dX12_about_175 : decode cX12_about 175 = .ok (.istore_n 2, 1) := dk_61 (dk_at dksX12_about_5 5 rfl rfl)
theorem dX12_about_176 : decode cX12_about 176 = .ok (.iconst 0, 1) := dk_3 (dk_at dksX12_about_5 6 rfl rfl)
theorem dX12_about_177 : decode cX12_about 177 = .ok (.istore_n 3, 1) := dk_62 (dk_at dksX12_about_5 7 rfl rfl)
theorem dX12_about_178 : decode cX12_about 178 = .ok (.iload_n 3, 1) := dk_29 (dk_at dksX12_about_5 8 rfl rfl)
theorem dX12_about_179 : decode cX12_about 179 = .ok (.bipush 32, 2) := dk_16 32 (dk_at dksX12_about_5 9 rfl rfl)
theorem dX12_about_181 : decode cX12_about 181 = .ok (.if_icmp .ge 26, 3) := dk_162 0 26 (dk_at dksX12_about_5 11 rfl rfl)
theorem dX12_about_184 : decode cX12_about 184 = .ok (.iload_n 2, 1) := dk_28 (dk_at dksX12_about_5 14 rfl rfl)
theorem dX12_about_185 : decode cX12_about 185 = .ok (.aload_n 0, 1) := dk_42 (dk_at dksX12_about_5 15 rfl rfl)
theorem dX12_about_186 : decode cX12_about 186 = .ok (.getfield 22, 3) := dk_180 0 22 (dk_at dksX12_about_5 16 rfl rfl)
theorem dX12_about_189 : decode cX12_about 189 = .ok (.iload_n 3, 1) := dk_29 (dk_at dksX12_about_5 19 rfl rfl)
theorem dX12_about_190 : decode cX12_about 190 = .ok (.baload, 1) := dk_51 (dk_at dksX12_about_5 20 rfl rfl)
theorem dX12_about_191 : decode cX12_about 191 = .ok (.ifCond .eq 7, 3) := dk_153 0 7 (dk_at dksX12_about_5 21 rfl rfl)
theorem dX12_about_194 : decode cX12_about 194 = .ok (.iconst 1, 1) := dk_4 (dk_at dksX12_about_6 0 rfl rfl)
theorem dX12_about_195 : decode cX12_about 195 = .ok (.goto 4, 3) := dk_167 0 4 (dk_at dksX12_about_6 1 rfl rfl)
theorem dX12_about_198 : decode cX12_about 198 = .ok (.iconst 0, 1) := dk_3 (dk_at dksX12_about_6 4 rfl rfl)
theorem dX12_about_199 : decode cX12_about 199 = .ok (.iadd, 1) := dk_96 (dk_at dksX12_about_6 5 rfl rfl)
theorem dX12_about_200 : decode cX12_about 200 = .ok (.istore_n 2, 1) := dk_61 (dk_at dksX12_about_6 6 rfl rfl)
theorem dX12_about_201 : decode cX12_about 201 = .ok (.iinc 3 1, 3) := dk_132 3 1 (dk_at dksX12_about_6 7 rfl rfl)
theorem dX12_about_204 : decode cX12_about 204 = .ok (.goto (-26), 3) := dk_167 255 230 (dk_at dksX12_about_6 10 rfl rfl)
theorem dX12_about_207 : decode cX12_about 207 = .ok (.iload_n 2, 1) := dk_28 (dk_at dksX12_about_6 13 rfl rfl)
theorem dX12_about_208 : decode cX12_about 208 = .ok (.ireturn, 1) := dk_172 (dk_at dksX12_about_6 14 rfl rfl)
theorem dX12_about_209 : decode cX12_about 209 = .ok (.aload_n 0, 1) := dk_42 (dk_at dksX12_about_6 15 rfl rfl)
theorem dX12_about_210 : decode cX12_about 210 = .ok (.getfield 92, 3) := dk_180 0 92 (dk_at dksX12_about_6 16 rfl rfl)
theorem dX12_about_213 : decode cX12_about 213 = .ok (.ireturn, 1) := dk_172 (dk_at dksX12_about_6 19 rfl rfl)
theorem dX12_about_214 : decode cX12_about 214 = .ok (.aload_n 0, 1) := dk_42 (dk_at dksX12_about_6 20 rfl rfl)
theorem dX12_about_215 : decode cX12_about 215 = .ok (.getfield 89, 3) := dk_180 0 89 (dk_at dksX12_about_6 21 rfl rfl)
theorem dX12_about_218 : decode cX12_about 218 = .ok (.ireturn, 1) := dk_172 (dk_at dksX12_about_7 0 rfl rfl)
theorem dX12_about_219 : decode cX12_about 219 = .ok (.aload_n 0, 1) := dk_42 (dk_at dksX12_about_7 1 rfl rfl)
theorem dX12_about_220 : decode cX12_about 220 = .ok (.getfield 204, 3) := dk_180 0 204 (dk_at dksX12_about_7 2 rfl rfl)
theorem dX12_about_223 : decode cX12_about 223 = .ok (.ireturn, 1) := dk_172 (dk_at dksX12_about_7 5 rfl rfl)
theorem dX12_about_224 : decode cX12_about 224 = .ok (.aload_n 0, 1) := dk_42 (dk_at dksX12_about_7 6 rfl rfl)
theorem dX12_about_225 : decode cX12_about 225 = .ok (.getfield 119, 3) := dk_180 0 119 (dk_at dksX12_about_7 7 rfl rfl)
theorem dX12_about_228 : decode cX12_about 228 = .ok (.ireturn, 1) := dk_172 (dk_at dksX12_about_7 10 rfl rfl)
theorem dX12_about_229 : decode cX12_about 229 = .ok (.aload_n 0, 1) := dk_42 (dk_at dksX12_about_7 11 rfl rfl)
theorem dX12_about_230 : decode cX12_about 230 = .ok (.getfield 113, 3) := dk_180 0 113 (dk_at dksX12_about_7 12 rfl rfl)
theorem dX12_about_233 : decode cX12_about 233 = .ok (.ireturn, 1) := dk_172 (dk_at dksX12_about_7 15 rfl rfl)
theorem dX12_about_234 : decode cX12_about 234 = .ok (.aload_n 0, 1) := dk_42 (dk_at dksX12_about_7 16 rfl rfl)
theorem dX12_about_235 : decode cX12_about 235 = .ok (.getfield 116, 3) := dk_180 0 116 (dk_at dksX12_about_7 17 rfl rfl)
theorem dX12_about_238 : decode cX12_about 238 = .ok (.ireturn, 1) := dk_172 (dk_at dksX12_about_7 20 rfl rfl)
theorem dX12_about_239 : decode cX12_about 239 = .ok (.aload_n 0, 1) := dk_42 (dk_at dksX12_about_7 21 rfl rfl)
theorem dX12_about_240 : decode cX12_about 240 = .ok (.getfield 95, 3) := dk_180 0 95 (dk_at dksX12_about_8 0 rfl rfl)
theorem dX12_about_243 : decode cX12_about 243 = .ok (.ireturn, 1) := dk_172 (dk_at dksX12_about_8 3 rfl rfl)
theorem dX12_about_244 : decode cX12_about 244 = .ok (.aload_n 0, 1) := dk_42 (dk_at dksX12_about_8 4 rfl rfl)
theorem dX12_about_245 : decode cX12_about 245 = .ok (.getfield 98, 3) := dk_180 0 98 (dk_at dksX12_about_8 5 rfl rfl)
theorem dX12_about_248 : decode cX12_about 248 = .ok (.ireturn, 1) := dk_172 (dk_at dksX12_about_8 8 rfl rfl)
theorem dX12_about_249 : decode cX12_about 249 = .ok (.aload_n 0, 1) := dk_42 (dk_at dksX12_about_8 9 rfl rfl)
theorem dX12_about_250 : decode cX12_about 250 = .ok (.getfield 101, 3) := dk_180 0 101 (dk_at dksX12_about_8 10 rfl rfl)
theorem dX12_about_253 : decode cX12_about 253 = .ok (.ireturn, 1) := dk_172 (dk_at dksX12_about_8 13 rfl rfl)
theorem dX12_about_254 : decode cX12_about 254 = .ok (.aload_n 0, 1) := dk_42 (dk_at dksX12_about_8 14 rfl rfl)
theorem dX12_about_255 : decode cX12_about 255 = .ok (.getfield 104, 3) := dk_180 0 104 (dk_at dksX12_about_8 15 rfl rfl)
theorem dX12_about_258 : decode cX12_about 258 = .ok (.ireturn, 1) := dk_172 (dk_at dksX12_about_8 18 rfl rfl)
theorem dX12_about_259 : decode cX12_about 259 = .ok (.aload_n 0, 1) := dk_42 (dk_at dksX12_about_8 19 rfl rfl)
theorem dX12_about_260 : decode cX12_about 260 = .ok (.getfield 107, 3) := dk_180 0 107 (dk_at dksX12_about_8 20 rfl rfl)
theorem dX12_about_263 : decode cX12_about 263 = .ok (.ireturn, 1) := dk_172 (dk_at dksX12_about_8 23 rfl rfl)
theorem dX12_about_264 : decode cX12_about 264 = .ok (.aload_n 0, 1) := dk_42 (dk_at dksX12_about_9 0 rfl rfl)
theorem dX12_about_265 : decode cX12_about 265 = .ok (.getfield 33, 3) := dk_180 0 33 (dk_at dksX12_about_9 1 rfl rfl)
theorem dX12_about_268 : decode cX12_about 268 = .ok (.ifCond .eq 7, 3) := dk_153 0 7 (dk_at dksX12_about_9 4 rfl rfl)
theorem dX12_about_271 : decode cX12_about 271 = .ok (.iconst 1, 1) := dk_4 (dk_at dksX12_about_9 7 rfl rfl)
theorem dX12_about_272 : decode cX12_about 272 = .ok (.goto 4, 3) := dk_167 0 4 (dk_at dksX12_about_9 8 rfl rfl)
theorem dX12_about_275 : decode cX12_about 275 = .ok (.iconst 0, 1) := dk_3 (dk_at dksX12_about_9 11 rfl rfl)
theorem dX12_about_276 : decode cX12_about 276 = .ok (.ireturn, 1) := dk_172 (dk_at dksX12_about_9 12 rfl rfl)
theorem dX12_about_277 : decode cX12_about 277 = .ok (.aload_n 0, 1) := dk_42 (dk_at dksX12_about_9 13 rfl rfl)
theorem dX12_about_278 : decode cX12_about 278 = .ok (.invokevirtual 216, 3) := dk_182 0 216 (dk_at dksX12_about_9 14 rfl rfl)
theorem dX12_about_281 : decode cX12_about 281 = .ok (.ireturn, 1) := dk_172 (dk_at dksX12_about_9 17 rfl rfl)
theorem q118 : (Jvm.Cond.initialized "FlashBoardModel") ∈ lw_all := lw_g (lw_at lw_m1 13 rfl) rfl
theorem q1118 : (Jvm.Cond.instantiable "FlashBoardModel" (39 : Nat)) ∈ lw_all := lw_g (lw_at lw_m5 53 rfl) rfl
theorem q1120 : (Jvm.Cond.instanceMethod ({ cls := "FlashBoardModel", name := "<init>", desc := "()V" } : Jvm.MethodName)) ∈ lw_all := lw_g (lw_at lw_m5 55 rfl) rfl
theorem q1121 : (Jvm.Cond.code ({ cls := "FlashBoardModel", name := "<init>", desc := "()V" } : Jvm.MethodName) prog_13_method_1_code (2 : Nat) (Option.none : Option Jvm.ClassFile.FieldType)) ∈ lw_all := lw_g (lw_at lw_m5 56 rfl) rfl
theorem q1122 : (Jvm.Cond.methodLink "FlashBoardModel" (1 : Nat) ({ cls := "java/lang/Object", name := "<init>", desc := "()V" } : Jvm.MethodName)) ∈ lw_all := lw_g (lw_at lw_m5 57 rfl) rfl
theorem q1123 : (Jvm.Cond.constant "FlashBoardModel" (43 : Nat) (65535 : Int32)) ∈ lw_all := lw_g (lw_at lw_m5 58 rfl) rfl
theorem q1124 : (Jvm.Cond.stringRef "FlashBoardModel" (44 : Nat) "E004 BF0E EF0F BF0D B714 2411 BE14 95A8 FD13 C09A E108 9300 0060 E00D 9300 0060 9210 00C5 9210 00C4 E108 9300 00C1 D06C 3300 F0D9 3505 F0A9 3604 F0D9 3704 F039 3705 F039 3501 F021 D06E E102 C010 C051 C073 D069 E10E D060 E903 D05E E007 D05C C005 D052 2F80 D050 2F90 D05D E100 D054 CFDE D04A 2F40 D048 ") ∈ lw_tbl := lw_at lw_m5 59 rfl
theorem q1125 : (Jvm.Cond.methodLink "FlashBoardModel" (46 : Nat) ({ cls := "FlashBoardModel", name := "lays", desc := "(Ljava/lang/String;I)V" } : Jvm.MethodName)) ∈ lw_all := lw_g (lw_at lw_m5 60 rfl) rfl
theorem q1126 : (Jvm.Cond.privateMethod ({ cls := "FlashBoardModel", name := "lays", desc := "(Ljava/lang/String;I)V" } : Jvm.MethodName)) ∈ lw_tbl := lw_at lw_m5 61 rfl
theorem q1127 : (Jvm.Cond.instanceMethod ({ cls := "FlashBoardModel", name := "lays", desc := "(Ljava/lang/String;I)V" } : Jvm.MethodName)) ∈ lw_all := lw_g (lw_at lw_m5 62 rfl) rfl
theorem q1128 : (Jvm.Cond.code ({ cls := "FlashBoardModel", name := "lays", desc := "(Ljava/lang/String;I)V" } : Jvm.MethodName) prog_13_method_2_code (4 : Nat) (Option.none : Option Jvm.ClassFile.FieldType)) ∈ lw_all := lw_g (lw_at lw_m5 63 rfl) rfl
theorem q1129 : (Jvm.Cond.methodLink "FlashBoardModel" (60 : Nat) ({ cls := "java/lang/String", name := "length", desc := "()I" } : Jvm.MethodName)) ∈ lw_all := lw_g (lw_at lw_m5 64 rfl) rfl
theorem q1139 : (Jvm.Cond.methodLink "FlashBoardModel" (66 : Nat) ({ cls := "FlashBoardModel", name := "digit", desc := "(Ljava/lang/String;I)I" } : Jvm.MethodName)) ∈ lw_all := lw_g (lw_at lw_m5 74 rfl) rfl
theorem q1140 : (Jvm.Cond.static ({ cls := "FlashBoardModel", name := "digit", desc := "(Ljava/lang/String;I)I" } : Jvm.MethodName)) ∈ lw_all := lw_g (lw_at lw_m5 75 rfl) rfl
theorem q1141 : (Jvm.Cond.code ({ cls := "FlashBoardModel", name := "digit", desc := "(Ljava/lang/String;I)I" } : Jvm.MethodName) prog_13_method_3_code (3 : Nat) (Option.some Jvm.ClassFile.FieldType.int)) ∈ lw_all := lw_g (lw_at lw_m5 76 rfl) rfl
theorem q1142 : (Jvm.Cond.methodLink "FlashBoardModel" (70 : Nat) ({ cls := "java/lang/String", name := "charAt", desc := "(I)C" } : Jvm.MethodName)) ∈ lw_all := lw_g (lw_at lw_m5 77 rfl) rfl
theorem q1180 : (Jvm.Cond.stringRef "FlashBoardModel" (50 : Nat) "2F50 D046 2F60 E0A0 E0B1 2777 E430 D040 930D 2770 953A F7D9 D03B 2770 D048 2B47 F501 3450 F4F1 3466 F4E1 2F28 712F F4C9 3096 F4B8 D018 E023 D01A E121 D018 E0A0 E0B1 E230 900D 901D E021 D011 9632 953A F7C9 2411 54E0 40F0 E025 D009 E121 D007 CFC9 E101 CFC8 01FC 0FEE 1FFF 9508 B717 FD10 CFFD BF27 95E8 ") ∈ lw_tbl := lw_at lw_m5 115 rfl
theorem q1181 : (Jvm.Cond.stringRef "FlashBoardModel" (52 : Nat) "9508 D00A D009 D008 D016 DFF1 E430 9105 D00B 953A F7E1 CFB2 9100 00C0 FF07 CFFC 95A8 9100 00C6 9508 9120 00C0 FF25 CFFC 9300 00C6 9508 DFF0 3200 F021 912F 912F E105 CF9D E104 CFF0 DFF6 E100 DFED 9120 00C0 FF26 CFFC C007 27EE 27FF 9105 9114 2301 3F0F F051 9210 00C1 E108 9300 0060 9210 0060 27EE 27FF ") ∈ lw_tbl := lw_at lw_m5 116 rfl
theorem q1182 : (Jvm.Cond.stringRef "FlashBoardModel" (54 : Nat) "9409 CF54 ") ∈ lw_tbl := lw_at lw_m5 117 rfl
theorem q1183 : (Jvm.Cond.methodLink "FlashBoardModel" (56 : Nat) ({ cls := "FlashBoardModel", name := "restart", desc := "(I)V" } : Jvm.MethodName)) ∈ lw_all := lw_g (lw_at lw_m5 118 rfl) rfl
theorem q1184 : (Jvm.Cond.privateMethod ({ cls := "FlashBoardModel", name := "restart", desc := "(I)V" } : Jvm.MethodName)) ∈ lw_tbl := lw_at lw_m5 119 rfl
theorem q1185 : (Jvm.Cond.instanceMethod ({ cls := "FlashBoardModel", name := "restart", desc := "(I)V" } : Jvm.MethodName)) ∈ lw_all := lw_g (lw_at lw_m5 120 rfl) rfl
theorem q1186 : (Jvm.Cond.code ({ cls := "FlashBoardModel", name := "restart", desc := "(I)V" } : Jvm.MethodName) prog_13_method_6_code (4 : Nat) (Option.none : Option Jvm.ClassFile.FieldType)) ∈ lw_all := lw_g (lw_at lw_m5 121 rfl) rfl
theorem q1187 : (Jvm.Cond.methodLink "FlashBoardModel" (122 : Nat) ({ cls := "FlashBoardModel", name := "clearBuffer", desc := "()V" } : Jvm.MethodName)) ∈ lw_all := lw_g (lw_at lw_m5 122 rfl) rfl
theorem q1188 : (Jvm.Cond.privateMethod ({ cls := "FlashBoardModel", name := "clearBuffer", desc := "()V" } : Jvm.MethodName)) ∈ lw_tbl := lw_at lw_m5 123 rfl
theorem q1189 : (Jvm.Cond.instanceMethod ({ cls := "FlashBoardModel", name := "clearBuffer", desc := "()V" } : Jvm.MethodName)) ∈ lw_all := lw_g (lw_at lw_m5 124 rfl) rfl
theorem q1190 : (Jvm.Cond.code ({ cls := "FlashBoardModel", name := "clearBuffer", desc := "()V" } : Jvm.MethodName) prog_13_method_7_code (2 : Nat) (Option.none : Option Jvm.ClassFile.FieldType)) ∈ lw_all := lw_g (lw_at lw_m5 125 rfl) rfl
theorem q1191 : (Jvm.Cond.methodLink "FlashBoardModel" (125 : Nat) ({ cls := "FlashBoardModel", name := "holdDog", desc := "()V" } : Jvm.MethodName)) ∈ lw_all := lw_g (lw_at lw_m5 126 rfl) rfl
theorem q1192 : (Jvm.Cond.privateMethod ({ cls := "FlashBoardModel", name := "holdDog", desc := "()V" } : Jvm.MethodName)) ∈ lw_tbl := lw_at lw_m5 127 rfl
theorem q1193 : (Jvm.Cond.instanceMethod ({ cls := "FlashBoardModel", name := "holdDog", desc := "()V" } : Jvm.MethodName)) ∈ lw_all := lw_g (lw_at lw_m5 128 rfl) rfl
theorem q1194 : (Jvm.Cond.code ({ cls := "FlashBoardModel", name := "holdDog", desc := "()V" } : Jvm.MethodName) prog_13_method_8_code (1 : Nat) (Option.none : Option Jvm.ClassFile.FieldType)) ∈ lw_all := lw_g (lw_at lw_m5 129 rfl) rfl
theorem q1195 : (Jvm.Cond.fieldLink "FlashBoardModel" (74 : Nat) "FlashBoardModel" "thrown" "I") ∈ lw_all := lw_g (lw_at lw_m5 130 rfl) rfl
theorem q1196 : (Jvm.Cond.fieldLink "FlashBoardModel" (7 : Nat) "FlashBoardModel" "flash" "[I") ∈ lw_all := lw_g (lw_at lw_m5 131 rfl) rfl
theorem q1197 : (Jvm.Cond.fieldLink "FlashBoardModel" (13 : Nat) "FlashBoardModel" "buffer" "[I") ∈ lw_all := lw_g (lw_at lw_m5 132 rfl) rfl
theorem q1198 : (Jvm.Cond.fieldLink "FlashBoardModel" (16 : Nat) "FlashBoardModel" "data" "[I") ∈ lw_all := lw_g (lw_at lw_m5 133 rfl) rfl
theorem q1199 : (Jvm.Cond.fieldLink "FlashBoardModel" (19 : Nat) "FlashBoardModel" "rom" "[I") ∈ lw_all := lw_g (lw_at lw_m5 134 rfl) rfl
theorem q1200 : (Jvm.Cond.fieldLink "FlashBoardModel" (22 : Nat) "FlashBoardModel" "isLaid" "[Z") ∈ lw_all := lw_g (lw_at lw_m5 135 rfl) rfl
theorem q1201 : (Jvm.Cond.fieldLink "FlashBoardModel" (26 : Nat) "FlashBoardModel" "locks" "I") ∈ lw_all := lw_g (lw_at lw_m5 136 rfl) rfl
theorem q1202 : (Jvm.Cond.fieldLink "FlashBoardModel" (30 : Nat) "FlashBoardModel" "fuse" "I") ∈ lw_all := lw_g (lw_at lw_m5 137 rfl) rfl
theorem q1203 : (Jvm.Cond.fieldLink "FlashBoardModel" (131 : Nat) "FlashBoardModel" "pins" "I") ∈ lw_all := lw_g (lw_at lw_m5 138 rfl) rfl
theorem q1204 : (Jvm.Cond.fieldLink "FlashBoardModel" (33 : Nat) "FlashBoardModel" "isOn" "Z") ∈ lw_all := lw_g (lw_at lw_m5 139 rfl) rfl
theorem q1205 : (Jvm.Cond.fieldLink "FlashBoardModel" (80 : Nat) "FlashBoardModel" "sleeps" "Z") ∈ lw_all := lw_g (lw_at lw_m5 140 rfl) rfl
theorem q1206 : (Jvm.Cond.fieldLink "FlashBoardModel" (83 : Nat) "FlashBoardModel" "isFresh" "Z") ∈ lw_all := lw_g (lw_at lw_m5 141 rfl) rfl
theorem q1207 : (Jvm.Cond.fieldLink "FlashBoardModel" (77 : Nat) "FlashBoardModel" "pc" "I") ∈ lw_all := lw_g (lw_at lw_m5 142 rfl) rfl
theorem q1208 : (Jvm.Cond.fieldLink "FlashBoardModel" (179 : Nat) "FlashBoardModel" "cycles" "I") ∈ lw_all := lw_g (lw_at lw_m5 143 rfl) rfl
theorem q1209 : (Jvm.Cond.fieldLink "FlashBoardModel" (213 : Nat) "FlashBoardModel" "steps" "I") ∈ lw_all := lw_g (lw_at lw_m5 144 rfl) rfl
theorem q1210 : (Jvm.Cond.fieldLink "FlashBoardModel" (176 : Nat) "FlashBoardModel" "entries" "I") ∈ lw_all := lw_g (lw_at lw_m5 145 rfl) rfl
theorem q1211 : (Jvm.Cond.fieldLink "FlashBoardModel" (210 : Nat) "FlashBoardModel" "resets" "I") ∈ lw_all := lw_g (lw_at lw_m5 146 rfl) rfl
theorem q1212 : (Jvm.Cond.fieldLink "FlashBoardModel" (86 : Nat) "FlashBoardModel" "busy" "I") ∈ lw_all := lw_g (lw_at lw_m5 147 rfl) rfl
theorem q1213 : (Jvm.Cond.fieldLink "FlashBoardModel" (89 : Nat) "FlashBoardModel" "prescaler" "I") ∈ lw_all := lw_g (lw_at lw_m5 148 rfl) rfl
theorem q1214 : (Jvm.Cond.fieldLink "FlashBoardModel" (92 : Nat) "FlashBoardModel" "count" "I") ∈ lw_all := lw_g (lw_at lw_m5 149 rfl) rfl
theorem q1215 : (Jvm.Cond.fieldLink "FlashBoardModel" (95 : Nat) "FlashBoardModel" "romLeft" "I") ∈ lw_all := lw_g (lw_at lw_m5 150 rfl) rfl
theorem q1216 : (Jvm.Cond.fieldLink "FlashBoardModel" (98 : Nat) "FlashBoardModel" "window57" "I") ∈ lw_all := lw_g (lw_at lw_m5 151 rfl) rfl
theorem q1217 : (Jvm.Cond.fieldLink "FlashBoardModel" (101 : Nat) "FlashBoardModel" "window60" "I") ∈ lw_all := lw_g (lw_at lw_m5 152 rfl) rfl
theorem q1218 : (Jvm.Cond.fieldLink "FlashBoardModel" (104 : Nat) "FlashBoardModel" "window55" "I") ∈ lw_all := lw_g (lw_at lw_m5 153 rfl) rfl
theorem q1219 : (Jvm.Cond.fieldLink "FlashBoardModel" (107 : Nat) "FlashBoardModel" "window3f" "I") ∈ lw_all := lw_g (lw_at lw_m5 154 rfl) rfl
theorem q1220 : (Jvm.Cond.fieldLink "FlashBoardModel" (110 : Nat) "FlashBoardModel" "waits" "I") ∈ lw_all := lw_g (lw_at lw_m5 155 rfl) rfl
theorem q1221 : (Jvm.Cond.fieldLink "FlashBoardModel" (195 : Nat) "FlashBoardModel" "sends" "I") ∈ lw_all := lw_g (lw_at lw_m5 156 rfl) rfl
theorem q1222 : (Jvm.Cond.fieldLink "FlashBoardModel" (113 : Nat) "FlashBoardModel" "sendsLeft" "I") ∈ lw_all := lw_g (lw_at lw_m5 157 rfl) rfl
theorem q1223 : (Jvm.Cond.fieldLink "FlashBoardModel" (207 : Nat) "FlashBoardModel" "comes" "I") ∈ lw_all := lw_g (lw_at lw_m5 158 rfl) rfl
theorem q1224 : (Jvm.Cond.fieldLink "FlashBoardModel" (116 : Nat) "FlashBoardModel" "comesLeft" "I") ∈ lw_all := lw_g (lw_at lw_m5 159 rfl) rfl
theorem q1225 : (Jvm.Cond.fieldLink "FlashBoardModel" (128 : Nat) "FlashBoardModel" "first" "I") ∈ lw_all := lw_g (lw_at lw_m5 160 rfl) rfl
theorem q1226 : (Jvm.Cond.fieldLink "FlashBoardModel" (138 : Nat) "FlashBoardModel" "second" "I") ∈ lw_all := lw_g (lw_at lw_m5 161 rfl) rfl
theorem q1227 : (Jvm.Cond.fieldLink "FlashBoardModel" (119 : Nat) "FlashBoardModel" "received" "I") ∈ lw_all := lw_g (lw_at lw_m5 162 rfl) rfl
theorem q1228 : (Jvm.Cond.fieldLink "FlashBoardModel" (37 : Nat) "FlashBoardModel" "host" "[I") ∈ lw_all := lw_g (lw_at lw_m5 163 rfl) rfl
theorem q1229 : (Jvm.Cond.fieldLink "FlashBoardModel" (40 : Nat) "FlashBoardModel" "had" "[I") ∈ lw_all := lw_g (lw_at lw_m5 164 rfl) rfl
theorem q1230 : (Jvm.Cond.fieldLink "FlashBoardModel" (204 : Nat) "FlashBoardModel" "hosts" "I") ∈ lw_all := lw_g (lw_at lw_m5 165 rfl) rfl
theorem q1231 : (Jvm.Cond.fieldLink "FlashBoardModel" (201 : Nat) "FlashBoardModel" "sent" "I") ∈ lw_all := lw_g (lw_at lw_m5 166 rfl) rfl
theorem q1232 : (Jvm.Cond.fieldLink "FlashBoardModel" (160 : Nat) "FlashBoardModel" "more" "I") ∈ lw_all := lw_g (lw_at lw_m5 167 rfl) rfl
theorem q1233 : (Jvm.Cond.fieldLink "FlashBoardModel" (256 : Nat) "FlashBoardModel" "here" "I") ∈ lw_all := lw_g (lw_at lw_m5 168 rfl) rfl
theorem q1234 : (Jvm.Cond.lays "FlashBoardModel" "FlashBoardModel" "thrown" "I") ∈ lw_all := lw_g (lw_at lw_m5 169 rfl) rfl
theorem q1235 : (Jvm.Cond.soleField "FlashBoardModel" "thrown") ∈ lw_all := lw_g (lw_at lw_m5 170 rfl) rfl
theorem q1236 : (Jvm.Cond.laysFinal "FlashBoardModel" "FlashBoardModel" "flash" "[I") ∈ lw_all := lw_g (lw_at lw_m5 171 rfl) rfl
theorem q1237 : (Jvm.Cond.soleField "FlashBoardModel" "flash") ∈ lw_all := lw_g (lw_at lw_m5 172 rfl) rfl
theorem q1238 : (Jvm.Cond.laysFinal "FlashBoardModel" "FlashBoardModel" "buffer" "[I") ∈ lw_all := lw_g (lw_at lw_m5 173 rfl) rfl
theorem q1239 : (Jvm.Cond.soleField "FlashBoardModel" "buffer") ∈ lw_all := lw_g (lw_at lw_m5 174 rfl) rfl
theorem q1240 : (Jvm.Cond.laysFinal "FlashBoardModel" "FlashBoardModel" "data" "[I") ∈ lw_all := lw_g (lw_at lw_m5 175 rfl) rfl
theorem q1241 : (Jvm.Cond.soleField "FlashBoardModel" "data") ∈ lw_all := lw_g (lw_at lw_m5 176 rfl) rfl
theorem q1242 : (Jvm.Cond.laysFinal "FlashBoardModel" "FlashBoardModel" "rom" "[I") ∈ lw_all := lw_g (lw_at lw_m5 177 rfl) rfl
theorem q1243 : (Jvm.Cond.soleField "FlashBoardModel" "rom") ∈ lw_all := lw_g (lw_at lw_m5 178 rfl) rfl
theorem q1244 : (Jvm.Cond.laysFinal "FlashBoardModel" "FlashBoardModel" "isLaid" "[Z") ∈ lw_all := lw_g (lw_at lw_m5 179 rfl) rfl
theorem q1245 : (Jvm.Cond.soleField "FlashBoardModel" "isLaid") ∈ lw_all := lw_g (lw_at lw_m5 180 rfl) rfl
theorem q1246 : (Jvm.Cond.lays "FlashBoardModel" "FlashBoardModel" "locks" "I") ∈ lw_all := lw_g (lw_at lw_m5 181 rfl) rfl
theorem q1247 : (Jvm.Cond.soleField "FlashBoardModel" "locks") ∈ lw_all := lw_g (lw_at lw_m5 182 rfl) rfl
theorem q1248 : (Jvm.Cond.lays "FlashBoardModel" "FlashBoardModel" "fuse" "I") ∈ lw_all := lw_g (lw_at lw_m5 183 rfl) rfl
theorem q1249 : (Jvm.Cond.soleField "FlashBoardModel" "fuse") ∈ lw_all := lw_g (lw_at lw_m5 184 rfl) rfl
theorem q1250 : (Jvm.Cond.lays "FlashBoardModel" "FlashBoardModel" "pins" "I") ∈ lw_all := lw_g (lw_at lw_m5 185 rfl) rfl
theorem q1251 : (Jvm.Cond.soleField "FlashBoardModel" "pins") ∈ lw_all := lw_g (lw_at lw_m5 186 rfl) rfl
theorem q1252 : (Jvm.Cond.lays "FlashBoardModel" "FlashBoardModel" "isOn" "Z") ∈ lw_all := lw_g (lw_at lw_m5 187 rfl) rfl
theorem q1253 : (Jvm.Cond.soleField "FlashBoardModel" "isOn") ∈ lw_all := lw_g (lw_at lw_m5 188 rfl) rfl
theorem q1254 : (Jvm.Cond.lays "FlashBoardModel" "FlashBoardModel" "sleeps" "Z") ∈ lw_all := lw_g (lw_at lw_m5 189 rfl) rfl
theorem q1255 : (Jvm.Cond.soleField "FlashBoardModel" "sleeps") ∈ lw_all := lw_g (lw_at lw_m5 190 rfl) rfl
theorem q1256 : (Jvm.Cond.lays "FlashBoardModel" "FlashBoardModel" "isFresh" "Z") ∈ lw_all := lw_g (lw_at lw_m5 191 rfl) rfl
theorem q1257 : (Jvm.Cond.soleField "FlashBoardModel" "isFresh") ∈ lw_all := lw_g (lw_at lw_m5 192 rfl) rfl
theorem q1258 : (Jvm.Cond.lays "FlashBoardModel" "FlashBoardModel" "pc" "I") ∈ lw_all := lw_g (lw_at lw_m5 193 rfl) rfl
theorem q1259 : (Jvm.Cond.soleField "FlashBoardModel" "pc") ∈ lw_all := lw_g (lw_at lw_m5 194 rfl) rfl
theorem q1260 : (Jvm.Cond.lays "FlashBoardModel" "FlashBoardModel" "cycles" "I") ∈ lw_all := lw_g (lw_at lw_m5 195 rfl) rfl
theorem q1261 : (Jvm.Cond.soleField "FlashBoardModel" "cycles") ∈ lw_all := lw_g (lw_at lw_m5 196 rfl) rfl
theorem q1262 : (Jvm.Cond.lays "FlashBoardModel" "FlashBoardModel" "steps" "I") ∈ lw_all := lw_g (lw_at lw_m5 197 rfl) rfl
theorem q1263 : (Jvm.Cond.soleField "FlashBoardModel" "steps") ∈ lw_all := lw_g (lw_at lw_m5 198 rfl) rfl
theorem q1264 : (Jvm.Cond.lays "FlashBoardModel" "FlashBoardModel" "entries" "I") ∈ lw_all := lw_g (lw_at lw_m5 199 rfl) rfl
theorem q1265 : (Jvm.Cond.soleField "FlashBoardModel" "entries") ∈ lw_all := lw_g (lw_at lw_m5 200 rfl) rfl
theorem q1266 : (Jvm.Cond.lays "FlashBoardModel" "FlashBoardModel" "resets" "I") ∈ lw_all := lw_g (lw_at lw_m5 201 rfl) rfl
theorem q1267 : (Jvm.Cond.soleField "FlashBoardModel" "resets") ∈ lw_all := lw_g (lw_at lw_m5 202 rfl) rfl
theorem q1268 : (Jvm.Cond.lays "FlashBoardModel" "FlashBoardModel" "busy" "I") ∈ lw_all := lw_g (lw_at lw_m5 203 rfl) rfl
theorem q1269 : (Jvm.Cond.soleField "FlashBoardModel" "busy") ∈ lw_all := lw_g (lw_at lw_m5 204 rfl) rfl
theorem q1270 : (Jvm.Cond.lays "FlashBoardModel" "FlashBoardModel" "prescaler" "I") ∈ lw_all := lw_g (lw_at lw_m5 205 rfl) rfl
theorem q1271 : (Jvm.Cond.soleField "FlashBoardModel" "prescaler") ∈ lw_all := lw_g (lw_at lw_m5 206 rfl) rfl
theorem q1272 : (Jvm.Cond.lays "FlashBoardModel" "FlashBoardModel" "count" "I") ∈ lw_all := lw_g (lw_at lw_m5 207 rfl) rfl
theorem q1273 : (Jvm.Cond.soleField "FlashBoardModel" "count") ∈ lw_all := lw_g (lw_at lw_m5 208 rfl) rfl
theorem q1274 : (Jvm.Cond.lays "FlashBoardModel" "FlashBoardModel" "romLeft" "I") ∈ lw_all := lw_g (lw_at lw_m5 209 rfl) rfl
theorem q1275 : (Jvm.Cond.soleField "FlashBoardModel" "romLeft") ∈ lw_all := lw_g (lw_at lw_m5 210 rfl) rfl
theorem q1276 : (Jvm.Cond.lays "FlashBoardModel" "FlashBoardModel" "window57" "I") ∈ lw_all := lw_g (lw_at lw_m5 211 rfl) rfl
theorem q1277 : (Jvm.Cond.soleField "FlashBoardModel" "window57") ∈ lw_all := lw_g (lw_at lw_m5 212 rfl) rfl
theorem q1278 : (Jvm.Cond.lays "FlashBoardModel" "FlashBoardModel" "window60" "I") ∈ lw_all := lw_g (lw_at lw_m5 213 rfl) rfl
theorem q1279 : (Jvm.Cond.soleField "FlashBoardModel" "window60") ∈ lw_all := lw_g (lw_at lw_m5 214 rfl) rfl
theorem q1280 : (Jvm.Cond.lays "FlashBoardModel" "FlashBoardModel" "window55" "I") ∈ lw_all := lw_g (lw_at lw_m5 215 rfl) rfl
theorem q1281 : (Jvm.Cond.soleField "FlashBoardModel" "window55") ∈ lw_all := lw_g (lw_at lw_m5 216 rfl) rfl
theorem q1282 : (Jvm.Cond.lays "FlashBoardModel" "FlashBoardModel" "window3f" "I") ∈ lw_all := lw_g (lw_at lw_m5 217 rfl) rfl
theorem q1283 : (Jvm.Cond.soleField "FlashBoardModel" "window3f") ∈ lw_all := lw_g (lw_at lw_m5 218 rfl) rfl
theorem q1284 : (Jvm.Cond.lays "FlashBoardModel" "FlashBoardModel" "waits" "I") ∈ lw_all := lw_g (lw_at lw_m5 219 rfl) rfl
theorem q1285 : (Jvm.Cond.soleField "FlashBoardModel" "waits") ∈ lw_all := lw_g (lw_at lw_m5 220 rfl) rfl
theorem q1286 : (Jvm.Cond.lays "FlashBoardModel" "FlashBoardModel" "sends" "I") ∈ lw_all := lw_g (lw_at lw_m5 221 rfl) rfl
theorem q1287 : (Jvm.Cond.soleField "FlashBoardModel" "sends") ∈ lw_all := lw_g (lw_at lw_m5 222 rfl) rfl
theorem q1288 : (Jvm.Cond.lays "FlashBoardModel" "FlashBoardModel" "sendsLeft" "I") ∈ lw_all := lw_g (lw_at lw_m5 223 rfl) rfl
theorem q1289 : (Jvm.Cond.soleField "FlashBoardModel" "sendsLeft") ∈ lw_all := lw_g (lw_at lw_m5 224 rfl) rfl
theorem q1290 : (Jvm.Cond.lays "FlashBoardModel" "FlashBoardModel" "comes" "I") ∈ lw_all := lw_g (lw_at lw_m5 225 rfl) rfl
theorem q1291 : (Jvm.Cond.soleField "FlashBoardModel" "comes") ∈ lw_all := lw_g (lw_at lw_m5 226 rfl) rfl
theorem q1292 : (Jvm.Cond.lays "FlashBoardModel" "FlashBoardModel" "comesLeft" "I") ∈ lw_all := lw_g (lw_at lw_m5 227 rfl) rfl
theorem q1293 : (Jvm.Cond.soleField "FlashBoardModel" "comesLeft") ∈ lw_all := lw_g (lw_at lw_m5 228 rfl) rfl
theorem q1294 : (Jvm.Cond.lays "FlashBoardModel" "FlashBoardModel" "first" "I") ∈ lw_all := lw_g (lw_at lw_m5 229 rfl) rfl
theorem q1295 : (Jvm.Cond.soleField "FlashBoardModel" "first") ∈ lw_all := lw_g (lw_at lw_m5 230 rfl) rfl
theorem q1296 : (Jvm.Cond.lays "FlashBoardModel" "FlashBoardModel" "second" "I") ∈ lw_all := lw_g (lw_at lw_m5 231 rfl) rfl
theorem q1297 : (Jvm.Cond.soleField "FlashBoardModel" "second") ∈ lw_all := lw_g (lw_at lw_m5 232 rfl) rfl
theorem q1298 : (Jvm.Cond.lays "FlashBoardModel" "FlashBoardModel" "received" "I") ∈ lw_all := lw_g (lw_at lw_m5 233 rfl) rfl
theorem q1299 : (Jvm.Cond.soleField "FlashBoardModel" "received") ∈ lw_all := lw_g (lw_at lw_m5 234 rfl) rfl
theorem q1300 : (Jvm.Cond.laysFinal "FlashBoardModel" "FlashBoardModel" "host" "[I") ∈ lw_all := lw_g (lw_at lw_m5 235 rfl) rfl
theorem q1301 : (Jvm.Cond.soleField "FlashBoardModel" "host") ∈ lw_all := lw_g (lw_at lw_m5 236 rfl) rfl
theorem q1302 : (Jvm.Cond.laysFinal "FlashBoardModel" "FlashBoardModel" "had" "[I") ∈ lw_all := lw_g (lw_at lw_m5 237 rfl) rfl
theorem q1303 : (Jvm.Cond.soleField "FlashBoardModel" "had") ∈ lw_all := lw_g (lw_at lw_m5 238 rfl) rfl
theorem q1304 : (Jvm.Cond.lays "FlashBoardModel" "FlashBoardModel" "hosts" "I") ∈ lw_all := lw_g (lw_at lw_m5 239 rfl) rfl
theorem q1305 : (Jvm.Cond.soleField "FlashBoardModel" "hosts") ∈ lw_all := lw_g (lw_at lw_m6 0 rfl) rfl
theorem q1306 : (Jvm.Cond.lays "FlashBoardModel" "FlashBoardModel" "sent" "I") ∈ lw_all := lw_g (lw_at lw_m6 1 rfl) rfl
theorem q1307 : (Jvm.Cond.soleField "FlashBoardModel" "sent") ∈ lw_all := lw_g (lw_at lw_m6 2 rfl) rfl
theorem q1308 : (Jvm.Cond.lays "FlashBoardModel" "FlashBoardModel" "more" "I") ∈ lw_all := lw_g (lw_at lw_m6 3 rfl) rfl
theorem q1309 : (Jvm.Cond.soleField "FlashBoardModel" "more") ∈ lw_all := lw_g (lw_at lw_m6 4 rfl) rfl
theorem q1310 : (Jvm.Cond.lays "FlashBoardModel" "FlashBoardModel" "here" "I") ∈ lw_all := lw_g (lw_at lw_m6 5 rfl) rfl
theorem q1311 : (Jvm.Cond.soleField "FlashBoardModel" "here") ∈ lw_all := lw_g (lw_at lw_m6 6 rfl) rfl
theorem q1312 : (Jvm.Cond.superclass "FlashBoardModel" "java/lang/Object") ∈ lw_all := lw_g (lw_at lw_m6 7 rfl) rfl
theorem q1315 : (Jvm.Cond.instanceMethod ({ cls := "FlashBoardModel", name := "thrown", desc := "()I" } : Jvm.MethodName)) ∈ lw_all := lw_g (lw_at lw_m6 10 rfl) rfl
theorem q1316 : (Jvm.Cond.selects "FlashBoardModel" ({ cls := "FlashBoardModel", name := "thrown", desc := "()I" } : Jvm.MethodName) ({ cls := "FlashBoardModel", name := "thrown", desc := "()I" } : Jvm.MethodName)) ∈ lw_all := lw_g (lw_at lw_m6 11 rfl) rfl
theorem q1317 : (Jvm.Cond.code ({ cls := "FlashBoardModel", name := "thrown", desc := "()I" } : Jvm.MethodName) prog_13_method_4_code (1 : Nat) (Option.some Jvm.ClassFile.FieldType.int)) ∈ lw_all := lw_g (lw_at lw_m6 12 rfl) rfl
theorem q1319 : (Jvm.Cond.instanceMethod ({ cls := "FlashBoardModel", name := "step", desc := "()I" } : Jvm.MethodName)) ∈ lw_all := lw_g (lw_at lw_m6 14 rfl) rfl
theorem q1320 : (Jvm.Cond.selects "FlashBoardModel" ({ cls := "FlashBoardModel", name := "step", desc := "()I" } : Jvm.MethodName) ({ cls := "FlashBoardModel", name := "step", desc := "()I" } : Jvm.MethodName)) ∈ lw_all := lw_g (lw_at lw_m6 15 rfl) rfl
theorem q1321 : (Jvm.Cond.code ({ cls := "FlashBoardModel", name := "step", desc := "()I" } : Jvm.MethodName) prog_13_method_67_code (1 : Nat) (Option.some Jvm.ClassFile.FieldType.int)) ∈ lw_all := lw_g (lw_at lw_m6 16 rfl) rfl
theorem q1322 : (Jvm.Cond.methodLink "FlashBoardModel" (356 : Nat) ({ cls := "FlashBoardModel", name := "stepped", desc := "()I" } : Jvm.MethodName)) ∈ lw_all := lw_g (lw_at lw_m6 17 rfl) rfl
theorem q1323 : (Jvm.Cond.privateMethod ({ cls := "FlashBoardModel", name := "stepped", desc := "()I" } : Jvm.MethodName)) ∈ lw_tbl := lw_at lw_m6 18 rfl
theorem q1324 : (Jvm.Cond.instanceMethod ({ cls := "FlashBoardModel", name := "stepped", desc := "()I" } : Jvm.MethodName)) ∈ lw_all := lw_g (lw_at lw_m6 19 rfl) rfl
theorem q1325 : (Jvm.Cond.code ({ cls := "FlashBoardModel", name := "stepped", desc := "()I" } : Jvm.MethodName) prog_13_method_27_code (6 : Nat) (Option.some Jvm.ClassFile.FieldType.int)) ∈ lw_all := lw_g (lw_at lw_m6 20 rfl) rfl
theorem q1326 : (Jvm.Cond.methodLink "FlashBoardModel" (216 : Nat) ({ cls := "FlashBoardModel", name := "awaited", desc := "()I" } : Jvm.MethodName)) ∈ lw_all := lw_g (lw_at lw_m6 21 rfl) rfl
theorem q1327 : (Jvm.Cond.privateMethod ({ cls := "FlashBoardModel", name := "awaited", desc := "()I" } : Jvm.MethodName)) ∈ lw_tbl := lw_at lw_m6 22 rfl
theorem q1328 : (Jvm.Cond.instanceMethod ({ cls := "FlashBoardModel", name := "awaited", desc := "()I" } : Jvm.MethodName)) ∈ lw_all := lw_g (lw_at lw_m6 23 rfl) rfl
theorem q1329 : (Jvm.Cond.code ({ cls := "FlashBoardModel", name := "awaited", desc := "()I" } : Jvm.MethodName) prog_13_method_19_code (1 : Nat) (Option.some Jvm.ClassFile.FieldType.int)) ∈ lw_all := lw_g (lw_at lw_m6 24 rfl) rfl
theorem q1330 : (Jvm.Cond.methodLink "FlashBoardModel" (163 : Nat) ({ cls := "FlashBoardModel", name := "flag", desc := "(I)Z" } : Jvm.MethodName)) ∈ lw_all := lw_g (lw_at lw_m6 25 rfl) rfl
theorem q1331 : (Jvm.Cond.privateMethod ({ cls := "FlashBoardModel", name := "flag", desc := "(I)Z" } : Jvm.MethodName)) ∈ lw_tbl := lw_at lw_m6 26 rfl
theorem q1332 : (Jvm.Cond.instanceMethod ({ cls := "FlashBoardModel", name := "flag", desc := "(I)Z" } : Jvm.MethodName)) ∈ lw_all := lw_g (lw_at lw_m6 27 rfl) rfl
theorem q1333 : (Jvm.Cond.code ({ cls := "FlashBoardModel", name := "flag", desc := "(I)Z" } : Jvm.MethodName) prog_13_method_28_code (2 : Nat) (Option.some Jvm.ClassFile.FieldType.boolean)) ∈ lw_all := lw_g (lw_at lw_m6 28 rfl) rfl
theorem q1334 : (Jvm.Cond.methodLink "FlashBoardModel" (166 : Nat) ({ cls := "FlashBoardModel", name := "interrupt", desc := "()I" } : Jvm.MethodName)) ∈ lw_all := lw_g (lw_at lw_m6 29 rfl) rfl
theorem q1335 : (Jvm.Cond.privateMethod ({ cls := "FlashBoardModel", name := "interrupt", desc := "()I" } : Jvm.MethodName)) ∈ lw_tbl := lw_at lw_m6 30 rfl
theorem q1336 : (Jvm.Cond.instanceMethod ({ cls := "FlashBoardModel", name := "interrupt", desc := "()I" } : Jvm.MethodName)) ∈ lw_all := lw_g (lw_at lw_m6 31 rfl) rfl
theorem q1337 : (Jvm.Cond.code ({ cls := "FlashBoardModel", name := "interrupt", desc := "()I" } : Jvm.MethodName) prog_13_method_18_code (4 : Nat) (Option.some Jvm.ClassFile.FieldType.int)) ∈ lw_all := lw_g (lw_at lw_m6 32 rfl) rfl
theorem q1338 : (Jvm.Cond.methodLink "FlashBoardModel" (219 : Nat) ({ cls := "FlashBoardModel", name := "enter", desc := "(I)V" } : Jvm.MethodName)) ∈ lw_all := lw_g (lw_at lw_m6 33 rfl) rfl
theorem q1339 : (Jvm.Cond.privateMethod ({ cls := "FlashBoardModel", name := "enter", desc := "(I)V" } : Jvm.MethodName)) ∈ lw_tbl := lw_at lw_m6 34 rfl
theorem q1340 : (Jvm.Cond.instanceMethod ({ cls := "FlashBoardModel", name := "enter", desc := "(I)V" } : Jvm.MethodName)) ∈ lw_all := lw_g (lw_at lw_m6 35 rfl) rfl
theorem q1341 : (Jvm.Cond.code ({ cls := "FlashBoardModel", name := "enter", desc := "(I)V" } : Jvm.MethodName) prog_13_method_20_code (2 : Nat) (Option.none : Option Jvm.ClassFile.FieldType)) ∈ lw_all := lw_g (lw_at lw_m6 36 rfl) rfl
theorem q1342 : (Jvm.Cond.methodLink "FlashBoardModel" (169 : Nat) ({ cls := "FlashBoardModel", name := "pushPlace", desc := "(I)V" } : Jvm.MethodName)) ∈ lw_all := lw_g (lw_at lw_m6 37 rfl) rfl
theorem q1343 : (Jvm.Cond.privateMethod ({ cls := "FlashBoardModel", name := "pushPlace", desc := "(I)V" } : Jvm.MethodName)) ∈ lw_tbl := lw_at lw_m6 38 rfl
theorem q1344 : (Jvm.Cond.instanceMethod ({ cls := "FlashBoardModel", name := "pushPlace", desc := "(I)V" } : Jvm.MethodName)) ∈ lw_all := lw_g (lw_at lw_m6 39 rfl) rfl
theorem q1345 : (Jvm.Cond.code ({ cls := "FlashBoardModel", name := "pushPlace", desc := "(I)V" } : Jvm.MethodName) prog_13_method_36_code (2 : Nat) (Option.none : Option Jvm.ClassFile.FieldType)) ∈ lw_all := lw_g (lw_at lw_m6 40 rfl) rfl
theorem q1346 : (Jvm.Cond.methodLink "FlashBoardModel" (244 : Nat) ({ cls := "FlashBoardModel", name := "push", desc := "(I)V" } : Jvm.MethodName)) ∈ lw_all := lw_g (lw_at lw_m6 41 rfl) rfl
theorem q1347 : (Jvm.Cond.privateMethod ({ cls := "FlashBoardModel", name := "push", desc := "(I)V" } : Jvm.MethodName)) ∈ lw_tbl := lw_at lw_m6 42 rfl
theorem q1348 : (Jvm.Cond.instanceMethod ({ cls := "FlashBoardModel", name := "push", desc := "(I)V" } : Jvm.MethodName)) ∈ lw_all := lw_g (lw_at lw_m6 43 rfl) rfl
theorem q1349 : (Jvm.Cond.code ({ cls := "FlashBoardModel", name := "push", desc := "(I)V" } : Jvm.MethodName) prog_13_method_34_code (3 : Nat) (Option.none : Option Jvm.ClassFile.FieldType)) ∈ lw_all := lw_g (lw_at lw_m6 44 rfl) rfl
theorem q1350 : (Jvm.Cond.methodLink "FlashBoardModel" (231 : Nat) ({ cls := "FlashBoardModel", name := "pointer", desc := "(I)I" } : Jvm.MethodName)) ∈ lw_all := lw_g (lw_at lw_m6 45 rfl) rfl
theorem q1351 : (Jvm.Cond.privateMethod ({ cls := "FlashBoardModel", name := "pointer", desc := "(I)I" } : Jvm.MethodName)) ∈ lw_tbl := lw_at lw_m6 46 rfl
theorem q1352 : (Jvm.Cond.instanceMethod ({ cls := "FlashBoardModel", name := "pointer", desc := "(I)I" } : Jvm.MethodName)) ∈ lw_all := lw_g (lw_at lw_m6 47 rfl) rfl
theorem q1353 : (Jvm.Cond.code ({ cls := "FlashBoardModel", name := "pointer", desc := "(I)I" } : Jvm.MethodName) prog_13_method_32_code (2 : Nat) (Option.some Jvm.ClassFile.FieldType.int)) ∈ lw_all := lw_g (lw_at lw_m6 48 rfl) rfl
theorem q1354 : (Jvm.Cond.methodLink "FlashBoardModel" (234 : Nat) ({ cls := "FlashBoardModel", name := "store", desc := "(II)V" } : Jvm.MethodName)) ∈ lw_all := lw_g (lw_at lw_m6 49 rfl) rfl
theorem q1355 : (Jvm.Cond.privateMethod ({ cls := "FlashBoardModel", name := "store", desc := "(II)V" } : Jvm.MethodName)) ∈ lw_tbl := lw_at lw_m6 50 rfl
theorem q1356 : (Jvm.Cond.instanceMethod ({ cls := "FlashBoardModel", name := "store", desc := "(II)V" } : Jvm.MethodName)) ∈ lw_all := lw_g (lw_at lw_m6 51 rfl) rfl
theorem q1357 : (Jvm.Cond.code ({ cls := "FlashBoardModel", name := "store", desc := "(II)V" } : Jvm.MethodName) prog_13_method_13_code (3 : Nat) (Option.none : Option Jvm.ClassFile.FieldType)) ∈ lw_all := lw_g (lw_at lw_m6 52 rfl) rfl
theorem q1358 : (Jvm.Cond.methodLink "FlashBoardModel" (144 : Nat) ({ cls := "FlashBoardModel", name := "holds", desc := "(I)Z" } : Jvm.MethodName)) ∈ lw_all := lw_g (lw_at lw_m6 53 rfl) rfl
theorem q1359 : (Jvm.Cond.static ({ cls := "FlashBoardModel", name := "holds", desc := "(I)Z" } : Jvm.MethodName)) ∈ lw_all := lw_g (lw_at lw_m6 54 rfl) rfl
theorem q1360 : (Jvm.Cond.code ({ cls := "FlashBoardModel", name := "holds", desc := "(I)Z" } : Jvm.MethodName) prog_13_method_12_code (1 : Nat) (Option.some Jvm.ClassFile.FieldType.boolean)) ∈ lw_all := lw_g (lw_at lw_m6 55 rfl) rfl
theorem q1361 : (Jvm.Cond.methodLink "FlashBoardModel" (148 : Nat) ({ cls := "FlashBoardModel", name := "storeRom", desc := "(I)V" } : Jvm.MethodName)) ∈ lw_all := lw_g (lw_at lw_m6 56 rfl) rfl
theorem q1362 : (Jvm.Cond.privateMethod ({ cls := "FlashBoardModel", name := "storeRom", desc := "(I)V" } : Jvm.MethodName)) ∈ lw_tbl := lw_at lw_m6 57 rfl
theorem q1363 : (Jvm.Cond.instanceMethod ({ cls := "FlashBoardModel", name := "storeRom", desc := "(I)V" } : Jvm.MethodName)) ∈ lw_all := lw_g (lw_at lw_m6 58 rfl) rfl
theorem q1364 : (Jvm.Cond.code ({ cls := "FlashBoardModel", name := "storeRom", desc := "(I)V" } : Jvm.MethodName) prog_13_method_14_code (3 : Nat) (Option.none : Option Jvm.ClassFile.FieldType)) ∈ lw_all := lw_g (lw_at lw_m6 59 rfl) rfl
theorem q1365 : (Jvm.Cond.methodLink "FlashBoardModel" (151 : Nat) ({ cls := "FlashBoardModel", name := "storeVectors", desc := "(I)V" } : Jvm.MethodName)) ∈ lw_all := lw_g (lw_at lw_m6 60 rfl) rfl
theorem q1366 : (Jvm.Cond.privateMethod ({ cls := "FlashBoardModel", name := "storeVectors", desc := "(I)V" } : Jvm.MethodName)) ∈ lw_tbl := lw_at lw_m6 61 rfl
theorem q1367 : (Jvm.Cond.instanceMethod ({ cls := "FlashBoardModel", name := "storeVectors", desc := "(I)V" } : Jvm.MethodName)) ∈ lw_all := lw_g (lw_at lw_m6 62 rfl) rfl
theorem q1368 : (Jvm.Cond.code ({ cls := "FlashBoardModel", name := "storeVectors", desc := "(I)V" } : Jvm.MethodName) prog_13_method_15_code (2 : Nat) (Option.none : Option Jvm.ClassFile.FieldType)) ∈ lw_all := lw_g (lw_at lw_m6 63 rfl) rfl
theorem q1369 : (Jvm.Cond.methodLink "FlashBoardModel" (154 : Nat) ({ cls := "FlashBoardModel", name := "storeFlash", desc := "(I)V" } : Jvm.MethodName)) ∈ lw_all := lw_g (lw_at lw_m6 64 rfl) rfl
theorem q1370 : (Jvm.Cond.privateMethod ({ cls := "FlashBoardModel", name := "storeFlash", desc := "(I)V" } : Jvm.MethodName)) ∈ lw_tbl := lw_at lw_m6 65 rfl
theorem q1371 : (Jvm.Cond.instanceMethod ({ cls := "FlashBoardModel", name := "storeFlash", desc := "(I)V" } : Jvm.MethodName)) ∈ lw_all := lw_g (lw_at lw_m6 66 rfl) rfl
theorem q1372 : (Jvm.Cond.code ({ cls := "FlashBoardModel", name := "storeFlash", desc := "(I)V" } : Jvm.MethodName) prog_13_method_16_code (2 : Nat) (Option.none : Option Jvm.ClassFile.FieldType)) ∈ lw_all := lw_g (lw_at lw_m6 67 rfl) rfl
theorem q1373 : (Jvm.Cond.methodLink "FlashBoardModel" (157 : Nat) ({ cls := "FlashBoardModel", name := "storeDog", desc := "(I)V" } : Jvm.MethodName)) ∈ lw_all := lw_g (lw_at lw_m6 68 rfl) rfl
theorem q1374 : (Jvm.Cond.privateMethod ({ cls := "FlashBoardModel", name := "storeDog", desc := "(I)V" } : Jvm.MethodName)) ∈ lw_tbl := lw_at lw_m6 69 rfl
theorem q1375 : (Jvm.Cond.instanceMethod ({ cls := "FlashBoardModel", name := "storeDog", desc := "(I)V" } : Jvm.MethodName)) ∈ lw_all := lw_g (lw_at lw_m6 70 rfl) rfl
theorem q1376 : (Jvm.Cond.code ({ cls := "FlashBoardModel", name := "storeDog", desc := "(I)V" } : Jvm.MethodName) prog_13_method_17_code (3 : Nat) (Option.none : Option Jvm.ClassFile.FieldType)) ∈ lw_all := lw_g (lw_at lw_m6 71 rfl) rfl
theorem q1377 : (Jvm.Cond.methodLink "FlashBoardModel" (238 : Nat) ({ cls := "FlashBoardModel", name := "setPointer", desc := "(II)V" } : Jvm.MethodName)) ∈ lw_all := lw_g (lw_at lw_m6 72 rfl) rfl
theorem q1378 : (Jvm.Cond.privateMethod ({ cls := "FlashBoardModel", name := "setPointer", desc := "(II)V" } : Jvm.MethodName)) ∈ lw_tbl := lw_at lw_m6 73 rfl
theorem q1379 : (Jvm.Cond.instanceMethod ({ cls := "FlashBoardModel", name := "setPointer", desc := "(II)V" } : Jvm.MethodName)) ∈ lw_all := lw_g (lw_at lw_m6 74 rfl) rfl
theorem q1380 : (Jvm.Cond.code ({ cls := "FlashBoardModel", name := "setPointer", desc := "(II)V" } : Jvm.MethodName) prog_13_method_33_code (3 : Nat) (Option.none : Option Jvm.ClassFile.FieldType)) ∈ lw_all := lw_g (lw_at lw_m6 75 rfl) rfl
theorem q1381 : (Jvm.Cond.methodLink "FlashBoardModel" (172 : Nat) ({ cls := "FlashBoardModel", name := "setFlag", desc := "(IZ)V" } : Jvm.MethodName)) ∈ lw_all := lw_g (lw_at lw_m6 76 rfl) rfl
theorem q1382 : (Jvm.Cond.privateMethod ({ cls := "FlashBoardModel", name := "setFlag", desc := "(IZ)V" } : Jvm.MethodName)) ∈ lw_tbl := lw_at lw_m6 77 rfl
theorem q1383 : (Jvm.Cond.instanceMethod ({ cls := "FlashBoardModel", name := "setFlag", desc := "(IZ)V" } : Jvm.MethodName)) ∈ lw_all := lw_g (lw_at lw_m6 78 rfl) rfl
theorem q1384 : (Jvm.Cond.code ({ cls := "FlashBoardModel", name := "setFlag", desc := "(IZ)V" } : Jvm.MethodName) prog_13_method_29_code (3 : Nat) (Option.none : Option Jvm.ClassFile.FieldType)) ∈ lw_all := lw_g (lw_at lw_m6 79 rfl) rfl
theorem q1385 : (Jvm.Cond.methodLink "FlashBoardModel" (222 : Nat) ({ cls := "FlashBoardModel", name := "instruction", desc := "()I" } : Jvm.MethodName)) ∈ lw_all := lw_g (lw_at lw_m6 80 rfl) rfl
theorem q1386 : (Jvm.Cond.privateMethod ({ cls := "FlashBoardModel", name := "instruction", desc := "()I" } : Jvm.MethodName)) ∈ lw_tbl := lw_at lw_m6 81 rfl
theorem q1387 : (Jvm.Cond.instanceMethod ({ cls := "FlashBoardModel", name := "instruction", desc := "()I" } : Jvm.MethodName)) ∈ lw_all := lw_g (lw_at lw_m6 82 rfl) rfl
theorem q1388 : (Jvm.Cond.code ({ cls := "FlashBoardModel", name := "instruction", desc := "()I" } : Jvm.MethodName) prog_13_method_44_code (3 : Nat) (Option.some Jvm.ClassFile.FieldType.int)) ∈ lw_all := lw_g (lw_at lw_m6 83 rfl) rfl
theorem q1389 : (Jvm.Cond.methodLink "FlashBoardModel" (259 : Nat) ({ cls := "FlashBoardModel", name := "next", desc := "()I" } : Jvm.MethodName)) ∈ lw_all := lw_g (lw_at lw_m6 84 rfl) rfl
theorem q1390 : (Jvm.Cond.privateMethod ({ cls := "FlashBoardModel", name := "next", desc := "()I" } : Jvm.MethodName)) ∈ lw_tbl := lw_at lw_m6 85 rfl
theorem q1391 : (Jvm.Cond.instanceMethod ({ cls := "FlashBoardModel", name := "next", desc := "()I" } : Jvm.MethodName)) ∈ lw_all := lw_g (lw_at lw_m6 86 rfl) rfl
theorem q1392 : (Jvm.Cond.code ({ cls := "FlashBoardModel", name := "next", desc := "()I" } : Jvm.MethodName) prog_13_method_31_code (2 : Nat) (Option.some Jvm.ClassFile.FieldType.int)) ∈ lw_all := lw_g (lw_at lw_m6 87 rfl) rfl
theorem q1393 : (Jvm.Cond.methodLink "FlashBoardModel" (228 : Nat) ({ cls := "FlashBoardModel", name := "code", desc := "(I)I" } : Jvm.MethodName)) ∈ lw_all := lw_g (lw_at lw_m6 88 rfl) rfl
theorem q1394 : (Jvm.Cond.privateMethod ({ cls := "FlashBoardModel", name := "code", desc := "(I)I" } : Jvm.MethodName)) ∈ lw_tbl := lw_at lw_m6 89 rfl
theorem q1395 : (Jvm.Cond.instanceMethod ({ cls := "FlashBoardModel", name := "code", desc := "(I)I" } : Jvm.MethodName)) ∈ lw_all := lw_g (lw_at lw_m6 90 rfl) rfl
theorem q1396 : (Jvm.Cond.code ({ cls := "FlashBoardModel", name := "code", desc := "(I)I" } : Jvm.MethodName) prog_13_method_30_code (3 : Nat) (Option.some Jvm.ClassFile.FieldType.int)) ∈ lw_all := lw_g (lw_at lw_m6 91 rfl) rfl
theorem q1397 : (Jvm.Cond.methodLink "FlashBoardModel" (262 : Nat) ({ cls := "FlashBoardModel", name := "ofTwo", desc := "(I)I" } : Jvm.MethodName)) ∈ lw_all := lw_g (lw_at lw_m6 92 rfl) rfl
theorem q1398 : (Jvm.Cond.privateMethod ({ cls := "FlashBoardModel", name := "ofTwo", desc := "(I)I" } : Jvm.MethodName)) ∈ lw_tbl := lw_at lw_m6 93 rfl
theorem q1399 : (Jvm.Cond.instanceMethod ({ cls := "FlashBoardModel", name := "ofTwo", desc := "(I)I" } : Jvm.MethodName)) ∈ lw_all := lw_g (lw_at lw_m6 94 rfl) rfl
theorem q1400 : (Jvm.Cond.code ({ cls := "FlashBoardModel", name := "ofTwo", desc := "(I)I" } : Jvm.MethodName) prog_13_method_46_code (6 : Nat) (Option.some Jvm.ClassFile.FieldType.int)) ∈ lw_all := lw_g (lw_at lw_m6 95 rfl) rfl
theorem q1401 : (Jvm.Cond.methodLink "FlashBoardModel" (285 : Nat) ({ cls := "FlashBoardModel", name := "moves", desc := "(I)I" } : Jvm.MethodName)) ∈ lw_all := lw_g (lw_at lw_m6 96 rfl) rfl
theorem q1402 : (Jvm.Cond.privateMethod ({ cls := "FlashBoardModel", name := "moves", desc := "(I)I" } : Jvm.MethodName)) ∈ lw_tbl := lw_at lw_m6 97 rfl
theorem q1403 : (Jvm.Cond.instanceMethod ({ cls := "FlashBoardModel", name := "moves", desc := "(I)I" } : Jvm.MethodName)) ∈ lw_all := lw_g (lw_at lw_m6 98 rfl) rfl
theorem q1404 : (Jvm.Cond.code ({ cls := "FlashBoardModel", name := "moves", desc := "(I)I" } : Jvm.MethodName) prog_13_method_47_code (9 : Nat) (Option.some Jvm.ClassFile.FieldType.int)) ∈ lw_all := lw_g (lw_at lw_m6 99 rfl) rfl
theorem q1405 : (Jvm.Cond.methodLink "FlashBoardModel" (250 : Nat) ({ cls := "FlashBoardModel", name := "signed", desc := "(I)I" } : Jvm.MethodName)) ∈ lw_all := lw_g (lw_at lw_m6 100 rfl) rfl
theorem q1406 : (Jvm.Cond.static ({ cls := "FlashBoardModel", name := "signed", desc := "(I)I" } : Jvm.MethodName)) ∈ lw_all := lw_g (lw_at lw_m6 101 rfl) rfl
theorem q1407 : (Jvm.Cond.code ({ cls := "FlashBoardModel", name := "signed", desc := "(I)I" } : Jvm.MethodName) prog_13_method_39_code (1 : Nat) (Option.some Jvm.ClassFile.FieldType.int)) ∈ lw_all := lw_g (lw_at lw_m6 102 rfl) rfl
theorem q1408 : (Jvm.Cond.methodLink "FlashBoardModel" (305 : Nat) ({ cls := "FlashBoardModel", name := "product", desc := "(IZ)V" } : Jvm.MethodName)) ∈ lw_all := lw_g (lw_at lw_m6 103 rfl) rfl
theorem q1409 : (Jvm.Cond.privateMethod ({ cls := "FlashBoardModel", name := "product", desc := "(IZ)V" } : Jvm.MethodName)) ∈ lw_tbl := lw_at lw_m6 104 rfl
theorem q1410 : (Jvm.Cond.instanceMethod ({ cls := "FlashBoardModel", name := "product", desc := "(IZ)V" } : Jvm.MethodName)) ∈ lw_all := lw_g (lw_at lw_m6 105 rfl) rfl
theorem q1411 : (Jvm.Cond.code ({ cls := "FlashBoardModel", name := "product", desc := "(IZ)V" } : Jvm.MethodName) prog_13_method_45_code (4 : Nat) (Option.none : Option Jvm.ClassFile.FieldType)) ∈ lw_all := lw_g (lw_at lw_m6 106 rfl) rfl
theorem q1412 : (Jvm.Cond.constant "FlashBoardModel" (272 : Nat) (32768 : Int32)) ∈ lw_all := lw_g (lw_at lw_m6 107 rfl) rfl
theorem q1413 : (Jvm.Cond.methodLink "FlashBoardModel" (288 : Nat) ({ cls := "FlashBoardModel", name := "carry", desc := "()I" } : Jvm.MethodName)) ∈ lw_all := lw_g (lw_at lw_m6 108 rfl) rfl
theorem q1414 : (Jvm.Cond.privateMethod ({ cls := "FlashBoardModel", name := "carry", desc := "()I" } : Jvm.MethodName)) ∈ lw_tbl := lw_at lw_m6 109 rfl
theorem q1415 : (Jvm.Cond.instanceMethod ({ cls := "FlashBoardModel", name := "carry", desc := "()I" } : Jvm.MethodName)) ∈ lw_all := lw_g (lw_at lw_m6 110 rfl) rfl
theorem q1416 : (Jvm.Cond.code ({ cls := "FlashBoardModel", name := "carry", desc := "()I" } : Jvm.MethodName) prog_13_method_43_code (1 : Nat) (Option.some Jvm.ClassFile.FieldType.int)) ∈ lw_all := lw_g (lw_at lw_m6 111 rfl) rfl
theorem q1417 : (Jvm.Cond.methodLink "FlashBoardModel" (291 : Nat) ({ cls := "FlashBoardModel", name := "subtract", desc := "(IIIZ)I" } : Jvm.MethodName)) ∈ lw_all := lw_g (lw_at lw_m6 112 rfl) rfl
theorem q1418 : (Jvm.Cond.privateMethod ({ cls := "FlashBoardModel", name := "subtract", desc := "(IIIZ)I" } : Jvm.MethodName)) ∈ lw_tbl := lw_at lw_m6 113 rfl
theorem q1419 : (Jvm.Cond.instanceMethod ({ cls := "FlashBoardModel", name := "subtract", desc := "(IIIZ)I" } : Jvm.MethodName)) ∈ lw_all := lw_g (lw_at lw_m6 114 rfl) rfl
theorem q1420 : (Jvm.Cond.code ({ cls := "FlashBoardModel", name := "subtract", desc := "(IIIZ)I" } : Jvm.MethodName) prog_13_method_41_code (8 : Nat) (Option.some Jvm.ClassFile.FieldType.int)) ∈ lw_all := lw_g (lw_at lw_m6 115 rfl) rfl
theorem q1421 : (Jvm.Cond.methodLink "FlashBoardModel" (253 : Nat) ({ cls := "FlashBoardModel", name := "zero", desc := "(I)V" } : Jvm.MethodName)) ∈ lw_all := lw_g (lw_at lw_m6 116 rfl) rfl
theorem q1422 : (Jvm.Cond.privateMethod ({ cls := "FlashBoardModel", name := "zero", desc := "(I)V" } : Jvm.MethodName)) ∈ lw_tbl := lw_at lw_m6 117 rfl
theorem q1423 : (Jvm.Cond.instanceMethod ({ cls := "FlashBoardModel", name := "zero", desc := "(I)V" } : Jvm.MethodName)) ∈ lw_all := lw_g (lw_at lw_m6 118 rfl) rfl
theorem q1424 : (Jvm.Cond.code ({ cls := "FlashBoardModel", name := "zero", desc := "(I)V" } : Jvm.MethodName) prog_13_method_38_code (2 : Nat) (Option.none : Option Jvm.ClassFile.FieldType)) ∈ lw_all := lw_g (lw_at lw_m6 119 rfl) rfl
theorem q1425 : (Jvm.Cond.methodLink "FlashBoardModel" (295 : Nat) ({ cls := "FlashBoardModel", name := "add", desc := "(III)I" } : Jvm.MethodName)) ∈ lw_all := lw_g (lw_at lw_m6 120 rfl) rfl
theorem q1426 : (Jvm.Cond.privateMethod ({ cls := "FlashBoardModel", name := "add", desc := "(III)I" } : Jvm.MethodName)) ∈ lw_tbl := lw_at lw_m6 121 rfl
theorem q1427 : (Jvm.Cond.instanceMethod ({ cls := "FlashBoardModel", name := "add", desc := "(III)I" } : Jvm.MethodName)) ∈ lw_all := lw_g (lw_at lw_m6 122 rfl) rfl
theorem q1428 : (Jvm.Cond.code ({ cls := "FlashBoardModel", name := "add", desc := "(III)I" } : Jvm.MethodName) prog_13_method_40_code (6 : Nat) (Option.some Jvm.ClassFile.FieldType.int)) ∈ lw_all := lw_g (lw_at lw_m6 123 rfl) rfl
theorem q1429 : (Jvm.Cond.methodLink "FlashBoardModel" (299 : Nat) ({ cls := "FlashBoardModel", name := "skips", desc := "()I" } : Jvm.MethodName)) ∈ lw_all := lw_g (lw_at lw_m6 124 rfl) rfl
theorem q1430 : (Jvm.Cond.privateMethod ({ cls := "FlashBoardModel", name := "skips", desc := "()I" } : Jvm.MethodName)) ∈ lw_tbl := lw_at lw_m6 125 rfl
theorem q1431 : (Jvm.Cond.instanceMethod ({ cls := "FlashBoardModel", name := "skips", desc := "()I" } : Jvm.MethodName)) ∈ lw_all := lw_g (lw_at lw_m6 126 rfl) rfl
theorem q1432 : (Jvm.Cond.code ({ cls := "FlashBoardModel", name := "skips", desc := "()I" } : Jvm.MethodName) prog_13_method_48_code (2 : Nat) (Option.some Jvm.ClassFile.FieldType.int)) ∈ lw_all := lw_g (lw_at lw_m6 127 rfl) rfl
theorem q1433 : (Jvm.Cond.constant "FlashBoardModel" (308 : Nat) (64527 : Int32)) ∈ lw_all := lw_g (lw_at lw_m6 128 rfl) rfl
theorem q1434 : (Jvm.Cond.constant "FlashBoardModel" (309 : Nat) (36864 : Int32)) ∈ lw_all := lw_g (lw_at lw_m6 129 rfl) rfl
theorem q1435 : (Jvm.Cond.constant "FlashBoardModel" (310 : Nat) (65036 : Int32)) ∈ lw_all := lw_g (lw_at lw_m6 130 rfl) rfl
theorem q1436 : (Jvm.Cond.constant "FlashBoardModel" (311 : Nat) (37900 : Int32)) ∈ lw_all := lw_g (lw_at lw_m6 131 rfl) rfl
theorem q1437 : (Jvm.Cond.methodLink "FlashBoardModel" (302 : Nat) ({ cls := "FlashBoardModel", name := "logic", desc := "(I)I" } : Jvm.MethodName)) ∈ lw_all := lw_g (lw_at lw_m6 132 rfl) rfl
theorem q1438 : (Jvm.Cond.privateMethod ({ cls := "FlashBoardModel", name := "logic", desc := "(I)I" } : Jvm.MethodName)) ∈ lw_tbl := lw_at lw_m6 133 rfl
theorem q1439 : (Jvm.Cond.instanceMethod ({ cls := "FlashBoardModel", name := "logic", desc := "(I)I" } : Jvm.MethodName)) ∈ lw_all := lw_g (lw_at lw_m6 134 rfl) rfl
theorem q1440 : (Jvm.Cond.code ({ cls := "FlashBoardModel", name := "logic", desc := "(I)I" } : Jvm.MethodName) prog_13_method_42_code (2 : Nat) (Option.some Jvm.ClassFile.FieldType.int)) ∈ lw_all := lw_g (lw_at lw_m6 135 rfl) rfl
theorem q1441 : (Jvm.Cond.methodLink "FlashBoardModel" (265 : Nat) ({ cls := "FlashBoardModel", name := "ofNumber", desc := "(I)I" } : Jvm.MethodName)) ∈ lw_all := lw_g (lw_at lw_m6 136 rfl) rfl
theorem q1442 : (Jvm.Cond.privateMethod ({ cls := "FlashBoardModel", name := "ofNumber", desc := "(I)I" } : Jvm.MethodName)) ∈ lw_tbl := lw_at lw_m6 137 rfl
theorem q1443 : (Jvm.Cond.instanceMethod ({ cls := "FlashBoardModel", name := "ofNumber", desc := "(I)I" } : Jvm.MethodName)) ∈ lw_all := lw_g (lw_at lw_m6 138 rfl) rfl
theorem q1444 : (Jvm.Cond.code ({ cls := "FlashBoardModel", name := "ofNumber", desc := "(I)I" } : Jvm.MethodName) prog_13_method_49_code (5 : Nat) (Option.some Jvm.ClassFile.FieldType.int)) ∈ lw_all := lw_g (lw_at lw_m6 139 rfl) rfl
theorem q1445 : (Jvm.Cond.methodLink "FlashBoardModel" (268 : Nat) ({ cls := "FlashBoardModel", name := "nines", desc := "(I)I" } : Jvm.MethodName)) ∈ lw_all := lw_g (lw_at lw_m6 140 rfl) rfl
theorem q1446 : (Jvm.Cond.privateMethod ({ cls := "FlashBoardModel", name := "nines", desc := "(I)I" } : Jvm.MethodName)) ∈ lw_tbl := lw_at lw_m6 141 rfl
theorem q1447 : (Jvm.Cond.instanceMethod ({ cls := "FlashBoardModel", name := "nines", desc := "(I)I" } : Jvm.MethodName)) ∈ lw_all := lw_g (lw_at lw_m6 142 rfl) rfl
theorem q1448 : (Jvm.Cond.code ({ cls := "FlashBoardModel", name := "nines", desc := "(I)I" } : Jvm.MethodName) prog_13_method_54_code (2 : Nat) (Option.some Jvm.ClassFile.FieldType.int)) ∈ lw_all := lw_g (lw_at lw_m6 143 rfl) rfl
theorem q1449 : (Jvm.Cond.methodLink "FlashBoardModel" (312 : Nat) ({ cls := "FlashBoardModel", name := "loads", desc := "(I)I" } : Jvm.MethodName)) ∈ lw_all := lw_g (lw_at lw_m6 144 rfl) rfl
theorem q1450 : (Jvm.Cond.privateMethod ({ cls := "FlashBoardModel", name := "loads", desc := "(I)I" } : Jvm.MethodName)) ∈ lw_tbl := lw_at lw_m6 145 rfl
theorem q1451 : (Jvm.Cond.instanceMethod ({ cls := "FlashBoardModel", name := "loads", desc := "(I)I" } : Jvm.MethodName)) ∈ lw_all := lw_g (lw_at lw_m6 146 rfl) rfl
theorem q1452 : (Jvm.Cond.code ({ cls := "FlashBoardModel", name := "loads", desc := "(I)I" } : Jvm.MethodName) prog_13_method_56_code (6 : Nat) (Option.some Jvm.ClassFile.FieldType.int)) ∈ lw_all := lw_g (lw_at lw_m6 147 rfl) rfl
theorem q1453 : (Jvm.Cond.methodLink "FlashBoardModel" (327 : Nat) ({ cls := "FlashBoardModel", name := "flashByte", desc := "(I)I" } : Jvm.MethodName)) ∈ lw_all := lw_g (lw_at lw_m6 148 rfl) rfl
theorem q1454 : (Jvm.Cond.privateMethod ({ cls := "FlashBoardModel", name := "flashByte", desc := "(I)I" } : Jvm.MethodName)) ∈ lw_tbl := lw_at lw_m6 149 rfl
theorem q1455 : (Jvm.Cond.instanceMethod ({ cls := "FlashBoardModel", name := "flashByte", desc := "(I)I" } : Jvm.MethodName)) ∈ lw_all := lw_g (lw_at lw_m6 150 rfl) rfl
theorem q1456 : (Jvm.Cond.code ({ cls := "FlashBoardModel", name := "flashByte", desc := "(I)I" } : Jvm.MethodName) prog_13_method_58_code (4 : Nat) (Option.some Jvm.ClassFile.FieldType.int)) ∈ lw_all := lw_g (lw_at lw_m6 151 rfl) rfl
theorem q1457 : (Jvm.Cond.methodLink "FlashBoardModel" (247 : Nat) ({ cls := "FlashBoardModel", name := "pop", desc := "()I" } : Jvm.MethodName)) ∈ lw_all := lw_g (lw_at lw_m6 152 rfl) rfl
theorem q1458 : (Jvm.Cond.privateMethod ({ cls := "FlashBoardModel", name := "pop", desc := "()I" } : Jvm.MethodName)) ∈ lw_tbl := lw_at lw_m6 153 rfl
theorem q1459 : (Jvm.Cond.instanceMethod ({ cls := "FlashBoardModel", name := "pop", desc := "()I" } : Jvm.MethodName)) ∈ lw_all := lw_g (lw_at lw_m6 154 rfl) rfl
theorem q1460 : (Jvm.Cond.code ({ cls := "FlashBoardModel", name := "pop", desc := "()I" } : Jvm.MethodName) prog_13_method_35_code (2 : Nat) (Option.some Jvm.ClassFile.FieldType.int)) ∈ lw_all := lw_g (lw_at lw_m6 155 rfl) rfl
theorem q1461 : (Jvm.Cond.methodLink "FlashBoardModel" (241 : Nat) ({ cls := "FlashBoardModel", name := "load", desc := "(I)I" } : Jvm.MethodName)) ∈ lw_all := lw_g (lw_at lw_m6 156 rfl) rfl
theorem q1462 : (Jvm.Cond.privateMethod ({ cls := "FlashBoardModel", name := "load", desc := "(I)I" } : Jvm.MethodName)) ∈ lw_tbl := lw_at lw_m6 157 rfl
theorem q1463 : (Jvm.Cond.instanceMethod ({ cls := "FlashBoardModel", name := "load", desc := "(I)I" } : Jvm.MethodName)) ∈ lw_all := lw_g (lw_at lw_m6 158 rfl) rfl
theorem q1464 : (Jvm.Cond.code ({ cls := "FlashBoardModel", name := "load", desc := "(I)I" } : Jvm.MethodName) prog_13_method_10_code (3 : Nat) (Option.some Jvm.ClassFile.FieldType.int)) ∈ lw_all := lw_g (lw_at lw_m6 159 rfl) rfl
theorem q1465 : (Jvm.Cond.methodLink "FlashBoardModel" (134 : Nat) ({ cls := "FlashBoardModel", name := "seen", desc := "(I)I" } : Jvm.MethodName)) ∈ lw_all := lw_g (lw_at lw_m6 160 rfl) rfl
theorem q1466 : (Jvm.Cond.privateMethod ({ cls := "FlashBoardModel", name := "seen", desc := "(I)I" } : Jvm.MethodName)) ∈ lw_tbl := lw_at lw_m6 161 rfl
theorem q1467 : (Jvm.Cond.instanceMethod ({ cls := "FlashBoardModel", name := "seen", desc := "(I)I" } : Jvm.MethodName)) ∈ lw_all := lw_g (lw_at lw_m6 162 rfl) rfl
theorem q1468 : (Jvm.Cond.code ({ cls := "FlashBoardModel", name := "seen", desc := "(I)I" } : Jvm.MethodName) prog_13_method_9_code (2 : Nat) (Option.some Jvm.ClassFile.FieldType.int)) ∈ lw_all := lw_g (lw_at lw_m6 163 rfl) rfl
theorem q1469 : (Jvm.Cond.methodLink "FlashBoardModel" (141 : Nat) ({ cls := "FlashBoardModel", name := "showReceived", desc := "()V" } : Jvm.MethodName)) ∈ lw_all := lw_g (lw_at lw_m6 164 rfl) rfl
theorem q1470 : (Jvm.Cond.privateMethod ({ cls := "FlashBoardModel", name := "showReceived", desc := "()V" } : Jvm.MethodName)) ∈ lw_tbl := lw_at lw_m6 165 rfl
theorem q1471 : (Jvm.Cond.instanceMethod ({ cls := "FlashBoardModel", name := "showReceived", desc := "()V" } : Jvm.MethodName)) ∈ lw_all := lw_g (lw_at lw_m6 166 rfl) rfl
theorem q1472 : (Jvm.Cond.code ({ cls := "FlashBoardModel", name := "showReceived", desc := "()V" } : Jvm.MethodName) prog_13_method_11_code (1 : Nat) (Option.none : Option Jvm.ClassFile.FieldType)) ∈ lw_all := lw_g (lw_at lw_m6 167 rfl) rfl
theorem q1473 : (Jvm.Cond.methodLink "FlashBoardModel" (330 : Nat) ({ cls := "FlashBoardModel", name := "place", desc := "(I)I" } : Jvm.MethodName)) ∈ lw_all := lw_g (lw_at lw_m6 168 rfl) rfl
theorem q1474 : (Jvm.Cond.privateMethod ({ cls := "FlashBoardModel", name := "place", desc := "(I)I" } : Jvm.MethodName)) ∈ lw_tbl := lw_at lw_m6 169 rfl
theorem q1475 : (Jvm.Cond.instanceMethod ({ cls := "FlashBoardModel", name := "place", desc := "(I)I" } : Jvm.MethodName)) ∈ lw_all := lw_g (lw_at lw_m6 170 rfl) rfl
theorem q1476 : (Jvm.Cond.code ({ cls := "FlashBoardModel", name := "place", desc := "(I)I" } : Jvm.MethodName) prog_13_method_55_code (5 : Nat) (Option.some Jvm.ClassFile.FieldType.int)) ∈ lw_all := lw_g (lw_at lw_m6 171 rfl) rfl
theorem q1477 : (Jvm.Cond.methodLink "FlashBoardModel" (315 : Nat) ({ cls := "FlashBoardModel", name := "stores", desc := "(I)I" } : Jvm.MethodName)) ∈ lw_all := lw_g (lw_at lw_m6 172 rfl) rfl
theorem q1478 : (Jvm.Cond.privateMethod ({ cls := "FlashBoardModel", name := "stores", desc := "(I)I" } : Jvm.MethodName)) ∈ lw_tbl := lw_at lw_m6 173 rfl
theorem q1479 : (Jvm.Cond.instanceMethod ({ cls := "FlashBoardModel", name := "stores", desc := "(I)I" } : Jvm.MethodName)) ∈ lw_all := lw_g (lw_at lw_m6 174 rfl) rfl
theorem q1480 : (Jvm.Cond.code ({ cls := "FlashBoardModel", name := "stores", desc := "(I)I" } : Jvm.MethodName) prog_13_method_57_code (5 : Nat) (Option.some Jvm.ClassFile.FieldType.int)) ∈ lw_all := lw_g (lw_at lw_m6 175 rfl) rfl
theorem q1481 : (Jvm.Cond.methodLink "FlashBoardModel" (318 : Nat) ({ cls := "FlashBoardModel", name := "single", desc := "(I)I" } : Jvm.MethodName)) ∈ lw_all := lw_g (lw_at lw_m6 176 rfl) rfl
theorem q1482 : (Jvm.Cond.privateMethod ({ cls := "FlashBoardModel", name := "single", desc := "(I)I" } : Jvm.MethodName)) ∈ lw_tbl := lw_at lw_m6 177 rfl
theorem q1483 : (Jvm.Cond.instanceMethod ({ cls := "FlashBoardModel", name := "single", desc := "(I)I" } : Jvm.MethodName)) ∈ lw_all := lw_g (lw_at lw_m6 178 rfl) rfl
theorem q1484 : (Jvm.Cond.code ({ cls := "FlashBoardModel", name := "single", desc := "(I)I" } : Jvm.MethodName) prog_13_method_59_code (5 : Nat) (Option.some Jvm.ClassFile.FieldType.int)) ∈ lw_all := lw_g (lw_at lw_m6 179 rfl) rfl
theorem q1485 : (Jvm.Cond.methodLink "FlashBoardModel" (333 : Nat) ({ cls := "FlashBoardModel", name := "shifted", desc := "(III)I" } : Jvm.MethodName)) ∈ lw_all := lw_g (lw_at lw_m6 180 rfl) rfl
theorem q1486 : (Jvm.Cond.privateMethod ({ cls := "FlashBoardModel", name := "shifted", desc := "(III)I" } : Jvm.MethodName)) ∈ lw_tbl := lw_at lw_m6 181 rfl
theorem q1487 : (Jvm.Cond.instanceMethod ({ cls := "FlashBoardModel", name := "shifted", desc := "(III)I" } : Jvm.MethodName)) ∈ lw_all := lw_g (lw_at lw_m6 182 rfl) rfl
theorem q1488 : (Jvm.Cond.code ({ cls := "FlashBoardModel", name := "shifted", desc := "(III)I" } : Jvm.MethodName) prog_13_method_60_code (6 : Nat) (Option.some Jvm.ClassFile.FieldType.int)) ∈ lw_all := lw_g (lw_at lw_m6 183 rfl) rfl
theorem q1489 : (Jvm.Cond.methodLink "FlashBoardModel" (336 : Nat) ({ cls := "FlashBoardModel", name := "others", desc := "(I)I" } : Jvm.MethodName)) ∈ lw_all := lw_g (lw_at lw_m6 184 rfl) rfl
theorem q1490 : (Jvm.Cond.privateMethod ({ cls := "FlashBoardModel", name := "others", desc := "(I)I" } : Jvm.MethodName)) ∈ lw_tbl := lw_at lw_m6 185 rfl
theorem q1491 : (Jvm.Cond.instanceMethod ({ cls := "FlashBoardModel", name := "others", desc := "(I)I" } : Jvm.MethodName)) ∈ lw_all := lw_g (lw_at lw_m6 186 rfl) rfl
theorem q1492 : (Jvm.Cond.code ({ cls := "FlashBoardModel", name := "others", desc := "(I)I" } : Jvm.MethodName) prog_13_method_62_code (2 : Nat) (Option.some Jvm.ClassFile.FieldType.int)) ∈ lw_all := lw_g (lw_at lw_m6 187 rfl) rfl
theorem q1493 : (Jvm.Cond.constant "FlashBoardModel" (344 : Nat) (38144 : Int32)) ∈ lw_all := lw_g (lw_at lw_m6 188 rfl) rfl
theorem q1494 : (Jvm.Cond.constant "FlashBoardModel" (345 : Nat) (38008 : Int32)) ∈ lw_all := lw_g (lw_at lw_m6 189 rfl) rfl
theorem q1495 : (Jvm.Cond.methodLink "FlashBoardModel" (346 : Nat) ({ cls := "FlashBoardModel", name := "popPlace", desc := "()I" } : Jvm.MethodName)) ∈ lw_all := lw_g (lw_at lw_m6 190 rfl) rfl
theorem q1496 : (Jvm.Cond.privateMethod ({ cls := "FlashBoardModel", name := "popPlace", desc := "()I" } : Jvm.MethodName)) ∈ lw_tbl := lw_at lw_m6 191 rfl
theorem q1497 : (Jvm.Cond.instanceMethod ({ cls := "FlashBoardModel", name := "popPlace", desc := "()I" } : Jvm.MethodName)) ∈ lw_all := lw_g (lw_at lw_m6 192 rfl) rfl
theorem q1498 : (Jvm.Cond.code ({ cls := "FlashBoardModel", name := "popPlace", desc := "()I" } : Jvm.MethodName) prog_13_method_37_code (2 : Nat) (Option.some Jvm.ClassFile.FieldType.int)) ∈ lw_all := lw_g (lw_at lw_m6 193 rfl) rfl
theorem q1499 : (Jvm.Cond.methodLink "FlashBoardModel" (349 : Nat) ({ cls := "FlashBoardModel", name := "storesFlash", desc := "()V" } : Jvm.MethodName)) ∈ lw_all := lw_g (lw_at lw_m6 194 rfl) rfl
theorem q1500 : (Jvm.Cond.privateMethod ({ cls := "FlashBoardModel", name := "storesFlash", desc := "()V" } : Jvm.MethodName)) ∈ lw_tbl := lw_at lw_m6 195 rfl
theorem q1501 : (Jvm.Cond.instanceMethod ({ cls := "FlashBoardModel", name := "storesFlash", desc := "()V" } : Jvm.MethodName)) ∈ lw_all := lw_g (lw_at lw_m6 196 rfl) rfl
theorem q1502 : (Jvm.Cond.code ({ cls := "FlashBoardModel", name := "storesFlash", desc := "()V" } : Jvm.MethodName) prog_13_method_65_code (5 : Nat) (Option.none : Option Jvm.ClassFile.FieldType)) ∈ lw_all := lw_g (lw_at lw_m6 197 rfl) rfl
theorem q1503 : (Jvm.Cond.methodLink "FlashBoardModel" (352 : Nat) ({ cls := "FlashBoardModel", name := "writes", desc := "(IZ)Z" } : Jvm.MethodName)) ∈ lw_all := lw_g (lw_at lw_m6 198 rfl) rfl
theorem q1504 : (Jvm.Cond.privateMethod ({ cls := "FlashBoardModel", name := "writes", desc := "(IZ)Z" } : Jvm.MethodName)) ∈ lw_tbl := lw_at lw_m6 199 rfl
theorem q1505 : (Jvm.Cond.instanceMethod ({ cls := "FlashBoardModel", name := "writes", desc := "(IZ)Z" } : Jvm.MethodName)) ∈ lw_all := lw_g (lw_at lw_m6 200 rfl) rfl
theorem q1506 : (Jvm.Cond.code ({ cls := "FlashBoardModel", name := "writes", desc := "(IZ)Z" } : Jvm.MethodName) prog_13_method_66_code (5 : Nat) (Option.some Jvm.ClassFile.FieldType.boolean)) ∈ lw_all := lw_g (lw_at lw_m6 201 rfl) rfl
theorem q1507 : (Jvm.Cond.methodLink "FlashBoardModel" (339 : Nat) ({ cls := "FlashBoardModel", name := "through", desc := "(I)I" } : Jvm.MethodName)) ∈ lw_all := lw_g (lw_at lw_m6 202 rfl) rfl
theorem q1508 : (Jvm.Cond.privateMethod ({ cls := "FlashBoardModel", name := "through", desc := "(I)I" } : Jvm.MethodName)) ∈ lw_tbl := lw_at lw_m6 203 rfl
theorem q1509 : (Jvm.Cond.instanceMethod ({ cls := "FlashBoardModel", name := "through", desc := "(I)I" } : Jvm.MethodName)) ∈ lw_all := lw_g (lw_at lw_m6 204 rfl) rfl
theorem q1510 : (Jvm.Cond.code ({ cls := "FlashBoardModel", name := "through", desc := "(I)I" } : Jvm.MethodName) prog_13_method_61_code (2 : Nat) (Option.some Jvm.ClassFile.FieldType.int)) ∈ lw_all := lw_g (lw_at lw_m6 205 rfl) rfl
theorem q1511 : (Jvm.Cond.constant "FlashBoardModel" (342 : Nat) (37897 : Int32)) ∈ lw_all := lw_g (lw_at lw_m6 206 rfl) rfl
theorem q1512 : (Jvm.Cond.constant "FlashBoardModel" (343 : Nat) (38153 : Int32)) ∈ lw_all := lw_g (lw_at lw_m6 207 rfl) rfl
theorem q1513 : (Jvm.Cond.methodLink "FlashBoardModel" (321 : Nat) ({ cls := "FlashBoardModel", name := "pairs", desc := "(I)I" } : Jvm.MethodName)) ∈ lw_all := lw_g (lw_at lw_m6 208 rfl) rfl
theorem q1514 : (Jvm.Cond.privateMethod ({ cls := "FlashBoardModel", name := "pairs", desc := "(I)I" } : Jvm.MethodName)) ∈ lw_tbl := lw_at lw_m6 209 rfl
theorem q1515 : (Jvm.Cond.instanceMethod ({ cls := "FlashBoardModel", name := "pairs", desc := "(I)I" } : Jvm.MethodName)) ∈ lw_all := lw_g (lw_at lw_m6 210 rfl) rfl
theorem q1516 : (Jvm.Cond.code ({ cls := "FlashBoardModel", name := "pairs", desc := "(I)I" } : Jvm.MethodName) prog_13_method_63_code (7 : Nat) (Option.some Jvm.ClassFile.FieldType.int)) ∈ lw_all := lw_g (lw_at lw_m6 211 rfl) rfl
theorem q1517 : (Jvm.Cond.methodLink "FlashBoardModel" (324 : Nat) ({ cls := "FlashBoardModel", name := "portBits", desc := "(I)I" } : Jvm.MethodName)) ∈ lw_all := lw_g (lw_at lw_m6 212 rfl) rfl
theorem q1518 : (Jvm.Cond.privateMethod ({ cls := "FlashBoardModel", name := "portBits", desc := "(I)I" } : Jvm.MethodName)) ∈ lw_tbl := lw_at lw_m6 213 rfl
theorem q1519 : (Jvm.Cond.instanceMethod ({ cls := "FlashBoardModel", name := "portBits", desc := "(I)I" } : Jvm.MethodName)) ∈ lw_all := lw_g (lw_at lw_m6 214 rfl) rfl
theorem q1520 : (Jvm.Cond.code ({ cls := "FlashBoardModel", name := "portBits", desc := "(I)I" } : Jvm.MethodName) prog_13_method_64_code (6 : Nat) (Option.some Jvm.ClassFile.FieldType.int)) ∈ lw_all := lw_g (lw_at lw_m6 215 rfl) rfl
theorem q1521 : (Jvm.Cond.constant "FlashBoardModel" (271 : Nat) (53248 : Int32)) ∈ lw_all := lw_g (lw_at lw_m6 216 rfl) rfl
theorem q1522 : (Jvm.Cond.methodLink "FlashBoardModel" (273 : Nat) ({ cls := "FlashBoardModel", name := "displaced", desc := "(I)I" } : Jvm.MethodName)) ∈ lw_all := lw_g (lw_at lw_m6 217 rfl) rfl
theorem q1523 : (Jvm.Cond.privateMethod ({ cls := "FlashBoardModel", name := "displaced", desc := "(I)I" } : Jvm.MethodName)) ∈ lw_tbl := lw_at lw_m6 218 rfl
theorem q1524 : (Jvm.Cond.instanceMethod ({ cls := "FlashBoardModel", name := "displaced", desc := "(I)I" } : Jvm.MethodName)) ∈ lw_all := lw_g (lw_at lw_m6 219 rfl) rfl
theorem q1525 : (Jvm.Cond.code ({ cls := "FlashBoardModel", name := "displaced", desc := "(I)I" } : Jvm.MethodName) prog_13_method_50_code (5 : Nat) (Option.some Jvm.ClassFile.FieldType.int)) ∈ lw_all := lw_g (lw_at lw_m6 220 rfl) rfl
theorem q1526 : (Jvm.Cond.methodLink "FlashBoardModel" (276 : Nat) ({ cls := "FlashBoardModel", name := "ports", desc := "(I)I" } : Jvm.MethodName)) ∈ lw_all := lw_g (lw_at lw_m6 221 rfl) rfl
theorem q1527 : (Jvm.Cond.privateMethod ({ cls := "FlashBoardModel", name := "ports", desc := "(I)I" } : Jvm.MethodName)) ∈ lw_tbl := lw_at lw_m6 222 rfl
theorem q1528 : (Jvm.Cond.instanceMethod ({ cls := "FlashBoardModel", name := "ports", desc := "(I)I" } : Jvm.MethodName)) ∈ lw_all := lw_g (lw_at lw_m6 223 rfl) rfl
theorem q1529 : (Jvm.Cond.code ({ cls := "FlashBoardModel", name := "ports", desc := "(I)I" } : Jvm.MethodName) prog_13_method_51_code (4 : Nat) (Option.some Jvm.ClassFile.FieldType.int)) ∈ lw_all := lw_g (lw_at lw_m6 224 rfl) rfl
theorem q1530 : (Jvm.Cond.methodLink "FlashBoardModel" (279 : Nat) ({ cls := "FlashBoardModel", name := "bits", desc := "(I)I" } : Jvm.MethodName)) ∈ lw_all := lw_g (lw_at lw_m6 225 rfl) rfl
theorem q1531 : (Jvm.Cond.privateMethod ({ cls := "FlashBoardModel", name := "bits", desc := "(I)I" } : Jvm.MethodName)) ∈ lw_tbl := lw_at lw_m6 226 rfl
theorem q1532 : (Jvm.Cond.instanceMethod ({ cls := "FlashBoardModel", name := "bits", desc := "(I)I" } : Jvm.MethodName)) ∈ lw_all := lw_g (lw_at lw_m6 227 rfl) rfl
theorem q1533 : (Jvm.Cond.code ({ cls := "FlashBoardModel", name := "bits", desc := "(I)I" } : Jvm.MethodName) prog_13_method_53_code (5 : Nat) (Option.some Jvm.ClassFile.FieldType.int)) ∈ lw_all := lw_g (lw_at lw_m6 228 rfl) rfl
theorem q1534 : (Jvm.Cond.methodLink "FlashBoardModel" (282 : Nat) ({ cls := "FlashBoardModel", name := "relative", desc := "(I)I" } : Jvm.MethodName)) ∈ lw_all := lw_g (lw_at lw_m6 229 rfl) rfl
theorem q1535 : (Jvm.Cond.privateMethod ({ cls := "FlashBoardModel", name := "relative", desc := "(I)I" } : Jvm.MethodName)) ∈ lw_tbl := lw_at lw_m6 230 rfl
theorem q1536 : (Jvm.Cond.instanceMethod ({ cls := "FlashBoardModel", name := "relative", desc := "(I)I" } : Jvm.MethodName)) ∈ lw_all := lw_g (lw_at lw_m6 231 rfl) rfl
theorem q1537 : (Jvm.Cond.code ({ cls := "FlashBoardModel", name := "relative", desc := "(I)I" } : Jvm.MethodName) prog_13_method_52_code (3 : Nat) (Option.some Jvm.ClassFile.FieldType.int)) ∈ lw_all := lw_g (lw_at lw_m6 232 rfl) rfl
theorem q1538 : (Jvm.Cond.methodLink "FlashBoardModel" (225 : Nat) ({ cls := "FlashBoardModel", name := "passes", desc := "()Z" } : Jvm.MethodName)) ∈ lw_all := lw_g (lw_at lw_m6 233 rfl) rfl
theorem q1539 : (Jvm.Cond.privateMethod ({ cls := "FlashBoardModel", name := "passes", desc := "()Z" } : Jvm.MethodName)) ∈ lw_tbl := lw_at lw_m6 234 rfl
theorem q1540 : (Jvm.Cond.instanceMethod ({ cls := "FlashBoardModel", name := "passes", desc := "()Z" } : Jvm.MethodName)) ∈ lw_all := lw_g (lw_at lw_m6 235 rfl) rfl
theorem q1541 : (Jvm.Cond.code ({ cls := "FlashBoardModel", name := "passes", desc := "()Z" } : Jvm.MethodName) prog_13_method_21_code (1 : Nat) (Option.some Jvm.ClassFile.FieldType.boolean)) ∈ lw_all := lw_g (lw_at lw_m6 236 rfl) rfl
theorem q1542 : (Jvm.Cond.methodLink "FlashBoardModel" (182 : Nat) ({ cls := "FlashBoardModel", name := "windows", desc := "()V" } : Jvm.MethodName)) ∈ lw_all := lw_g (lw_at lw_m6 237 rfl) rfl
theorem q1543 : (Jvm.Cond.privateMethod ({ cls := "FlashBoardModel", name := "windows", desc := "()V" } : Jvm.MethodName)) ∈ lw_tbl := lw_at lw_m6 238 rfl
theorem q1544 : (Jvm.Cond.instanceMethod ({ cls := "FlashBoardModel", name := "windows", desc := "()V" } : Jvm.MethodName)) ∈ lw_all := lw_g (lw_at lw_m6 239 rfl) rfl
theorem q1545 : (Jvm.Cond.code ({ cls := "FlashBoardModel", name := "windows", desc := "()V" } : Jvm.MethodName) prog_13_method_22_code (1 : Nat) (Option.none : Option Jvm.ClassFile.FieldType)) ∈ lw_all := lw_g (lw_at lw_m7 0 rfl) rfl
theorem q1546 : (Jvm.Cond.methodLink "FlashBoardModel" (185 : Nat) ({ cls := "FlashBoardModel", name := "timer", desc := "()V" } : Jvm.MethodName)) ∈ lw_all := lw_g (lw_at lw_m7 1 rfl) rfl
theorem q1547 : (Jvm.Cond.privateMethod ({ cls := "FlashBoardModel", name := "timer", desc := "()V" } : Jvm.MethodName)) ∈ lw_tbl := lw_at lw_m7 2 rfl
theorem q1548 : (Jvm.Cond.instanceMethod ({ cls := "FlashBoardModel", name := "timer", desc := "()V" } : Jvm.MethodName)) ∈ lw_all := lw_g (lw_at lw_m7 3 rfl) rfl
theorem q1549 : (Jvm.Cond.code ({ cls := "FlashBoardModel", name := "timer", desc := "()V" } : Jvm.MethodName) prog_13_method_23_code (3 : Nat) (Option.none : Option Jvm.ClassFile.FieldType)) ∈ lw_all := lw_g (lw_at lw_m7 4 rfl) rfl
theorem q1550 : (Jvm.Cond.methodLink "FlashBoardModel" (188 : Nat) ({ cls := "FlashBoardModel", name := "line", desc := "()V" } : Jvm.MethodName)) ∈ lw_all := lw_g (lw_at lw_m7 5 rfl) rfl
theorem q1551 : (Jvm.Cond.privateMethod ({ cls := "FlashBoardModel", name := "line", desc := "()V" } : Jvm.MethodName)) ∈ lw_tbl := lw_at lw_m7 6 rfl
theorem q1552 : (Jvm.Cond.instanceMethod ({ cls := "FlashBoardModel", name := "line", desc := "()V" } : Jvm.MethodName)) ∈ lw_all := lw_g (lw_at lw_m7 7 rfl) rfl
theorem q1553 : (Jvm.Cond.code ({ cls := "FlashBoardModel", name := "line", desc := "()V" } : Jvm.MethodName) prog_13_method_25_code (2 : Nat) (Option.none : Option Jvm.ClassFile.FieldType)) ∈ lw_all := lw_g (lw_at lw_m7 8 rfl) rfl
theorem q1554 : (Jvm.Cond.methodLink "FlashBoardModel" (198 : Nat) ({ cls := "FlashBoardModel", name := "frame", desc := "()I" } : Jvm.MethodName)) ∈ lw_all := lw_g (lw_at lw_m7 9 rfl) rfl
theorem q1555 : (Jvm.Cond.privateMethod ({ cls := "FlashBoardModel", name := "frame", desc := "()I" } : Jvm.MethodName)) ∈ lw_tbl := lw_at lw_m7 10 rfl
theorem q1556 : (Jvm.Cond.instanceMethod ({ cls := "FlashBoardModel", name := "frame", desc := "()I" } : Jvm.MethodName)) ∈ lw_all := lw_g (lw_at lw_m7 11 rfl) rfl
theorem q1557 : (Jvm.Cond.code ({ cls := "FlashBoardModel", name := "frame", desc := "()I" } : Jvm.MethodName) prog_13_method_24_code (1 : Nat) (Option.some Jvm.ClassFile.FieldType.int)) ∈ lw_all := lw_g (lw_at lw_m7 12 rfl) rfl
theorem q1558 : (Jvm.Cond.methodLink "FlashBoardModel" (191 : Nat) ({ cls := "FlashBoardModel", name := "dog", desc := "()Z" } : Jvm.MethodName)) ∈ lw_all := lw_g (lw_at lw_m7 13 rfl) rfl
theorem q1559 : (Jvm.Cond.privateMethod ({ cls := "FlashBoardModel", name := "dog", desc := "()Z" } : Jvm.MethodName)) ∈ lw_tbl := lw_at lw_m7 14 rfl
theorem q1560 : (Jvm.Cond.instanceMethod ({ cls := "FlashBoardModel", name := "dog", desc := "()Z" } : Jvm.MethodName)) ∈ lw_all := lw_g (lw_at lw_m7 15 rfl) rfl
theorem q1561 : (Jvm.Cond.code ({ cls := "FlashBoardModel", name := "dog", desc := "()Z" } : Jvm.MethodName) prog_13_method_26_code (2 : Nat) (Option.some Jvm.ClassFile.FieldType.boolean)) ∈ lw_all := lw_g (lw_at lw_m7 16 rfl) rfl
theorem q1563 : (Jvm.Cond.instanceMethod ({ cls := "FlashBoardModel", name := "run", desc := "(I)I" } : Jvm.MethodName)) ∈ lw_all := lw_g (lw_at lw_m7 18 rfl) rfl
theorem q1564 : (Jvm.Cond.selects "FlashBoardModel" ({ cls := "FlashBoardModel", name := "run", desc := "(I)I" } : Jvm.MethodName) ({ cls := "FlashBoardModel", name := "run", desc := "(I)I" } : Jvm.MethodName)) ∈ lw_all := lw_g (lw_at lw_m7 19 rfl) rfl
theorem q1565 : (Jvm.Cond.code ({ cls := "FlashBoardModel", name := "run", desc := "(I)I" } : Jvm.MethodName) prog_13_method_68_code (4 : Nat) (Option.some Jvm.ClassFile.FieldType.int)) ∈ lw_all := lw_g (lw_at lw_m7 20 rfl) rfl
theorem q1566 : (Jvm.Cond.methodLink "FlashBoardModel" (359 : Nat) ({ cls := "FlashBoardModel", name := "right", desc := "(Z)Z" } : Jvm.MethodName)) ∈ lw_all := lw_g (lw_at lw_m7 21 rfl) rfl
theorem q1567 : (Jvm.Cond.privateMethod ({ cls := "FlashBoardModel", name := "right", desc := "(Z)Z" } : Jvm.MethodName)) ∈ lw_tbl := lw_at lw_m7 22 rfl
theorem q1568 : (Jvm.Cond.instanceMethod ({ cls := "FlashBoardModel", name := "right", desc := "(Z)Z" } : Jvm.MethodName)) ∈ lw_all := lw_g (lw_at lw_m7 23 rfl) rfl
theorem q1569 : (Jvm.Cond.code ({ cls := "FlashBoardModel", name := "right", desc := "(Z)Z" } : Jvm.MethodName) prog_13_method_5_code (2 : Nat) (Option.some Jvm.ClassFile.FieldType.boolean)) ∈ lw_all := lw_g (lw_at lw_m7 24 rfl) rfl
theorem q1571 : (Jvm.Cond.instanceMethod ({ cls := "FlashBoardModel", name := "pass", desc := "(I)I" } : Jvm.MethodName)) ∈ lw_all := lw_g (lw_at lw_m7 26 rfl) rfl
theorem q1572 : (Jvm.Cond.selects "FlashBoardModel" ({ cls := "FlashBoardModel", name := "pass", desc := "(I)I" } : Jvm.MethodName) ({ cls := "FlashBoardModel", name := "pass", desc := "(I)I" } : Jvm.MethodName)) ∈ lw_all := lw_g (lw_at lw_m7 27 rfl) rfl
theorem q1573 : (Jvm.Cond.code ({ cls := "FlashBoardModel", name := "pass", desc := "(I)I" } : Jvm.MethodName) prog_13_method_69_code (3 : Nat) (Option.some Jvm.ClassFile.FieldType.int)) ∈ lw_all := lw_g (lw_at lw_m7 28 rfl) rfl
theorem q1574 : (Jvm.Cond.constant "FlashBoardModel" (363 : Nat) (200000 : Int32)) ∈ lw_all := lw_g (lw_at lw_m7 29 rfl) rfl
theorem q1576 : (Jvm.Cond.instanceMethod ({ cls := "FlashBoardModel", name := "host", desc := "(I)I" } : Jvm.MethodName)) ∈ lw_all := lw_g (lw_at lw_m7 31 rfl) rfl
theorem q1577 : (Jvm.Cond.selects "FlashBoardModel" ({ cls := "FlashBoardModel", name := "host", desc := "(I)I" } : Jvm.MethodName) ({ cls := "FlashBoardModel", name := "host", desc := "(I)I" } : Jvm.MethodName)) ∈ lw_all := lw_g (lw_at lw_m7 32 rfl) rfl
theorem q1578 : (Jvm.Cond.code ({ cls := "FlashBoardModel", name := "host", desc := "(I)I" } : Jvm.MethodName) prog_13_method_70_code (2 : Nat) (Option.some Jvm.ClassFile.FieldType.int)) ∈ lw_all := lw_g (lw_at lw_m7 33 rfl) rfl
theorem q1580 : (Jvm.Cond.instanceMethod ({ cls := "FlashBoardModel", name := "sent", desc := "()I" } : Jvm.MethodName)) ∈ lw_all := lw_g (lw_at lw_m7 35 rfl) rfl
theorem q1581 : (Jvm.Cond.selects "FlashBoardModel" ({ cls := "FlashBoardModel", name := "sent", desc := "()I" } : Jvm.MethodName) ({ cls := "FlashBoardModel", name := "sent", desc := "()I" } : Jvm.MethodName)) ∈ lw_all := lw_g (lw_at lw_m7 36 rfl) rfl
theorem q1582 : (Jvm.Cond.code ({ cls := "FlashBoardModel", name := "sent", desc := "()I" } : Jvm.MethodName) prog_13_method_71_code (1 : Nat) (Option.some Jvm.ClassFile.FieldType.int)) ∈ lw_all := lw_g (lw_at lw_m7 37 rfl) rfl
theorem q1584 : (Jvm.Cond.instanceMethod ({ cls := "FlashBoardModel", name := "got", desc := "(I)I" } : Jvm.MethodName)) ∈ lw_all := lw_g (lw_at lw_m7 39 rfl) rfl
theorem q1585 : (Jvm.Cond.selects "FlashBoardModel" ({ cls := "FlashBoardModel", name := "got", desc := "(I)I" } : Jvm.MethodName) ({ cls := "FlashBoardModel", name := "got", desc := "(I)I" } : Jvm.MethodName)) ∈ lw_all := lw_g (lw_at lw_m7 40 rfl) rfl
theorem q1586 : (Jvm.Cond.code ({ cls := "FlashBoardModel", name := "got", desc := "(I)I" } : Jvm.MethodName) prog_13_method_72_code (2 : Nat) (Option.some Jvm.ClassFile.FieldType.int)) ∈ lw_all := lw_g (lw_at lw_m7 41 rfl) rfl
theorem q1588 : (Jvm.Cond.instanceMethod ({ cls := "FlashBoardModel", name := "burn", desc := "(IIIIII)I" } : Jvm.MethodName)) ∈ lw_all := lw_g (lw_at lw_m7 43 rfl) rfl
theorem q1589 : (Jvm.Cond.selects "FlashBoardModel" ({ cls := "FlashBoardModel", name := "burn", desc := "(IIIIII)I" } : Jvm.MethodName) ({ cls := "FlashBoardModel", name := "burn", desc := "(IIIIII)I" } : Jvm.MethodName)) ∈ lw_all := lw_g (lw_at lw_m7 44 rfl) rfl
theorem q1590 : (Jvm.Cond.code ({ cls := "FlashBoardModel", name := "burn", desc := "(IIIIII)I" } : Jvm.MethodName) prog_13_method_73_code (8 : Nat) (Option.some Jvm.ClassFile.FieldType.int)) ∈ lw_all := lw_g (lw_at lw_m7 45 rfl) rfl
theorem q1591 : (Jvm.Cond.methodLink "FlashBoardModel" (364 : Nat) ({ cls := "FlashBoardModel", name := "burnt", desc := "(III)I" } : Jvm.MethodName)) ∈ lw_all := lw_g (lw_at lw_m7 46 rfl) rfl
theorem q1592 : (Jvm.Cond.privateMethod ({ cls := "FlashBoardModel", name := "burnt", desc := "(III)I" } : Jvm.MethodName)) ∈ lw_tbl := lw_at lw_m7 47 rfl
theorem q1593 : (Jvm.Cond.instanceMethod ({ cls := "FlashBoardModel", name := "burnt", desc := "(III)I" } : Jvm.MethodName)) ∈ lw_all := lw_g (lw_at lw_m7 48 rfl) rfl
theorem q1594 : (Jvm.Cond.code ({ cls := "FlashBoardModel", name := "burnt", desc := "(III)I" } : Jvm.MethodName) prog_13_method_74_code (5 : Nat) (Option.some Jvm.ClassFile.FieldType.int)) ∈ lw_all := lw_g (lw_at lw_m7 49 rfl) rfl
theorem q1596 : (Jvm.Cond.instanceMethod ({ cls := "FlashBoardModel", name := "word", desc := "(I)I" } : Jvm.MethodName)) ∈ lw_all := lw_g (lw_at lw_m7 51 rfl) rfl
theorem q1597 : (Jvm.Cond.selects "FlashBoardModel" ({ cls := "FlashBoardModel", name := "word", desc := "(I)I" } : Jvm.MethodName) ({ cls := "FlashBoardModel", name := "word", desc := "(I)I" } : Jvm.MethodName)) ∈ lw_all := lw_g (lw_at lw_m7 52 rfl) rfl
theorem q1598 : (Jvm.Cond.code ({ cls := "FlashBoardModel", name := "word", desc := "(I)I" } : Jvm.MethodName) prog_13_method_75_code (2 : Nat) (Option.some Jvm.ClassFile.FieldType.int)) ∈ lw_all := lw_g (lw_at lw_m7 53 rfl) rfl
theorem q1600 : (Jvm.Cond.instanceMethod ({ cls := "FlashBoardModel", name := "data", desc := "(I)I" } : Jvm.MethodName)) ∈ lw_all := lw_g (lw_at lw_m7 55 rfl) rfl
theorem q1601 : (Jvm.Cond.selects "FlashBoardModel" ({ cls := "FlashBoardModel", name := "data", desc := "(I)I" } : Jvm.MethodName) ({ cls := "FlashBoardModel", name := "data", desc := "(I)I" } : Jvm.MethodName)) ∈ lw_all := lw_g (lw_at lw_m7 56 rfl) rfl
theorem q1602 : (Jvm.Cond.code ({ cls := "FlashBoardModel", name := "data", desc := "(I)I" } : Jvm.MethodName) prog_13_method_76_code (2 : Nat) (Option.some Jvm.ClassFile.FieldType.int)) ∈ lw_all := lw_g (lw_at lw_m7 57 rfl) rfl
theorem q1604 : (Jvm.Cond.instanceMethod ({ cls := "FlashBoardModel", name := "put", desc := "(II)V" } : Jvm.MethodName)) ∈ lw_all := lw_g (lw_at lw_m7 59 rfl) rfl
theorem q1605 : (Jvm.Cond.selects "FlashBoardModel" ({ cls := "FlashBoardModel", name := "put", desc := "(II)V" } : Jvm.MethodName) ({ cls := "FlashBoardModel", name := "put", desc := "(II)V" } : Jvm.MethodName)) ∈ lw_all := lw_g (lw_at lw_m7 60 rfl) rfl
theorem q1606 : (Jvm.Cond.code ({ cls := "FlashBoardModel", name := "put", desc := "(II)V" } : Jvm.MethodName) prog_13_method_77_code (3 : Nat) (Option.none : Option Jvm.ClassFile.FieldType)) ∈ lw_all := lw_g (lw_at lw_m7 61 rfl) rfl
theorem q1608 : (Jvm.Cond.instanceMethod ({ cls := "FlashBoardModel", name := "eeprom", desc := "(I)I" } : Jvm.MethodName)) ∈ lw_all := lw_g (lw_at lw_m7 63 rfl) rfl
theorem q1609 : (Jvm.Cond.selects "FlashBoardModel" ({ cls := "FlashBoardModel", name := "eeprom", desc := "(I)I" } : Jvm.MethodName) ({ cls := "FlashBoardModel", name := "eeprom", desc := "(I)I" } : Jvm.MethodName)) ∈ lw_all := lw_g (lw_at lw_m7 64 rfl) rfl
theorem q1610 : (Jvm.Cond.code ({ cls := "FlashBoardModel", name := "eeprom", desc := "(I)I" } : Jvm.MethodName) prog_13_method_78_code (2 : Nat) (Option.some Jvm.ClassFile.FieldType.int)) ∈ lw_all := lw_g (lw_at lw_m7 65 rfl) rfl
theorem q1612 : (Jvm.Cond.instanceMethod ({ cls := "FlashBoardModel", name := "pins", desc := "(I)I" } : Jvm.MethodName)) ∈ lw_all := lw_g (lw_at lw_m7 67 rfl) rfl
theorem q1613 : (Jvm.Cond.selects "FlashBoardModel" ({ cls := "FlashBoardModel", name := "pins", desc := "(I)I" } : Jvm.MethodName) ({ cls := "FlashBoardModel", name := "pins", desc := "(I)I" } : Jvm.MethodName)) ∈ lw_all := lw_g (lw_at lw_m7 68 rfl) rfl
theorem q1614 : (Jvm.Cond.code ({ cls := "FlashBoardModel", name := "pins", desc := "(I)I" } : Jvm.MethodName) prog_13_method_79_code (3 : Nat) (Option.some Jvm.ClassFile.FieldType.int)) ∈ lw_all := lw_g (lw_at lw_m7 69 rfl) rfl
theorem q1616 : (Jvm.Cond.instanceMethod ({ cls := "FlashBoardModel", name := "fuses", desc := "(I)I" } : Jvm.MethodName)) ∈ lw_all := lw_g (lw_at lw_m7 71 rfl) rfl
theorem q1617 : (Jvm.Cond.selects "FlashBoardModel" ({ cls := "FlashBoardModel", name := "fuses", desc := "(I)I" } : Jvm.MethodName) ({ cls := "FlashBoardModel", name := "fuses", desc := "(I)I" } : Jvm.MethodName)) ∈ lw_all := lw_g (lw_at lw_m7 72 rfl) rfl
theorem q1618 : (Jvm.Cond.code ({ cls := "FlashBoardModel", name := "fuses", desc := "(I)I" } : Jvm.MethodName) prog_13_method_80_code (3 : Nat) (Option.some Jvm.ClassFile.FieldType.int)) ∈ lw_all := lw_g (lw_at lw_m7 73 rfl) rfl
theorem q1620 : (Jvm.Cond.instanceMethod ({ cls := "FlashBoardModel", name := "start", desc := "(I)V" } : Jvm.MethodName)) ∈ lw_all := lw_g (lw_at lw_m7 75 rfl) rfl
theorem q1621 : (Jvm.Cond.selects "FlashBoardModel" ({ cls := "FlashBoardModel", name := "start", desc := "(I)V" } : Jvm.MethodName) ({ cls := "FlashBoardModel", name := "start", desc := "(I)V" } : Jvm.MethodName)) ∈ lw_all := lw_g (lw_at lw_m7 76 rfl) rfl
theorem q1622 : (Jvm.Cond.code ({ cls := "FlashBoardModel", name := "start", desc := "(I)V" } : Jvm.MethodName) prog_13_method_81_code (2 : Nat) (Option.none : Option Jvm.ClassFile.FieldType)) ∈ lw_all := lw_g (lw_at lw_m7 77 rfl) rfl
theorem q1624 : (Jvm.Cond.instanceMethod ({ cls := "FlashBoardModel", name := "reset", desc := "()V" } : Jvm.MethodName)) ∈ lw_all := lw_g (lw_at lw_m7 79 rfl) rfl
theorem q1625 : (Jvm.Cond.selects "FlashBoardModel" ({ cls := "FlashBoardModel", name := "reset", desc := "()V" } : Jvm.MethodName) ({ cls := "FlashBoardModel", name := "reset", desc := "()V" } : Jvm.MethodName)) ∈ lw_all := lw_g (lw_at lw_m7 80 rfl) rfl
theorem q1626 : (Jvm.Cond.code ({ cls := "FlashBoardModel", name := "reset", desc := "()V" } : Jvm.MethodName) prog_13_method_82_code (1 : Nat) (Option.none : Option Jvm.ClassFile.FieldType)) ∈ lw_all := lw_g (lw_at lw_m7 81 rfl) rfl
theorem q1628 : (Jvm.Cond.instanceMethod ({ cls := "FlashBoardModel", name := "power", desc := "(Z)Z" } : Jvm.MethodName)) ∈ lw_all := lw_g (lw_at lw_m7 83 rfl) rfl
theorem q1629 : (Jvm.Cond.selects "FlashBoardModel" ({ cls := "FlashBoardModel", name := "power", desc := "(Z)Z" } : Jvm.MethodName) ({ cls := "FlashBoardModel", name := "power", desc := "(Z)Z" } : Jvm.MethodName)) ∈ lw_all := lw_g (lw_at lw_m7 84 rfl) rfl
theorem q1630 : (Jvm.Cond.code ({ cls := "FlashBoardModel", name := "power", desc := "(Z)Z" } : Jvm.MethodName) prog_13_method_83_code (4 : Nat) (Option.some Jvm.ClassFile.FieldType.boolean)) ∈ lw_all := lw_g (lw_at lw_m7 85 rfl) rfl
theorem q1632 : (Jvm.Cond.instanceMethod ({ cls := "FlashBoardModel", name := "about", desc := "(I)I" } : Jvm.MethodName)) ∈ lw_all := lw_g (lw_at lw_m7 87 rfl) rfl
theorem q1633 : (Jvm.Cond.selects "FlashBoardModel" ({ cls := "FlashBoardModel", name := "about", desc := "(I)I" } : Jvm.MethodName) ({ cls := "FlashBoardModel", name := "about", desc := "(I)I" } : Jvm.MethodName)) ∈ lw_all := lw_g (lw_at lw_m7 88 rfl) rfl
theorem q1634 : (Jvm.Cond.code ({ cls := "FlashBoardModel", name := "about", desc := "(I)I" } : Jvm.MethodName) prog_13_method_84_code (4 : Nat) (Option.some Jvm.ClassFile.FieldType.int)) ∈ lw_all := lw_g (lw_at lw_m7 89 rfl) rfl
theorem q1648 : (Jvm.Cond.castable "FlashBoardModel" "java/lang/Object") ∈ lw_tbl := lw_at lw_m7 103 rfl
theorem in_X12 : ∀ w ∈ wsX120, w ∈ lw_all := lw_in wsX120 [1234, 1236, 1238, 1240, 1242, 1244, 1246, 1248, 1250, 1252, 1254, 1256, 1258, 1260, 1262, 1264, 1266, 1268, 1270, 1272, 1274, 1276, 1278, 1280, 1282, 1284, 1286, 1288, 1290, 1292, 1294, 1296, 1298, 1300, 1302, 1304, 1306, 1308, 1310] (by decide +kernel) (by decide +kernel)
