/-! FlashBoard -/
set_option maxRecDepth 100000
def RX1 : String := "FlashBoard"
def TX1 : u_T := fun k => match k with
  | _ => ("FlashBoard", "core", "LFlashBoard$Core;", true)
def tyX1 : Nat → FieldType := fun k => match k with
  | _ => .object "FlashBoard$Core"
abbrev wsX10 : List Cond := u_ws RX1 TX1 1
theorem nmX1 : ∀ a, a < 1 → ∀ b, b < 1 → a ≠ b → (TX1 a).2.1 ≠ (TX1 b).2.1 := by decide +kernel
theorem tyX1_ok : ∀ k, k < 1 → parseFieldDescriptor (TX1 k).2.2.1 = some (tyX1 k) := by decide +kernel
abbrev cX1_init : ByteArray := prog_1_method_1_code
def yX1_init : MethodName := ⟨RX1, "<init>", "()V"⟩
def dkwX1_init_0 : List UInt8 := [42, 183, 0, 1, 42, 187, 0, 7, 89, 183, 0, 9, 181, 0, 10, 177]
abbrev dktX1_init_0 : List UInt8 := dkwX1_init_0 ++ []
theorem dksX1_init_0 : cX1_init.data.toList.drop 0 = dktX1_init_0 := by decide +kernel
theorem dX1_init_0 : decode cX1_init 0 = .ok (.aload_n 0, 1) := dk_42 (dk_at dksX1_init_0 0 rfl rfl)
theorem dX1_init_1 : decode cX1_init 1 = .ok (.invokespecial 1, 3) := dk_183 0 1 (dk_at dksX1_init_0 1 rfl rfl)
theorem dX1_init_4 : decode cX1_init 4 = .ok (.aload_n 0, 1) := dk_42 (dk_at dksX1_init_0 4 rfl rfl)
theorem dX1_init_5 : decode cX1_init 5 = .ok (.new 7, 3) := dk_187 0 7 (dk_at dksX1_init_0 5 rfl rfl)
theorem dX1_init_8 : decode cX1_init 8 = .ok (.dup, 1) := dk_89 (dk_at dksX1_init_0 8 rfl rfl)
theorem dX1_init_9 : decode cX1_init 9 = .ok (.invokespecial 9, 3) := dk_183 0 9 (dk_at dksX1_init_0 9 rfl rfl)
theorem dX1_init_12 : decode cX1_init 12 = .ok (.putfield 10, 3) := dk_181 0 10 (dk_at dksX1_init_0 12 rfl rfl)
theorem dX1_init_15 : decode cX1_init 15 = .ok (.return_, 1) := dk_177 (dk_at dksX1_init_0 15 rfl rfl)
abbrev cX1_step : ByteArray := prog_1_method_4_code
def yX1_step : MethodName := ⟨RX1, "step", "()I"⟩
def dkwX1_step_0 : List UInt8 := [42, 180, 0, 10, 182, 0, 22, 172]
abbrev dktX1_step_0 : List UInt8 := dkwX1_step_0 ++ []
theorem dksX1_step_0 : cX1_step.data.toList.drop 0 = dktX1_step_0 := by decide +kernel
theorem dX1_step_0 : decode cX1_step 0 = .ok (.aload_n 0, 1) := dk_42 (dk_at dksX1_step_0 0 rfl rfl)
theorem dX1_step_1 : decode cX1_step 1 = .ok (.getfield 10, 3) := dk_180 0 10 (dk_at dksX1_step_0 1 rfl rfl)
theorem dX1_step_4 : decode cX1_step 4 = .ok (.invokevirtual 22, 3) := dk_182 0 22 (dk_at dksX1_step_0 4 rfl rfl)
theorem dX1_step_7 : decode cX1_step 7 = .ok (.ireturn, 1) := dk_172 (dk_at dksX1_step_0 7 rfl rfl)
abbrev cX1_host : ByteArray := prog_1_method_7_code
def yX1_host : MethodName := ⟨RX1, "host", "(I)I"⟩
def dkwX1_host_0 : List UInt8 := [42, 180, 0, 10, 180, 0, 35, 27, 182, 0, 39, 172]
abbrev dktX1_host_0 : List UInt8 := dkwX1_host_0 ++ []
theorem dksX1_host_0 : cX1_host.data.toList.drop 0 = dktX1_host_0 := by decide +kernel
theorem dX1_host_0 : decode cX1_host 0 = .ok (.aload_n 0, 1) := dk_42 (dk_at dksX1_host_0 0 rfl rfl)
theorem dX1_host_1 : decode cX1_host 1 = .ok (.getfield 10, 3) := dk_180 0 10 (dk_at dksX1_host_0 1 rfl rfl)
theorem dX1_host_4 : decode cX1_host 4 = .ok (.getfield 35, 3) := dk_180 0 35 (dk_at dksX1_host_0 4 rfl rfl)
theorem dX1_host_7 : decode cX1_host 7 = .ok (.iload_n 1, 1) := dk_27 (dk_at dksX1_host_0 7 rfl rfl)
theorem dX1_host_8 : decode cX1_host 8 = .ok (.invokevirtual 39, 3) := dk_182 0 39 (dk_at dksX1_host_0 8 rfl rfl)
theorem dX1_host_11 : decode cX1_host 11 = .ok (.ireturn, 1) := dk_172 (dk_at dksX1_host_0 11 rfl rfl)
abbrev cX1_sent : ByteArray := prog_1_method_8_code
def yX1_sent : MethodName := ⟨RX1, "sent", "()I"⟩
def dkwX1_sent_0 : List UInt8 := [42, 180, 0, 10, 180, 0, 35, 180, 0, 45, 172]
abbrev dktX1_sent_0 : List UInt8 := dkwX1_sent_0 ++ []
theorem dksX1_sent_0 : cX1_sent.data.toList.drop 0 = dktX1_sent_0 := by decide +kernel
theorem dX1_sent_0 : decode cX1_sent 0 = .ok (.aload_n 0, 1) := dk_42 (dk_at dksX1_sent_0 0 rfl rfl)
theorem dX1_sent_1 : decode cX1_sent 1 = .ok (.getfield 10, 3) := dk_180 0 10 (dk_at dksX1_sent_0 1 rfl rfl)
theorem dX1_sent_4 : decode cX1_sent 4 = .ok (.getfield 35, 3) := dk_180 0 35 (dk_at dksX1_sent_0 4 rfl rfl)
theorem dX1_sent_7 : decode cX1_sent 7 = .ok (.getfield 45, 3) := dk_180 0 45 (dk_at dksX1_sent_0 7 rfl rfl)
theorem dX1_sent_10 : decode cX1_sent 10 = .ok (.ireturn, 1) := dk_172 (dk_at dksX1_sent_0 10 rfl rfl)
abbrev cX1_pins : ByteArray := prog_1_method_15_code
def yX1_pins : MethodName := ⟨RX1, "pins", "(I)I"⟩
def dkwX1_pins_1 : List UInt8 := [181, 0, 100, 28, 172]
abbrev dktX1_pins_1 : List UInt8 := dkwX1_pins_1 ++ []
def dkwX1_pins_0 : List UInt8 := [42, 180, 0, 10, 180, 0, 96, 180, 0, 100, 61, 42, 180, 0, 10, 180, 0, 96, 27, 17, 0, 255, 126]
abbrev dktX1_pins_0 : List UInt8 := dkwX1_pins_0 ++ dktX1_pins_1
theorem dksX1_pins_0 : cX1_pins.data.toList.drop 0 = dktX1_pins_0 := by decide +kernel
theorem dksX1_pins_1 : cX1_pins.data.toList.drop 23 = dktX1_pins_1 := dk_seg dksX1_pins_0 23 rfl rfl
theorem dX1_pins_0 : decode cX1_pins 0 = .ok (.aload_n 0, 1) := dk_42 (dk_at dksX1_pins_0 0 rfl rfl)
theorem dX1_pins_1 : decode cX1_pins 1 = .ok (.getfield 10, 3) := dk_180 0 10 (dk_at dksX1_pins_0 1 rfl rfl)
theorem dX1_pins_4 : decode cX1_pins 4 = .ok (.getfield 96, 3) := dk_180 0 96 (dk_at dksX1_pins_0 4 rfl rfl)
theorem dX1_pins_7 : decode cX1_pins 7 = .ok (.getfield 100, 3) := dk_180 0 100 (dk_at dksX1_pins_0 7 rfl rfl)
theorem dX1_pins_10 : decode cX1_pins 10 = .ok (.istore_n 2, 1) := dk_61 (dk_at dksX1_pins_0 10 rfl rfl)
theorem dX1_pins_11 : decode cX1_pins 11 = .ok (.aload_n 0, 1) := dk_42 (dk_at dksX1_pins_0 11 rfl rfl)
theorem dX1_pins_12 : decode cX1_pins 12 = .ok (.getfield 10, 3) := dk_180 0 10 (dk_at dksX1_pins_0 12 rfl rfl)
theorem dX1_pins_15 : decode cX1_pins 15 = .ok (.getfield 96, 3) := dk_180 0 96 (dk_at dksX1_pins_0 15 rfl rfl)
theorem dX1_pins_18 : decode cX1_pins 18 = .ok (.iload_n 1, 1) := dk_27 (dk_at dksX1_pins_0 18 rfl rfl)
theorem dX1_pins_19 : decode cX1_pins 19 = .ok (.sipush 255, 3) := dk_17 0 255 (dk_at dksX1_pins_0 19 rfl rfl)
theorem dX1_pins_22 : decode cX1_pins 22 = .ok (.iand, 1) := dk_126 (dk_at dksX1_pins_0 22 rfl rfl)
theorem dX1_pins_23 : decode cX1_pins 23 = .ok (.putfield 100, 3) := dk_181 0 100 (dk_at dksX1_pins_1 0 rfl rfl)
theorem dX1_pins_26 : decode cX1_pins 26 = .ok (.iload_n 2, 1) := dk_28 (dk_at dksX1_pins_1 3 rfl rfl)
theorem dX1_pins_27 : decode cX1_pins 27 = .ok (.ireturn, 1) := dk_172 (dk_at dksX1_pins_1 4 rfl rfl)
abbrev cX1_fuses : ByteArray := prog_1_method_16_code
def yX1_fuses : MethodName := ⟨RX1, "fuses", "(I)I"⟩
def dkwX1_fuses_2 : List UInt8 := [4, 126, 181, 0, 108, 28, 172]
abbrev dktX1_fuses_2 : List UInt8 := dkwX1_fuses_2 ++ []
def dkwX1_fuses_1 : List UInt8 := [42, 180, 0, 10, 180, 0, 65, 27, 16, 15, 126, 181, 0, 105, 42, 180, 0, 10, 180, 0, 65, 27, 7, 122]
abbrev dktX1_fuses_1 : List UInt8 := dkwX1_fuses_1 ++ dktX1_fuses_2
def dkwX1_fuses_0 : List UInt8 := [42, 180, 0, 10, 180, 0, 65, 180, 0, 105, 42, 180, 0, 10, 180, 0, 65, 180, 0, 108, 7, 120, 128, 61]
abbrev dktX1_fuses_0 : List UInt8 := dkwX1_fuses_0 ++ dktX1_fuses_1
theorem dksX1_fuses_0 : cX1_fuses.data.toList.drop 0 = dktX1_fuses_0 := by decide +kernel
theorem dksX1_fuses_1 : cX1_fuses.data.toList.drop 24 = dktX1_fuses_1 := dk_seg dksX1_fuses_0 24 rfl rfl
theorem dksX1_fuses_2 : cX1_fuses.data.toList.drop 48 = dktX1_fuses_2 := dk_seg dksX1_fuses_1 24 rfl rfl
theorem dX1_fuses_0 : decode cX1_fuses 0 = .ok (.aload_n 0, 1) := dk_42 (dk_at dksX1_fuses_0 0 rfl rfl)
theorem dX1_fuses_1 : decode cX1_fuses 1 = .ok (.getfield 10, 3) := dk_180 0 10 (dk_at dksX1_fuses_0 1 rfl rfl)
theorem dX1_fuses_4 : decode cX1_fuses 4 = .ok (.getfield 65, 3) := dk_180 0 65 (dk_at dksX1_fuses_0 4 rfl rfl)
theorem dX1_fuses_7 : decode cX1_fuses 7 = .ok (.getfield 105, 3) := dk_180 0 105 (dk_at dksX1_fuses_0 7 rfl rfl)
theorem dX1_fuses_10 : decode cX1_fuses 10 = .ok (.aload_n 0, 1) := dk_42 (dk_at dksX1_fuses_0 10 rfl rfl)
theorem dX1_fuses_11 : decode cX1_fuses 11 = .ok (.getfield 10, 3) := dk_180 0 10 (dk_at dksX1_fuses_0 11 rfl rfl)
theorem dX1_fuses_14 : decode cX1_fuses 14 = .ok (.getfield 65, 3) := dk_180 0 65 (dk_at dksX1_fuses_0 14 rfl rfl)
theorem dX1_fuses_17 : decode cX1_fuses 17 = .ok (.getfield 108, 3) := dk_180 0 108 (dk_at dksX1_fuses_0 17 rfl rfl)
theorem dX1_fuses_20 : decode cX1_fuses 20 = .ok (.iconst 4, 1) := dk_7 (dk_at dksX1_fuses_0 20 rfl rfl)
theorem dX1_fuses_21 : decode cX1_fuses 21 = .ok (.ishl, 1) := dk_120 (dk_at dksX1_fuses_0 21 rfl rfl)
theorem dX1_fuses_22 : decode cX1_fuses 22 = .ok (.ior, 1) := dk_128 (dk_at dksX1_fuses_0 22 rfl rfl)
theorem dX1_fuses_23 : decode cX1_fuses 23 = .ok (.istore_n 2, 1) := dk_61 (dk_at dksX1_fuses_0 23 rfl rfl)
theorem dX1_fuses_24 : decode cX1_fuses 24 = .ok (.aload_n 0, 1) := dk_42 (dk_at dksX1_fuses_1 0 rfl rfl)
theorem dX1_fuses_25 : decode cX1_fuses 25 = .ok (.getfield 10, 3) := dk_180 0 10 (dk_at dksX1_fuses_1 1 rfl rfl)
theorem dX1_fuses_28 : decode cX1_fuses 28 = .ok (.getfield 65, 3) := dk_180 0 65 (dk_at dksX1_fuses_1 4 rfl rfl)
theorem dX1_fuses_31 : decode cX1_fuses 31 = .ok (.iload_n 1, 1) := dk_27 (dk_at dksX1_fuses_1 7 rfl rfl)
theorem dX1_fuses_32 : decode cX1_fuses 32 = .ok (.bipush 15, 2) := dk_16 15 (dk_at dksX1_fuses_1 8 rfl rfl)
theorem dX1_fuses_34 : decode cX1_fuses 34 = .ok (.iand, 1) := dk_126 (dk_at dksX1_fuses_1 10 rfl rfl)
theorem dX1_fuses_35 : decode cX1_fuses 35 = .ok (.putfield 105, 3) := dk_181 0 105 (dk_at dksX1_fuses_1 11 rfl rfl)
theorem dX1_fuses_38 : decode cX1_fuses 38 = .ok (.aload_n 0, 1) := dk_42 (dk_at dksX1_fuses_1 14 rfl rfl)
theorem dX1_fuses_39 : decode cX1_fuses 39 = .ok (.getfield 10, 3) := dk_180 0 10 (dk_at dksX1_fuses_1 15 rfl rfl)
theorem dX1_fuses_42 : decode cX1_fuses 42 = .ok (.getfield 65, 3) := dk_180 0 65 (dk_at dksX1_fuses_1 18 rfl rfl)
theorem dX1_fuses_45 : decode cX1_fuses 45 = .ok (.iload_n 1, 1) := dk_27 (dk_at dksX1_fuses_1 21 rfl rfl)
theorem dX1_fuses_46 : decode cX1_fuses 46 = .ok (.iconst 4, 1) := dk_7 (dk_at dksX1_fuses_1 22 rfl rfl)
theorem dX1_fuses_47 : decode cX1_fuses 47 = .ok (.ishr, 1) := dk_122 (dk_at dksX1_fuses_1 23 rfl rfl)
theorem dX1_fuses_48 : decode cX1_fuses 48 = .ok (.iconst 1, 1) := dk_4 (dk_at dksX1_fuses_2 0 rfl rfl)
theorem dX1_fuses_49 : decode cX1_fuses 49 = .ok (.iand, 1) := dk_126 (dk_at dksX1_fuses_2 1 rfl rfl)
theorem dX1_fuses_50 : decode cX1_fuses 50 = .ok (.putfield 108, 3) := dk_181 0 108 (dk_at dksX1_fuses_2 2 rfl rfl)
theorem dX1_fuses_53 : decode cX1_fuses 53 = .ok (.iload_n 2, 1) := dk_28 (dk_at dksX1_fuses_2 5 rfl rfl)
theorem dX1_fuses_54 : decode cX1_fuses 54 = .ok (.ireturn, 1) := dk_172 (dk_at dksX1_fuses_2 6 rfl rfl)
abbrev cX1_reset : ByteArray := prog_1_method_18_code
def yX1_reset : MethodName := ⟨RX1, "reset", "()V"⟩
def dkwX1_reset_0 : List UInt8 := [42, 180, 0, 10, 180, 0, 30, 153, 0, 11, 42, 180, 0, 10, 4, 182, 0, 117, 177]
abbrev dktX1_reset_0 : List UInt8 := dkwX1_reset_0 ++ []
theorem dksX1_reset_0 : cX1_reset.data.toList.drop 0 = dktX1_reset_0 := by decide +kernel
theorem dX1_reset_0 : decode cX1_reset 0 = .ok (.aload_n 0, 1) := dk_42 (dk_at dksX1_reset_0 0 rfl rfl)
theorem dX1_reset_1 : decode cX1_reset 1 = .ok (.getfield 10, 3) := dk_180 0 10 (dk_at dksX1_reset_0 1 rfl rfl)
theorem dX1_reset_4 : decode cX1_reset 4 = .ok (.getfield 30, 3) := dk_180 0 30 (dk_at dksX1_reset_0 4 rfl rfl)
theorem dX1_reset_7 : decode cX1_reset 7 = .ok (.ifCond .eq 11, 3) := dk_153 0 11 (dk_at dksX1_reset_0 7 rfl rfl)
theorem dX1_reset_10 : decode cX1_reset 10 = .ok (.aload_n 0, 1) := dk_42 (dk_at dksX1_reset_0 10 rfl rfl)
theorem dX1_reset_11 : decode cX1_reset 11 = .ok (.getfield 10, 3) := dk_180 0 10 (dk_at dksX1_reset_0 11 rfl rfl)
theorem dX1_reset_14 : decode cX1_reset 14 = .ok (.iconst 1, 1) := dk_4 (dk_at dksX1_reset_0 14 rfl rfl)
theorem dX1_reset_15 : decode cX1_reset 15 = .ok (.invokevirtual 117, 3) := dk_182 0 117 (dk_at dksX1_reset_0 15 rfl rfl)
theorem dX1_reset_18 : decode cX1_reset 18 = .ok (.return_, 1) := dk_177 (dk_at dksX1_reset_0 18 rfl rfl)
abbrev cX1_power : ByteArray := prog_1_method_19_code
def yX1_power : MethodName := ⟨RX1, "power", "(Z)Z"⟩
def dkwX1_power_1 : List UInt8 := [42, 180, 0, 10, 3, 182, 0, 117, 28, 172]
abbrev dktX1_power_1 : List UInt8 := dkwX1_power_1 ++ []
def dkwX1_power_0 : List UInt8 := [42, 180, 0, 10, 180, 0, 30, 61, 42, 180, 0, 10, 27, 181, 0, 30, 27, 153, 0, 15, 28, 154, 0, 11]
abbrev dktX1_power_0 : List UInt8 := dkwX1_power_0 ++ dktX1_power_1
theorem dksX1_power_0 : cX1_power.data.toList.drop 0 = dktX1_power_0 := by decide +kernel
theorem dksX1_power_1 : cX1_power.data.toList.drop 24 = dktX1_power_1 := dk_seg dksX1_power_0 24 rfl rfl
theorem dX1_power_0 : decode cX1_power 0 = .ok (.aload_n 0, 1) := dk_42 (dk_at dksX1_power_0 0 rfl rfl)
theorem dX1_power_1 : decode cX1_power 1 = .ok (.getfield 10, 3) := dk_180 0 10 (dk_at dksX1_power_0 1 rfl rfl)
theorem dX1_power_4 : decode cX1_power 4 = .ok (.getfield 30, 3) := dk_180 0 30 (dk_at dksX1_power_0 4 rfl rfl)
theorem dX1_power_7 : decode cX1_power 7 = .ok (.istore_n 2, 1) := dk_61 (dk_at dksX1_power_0 7 rfl rfl)
theorem dX1_power_8 : decode cX1_power 8 = .ok (.aload_n 0, 1) := dk_42 (dk_at dksX1_power_0 8 rfl rfl)
theorem dX1_power_9 : decode cX1_power 9 = .ok (.getfield 10, 3) := dk_180 0 10 (dk_at dksX1_power_0 9 rfl rfl)
theorem dX1_power_12 : decode cX1_power 12 = .ok (.iload_n 1, 1) := dk_27 (dk_at dksX1_power_0 12 rfl rfl)
theorem dX1_power_13 : decode cX1_power 13 = .ok (.putfield 30, 3) := dk_181 0 30 (dk_at dksX1_power_0 13 rfl rfl)
theorem dX1_power_16 : decode cX1_power 16 = .ok (.iload_n 1, 1) := dk_27 (dk_at dksX1_power_0 16 rfl rfl)
theorem dX1_power_17 : decode cX1_power 17 = .ok (.ifCond .eq 15, 3) := dk_153 0 15 (dk_at dksX1_power_0 17 rfl rfl)
theorem dX1_power_20 : decode cX1_power 20 = .ok (.iload_n 2, 1) := dk_28 (dk_at dksX1_power_0 20 rfl rfl)
theorem dX1_power_21 : decode cX1_power 21 = .ok (.ifCond .ne 11, 3) := dk_154 0 11 (dk_at dksX1_power_0 21 rfl rfl)
theorem dX1_power_24 : decode cX1_power 24 = .ok (.aload_n 0, 1) := dk_42 (dk_at dksX1_power_1 0 rfl rfl)
theorem dX1_power_25 : decode cX1_power 25 = .ok (.getfield 10, 3) := dk_180 0 10 (dk_at dksX1_power_1 1 rfl rfl)
theorem dX1_power_28 : decode cX1_power 28 = .ok (.iconst 0, 1) := dk_3 (dk_at dksX1_power_1 4 rfl rfl)
theorem dX1_power_29 : decode cX1_power 29 = .ok (.invokevirtual 117, 3) := dk_182 0 117 (dk_at dksX1_power_1 5 rfl rfl)
theorem dX1_power_32 : decode cX1_power 32 = .ok (.iload_n 2, 1) := dk_28 (dk_at dksX1_power_1 8 rfl rfl)
theorem dX1_power_33 : decode cX1_power 33 = .ok (.ireturn, 1) := dk_172 (dk_at dksX1_power_1 9 rfl rfl)
abbrev cX1_run : ByteArray := prog_1_method_5_code
def yX1_run : MethodName := ⟨RX1, "run", "(I)I"⟩
def dkwX1_run_2 : List UInt8 := [61, 132, 3, 1, 167, 255, 228, 28, 172]
abbrev dktX1_run_2 : List UInt8 := dkwX1_run_2 ++ []
def dkwX1_run_1 : List UInt8 := [29, 27, 162, 0, 29, 42, 180, 0, 10, 180, 0, 30, 153, 0, 19, 28, 42, 180, 0, 10, 182, 0, 22, 96]
abbrev dktX1_run_1 : List UInt8 := dkwX1_run_1 ++ dktX1_run_2
def dkwX1_run_0 : List UInt8 := [27, 4, 161, 0, 14, 27, 17, 19, 136, 163, 0, 7, 4, 167, 0, 4, 3, 184, 0, 26, 3, 61, 3, 62]
abbrev dktX1_run_0 : List UInt8 := dkwX1_run_0 ++ dktX1_run_1
theorem dksX1_run_0 : cX1_run.data.toList.drop 0 = dktX1_run_0 := by decide +kernel
theorem dksX1_run_1 : cX1_run.data.toList.drop 24 = dktX1_run_1 := dk_seg dksX1_run_0 24 rfl rfl
theorem dksX1_run_2 : cX1_run.data.toList.drop 48 = dktX1_run_2 := dk_seg dksX1_run_1 24 rfl rfl
theorem dX1_run_0 : decode cX1_run 0 = .ok (.iload_n 1, 1) := dk_27 (dk_at dksX1_run_0 0 rfl rfl)
theorem dX1_run_1 : decode cX1_run 1 = .ok (.iconst 1, 1) := dk_4 (dk_at dksX1_run_0 1 rfl rfl)
theorem dX1_run_2 : decode cX1_run 2 = .ok (.if_icmp .lt 14, 3) := dk_161 0 14 (dk_at dksX1_run_0 2 rfl rfl)
theorem dX1_run_5 : decode cX1_run 5 = .ok (.iload_n 1, 1) := dk_27 (dk_at dksX1_run_0 5 rfl rfl)
theorem dX1_run_6 : decode cX1_run 6 = .ok (.sipush 5000, 3) := dk_17 19 136 (dk_at dksX1_run_0 6 rfl rfl)
theorem dX1_run_9 : decode cX1_run 9 = .ok (.if_icmp .gt 7, 3) := dk_163 0 7 (dk_at dksX1_run_0 9 rfl rfl)
theorem dX1_run_12 : decode cX1_run 12 = .ok (.iconst 1, 1) := dk_4 (dk_at dksX1_run_0 12 rfl rfl)
theorem dX1_run_13 : decode cX1_run 13 = .ok (.goto 4, 3) := dk_167 0 4 (dk_at dksX1_run_0 13 rfl rfl)
theorem dX1_run_16 : decode cX1_run 16 = .ok (.iconst 0, 1) := dk_3 (dk_at dksX1_run_0 16 rfl rfl)
theorem dX1_run_17 : decode cX1_run 17 = .ok (.invokestatic 26, 3) := dk_184 0 26 (dk_at dksX1_run_0 17 rfl rfl)
theorem dX1_run_20 : decode cX1_run 20 = .ok (.iconst 0, 1) := dk_3 (dk_at dksX1_run_0 20 rfl rfl)
theorem dX1_run_21 : decode cX1_run 21 = .ok (.istore_n 2, 1) := dk_61 (dk_at dksX1_run_0 21 rfl rfl)
theorem dX1_run_22 : decode cX1_run 22 = .ok (.iconst 0, 1) := dk_3 (dk_at dksX1_run_0 22 rfl rfl)
theorem dX1_run_23 : decode cX1_run 23 = .ok (.istore_n 3, 1) := dk_62 (dk_at dksX1_run_0 23 rfl rfl)
theorem dX1_run_24 : decode cX1_run 24 = .ok (.iload_n 3, 1) := dk_29 (dk_at dksX1_run_1 0 rfl rfl)
theorem dX1_run_25 : decode cX1_run 25 = .ok (.iload_n 1, 1) := dk_27 (dk_at dksX1_run_1 1 rfl rfl)
theorem dX1_run_26 : decode cX1_run 26 = .ok (.if_icmp .ge 29, 3) := dk_162 0 29 (dk_at dksX1_run_1 2 rfl rfl)
theorem dX1_run_29 : decode cX1_run 29 = .ok (.aload_n 0, 1) := dk_42 (dk_at dksX1_run_1 5 rfl rfl)
theorem dX1_run_30 : decode cX1_run 30 = .ok (.getfield 10, 3) := dk_180 0 10 (dk_at dksX1_run_1 6 rfl rfl)
theorem dX1_run_33 : decode cX1_run 33 = .ok (.getfield 30, 3) := dk_180 0 30 (dk_at dksX1_run_1 9 rfl rfl)
theorem dX1_run_36 : decode cX1_run 36 = .ok (.ifCond .eq 19, 3) := dk_153 0 19 (dk_at dksX1_run_1 12 rfl rfl)
theorem dX1_run_39 : decode cX1_run 39 = .ok (.iload_n 2, 1) := dk_28 (dk_at dksX1_run_1 15 rfl rfl)
theorem dX1_run_40 : decode cX1_run 40 = .ok (.aload_n 0, 1) := dk_42 (dk_at dksX1_run_1 16 rfl rfl)
theorem dX1_run_41 : decode cX1_run 41 = .ok (.getfield 10, 3) := dk_180 0 10 (dk_at dksX1_run_1 17 rfl rfl)
theorem dX1_run_44 : decode cX1_run 44 = .ok (.invokevirtual 22, 3) := dk_182 0 22 (dk_at dksX1_run_1 20 rfl rfl)
theorem dX1_run_47 : decode cX1_run 47 = .ok (.iadd, 1) := dk_96 (dk_at dksX1_run_1 23 rfl rfl)
theorem dX1_run_48 : decode cX1_run 48 = .ok (.istore_n 2, 1) := dk_61 (dk_at dksX1_run_2 0 rfl rfl)
theorem dX1_run_49 : decode cX1_run 49 = .ok (.iinc 3 1, 3) := dk_132 3 1 (dk_at dksX1_run_2 1 rfl rfl)
theorem dX1_run_52 : decode cX1_run 52 = .ok (.goto (-28), 3) := dk_167 255 228 (dk_at dksX1_run_2 4 rfl rfl)
theorem dX1_run_55 : decode cX1_run 55 = .ok (.iload_n 2, 1) := dk_28 (dk_at dksX1_run_2 7 rfl rfl)
theorem dX1_run_56 : decode cX1_run 56 = .ok (.ireturn, 1) := dk_172 (dk_at dksX1_run_2 8 rfl rfl)
abbrev cX1_right : ByteArray := prog_1_method_2_code
def yX1_right : MethodName := ⟨RX1, "right", "(Z)V"⟩
def dkwX1_right_0 : List UInt8 := [26, 154, 0, 11, 187, 0, 16, 89, 183, 0, 18, 191, 177]
abbrev dktX1_right_0 : List UInt8 := dkwX1_right_0 ++ []
theorem dksX1_right_0 : cX1_right.data.toList.drop 0 = dktX1_right_0 := by decide +kernel
theorem dX1_right_0 : decode cX1_right 0 = .ok (.iload_n 0, 1) := dk_26 (dk_at dksX1_right_0 0 rfl rfl)
theorem dX1_right_1 : decode cX1_right 1 = .ok (.ifCond .ne 11, 3) := dk_154 0 11 (dk_at dksX1_right_0 1 rfl rfl)
theorem dX1_right_4 : decode cX1_right 4 = .ok (.new 16, 3) := dk_187 0 16 (dk_at dksX1_right_0 4 rfl rfl)
theorem dX1_right_7 : decode cX1_right 7 = .ok (.dup, 1) := dk_89 (dk_at dksX1_right_0 7 rfl rfl)
theorem dX1_right_8 : decode cX1_right 8 = .ok (.invokespecial 18, 3) := dk_183 0 18 (dk_at dksX1_right_0 8 rfl rfl)
theorem dX1_right_11 : decode cX1_right 11 = .ok (.athrow, 1) := dk_191 (dk_at dksX1_right_0 11 rfl rfl)
theorem dX1_right_12 : decode cX1_right 12 = .ok (.return_, 1) := dk_177 (dk_at dksX1_right_0 12 rfl rfl)
abbrev cX1_pass : ByteArray := prog_1_method_6_code
def yX1_pass : MethodName := ⟨RX1, "pass", "(I)I"⟩
def dkwX1_pass_2 : List UInt8 := [167, 255, 231, 28, 172]
abbrev dktX1_pass_2 : List UInt8 := dkwX1_pass_2 ++ []
def dkwX1_pass_1 : List UInt8 := [162, 0, 26, 42, 180, 0, 10, 180, 0, 30, 153, 0, 16, 28, 42, 180, 0, 10, 182, 0, 22, 96, 61]
abbrev dktX1_pass_1 : List UInt8 := dkwX1_pass_1 ++ dktX1_pass_2
def dkwX1_pass_0 : List UInt8 := [27, 4, 161, 0, 13, 27, 18, 34, 163, 0, 7, 4, 167, 0, 4, 3, 184, 0, 26, 3, 61, 28, 27]
abbrev dktX1_pass_0 : List UInt8 := dkwX1_pass_0 ++ dktX1_pass_1
theorem dksX1_pass_0 : cX1_pass.data.toList.drop 0 = dktX1_pass_0 := by decide +kernel
theorem dksX1_pass_1 : cX1_pass.data.toList.drop 23 = dktX1_pass_1 := dk_seg dksX1_pass_0 23 rfl rfl
theorem dksX1_pass_2 : cX1_pass.data.toList.drop 46 = dktX1_pass_2 := dk_seg dksX1_pass_1 23 rfl rfl
theorem dX1_pass_0 : decode cX1_pass 0 = .ok (.iload_n 1, 1) := dk_27 (dk_at dksX1_pass_0 0 rfl rfl)
theorem dX1_pass_1 : decode cX1_pass 1 = .ok (.iconst 1, 1) := dk_4 (dk_at dksX1_pass_0 1 rfl rfl)
theorem dX1_pass_2 : decode cX1_pass 2 = .ok (.if_icmp .lt 13, 3) := dk_161 0 13 (dk_at dksX1_pass_0 2 rfl rfl)
theorem dX1_pass_5 : decode cX1_pass 5 = .ok (.iload_n 1, 1) := dk_27 (dk_at dksX1_pass_0 5 rfl rfl)
theorem dX1_pass_6 : decode cX1_pass 6 = .ok (.ldc 34, 2) := dk_18 34 (dk_at dksX1_pass_0 6 rfl rfl)
theorem dX1_pass_8 : decode cX1_pass 8 = .ok (.if_icmp .gt 7, 3) := dk_163 0 7 (dk_at dksX1_pass_0 8 rfl rfl)
theorem dX1_pass_11 : decode cX1_pass 11 = .ok (.iconst 1, 1) := dk_4 (dk_at dksX1_pass_0 11 rfl rfl)
theorem dX1_pass_12 : decode cX1_pass 12 = .ok (.goto 4, 3) := dk_167 0 4 (dk_at dksX1_pass_0 12 rfl rfl)
theorem dX1_pass_15 : decode cX1_pass 15 = .ok (.iconst 0, 1) := dk_3 (dk_at dksX1_pass_0 15 rfl rfl)
theorem dX1_pass_16 : decode cX1_pass 16 = .ok (.invokestatic 26, 3) := dk_184 0 26 (dk_at dksX1_pass_0 16 rfl rfl)
theorem dX1_pass_19 : decode cX1_pass 19 = .ok (.iconst 0, 1) := dk_3 (dk_at dksX1_pass_0 19 rfl rfl)
theorem dX1_pass_20 : decode cX1_pass 20 = .ok (.istore_n 2, 1) := dk_61 (dk_at dksX1_pass_0 20 rfl rfl)
theorem dX1_pass_21 : decode cX1_pass 21 = .ok (.iload_n 2, 1) := dk_28 (dk_at dksX1_pass_0 21 rfl rfl)
theorem dX1_pass_22 : decode cX1_pass 22 = .ok (.iload_n 1, 1) := dk_27 (dk_at dksX1_pass_0 22 rfl rfl)
theorem dX1_pass_23 : decode cX1_pass 23 = .ok (.if_icmp .ge 26, 3) := dk_162 0 26 (dk_at dksX1_pass_1 0 rfl rfl)
theorem dX1_pass_26 : decode cX1_pass 26 = .ok (.aload_n 0, 1) := dk_42 (dk_at dksX1_pass_1 3 rfl rfl)
theorem dX1_pass_27 : decode cX1_pass 27 = .ok (.getfield 10, 3) := dk_180 0 10 (dk_at dksX1_pass_1 4 rfl rfl)
theorem dX1_pass_30 : decode cX1_pass 30 = .ok (.getfield 30, 3) := dk_180 0 30 (dk_at dksX1_pass_1 7 rfl rfl)
theorem dX1_pass_33 : decode cX1_pass 33 = .ok (.ifCond .eq 16, 3) := dk_153 0 16 (dk_at dksX1_pass_1 10 rfl rfl)
theorem dX1_pass_36 : decode cX1_pass 36 = .ok (.iload_n 2, 1) := dk_28 (dk_at dksX1_pass_1 13 rfl rfl)
theorem dX1_pass_37 : decode cX1_pass 37 = .ok (.aload_n 0, 1) := dk_42 (dk_at dksX1_pass_1 14 rfl rfl)
theorem dX1_pass_38 : decode cX1_pass 38 = .ok (.getfield 10, 3) := dk_180 0 10 (dk_at dksX1_pass_1 15 rfl rfl)
theorem dX1_pass_41 : decode cX1_pass 41 = .ok (.invokevirtual 22, 3) := dk_182 0 22 (dk_at dksX1_pass_1 18 rfl rfl)
theorem dX1_pass_44 : decode cX1_pass 44 = .ok (.iadd, 1) := dk_96 (dk_at dksX1_pass_1 21 rfl rfl)
theorem dX1_pass_45 : decode cX1_pass 45 = .ok (.istore_n 2, 1) := dk_61 (dk_at dksX1_pass_1 22 rfl rfl)
theorem dX1_pass_46 : decode cX1_pass 46 = .ok (.goto (-25), 3) := dk_167 255 231 (dk_at dksX1_pass_2 0 rfl rfl)
theorem dX1_pass_49 : decode cX1_pass 49 = .ok (.iload_n 2, 1) := dk_28 (dk_at dksX1_pass_2 3 rfl rfl)
theorem dX1_pass_50 : decode cX1_pass 50 = .ok (.ireturn, 1) := dk_172 (dk_at dksX1_pass_2 4 rfl rfl)
abbrev cX1_got : ByteArray := prog_1_method_9_code
def yX1_got : MethodName := ⟨RX1, "got", "(I)I"⟩
def dkwX1_got_1 : List UInt8 := [187, 0, 55, 89, 183, 0, 57, 191, 42, 180, 0, 10, 180, 0, 35, 180, 0, 58, 27, 46, 172]
abbrev dktX1_got_1 : List UInt8 := dkwX1_got_1 ++ []
def dkwX1_got_0 : List UInt8 := [27, 155, 0, 23, 27, 17, 3, 232, 42, 180, 0, 10, 180, 0, 35, 180, 0, 45, 184, 0, 49, 161, 0, 11]
abbrev dktX1_got_0 : List UInt8 := dkwX1_got_0 ++ dktX1_got_1
theorem dksX1_got_0 : cX1_got.data.toList.drop 0 = dktX1_got_0 := by decide +kernel
theorem dksX1_got_1 : cX1_got.data.toList.drop 24 = dktX1_got_1 := dk_seg dksX1_got_0 24 rfl rfl
theorem dX1_got_0 : decode cX1_got 0 = .ok (.iload_n 1, 1) := dk_27 (dk_at dksX1_got_0 0 rfl rfl)
theorem dX1_got_1 : decode cX1_got 1 = .ok (.ifCond .lt 23, 3) := dk_155 0 23 (dk_at dksX1_got_0 1 rfl rfl)
theorem dX1_got_4 : decode cX1_got 4 = .ok (.iload_n 1, 1) := dk_27 (dk_at dksX1_got_0 4 rfl rfl)
theorem dX1_got_5 : decode cX1_got 5 = .ok (.sipush 1000, 3) := dk_17 3 232 (dk_at dksX1_got_0 5 rfl rfl)
theorem dX1_got_8 : decode cX1_got 8 = .ok (.aload_n 0, 1) := dk_42 (dk_at dksX1_got_0 8 rfl rfl)
theorem dX1_got_9 : decode cX1_got 9 = .ok (.getfield 10, 3) := dk_180 0 10 (dk_at dksX1_got_0 9 rfl rfl)
theorem dX1_got_12 : decode cX1_got 12 = .ok (.getfield 35, 3) := dk_180 0 35 (dk_at dksX1_got_0 12 rfl rfl)
theorem dX1_got_15 : decode cX1_got 15 = .ok (.getfield 45, 3) := dk_180 0 45 (dk_at dksX1_got_0 15 rfl rfl)
theorem dX1_got_18 : decode cX1_got 18 = .ok (.invokestatic 49, 3) := dk_184 0 49 (dk_at dksX1_got_0 18 rfl rfl)
theorem dX1_got_21 : decode cX1_got 21 = .ok (.if_icmp .lt 11, 3) := dk_161 0 11 (dk_at dksX1_got_0 21 rfl rfl)
theorem dX1_got_24 : decode cX1_got 24 = .ok (.new 55, 3) := dk_187 0 55 (dk_at dksX1_got_1 0 rfl rfl)
theorem dX1_got_27 : decode cX1_got 27 = .ok (.dup, 1) := dk_89 (dk_at dksX1_got_1 3 rfl rfl)
theorem dX1_got_28 : decode cX1_got 28 = .ok (.invokespecial 57, 3) := dk_183 0 57 (dk_at dksX1_got_1 4 rfl rfl)
theorem dX1_got_31 : decode cX1_got 31 = .ok (.athrow, 1) := dk_191 (dk_at dksX1_got_1 7 rfl rfl)
theorem dX1_got_32 : decode cX1_got 32 = .ok (.aload_n 0, 1) := dk_42 (dk_at dksX1_got_1 8 rfl rfl)
theorem dX1_got_33 : decode cX1_got 33 = .ok (.getfield 10, 3) := dk_180 0 10 (dk_at dksX1_got_1 9 rfl rfl)
theorem dX1_got_36 : decode cX1_got 36 = .ok (.getfield 35, 3) := dk_180 0 35 (dk_at dksX1_got_1 12 rfl rfl)
theorem dX1_got_39 : decode cX1_got 39 = .ok (.getfield 58, 3) := dk_180 0 58 (dk_at dksX1_got_1 15 rfl rfl)
theorem dX1_got_42 : decode cX1_got 42 = .ok (.iload_n 1, 1) := dk_27 (dk_at dksX1_got_1 18 rfl rfl)
theorem dX1_got_43 : decode cX1_got 43 = .ok (.iaload, 1) := dk_46 (dk_at dksX1_got_1 19 rfl rfl)
theorem dX1_got_44 : decode cX1_got 44 = .ok (.ireturn, 1) := dk_172 (dk_at dksX1_got_1 20 rfl rfl)
abbrev cX1_burn : ByteArray := prog_1_method_10_code
def yX1_burn : MethodName := ⟨RX1, "burn", "(IIIIII)I"⟩
def dkwX1_burn_5 : List UInt8 := [122, 167, 0, 5, 21, 9, 146, 85, 132, 7, 1, 132, 8, 1, 167, 255, 152, 21, 7, 172]
abbrev dktX1_burn_5 : List UInt8 := dkwX1_burn_5 ++ []
def dkwX1_burn_4 : List UInt8 := [180, 0, 10, 180, 0, 65, 180, 0, 69, 27, 21, 8, 96, 21, 8, 5, 112, 154, 0, 11, 21, 9, 16, 16]
abbrev dktX1_burn_4 : List UInt8 := dkwX1_burn_4 ++ dktX1_burn_5
def dkwX1_burn_3 : List UInt8 := [21, 4, 167, 0, 17, 21, 8, 16, 8, 162, 0, 8, 21, 5, 167, 0, 5, 21, 6, 54, 9, 42]
abbrev dktX1_burn_3 : List UInt8 := dkwX1_burn_3 ++ dktX1_burn_4
def dkwX1_burn_2 : List UInt8 := [162, 0, 7, 28, 167, 0, 39, 21, 8, 7, 162, 0, 7, 29, 167, 0, 29, 21, 8, 16, 6, 162, 0, 8]
abbrev dktX1_burn_2 : List UInt8 := dkwX1_burn_2 ++ dktX1_burn_3
def dkwX1_burn_1 : List UInt8 := [54, 8, 21, 8, 16, 10, 162, 0, 103, 27, 21, 8, 96, 17, 8, 0, 162, 0, 93, 21, 8, 5]
abbrev dktX1_burn_1 : List UInt8 := dkwX1_burn_1 ++ dktX1_burn_2
def dkwX1_burn_0 : List UInt8 := [27, 155, 0, 14, 27, 17, 8, 0, 162, 0, 7, 4, 167, 0, 4, 3, 184, 0, 62, 3, 54, 7, 3]
abbrev dktX1_burn_0 : List UInt8 := dkwX1_burn_0 ++ dktX1_burn_1
theorem dksX1_burn_0 : cX1_burn.data.toList.drop 0 = dktX1_burn_0 := by decide +kernel
theorem dksX1_burn_1 : cX1_burn.data.toList.drop 23 = dktX1_burn_1 := dk_seg dksX1_burn_0 23 rfl rfl
theorem dksX1_burn_2 : cX1_burn.data.toList.drop 45 = dktX1_burn_2 := dk_seg dksX1_burn_1 22 rfl rfl
theorem dksX1_burn_3 : cX1_burn.data.toList.drop 69 = dktX1_burn_3 := dk_seg dksX1_burn_2 24 rfl rfl
theorem dksX1_burn_4 : cX1_burn.data.toList.drop 91 = dktX1_burn_4 := dk_seg dksX1_burn_3 22 rfl rfl
theorem dksX1_burn_5 : cX1_burn.data.toList.drop 115 = dktX1_burn_5 := dk_seg dksX1_burn_4 24 rfl rfl
theorem dX1_burn_0 : decode cX1_burn 0 = .ok (.iload_n 1, 1) := dk_27 (dk_at dksX1_burn_0 0 rfl rfl)
theorem dX1_burn_1 : decode cX1_burn 1 = .ok (.ifCond .lt 14, 3) := dk_155 0 14 (dk_at dksX1_burn_0 1 rfl rfl)
theorem dX1_burn_4 : decode cX1_burn 4 = .ok (.iload_n 1, 1) := dk_27 (dk_at dksX1_burn_0 4 rfl rfl)
theorem dX1_burn_5 : decode cX1_burn 5 = .ok (.sipush 2048, 3) := dk_17 8 0 (dk_at dksX1_burn_0 5 rfl rfl)
theorem dX1_burn_8 : decode cX1_burn 8 = .ok (.if_icmp .ge 7, 3) := dk_162 0 7 (dk_at dksX1_burn_0 8 rfl rfl)
theorem dX1_burn_11 : decode cX1_burn 11 = .ok (.iconst 1, 1) := dk_4 (dk_at dksX1_burn_0 11 rfl rfl)
theorem dX1_burn_12 : decode cX1_burn 12 = .ok (.goto 4, 3) := dk_167 0 4 (dk_at dksX1_burn_0 12 rfl rfl)
theorem dX1_burn_15 : decode cX1_burn 15 = .ok (.iconst 0, 1) := dk_3 (dk_at dksX1_burn_0 15 rfl rfl)
theorem dX1_burn_16 : decode cX1_burn 16 = .ok (.invokestatic 62, 3) := dk_184 0 62 (dk_at dksX1_burn_0 16 rfl rfl)
theorem dX1_burn_19 : decode cX1_burn 19 = .ok (.iconst 0, 1) := dk_3 (dk_at dksX1_burn_0 19 rfl rfl)
theorem dX1_burn_20 : decode cX1_burn 20 = .ok (.istore 7, 2) := dk_54 7 (dk_at dksX1_burn_0 20 rfl rfl)
theorem dX1_burn_22 : decode cX1_burn 22 = .ok (.iconst 0, 1) := dk_3 (dk_at dksX1_burn_0 22 rfl rfl)
theorem dX1_burn_23 : decode cX1_burn 23 = .ok (.istore 8, 2) := dk_54 8 (dk_at dksX1_burn_1 0 rfl rfl)
theorem dX1_burn_25 : decode cX1_burn 25 = .ok (.iload 8, 2) := dk_21 8 (dk_at dksX1_burn_1 2 rfl rfl)
theorem dX1_burn_27 : decode cX1_burn 27 = .ok (.bipush 10, 2) := dk_16 10 (dk_at dksX1_burn_1 4 rfl rfl)
theorem dX1_burn_29 : decode cX1_burn 29 = .ok (.if_icmp .ge 103, 3) := dk_162 0 103 (dk_at dksX1_burn_1 6 rfl rfl)
theorem dX1_burn_32 : decode cX1_burn 32 = .ok (.iload_n 1, 1) := dk_27 (dk_at dksX1_burn_1 9 rfl rfl)
theorem dX1_burn_33 : decode cX1_burn 33 = .ok (.iload 8, 2) := dk_21 8 (dk_at dksX1_burn_1 10 rfl rfl)
theorem dX1_burn_35 : decode cX1_burn 35 = .ok (.iadd, 1) := dk_96 (dk_at dksX1_burn_1 12 rfl rfl)
theorem dX1_burn_36 : decode cX1_burn 36 = .ok (.sipush 2048, 3) := dk_17 8 0 (dk_at dksX1_burn_1 13 rfl rfl)
theorem dX1_burn_39 : decode cX1_burn 39 = .ok (.if_icmp .ge 93, 3) := dk_162 0 93 (dk_at dksX1_burn_1 16 rfl rfl)
theorem dX1_burn_42 : decode cX1_burn 42 = .ok (.iload 8, 2) := dk_21 8 (dk_at dksX1_burn_1 19 rfl rfl)
theorem dX1_burn_44 : decode cX1_burn 44 = .ok (.iconst 2, 1) := dk_5 (dk_at dksX1_burn_1 21 rfl rfl)
theorem dX1_burn_45 : decode cX1_burn 45 = .ok (.if_icmp .ge 7, 3) := dk_162 0 7 (dk_at dksX1_burn_2 0 rfl rfl)
theorem dX1_burn_48 : decode cX1_burn 48 = .ok (.iload_n 2, 1) := dk_28 (dk_at dksX1_burn_2 3 rfl rfl)
theorem dX1_burn_49 : decode cX1_burn 49 = .ok (.goto 39, 3) := dk_167 0 39 (dk_at dksX1_burn_2 4 rfl rfl)
theorem dX1_burn_52 : decode cX1_burn 52 = .ok (.iload 8, 2) := dk_21 8 (dk_at dksX1_burn_2 7 rfl rfl)
theorem dX1_burn_54 : decode cX1_burn 54 = .ok (.iconst 4, 1) := dk_7 (dk_at dksX1_burn_2 9 rfl rfl)
theorem dX1_burn_55 : decode cX1_burn 55 = .ok (.if_icmp .ge 7, 3) := dk_162 0 7 (dk_at dksX1_burn_2 10 rfl rfl)
theorem dX1_burn_58 : decode cX1_burn 58 = .ok (.iload_n 3, 1) := dk_29 (dk_at dksX1_burn_2 13 rfl rfl)
theorem dX1_burn_59 : decode cX1_burn 59 = .ok (.goto 29, 3) := dk_167 0 29 (dk_at dksX1_burn_2 14 rfl rfl)
theorem dX1_burn_62 : decode cX1_burn 62 = .ok (.iload 8, 2) := dk_21 8 (dk_at dksX1_burn_2 17 rfl rfl)
theorem dX1_burn_64 : decode cX1_burn 64 = .ok (.bipush 6, 2) := dk_16 6 (dk_at dksX1_burn_2 19 rfl rfl)
theorem dX1_burn_66 : decode cX1_burn 66 = .ok (.if_icmp .ge 8, 3) := dk_162 0 8 (dk_at dksX1_burn_2 21 rfl rfl)
theorem dX1_burn_69 : decode cX1_burn 69 = .ok (.iload 4, 2) := dk_21 4 (dk_at dksX1_burn_3 0 rfl rfl)
theorem dX1_burn_71 : decode cX1_burn 71 = .ok (.goto 17, 3) := dk_167 0 17 (dk_at dksX1_burn_3 2 rfl rfl)
theorem dX1_burn_74 : decode cX1_burn 74 = .ok (.iload 8, 2) := dk_21 8 (dk_at dksX1_burn_3 5 rfl rfl)
theorem dX1_burn_76 : decode cX1_burn 76 = .ok (.bipush 8, 2) := dk_16 8 (dk_at dksX1_burn_3 7 rfl rfl)
theorem dX1_burn_78 : decode cX1_burn 78 = .ok (.if_icmp .ge 8, 3) := dk_162 0 8 (dk_at dksX1_burn_3 9 rfl rfl)
theorem dX1_burn_81 : decode cX1_burn 81 = .ok (.iload 5, 2) := dk_21 5 (dk_at dksX1_burn_3 12 rfl rfl)
theorem dX1_burn_83 : decode cX1_burn 83 = .ok (.goto 5, 3) := dk_167 0 5 (dk_at dksX1_burn_3 14 rfl rfl)
theorem dX1_burn_86 : decode cX1_burn 86 = .ok (.iload 6, 2) := dk_21 6 (dk_at dksX1_burn_3 17 rfl rfl)
theorem dX1_burn_88 : decode cX1_burn 88 = .ok (.istore 9, 2) := dk_54 9 (dk_at dksX1_burn_3 19 rfl rfl)
theorem dX1_burn_90 : decode cX1_burn 90 = .ok (.aload_n 0, 1) := dk_42 (dk_at dksX1_burn_3 21 rfl rfl)
theorem dX1_burn_91 : decode cX1_burn 91 = .ok (.getfield 10, 3) := dk_180 0 10 (dk_at dksX1_burn_4 0 rfl rfl)
theorem dX1_burn_94 : decode cX1_burn 94 = .ok (.getfield 65, 3) := dk_180 0 65 (dk_at dksX1_burn_4 3 rfl rfl)
theorem dX1_burn_97 : decode cX1_burn 97 = .ok (.getfield 69, 3) := dk_180 0 69 (dk_at dksX1_burn_4 6 rfl rfl)
theorem dX1_burn_100 : decode cX1_burn 100 = .ok (.iload_n 1, 1) := dk_27 (dk_at dksX1_burn_4 9 rfl rfl)
theorem dX1_burn_101 : decode cX1_burn 101 = .ok (.iload 8, 2) := dk_21 8 (dk_at dksX1_burn_4 10 rfl rfl)
theorem dX1_burn_103 : decode cX1_burn 103 = .ok (.iadd, 1) := dk_96 (dk_at dksX1_burn_4 12 rfl rfl)
theorem dX1_burn_104 : decode cX1_burn 104 = .ok (.iload 8, 2) := dk_21 8 (dk_at dksX1_burn_4 13 rfl rfl)
theorem dX1_burn_106 : decode cX1_burn 106 = .ok (.iconst 2, 1) := dk_5 (dk_at dksX1_burn_4 15 rfl rfl)
theorem dX1_burn_107 : decode cX1_burn 107 = .ok (.irem, 1) := dk_112 (dk_at dksX1_burn_4 16 rfl rfl)
theorem dX1_burn_108 : decode cX1_burn 108 = .ok (.ifCond .ne 11, 3) := dk_154 0 11 (dk_at dksX1_burn_4 17 rfl rfl)
theorem dX1_burn_111 : decode cX1_burn 111 = .ok (.iload 9, 2) := dk_21 9 (dk_at dksX1_burn_4 20 rfl rfl)
theorem dX1_burn_113 : decode cX1_burn 113 = .ok (.bipush 16, 2) := dk_16 16 (dk_at dksX1_burn_4 22 rfl rfl)
theorem dX1_burn_115 : decode cX1_burn 115 = .ok (.ishr, 1) := dk_122 (dk_at dksX1_burn_5 0 rfl rfl)
theorem dX1_burn_116 : decode cX1_burn 116 = .ok (.goto 5, 3) := dk_167 0 5 (dk_at dksX1_burn_5 1 rfl rfl)
theorem dX1_burn_119 : decode cX1_burn 119 = .ok (.iload 9, 2) := dk_21 9 (dk_at dksX1_burn_5 4 rfl rfl)
theorem dX1_burn_121 : decode cX1_burn 121 = .ok (.i2c, 1) := dk_146 (dk_at dksX1_burn_5 6 rfl rfl)
theorem dX1_burn_122 : decode cX1_burn 122 = .ok (.castore, 1) := dk_85 (dk_at dksX1_burn_5 7 rfl rfl)
theorem dX1_burn_123 : decode cX1_burn 123 = .ok (.iinc 7 1, 3) := dk_132 7 1 (dk_at dksX1_burn_5 8 rfl rfl)
theorem dX1_burn_126 : decode cX1_burn 126 = .ok (.iinc 8 1, 3) := dk_132 8 1 (dk_at dksX1_burn_5 11 rfl rfl)
theorem dX1_burn_129 : decode cX1_burn 129 = .ok (.goto (-104), 3) := dk_167 255 152 (dk_at dksX1_burn_5 14 rfl rfl)
theorem dX1_burn_132 : decode cX1_burn 132 = .ok (.iload 7, 2) := dk_21 7 (dk_at dksX1_burn_5 17 rfl rfl)
theorem dX1_burn_134 : decode cX1_burn 134 = .ok (.ireturn, 1) := dk_172 (dk_at dksX1_burn_5 19 rfl rfl)
abbrev cX1_there : ByteArray := prog_1_method_3_code
def yX1_there : MethodName := ⟨RX1, "there", "(Z)V"⟩
def dkwX1_there_0 : List UInt8 := [26, 154, 0, 11, 187, 0, 19, 89, 183, 0, 21, 191, 177]
abbrev dktX1_there_0 : List UInt8 := dkwX1_there_0 ++ []
theorem dksX1_there_0 : cX1_there.data.toList.drop 0 = dktX1_there_0 := by decide +kernel
theorem dX1_there_0 : decode cX1_there 0 = .ok (.iload_n 0, 1) := dk_26 (dk_at dksX1_there_0 0 rfl rfl)
theorem dX1_there_1 : decode cX1_there 1 = .ok (.ifCond .ne 11, 3) := dk_154 0 11 (dk_at dksX1_there_0 1 rfl rfl)
theorem dX1_there_4 : decode cX1_there 4 = .ok (.new 19, 3) := dk_187 0 19 (dk_at dksX1_there_0 4 rfl rfl)
theorem dX1_there_7 : decode cX1_there 7 = .ok (.dup, 1) := dk_89 (dk_at dksX1_there_0 7 rfl rfl)
theorem dX1_there_8 : decode cX1_there 8 = .ok (.invokespecial 21, 3) := dk_183 0 21 (dk_at dksX1_there_0 8 rfl rfl)
theorem dX1_there_11 : decode cX1_there 11 = .ok (.athrow, 1) := dk_191 (dk_at dksX1_there_0 11 rfl rfl)
theorem dX1_there_12 : decode cX1_there 12 = .ok (.return_, 1) := dk_177 (dk_at dksX1_there_0 12 rfl rfl)
abbrev cX1_word : ByteArray := prog_1_method_11_code
def yX1_word : MethodName := ⟨RX1, "word", "(I)I"⟩
def dkwX1_word_1 : List UInt8 := [180, 0, 65, 180, 0, 69, 27, 52, 172]
abbrev dktX1_word_1 : List UInt8 := dkwX1_word_1 ++ []
def dkwX1_word_0 : List UInt8 := [27, 155, 0, 14, 27, 17, 8, 0, 162, 0, 7, 4, 167, 0, 4, 3, 184, 0, 62, 42, 180, 0, 10]
abbrev dktX1_word_0 : List UInt8 := dkwX1_word_0 ++ dktX1_word_1
theorem dksX1_word_0 : cX1_word.data.toList.drop 0 = dktX1_word_0 := by decide +kernel
theorem dksX1_word_1 : cX1_word.data.toList.drop 23 = dktX1_word_1 := dk_seg dksX1_word_0 23 rfl rfl
theorem dX1_word_0 : decode cX1_word 0 = .ok (.iload_n 1, 1) := dk_27 (dk_at dksX1_word_0 0 rfl rfl)
theorem dX1_word_1 : decode cX1_word 1 = .ok (.ifCond .lt 14, 3) := dk_155 0 14 (dk_at dksX1_word_0 1 rfl rfl)
theorem dX1_word_4 : decode cX1_word 4 = .ok (.iload_n 1, 1) := dk_27 (dk_at dksX1_word_0 4 rfl rfl)
theorem dX1_word_5 : decode cX1_word 5 = .ok (.sipush 2048, 3) := dk_17 8 0 (dk_at dksX1_word_0 5 rfl rfl)
theorem dX1_word_8 : decode cX1_word 8 = .ok (.if_icmp .ge 7, 3) := dk_162 0 7 (dk_at dksX1_word_0 8 rfl rfl)
theorem dX1_word_11 : decode cX1_word 11 = .ok (.iconst 1, 1) := dk_4 (dk_at dksX1_word_0 11 rfl rfl)
theorem dX1_word_12 : decode cX1_word 12 = .ok (.goto 4, 3) := dk_167 0 4 (dk_at dksX1_word_0 12 rfl rfl)
theorem dX1_word_15 : decode cX1_word 15 = .ok (.iconst 0, 1) := dk_3 (dk_at dksX1_word_0 15 rfl rfl)
theorem dX1_word_16 : decode cX1_word 16 = .ok (.invokestatic 62, 3) := dk_184 0 62 (dk_at dksX1_word_0 16 rfl rfl)
theorem dX1_word_19 : decode cX1_word 19 = .ok (.aload_n 0, 1) := dk_42 (dk_at dksX1_word_0 19 rfl rfl)
theorem dX1_word_20 : decode cX1_word 20 = .ok (.getfield 10, 3) := dk_180 0 10 (dk_at dksX1_word_0 20 rfl rfl)
theorem dX1_word_23 : decode cX1_word 23 = .ok (.getfield 65, 3) := dk_180 0 65 (dk_at dksX1_word_1 0 rfl rfl)
theorem dX1_word_26 : decode cX1_word 26 = .ok (.getfield 69, 3) := dk_180 0 69 (dk_at dksX1_word_1 3 rfl rfl)
theorem dX1_word_29 : decode cX1_word 29 = .ok (.iload_n 1, 1) := dk_27 (dk_at dksX1_word_1 6 rfl rfl)
theorem dX1_word_30 : decode cX1_word 30 = .ok (.caload, 1) := dk_52 (dk_at dksX1_word_1 7 rfl rfl)
theorem dX1_word_31 : decode cX1_word 31 = .ok (.ireturn, 1) := dk_172 (dk_at dksX1_word_1 8 rfl rfl)
abbrev cX1_data : ByteArray := prog_1_method_12_code
def yX1_data : MethodName := ⟨RX1, "data", "(I)I"⟩
def dkwX1_data_2 : List UInt8 := [180, 0, 78, 167, 0, 15, 3, 167, 0, 11, 42, 180, 0, 10, 27, 182, 0, 81, 172]
abbrev dktX1_data_2 : List UInt8 := dkwX1_data_2 ++ []
def dkwX1_data_1 : List UInt8 := [160, 0, 33, 42, 180, 0, 10, 180, 0, 35, 180, 0, 75, 158, 0, 16, 42, 180, 0, 10, 180, 0, 35]
abbrev dktX1_data_1 : List UInt8 := dkwX1_data_1 ++ dktX1_data_2
def dkwX1_data_0 : List UInt8 := [27, 155, 0, 14, 27, 17, 5, 0, 162, 0, 7, 4, 167, 0, 4, 3, 184, 0, 62, 27, 17, 0, 198]
abbrev dktX1_data_0 : List UInt8 := dkwX1_data_0 ++ dktX1_data_1
theorem dksX1_data_0 : cX1_data.data.toList.drop 0 = dktX1_data_0 := by decide +kernel
theorem dksX1_data_1 : cX1_data.data.toList.drop 23 = dktX1_data_1 := dk_seg dksX1_data_0 23 rfl rfl
theorem dksX1_data_2 : cX1_data.data.toList.drop 46 = dktX1_data_2 := dk_seg dksX1_data_1 23 rfl rfl
theorem dX1_data_0 : decode cX1_data 0 = .ok (.iload_n 1, 1) := dk_27 (dk_at dksX1_data_0 0 rfl rfl)
theorem dX1_data_1 : decode cX1_data 1 = .ok (.ifCond .lt 14, 3) := dk_155 0 14 (dk_at dksX1_data_0 1 rfl rfl)
theorem dX1_data_4 : decode cX1_data 4 = .ok (.iload_n 1, 1) := dk_27 (dk_at dksX1_data_0 4 rfl rfl)
theorem dX1_data_5 : decode cX1_data 5 = .ok (.sipush 1280, 3) := dk_17 5 0 (dk_at dksX1_data_0 5 rfl rfl)
theorem dX1_data_8 : decode cX1_data 8 = .ok (.if_icmp .ge 7, 3) := dk_162 0 7 (dk_at dksX1_data_0 8 rfl rfl)
theorem dX1_data_11 : decode cX1_data 11 = .ok (.iconst 1, 1) := dk_4 (dk_at dksX1_data_0 11 rfl rfl)
theorem dX1_data_12 : decode cX1_data 12 = .ok (.goto 4, 3) := dk_167 0 4 (dk_at dksX1_data_0 12 rfl rfl)
theorem dX1_data_15 : decode cX1_data 15 = .ok (.iconst 0, 1) := dk_3 (dk_at dksX1_data_0 15 rfl rfl)
theorem dX1_data_16 : decode cX1_data 16 = .ok (.invokestatic 62, 3) := dk_184 0 62 (dk_at dksX1_data_0 16 rfl rfl)
theorem dX1_data_19 : decode cX1_data 19 = .ok (.iload_n 1, 1) := dk_27 (dk_at dksX1_data_0 19 rfl rfl)
theorem dX1_data_20 : decode cX1_data 20 = .ok (.sipush 198, 3) := dk_17 0 198 (dk_at dksX1_data_0 20 rfl rfl)
theorem dX1_data_23 : decode cX1_data 23 = .ok (.if_icmp .ne 33, 3) := dk_160 0 33 (dk_at dksX1_data_1 0 rfl rfl)
theorem dX1_data_26 : decode cX1_data 26 = .ok (.aload_n 0, 1) := dk_42 (dk_at dksX1_data_1 3 rfl rfl)
theorem dX1_data_27 : decode cX1_data 27 = .ok (.getfield 10, 3) := dk_180 0 10 (dk_at dksX1_data_1 4 rfl rfl)
theorem dX1_data_30 : decode cX1_data 30 = .ok (.getfield 35, 3) := dk_180 0 35 (dk_at dksX1_data_1 7 rfl rfl)
theorem dX1_data_33 : decode cX1_data 33 = .ok (.getfield 75, 3) := dk_180 0 75 (dk_at dksX1_data_1 10 rfl rfl)
theorem dX1_data_36 : decode cX1_data 36 = .ok (.ifCond .le 16, 3) := dk_158 0 16 (dk_at dksX1_data_1 13 rfl rfl)
theorem dX1_data_39 : decode cX1_data 39 = .ok (.aload_n 0, 1) := dk_42 (dk_at dksX1_data_1 16 rfl rfl)
theorem dX1_data_40 : decode cX1_data 40 = .ok (.getfield 10, 3) := dk_180 0 10 (dk_at dksX1_data_1 17 rfl rfl)
theorem dX1_data_43 : decode cX1_data 43 = .ok (.getfield 35, 3) := dk_180 0 35 (dk_at dksX1_data_1 20 rfl rfl)
theorem dX1_data_46 : decode cX1_data 46 = .ok (.getfield 78, 3) := dk_180 0 78 (dk_at dksX1_data_2 0 rfl rfl)
theorem dX1_data_49 : decode cX1_data 49 = .ok (.goto 15, 3) := dk_167 0 15 (dk_at dksX1_data_2 3 rfl rfl)
theorem dX1_data_52 : decode cX1_data 52 = .ok (.iconst 0, 1) := dk_3 (dk_at dksX1_data_2 6 rfl rfl)
theorem dX1_data_53 : decode cX1_data 53 = .ok (.goto 11, 3) := dk_167 0 11 (dk_at dksX1_data_2 7 rfl rfl)
theorem dX1_data_56 : decode cX1_data 56 = .ok (.aload_n 0, 1) := dk_42 (dk_at dksX1_data_2 10 rfl rfl)
theorem dX1_data_57 : decode cX1_data 57 = .ok (.getfield 10, 3) := dk_180 0 10 (dk_at dksX1_data_2 11 rfl rfl)
theorem dX1_data_60 : decode cX1_data 60 = .ok (.iload_n 1, 1) := dk_27 (dk_at dksX1_data_2 14 rfl rfl)
theorem dX1_data_61 : decode cX1_data 61 = .ok (.invokevirtual 81, 3) := dk_182 0 81 (dk_at dksX1_data_2 15 rfl rfl)
theorem dX1_data_64 : decode cX1_data 64 = .ok (.ireturn, 1) := dk_172 (dk_at dksX1_data_2 18 rfl rfl)
abbrev cX1_put : ByteArray := prog_1_method_13_code
def yX1_put : MethodName := ⟨RX1, "put", "(II)V"⟩
def dkwX1_put_2 : List UInt8 := [180, 0, 10, 180, 0, 84, 27, 28, 17, 0, 255, 126, 79, 177]
abbrev dktX1_put_2 : List UInt8 := dkwX1_put_2 ++ []
def dkwX1_put_1 : List UInt8 := [17, 1, 0, 161, 0, 14, 27, 17, 5, 0, 162, 0, 7, 4, 167, 0, 4, 3, 184, 0, 62, 42]
abbrev dktX1_put_1 : List UInt8 := dkwX1_put_1 ++ dktX1_put_2
def dkwX1_put_0 : List UInt8 := [27, 155, 0, 9, 27, 16, 32, 161, 0, 29, 27, 16, 93, 161, 0, 9, 27, 16, 95, 164, 0, 17, 27]
abbrev dktX1_put_0 : List UInt8 := dkwX1_put_0 ++ dktX1_put_1
theorem dksX1_put_0 : cX1_put.data.toList.drop 0 = dktX1_put_0 := by decide +kernel
theorem dksX1_put_1 : cX1_put.data.toList.drop 23 = dktX1_put_1 := dk_seg dksX1_put_0 23 rfl rfl
theorem dksX1_put_2 : cX1_put.data.toList.drop 45 = dktX1_put_2 := dk_seg dksX1_put_1 22 rfl rfl
theorem dX1_put_0 : decode cX1_put 0 = .ok (.iload_n 1, 1) := dk_27 (dk_at dksX1_put_0 0 rfl rfl)
theorem dX1_put_1 : decode cX1_put 1 = .ok (.ifCond .lt 9, 3) := dk_155 0 9 (dk_at dksX1_put_0 1 rfl rfl)
theorem dX1_put_4 : decode cX1_put 4 = .ok (.iload_n 1, 1) := dk_27 (dk_at dksX1_put_0 4 rfl rfl)
theorem dX1_put_5 : decode cX1_put 5 = .ok (.bipush 32, 2) := dk_16 32 (dk_at dksX1_put_0 5 rfl rfl)
theorem dX1_put_7 : decode cX1_put 7 = .ok (.if_icmp .lt 29, 3) := dk_161 0 29 (dk_at dksX1_put_0 7 rfl rfl)
theorem dX1_put_10 : decode cX1_put 10 = .ok (.iload_n 1, 1) := dk_27 (dk_at dksX1_put_0 10 rfl rfl)
theorem dX1_put_11 : decode cX1_put 11 = .ok (.bipush 93, 2) := dk_16 93 (dk_at dksX1_put_0 11 rfl rfl)
theorem dX1_put_13 : decode cX1_put 13 = .ok (.if_icmp .lt 9, 3) := dk_161 0 9 (dk_at dksX1_put_0 13 rfl rfl)
theorem dX1_put_16 : decode cX1_put 16 = .ok (.iload_n 1, 1) := dk_27 (dk_at dksX1_put_0 16 rfl rfl)
theorem dX1_put_17 : decode cX1_put 17 = .ok (.bipush 95, 2) := dk_16 95 (dk_at dksX1_put_0 17 rfl rfl)
theorem dX1_put_19 : decode cX1_put 19 = .ok (.if_icmp .le 17, 3) := dk_164 0 17 (dk_at dksX1_put_0 19 rfl rfl)
theorem dX1_put_22 : decode cX1_put 22 = .ok (.iload_n 1, 1) := dk_27 (dk_at dksX1_put_0 22 rfl rfl)
theorem dX1_put_23 : decode cX1_put 23 = .ok (.sipush 256, 3) := dk_17 1 0 (dk_at dksX1_put_1 0 rfl rfl)
theorem dX1_put_26 : decode cX1_put 26 = .ok (.if_icmp .lt 14, 3) := dk_161 0 14 (dk_at dksX1_put_1 3 rfl rfl)
theorem dX1_put_29 : decode cX1_put 29 = .ok (.iload_n 1, 1) := dk_27 (dk_at dksX1_put_1 6 rfl rfl)
theorem dX1_put_30 : decode cX1_put 30 = .ok (.sipush 1280, 3) := dk_17 5 0 (dk_at dksX1_put_1 7 rfl rfl)
theorem dX1_put_33 : decode cX1_put 33 = .ok (.if_icmp .ge 7, 3) := dk_162 0 7 (dk_at dksX1_put_1 10 rfl rfl)
theorem dX1_put_36 : decode cX1_put 36 = .ok (.iconst 1, 1) := dk_4 (dk_at dksX1_put_1 13 rfl rfl)
theorem dX1_put_37 : decode cX1_put 37 = .ok (.goto 4, 3) := dk_167 0 4 (dk_at dksX1_put_1 14 rfl rfl)
theorem dX1_put_40 : decode cX1_put 40 = .ok (.iconst 0, 1) := dk_3 (dk_at dksX1_put_1 17 rfl rfl)
theorem dX1_put_41 : decode cX1_put 41 = .ok (.invokestatic 62, 3) := dk_184 0 62 (dk_at dksX1_put_1 18 rfl rfl)
theorem dX1_put_44 : decode cX1_put 44 = .ok (.aload_n 0, 1) := dk_42 (dk_at dksX1_put_1 21 rfl rfl)
theorem dX1_put_45 : decode cX1_put 45 = .ok (.getfield 10, 3) := dk_180 0 10 (dk_at dksX1_put_2 0 rfl rfl)
theorem dX1_put_48 : decode cX1_put 48 = .ok (.getfield 84, 3) := dk_180 0 84 (dk_at dksX1_put_2 3 rfl rfl)
theorem dX1_put_51 : decode cX1_put 51 = .ok (.iload_n 1, 1) := dk_27 (dk_at dksX1_put_2 6 rfl rfl)
theorem dX1_put_52 : decode cX1_put 52 = .ok (.iload_n 2, 1) := dk_28 (dk_at dksX1_put_2 7 rfl rfl)
theorem dX1_put_53 : decode cX1_put 53 = .ok (.sipush 255, 3) := dk_17 0 255 (dk_at dksX1_put_2 8 rfl rfl)
theorem dX1_put_56 : decode cX1_put 56 = .ok (.iand, 1) := dk_126 (dk_at dksX1_put_2 11 rfl rfl)
theorem dX1_put_57 : decode cX1_put 57 = .ok (.iastore, 1) := dk_79 (dk_at dksX1_put_2 12 rfl rfl)
theorem dX1_put_58 : decode cX1_put 58 = .ok (.return_, 1) := dk_177 (dk_at dksX1_put_2 13 rfl rfl)
abbrev cX1_eeprom : ByteArray := prog_1_method_14_code
def yX1_eeprom : MethodName := ⟨RX1, "eeprom", "(I)I"⟩
def dkwX1_eeprom_1 : List UInt8 := [180, 0, 87, 180, 0, 91, 27, 46, 172]
abbrev dktX1_eeprom_1 : List UInt8 := dkwX1_eeprom_1 ++ []
def dkwX1_eeprom_0 : List UInt8 := [27, 155, 0, 14, 27, 17, 1, 0, 162, 0, 7, 4, 167, 0, 4, 3, 184, 0, 62, 42, 180, 0, 10]
abbrev dktX1_eeprom_0 : List UInt8 := dkwX1_eeprom_0 ++ dktX1_eeprom_1
theorem dksX1_eeprom_0 : cX1_eeprom.data.toList.drop 0 = dktX1_eeprom_0 := by decide +kernel
theorem dksX1_eeprom_1 : cX1_eeprom.data.toList.drop 23 = dktX1_eeprom_1 := dk_seg dksX1_eeprom_0 23 rfl rfl
theorem dX1_eeprom_0 : decode cX1_eeprom 0 = .ok (.iload_n 1, 1) := dk_27 (dk_at dksX1_eeprom_0 0 rfl rfl)
theorem dX1_eeprom_1 : decode cX1_eeprom 1 = .ok (.ifCond .lt 14, 3) := dk_155 0 14 (dk_at dksX1_eeprom_0 1 rfl rfl)
theorem dX1_eeprom_4 : decode cX1_eeprom 4 = .ok (.iload_n 1, 1) := dk_27 (dk_at dksX1_eeprom_0 4 rfl rfl)
theorem dX1_eeprom_5 : decode cX1_eeprom 5 = .ok (.sipush 256, 3) := dk_17 1 0 (dk_at dksX1_eeprom_0 5 rfl rfl)
theorem dX1_eeprom_8 : decode cX1_eeprom 8 = .ok (.if_icmp .ge 7, 3) := dk_162 0 7 (dk_at dksX1_eeprom_0 8 rfl rfl)
theorem dX1_eeprom_11 : decode cX1_eeprom 11 = .ok (.iconst 1, 1) := dk_4 (dk_at dksX1_eeprom_0 11 rfl rfl)
theorem dX1_eeprom_12 : decode cX1_eeprom 12 = .ok (.goto 4, 3) := dk_167 0 4 (dk_at dksX1_eeprom_0 12 rfl rfl)
theorem dX1_eeprom_15 : decode cX1_eeprom 15 = .ok (.iconst 0, 1) := dk_3 (dk_at dksX1_eeprom_0 15 rfl rfl)
theorem dX1_eeprom_16 : decode cX1_eeprom 16 = .ok (.invokestatic 62, 3) := dk_184 0 62 (dk_at dksX1_eeprom_0 16 rfl rfl)
theorem dX1_eeprom_19 : decode cX1_eeprom 19 = .ok (.aload_n 0, 1) := dk_42 (dk_at dksX1_eeprom_0 19 rfl rfl)
theorem dX1_eeprom_20 : decode cX1_eeprom 20 = .ok (.getfield 10, 3) := dk_180 0 10 (dk_at dksX1_eeprom_0 20 rfl rfl)
theorem dX1_eeprom_23 : decode cX1_eeprom 23 = .ok (.getfield 87, 3) := dk_180 0 87 (dk_at dksX1_eeprom_1 0 rfl rfl)
theorem dX1_eeprom_26 : decode cX1_eeprom 26 = .ok (.getfield 91, 3) := dk_180 0 91 (dk_at dksX1_eeprom_1 3 rfl rfl)
theorem dX1_eeprom_29 : decode cX1_eeprom 29 = .ok (.iload_n 1, 1) := dk_27 (dk_at dksX1_eeprom_1 6 rfl rfl)
theorem dX1_eeprom_30 : decode cX1_eeprom 30 = .ok (.iaload, 1) := dk_46 (dk_at dksX1_eeprom_1 7 rfl rfl)
theorem dX1_eeprom_31 : decode cX1_eeprom 31 = .ok (.ireturn, 1) := dk_172 (dk_at dksX1_eeprom_1 8 rfl rfl)
abbrev cX1_start : ByteArray := prog_1_method_17_code
def yX1_start : MethodName := ⟨RX1, "start", "(I)V"⟩
def dkwX1_start_1 : List UInt8 := [181, 0, 111, 42, 180, 0, 10, 3, 181, 0, 114, 177]
abbrev dktX1_start_1 : List UInt8 := dkwX1_start_1 ++ []
def dkwX1_start_0 : List UInt8 := [27, 155, 0, 14, 27, 17, 8, 0, 162, 0, 7, 4, 167, 0, 4, 3, 184, 0, 62, 42, 180, 0, 10, 27]
abbrev dktX1_start_0 : List UInt8 := dkwX1_start_0 ++ dktX1_start_1
theorem dksX1_start_0 : cX1_start.data.toList.drop 0 = dktX1_start_0 := by decide +kernel
theorem dksX1_start_1 : cX1_start.data.toList.drop 24 = dktX1_start_1 := dk_seg dksX1_start_0 24 rfl rfl
theorem dX1_start_0 : decode cX1_start 0 = .ok (.iload_n 1, 1) := dk_27 (dk_at dksX1_start_0 0 rfl rfl)
theorem dX1_start_1 : decode cX1_start 1 = .ok (.ifCond .lt 14, 3) := dk_155 0 14 (dk_at dksX1_start_0 1 rfl rfl)
theorem dX1_start_4 : decode cX1_start 4 = .ok (.iload_n 1, 1) := dk_27 (dk_at dksX1_start_0 4 rfl rfl)
theorem dX1_start_5 : decode cX1_start 5 = .ok (.sipush 2048, 3) := dk_17 8 0 (dk_at dksX1_start_0 5 rfl rfl)
theorem dX1_start_8 : decode cX1_start 8 = .ok (.if_icmp .ge 7, 3) := dk_162 0 7 (dk_at dksX1_start_0 8 rfl rfl)
theorem dX1_start_11 : decode cX1_start 11 = .ok (.iconst 1, 1) := dk_4 (dk_at dksX1_start_0 11 rfl rfl)
theorem dX1_start_12 : decode cX1_start 12 = .ok (.goto 4, 3) := dk_167 0 4 (dk_at dksX1_start_0 12 rfl rfl)
theorem dX1_start_15 : decode cX1_start 15 = .ok (.iconst 0, 1) := dk_3 (dk_at dksX1_start_0 15 rfl rfl)
theorem dX1_start_16 : decode cX1_start 16 = .ok (.invokestatic 62, 3) := dk_184 0 62 (dk_at dksX1_start_0 16 rfl rfl)
theorem dX1_start_19 : decode cX1_start 19 = .ok (.aload_n 0, 1) := dk_42 (dk_at dksX1_start_0 19 rfl rfl)
theorem dX1_start_20 : decode cX1_start 20 = .ok (.getfield 10, 3) := dk_180 0 10 (dk_at dksX1_start_0 20 rfl rfl)
theorem dX1_start_23 : decode cX1_start 23 = .ok (.iload_n 1, 1) := dk_27 (dk_at dksX1_start_0 23 rfl rfl)
theorem dX1_start_24 : decode cX1_start 24 = .ok (.putfield 111, 3) := dk_181 0 111 (dk_at dksX1_start_1 0 rfl rfl)
theorem dX1_start_27 : decode cX1_start 27 = .ok (.aload_n 0, 1) := dk_42 (dk_at dksX1_start_1 3 rfl rfl)
theorem dX1_start_28 : decode cX1_start 28 = .ok (.getfield 10, 3) := dk_180 0 10 (dk_at dksX1_start_1 4 rfl rfl)
theorem dX1_start_31 : decode cX1_start 31 = .ok (.iconst 0, 1) := dk_3 (dk_at dksX1_start_1 7 rfl rfl)
theorem dX1_start_32 : decode cX1_start 32 = .ok (.putfield 114, 3) := dk_181 0 114 (dk_at dksX1_start_1 8 rfl rfl)
theorem dX1_start_35 : decode cX1_start 35 = .ok (.return_, 1) := dk_177 (dk_at dksX1_start_1 11 rfl rfl)
abbrev cX1_about : ByteArray := prog_1_method_20_code
def yX1_about : MethodName := ⟨RX1, "about", "(I)I"⟩
def dkwX1_about_12 : List UInt8 := [182, 0, 184, 172, 187, 0, 55, 89, 183, 0, 57, 191]
abbrev dktX1_about_12 : List UInt8 := dkwX1_about_12 ++ []
def dkwX1_about_11 : List UInt8 := [180, 0, 183, 172, 42, 180, 0, 10, 180, 0, 30, 153, 0, 7, 4, 167, 0, 4, 3, 172, 42, 180, 0, 10]
abbrev dktX1_about_11 : List UInt8 := dkwX1_about_11 ++ dktX1_about_12
def dkwX1_about_10 : List UInt8 := [180, 0, 175, 172, 42, 180, 0, 10, 180, 0, 176, 180, 0, 180, 172, 42, 180, 0, 10, 180, 0, 87]
abbrev dktX1_about_10 : List UInt8 := dkwX1_about_10 ++ dktX1_about_11
def dkwX1_about_9 : List UInt8 := [180, 0, 169, 172, 42, 180, 0, 10, 180, 0, 65, 180, 0, 172, 172, 42, 180, 0, 10, 180, 0, 142]
abbrev dktX1_about_9 : List UInt8 := dkwX1_about_9 ++ dktX1_about_10
def dkwX1_about_8 : List UInt8 := [180, 0, 163, 172, 42, 180, 0, 10, 180, 0, 35, 180, 0, 166, 172, 42, 180, 0, 10, 180, 0, 87]
abbrev dktX1_about_8 : List UInt8 := dkwX1_about_8 ++ dktX1_about_9
def dkwX1_about_7 : List UInt8 := [180, 0, 160, 172, 42, 180, 0, 10, 180, 0, 35, 180, 0, 75, 172, 42, 180, 0, 10, 180, 0, 35]
abbrev dktX1_about_7 : List UInt8 := dkwX1_about_7 ++ dktX1_about_8
def dkwX1_about_6 : List UInt8 := [180, 0, 146, 172, 42, 180, 0, 10, 180, 0, 151, 180, 0, 155, 172, 42, 180, 0, 10, 180, 0, 35]
abbrev dktX1_about_6 : List UInt8 := dkwX1_about_6 ++ dktX1_about_7
def dkwX1_about_5 : List UInt8 := [180, 0, 136, 172, 42, 180, 0, 10, 180, 0, 65, 182, 0, 139, 172, 42, 180, 0, 10, 180, 0, 142]
abbrev dktX1_about_5 : List UInt8 := dkwX1_about_5 ++ dktX1_about_6
def dkwX1_about_4 : List UInt8 := [172, 42, 180, 0, 10, 180, 0, 130, 172, 42, 180, 0, 10, 180, 0, 133, 172, 42, 180, 0, 10, 180, 0, 65]
abbrev dktX1_about_4 : List UInt8 := dkwX1_about_4 ++ dktX1_about_5
def dkwX1_about_3 : List UInt8 := [153, 0, 7, 4, 167, 0, 4, 3, 172, 42, 180, 0, 10, 180, 0, 124, 172, 42, 180, 0, 10, 180, 0, 127]
abbrev dktX1_about_3 : List UInt8 := dkwX1_about_3 ++ dktX1_about_4
def dkwX1_about_2 : List UInt8 := [42, 180, 0, 10, 180, 0, 111, 172, 42, 180, 0, 10, 182, 0, 121, 172, 42, 180, 0, 10, 180, 0, 114]
abbrev dktX1_about_2 : List UInt8 := dkwX1_about_2 ++ dktX1_about_3
def dkwX1_about_1 : List UInt8 := [170, 0, 0, 0, 0, 1, 78, 0, 0, 0, 0, 0, 0, 0, 21, 0, 0, 0, 103, 0, 0, 0, 111, 0, 0, 0, 119, 0, 0, 0, 135, 0, 0, 0, 143, 0, 0, 0, 151, 0, 0, 0, 159, 0, 0, 0, 167, 0, 0, 0, 178, 0, 0, 0, 189, 0, 0, 0, 200, 0, 0, 0, 211, 0, 0, 0, 222, 0, 0, 0, 233, 0, 0, 0, 244, 0, 0, 0, 255, 0, 0, 1, 10, 0, 0, 1, 21, 0, 0, 1, 32, 0, 0, 1, 43, 0, 0, 1, 54, 0, 0, 1, 70]
abbrev dktX1_about_1 : List UInt8 := dkwX1_about_1 ++ dktX1_about_2
def dkwX1_about_0 : List UInt8 := [27]
abbrev dktX1_about_0 : List UInt8 := dkwX1_about_0 ++ dktX1_about_1
theorem dksX1_about_0 : cX1_about.data.toList.drop 0 = dktX1_about_0 := by decide +kernel
theorem dksX1_about_1 : cX1_about.data.toList.drop 1 = dktX1_about_1 := dk_seg dksX1_about_0 1 rfl rfl
theorem dksX1_about_2 : cX1_about.data.toList.drop 104 = dktX1_about_2 := dk_seg dksX1_about_1 103 rfl rfl
theorem dksX1_about_3 : cX1_about.data.toList.drop 127 = dktX1_about_3 := dk_seg dksX1_about_2 23 rfl rfl
theorem dksX1_about_4 : cX1_about.data.toList.drop 151 = dktX1_about_4 := dk_seg dksX1_about_3 24 rfl rfl
theorem dksX1_about_5 : cX1_about.data.toList.drop 175 = dktX1_about_5 := dk_seg dksX1_about_4 24 rfl rfl
theorem dksX1_about_6 : cX1_about.data.toList.drop 197 = dktX1_about_6 := dk_seg dksX1_about_5 22 rfl rfl
theorem dksX1_about_7 : cX1_about.data.toList.drop 219 = dktX1_about_7 := dk_seg dksX1_about_6 22 rfl rfl
theorem dksX1_about_8 : cX1_about.data.toList.drop 241 = dktX1_about_8 := dk_seg dksX1_about_7 22 rfl rfl
theorem dksX1_about_9 : cX1_about.data.toList.drop 263 = dktX1_about_9 := dk_seg dksX1_about_8 22 rfl rfl
theorem dksX1_about_10 : cX1_about.data.toList.drop 285 = dktX1_about_10 := dk_seg dksX1_about_9 22 rfl rfl
theorem dksX1_about_11 : cX1_about.data.toList.drop 307 = dktX1_about_11 := dk_seg dksX1_about_10 22 rfl rfl
theorem dksX1_about_12 : cX1_about.data.toList.drop 331 = dktX1_about_12 := dk_seg dksX1_about_11 24 rfl rfl
theorem dX1_about_0 : decode cX1_about 0 = .ok (.iload_n 1, 1) := dk_27 (dk_at dksX1_about_0 0 rfl rfl)
theorem dX1_about_1 : decode cX1_about 1 = .ok (.tableswitch 334 0 21 #[103, 111, 119, 135, 143, 151, 159, 167, 178, 189, 200, 211, 222, 233, 244, 255, 266, 277, 288, 299, 310, 326], 103) := by decide +kernel
theorem dX1_about_104 : decode cX1_about 104 = .ok (.aload_n 0, 1) := dk_42 (dk_at dksX1_about_2 0 rfl rfl)
theorem dX1_about_105 : decode cX1_about 105 = .ok (.getfield 10, 3) := dk_180 0 10 (dk_at dksX1_about_2 1 rfl rfl)
theorem dX1_about_108 : decode cX1_about 108 = .ok (.getfield 111, 3) := dk_180 0 111 (dk_at dksX1_about_2 4 rfl rfl)
theorem dX1_about_111 : decode cX1_about 111 = .ok (.ireturn, 1) := dk_172 (dk_at dksX1_about_2 7 rfl rfl)
theorem dX1_about_112 : decode cX1_about 112 = .ok (.aload_n 0, 1) := dk_42 (dk_at dksX1_about_2 8 rfl rfl)
theorem dX1_about_113 : decode cX1_about 113 = .ok (.getfield 10, 3) := dk_180 0 10 (dk_at dksX1_about_2 9 rfl rfl)
theorem dX1_about_116 : decode cX1_about 116 = .ok (.invokevirtual 121, 3) := dk_182 0 121 (dk_at dksX1_about_2 12 rfl rfl)
theorem dX1_about_119 : decode cX1_about 119 = .ok (.ireturn, 1) := dk_172 (dk_at dksX1_about_2 15 rfl rfl)
theorem dX1_about_120 : decode cX1_about 120 = .ok (.aload_n 0, 1) := dk_42 (dk_at dksX1_about_2 16 rfl rfl)
theorem dX1_about_121 : decode cX1_about 121 = .ok (.getfield 10, 3) := dk_180 0 10 (dk_at dksX1_about_2 17 rfl rfl)
theorem dX1_about_124 : decode cX1_about 124 = .ok (.getfield 114, 3) := dk_180 0 114 (dk_at dksX1_about_2 20 rfl rfl)
theorem dX1_about_127 : decode cX1_about 127 = .ok (.ifCond .eq 7, 3) := dk_153 0 7 (dk_at dksX1_about_3 0 rfl rfl)
theorem dX1_about_130 : decode cX1_about 130 = .ok (.iconst 1, 1) := dk_4 (dk_at dksX1_about_3 3 rfl rfl)
theorem dX1_about_131 : decode cX1_about 131 = .ok (.goto 4, 3) := dk_167 0 4 (dk_at dksX1_about_3 4 rfl rfl)
theorem dX1_about_134 : decode cX1_about 134 = .ok (.iconst 0, 1) := dk_3 (dk_at dksX1_about_3 7 rfl rfl)
theorem dX1_about_135 : decode cX1_about 135 = .ok (.ireturn, 1) := dk_172 (dk_at dksX1_about_3 8 rfl rfl)
theorem dX1_about_136 : decode cX1_about 136 = .ok (.aload_n 0, 1) := dk_42 (dk_at dksX1_about_3 9 rfl rfl)
theorem dX1_about_137 : decode cX1_about 137 = .ok (.getfield 10, 3) := dk_180 0 10 (dk_at dksX1_about_3 10 rfl rfl)
theorem dX1_about_140 : decode cX1_about 140 = .ok (.getfield 124, 3) := dk_180 0 124 (dk_at dksX1_about_3 13 rfl rfl)
theorem dX1_about_143 : decode cX1_about 143 = .ok (.ireturn, 1) := dk_172 (dk_at dksX1_about_3 16 rfl rfl)
theorem dX1_about_144 : decode cX1_about 144 = .ok (.aload_n 0, 1) := dk_42 (dk_at dksX1_about_3 17 rfl rfl)
theorem dX1_about_145 : decode cX1_about 145 = .ok (.getfield 10, 3) := dk_180 0 10 (dk_at dksX1_about_3 18 rfl rfl)
theorem dX1_about_148 : decode cX1_about 148 = .ok (.getfield 127, 3) := dk_180 0 127 (dk_at dksX1_about_3 21 rfl rfl)
theorem dX1_about_151 : decode cX1_about 151 = .ok (.ireturn, 1) := dk_172 (dk_at dksX1_about_4 0 rfl rfl)
theorem dX1_about_152 : decode cX1_about 152 = .ok (.aload_n 0, 1) := dk_42 (dk_at dksX1_about_4 1 rfl rfl)
theorem dX1_about_153 : decode cX1_about 153 = .ok (.getfield 10, 3) := dk_180 0 10 (dk_at dksX1_about_4 2 rfl rfl)
theorem dX1_about_156 : decode cX1_about 156 = .ok (.getfield 130, 3) := dk_180 0 130 (dk_at dksX1_about_4 5 rfl rfl)
theorem dX1_about_159 : decode cX1_about 159 = .ok (.ireturn, 1) := dk_172 (dk_at dksX1_about_4 8 rfl rfl)
theorem dX1_about_160 : decode cX1_about 160 = .ok (.aload_n 0, 1) := dk_42 (dk_at dksX1_about_4 9 rfl rfl)
theorem dX1_about_161 : decode cX1_about 161 = .ok (.getfield 10, 3) := dk_180 0 10 (dk_at dksX1_about_4 10 rfl rfl)
theorem dX1_about_164 : decode cX1_about 164 = .ok (.getfield 133, 3) := dk_180 0 133 (dk_at dksX1_about_4 13 rfl rfl)
theorem dX1_about_167 : decode cX1_about 167 = .ok (.ireturn, 1) := dk_172 (dk_at dksX1_about_4 16 rfl rfl)
theorem dX1_about_168 : decode cX1_about 168 = .ok (.aload_n 0, 1) := dk_42 (dk_at dksX1_about_4 17 rfl rfl)
theorem dX1_about_169 : decode cX1_about 169 = .ok (.getfield 10, 3) := dk_180 0 10 (dk_at dksX1_about_4 18 rfl rfl)
theorem dX1_about_172 : decode cX1_about 172 = .ok (.getfield 65, 3) := dk_180 0 65 (dk_at dksX1_about_4 21 rfl rfl)
theorem dX1_about_175 : decode cX1_about 175 = .ok (.getfield 136, 3) := dk_180 0 136 (dk_at dksX1_about_5 0 rfl rfl)
theorem dX1_about_178 : decode cX1_about 178 = .ok (.ireturn, 1) := dk_172 (dk_at dksX1_about_5 3 rfl rfl)
theorem dX1_about_179 : decode cX1_about 179 = .ok (.aload_n 0, 1) := dk_42 (dk_at dksX1_about_5 4 rfl rfl)
theorem dX1_about_180 : decode cX1_about 180 = .ok (.getfield 10, 3) := dk_180 0 10 (dk_at dksX1_about_5 5 rfl rfl)
theorem dX1_about_183 : decode cX1_about 183 = .ok (.getfield 65, 3) := dk_180 0 65 (dk_at dksX1_about_5 8 rfl rfl)
theorem dX1_about_186 : decode cX1_about 186 = .ok (.invokevirtual 139, 3) := dk_182 0 139 (dk_at dksX1_about_5 11 rfl rfl)
theorem dX1_about_189 : decode cX1_about 189 = .ok (.ireturn, 1) := dk_172 (dk_at dksX1_about_5 14 rfl rfl)
theorem dX1_about_190 : decode cX1_about 190 = .ok (.aload_n 0, 1) := dk_42 (dk_at dksX1_about_5 15 rfl rfl)
theorem dX1_about_191 : decode cX1_about 191 = .ok (.getfield 10, 3) := dk_180 0 10 (dk_at dksX1_about_5 16 rfl rfl)
theorem dX1_about_194 : decode cX1_about 194 = .ok (.getfield 142, 3) := dk_180 0 142 (dk_at dksX1_about_5 19 rfl rfl)
theorem dX1_about_197 : decode cX1_about 197 = .ok (.getfield 146, 3) := dk_180 0 146 (dk_at dksX1_about_6 0 rfl rfl)
theorem dX1_about_200 : decode cX1_about 200 = .ok (.ireturn, 1) := dk_172 (dk_at dksX1_about_6 3 rfl rfl)
theorem dX1_about_201 : decode cX1_about 201 = .ok (.aload_n 0, 1) := dk_42 (dk_at dksX1_about_6 4 rfl rfl)
theorem dX1_about_202 : decode cX1_about 202 = .ok (.getfield 10, 3) := dk_180 0 10 (dk_at dksX1_about_6 5 rfl rfl)
theorem dX1_about_205 : decode cX1_about 205 = .ok (.getfield 151, 3) := dk_180 0 151 (dk_at dksX1_about_6 8 rfl rfl)
theorem dX1_about_208 : decode cX1_about 208 = .ok (.getfield 155, 3) := dk_180 0 155 (dk_at dksX1_about_6 11 rfl rfl)
theorem dX1_about_211 : decode cX1_about 211 = .ok (.ireturn, 1) := dk_172 (dk_at dksX1_about_6 14 rfl rfl)
theorem dX1_about_212 : decode cX1_about 212 = .ok (.aload_n 0, 1) := dk_42 (dk_at dksX1_about_6 15 rfl rfl)
theorem dX1_about_213 : decode cX1_about 213 = .ok (.getfield 10, 3) := dk_180 0 10 (dk_at dksX1_about_6 16 rfl rfl)
theorem dX1_about_216 : decode cX1_about 216 = .ok (.getfield 35, 3) := dk_180 0 35 (dk_at dksX1_about_6 19 rfl rfl)
theorem dX1_about_219 : decode cX1_about 219 = .ok (.getfield 160, 3) := dk_180 0 160 (dk_at dksX1_about_7 0 rfl rfl)
theorem dX1_about_222 : decode cX1_about 222 = .ok (.ireturn, 1) := dk_172 (dk_at dksX1_about_7 3 rfl rfl)
theorem dX1_about_223 : decode cX1_about 223 = .ok (.aload_n 0, 1) := dk_42 (dk_at dksX1_about_7 4 rfl rfl)
theorem dX1_about_224 : decode cX1_about 224 = .ok (.getfield 10, 3) := dk_180 0 10 (dk_at dksX1_about_7 5 rfl rfl)
theorem dX1_about_227 : decode cX1_about 227 = .ok (.getfield 35, 3) := dk_180 0 35 (dk_at dksX1_about_7 8 rfl rfl)
theorem dX1_about_230 : decode cX1_about 230 = .ok (.getfield 75, 3) := dk_180 0 75 (dk_at dksX1_about_7 11 rfl rfl)
theorem dX1_about_233 : decode cX1_about 233 = .ok (.ireturn, 1) := dk_172 (dk_at dksX1_about_7 14 rfl rfl)
theorem dX1_about_234 : decode cX1_about 234 = .ok (.aload_n 0, 1) := dk_42 (dk_at dksX1_about_7 15 rfl rfl)
theorem dX1_about_235 : decode cX1_about 235 = .ok (.getfield 10, 3) := dk_180 0 10 (dk_at dksX1_about_7 16 rfl rfl)
theorem dX1_about_238 : decode cX1_about 238 = .ok (.getfield 35, 3) := dk_180 0 35 (dk_at dksX1_about_7 19 rfl rfl)
theorem dX1_about_241 : decode cX1_about 241 = .ok (.getfield 163, 3) := dk_180 0 163 (dk_at dksX1_about_8 0 rfl rfl)
theorem dX1_about_244 : decode cX1_about 244 = .ok (.ireturn, 1) := dk_172 (dk_at dksX1_about_8 3 rfl rfl)
theorem dX1_about_245 : decode cX1_about 245 = .ok (.aload_n 0, 1) := dk_42 (dk_at dksX1_about_8 4 rfl rfl)
theorem dX1_about_246 : decode cX1_about 246 = .ok (.getfield 10, 3) := dk_180 0 10 (dk_at dksX1_about_8 5 rfl rfl)
theorem dX1_about_249 : decode cX1_about 249 = .ok (.getfield 35, 3) := dk_180 0 35 (dk_at dksX1_about_8 8 rfl rfl)
theorem dX1_about_252 : decode cX1_about 252 = .ok (.getfield 166, 3) := dk_180 0 166 (dk_at dksX1_about_8 11 rfl rfl)
theorem dX1_about_255 : decode cX1_about 255 = .ok (.ireturn, 1) := dk_172 (dk_at dksX1_about_8 14 rfl rfl)
theorem dX1_about_256 : decode cX1_about 256 = .ok (.aload_n 0, 1) := dk_42 (dk_at dksX1_about_8 15 rfl rfl)
theorem dX1_about_257 : decode cX1_about 257 = .ok (.getfield 10, 3) := dk_180 0 10 (dk_at dksX1_about_8 16 rfl rfl)
theorem dX1_about_260 : decode cX1_about 260 = .ok (.getfield 87, 3) := dk_180 0 87 (dk_at dksX1_about_8 19 rfl rfl)
theorem dX1_about_263 : decode cX1_about 263 = .ok (.getfield 169, 3) := dk_180 0 169 (dk_at dksX1_about_9 0 rfl rfl)
theorem dX1_about_266 : decode cX1_about 266 = .ok (.ireturn, 1) := dk_172 (dk_at dksX1_about_9 3 rfl rfl)
theorem dX1_about_267 : decode cX1_about 267 = .ok (.aload_n 0, 1) := dk_42 (dk_at dksX1_about_9 4 rfl rfl)
theorem dX1_about_268 : decode cX1_about 268 = .ok (.getfield 10, 3) := dk_180 0 10 (dk_at dksX1_about_9 5 rfl rfl)
theorem dX1_about_271 : decode cX1_about 271 = .ok (.getfield 65, 3) := dk_180 0 65 (dk_at dksX1_about_9 8 rfl rfl)
theorem dX1_about_274 : decode cX1_about 274 = .ok (.getfield 172, 3) := dk_180 0 172 (dk_at dksX1_about_9 11 rfl rfl)
theorem dX1_about_277 : decode cX1_about 277 = .ok (.ireturn, 1) := dk_172 (dk_at dksX1_about_9 14 rfl rfl)
theorem dX1_about_278 : decode cX1_about 278 = .ok (.aload_n 0, 1) := dk_42 (dk_at dksX1_about_9 15 rfl rfl)
theorem dX1_about_279 : decode cX1_about 279 = .ok (.getfield 10, 3) := dk_180 0 10 (dk_at dksX1_about_9 16 rfl rfl)
theorem dX1_about_282 : decode cX1_about 282 = .ok (.getfield 142, 3) := dk_180 0 142 (dk_at dksX1_about_9 19 rfl rfl)
theorem dX1_about_285 : decode cX1_about 285 = .ok (.getfield 175, 3) := dk_180 0 175 (dk_at dksX1_about_10 0 rfl rfl)
theorem dX1_about_288 : decode cX1_about 288 = .ok (.ireturn, 1) := dk_172 (dk_at dksX1_about_10 3 rfl rfl)
theorem dX1_about_289 : decode cX1_about 289 = .ok (.aload_n 0, 1) := dk_42 (dk_at dksX1_about_10 4 rfl rfl)
theorem dX1_about_290 : decode cX1_about 290 = .ok (.getfield 10, 3) := dk_180 0 10 (dk_at dksX1_about_10 5 rfl rfl)
theorem dX1_about_293 : decode cX1_about 293 = .ok (.getfield 176, 3) := dk_180 0 176 (dk_at dksX1_about_10 8 rfl rfl)
theorem dX1_about_296 : decode cX1_about 296 = .ok (.getfield 180, 3) := dk_180 0 180 (dk_at dksX1_about_10 11 rfl rfl)
theorem dX1_about_299 : decode cX1_about 299 = .ok (.ireturn, 1) := dk_172 (dk_at dksX1_about_10 14 rfl rfl)
theorem dX1_about_300 : decode cX1_about 300 = .ok (.aload_n 0, 1) := dk_42 (dk_at dksX1_about_10 15 rfl rfl)
theorem dX1_about_301 : decode cX1_about 301 = .ok (.getfield 10, 3) := dk_180 0 10 (dk_at dksX1_about_10 16 rfl rfl)
theorem dX1_about_304 : decode cX1_about 304 = .ok (.getfield 87, 3) := dk_180 0 87 (dk_at dksX1_about_10 19 rfl rfl)
theorem dX1_about_307 : decode cX1_about 307 = .ok (.getfield 183, 3) := dk_180 0 183 (dk_at dksX1_about_11 0 rfl rfl)
theorem dX1_about_310 : decode cX1_about 310 = .ok (.ireturn, 1) := dk_172 (dk_at dksX1_about_11 3 rfl rfl)
theorem dX1_about_311 : decode cX1_about 311 = .ok (.aload_n 0, 1) := dk_42 (dk_at dksX1_about_11 4 rfl rfl)
theorem dX1_about_312 : decode cX1_about 312 = .ok (.getfield 10, 3) := dk_180 0 10 (dk_at dksX1_about_11 5 rfl rfl)
theorem dX1_about_315 : decode cX1_about 315 = .ok (.getfield 30, 3) := dk_180 0 30 (dk_at dksX1_about_11 8 rfl rfl)
theorem dX1_about_318 : decode cX1_about 318 = .ok (.ifCond .eq 7, 3) := dk_153 0 7 (dk_at dksX1_about_11 11 rfl rfl)
theorem dX1_about_321 : decode cX1_about 321 = .ok (.iconst 1, 1) := dk_4 (dk_at dksX1_about_11 14 rfl rfl)
theorem dX1_about_322 : decode cX1_about 322 = .ok (.goto 4, 3) := dk_167 0 4 (dk_at dksX1_about_11 15 rfl rfl)
theorem dX1_about_325 : decode cX1_about 325 = .ok (.iconst 0, 1) := dk_3 (dk_at dksX1_about_11 18 rfl rfl)
theorem dX1_about_326 : decode cX1_about 326 = .ok (.ireturn, 1) := dk_172 (dk_at dksX1_about_11 19 rfl rfl)
theorem dX1_about_327 : decode cX1_about 327 = .ok (.aload_n 0, 1) := dk_42 (dk_at dksX1_about_11 20 rfl rfl)
theorem dX1_about_328 : decode cX1_about 328 = .ok (.getfield 10, 3) := dk_180 0 10 (dk_at dksX1_about_11 21 rfl rfl)
theorem dX1_about_331 : decode cX1_about 331 = .ok (.invokevirtual 184, 3) := dk_182 0 184 (dk_at dksX1_about_12 0 rfl rfl)
theorem dX1_about_334 : decode cX1_about 334 = .ok (.ireturn, 1) := dk_172 (dk_at dksX1_about_12 3 rfl rfl)
theorem dX1_about_335 : decode cX1_about 335 = .ok (.new 55, 3) := dk_187 0 55 (dk_at dksX1_about_12 4 rfl rfl)
theorem dX1_about_338 : decode cX1_about 338 = .ok (.dup, 1) := dk_89 (dk_at dksX1_about_12 7 rfl rfl)
theorem dX1_about_339 : decode cX1_about 339 = .ok (.invokespecial 57, 3) := dk_183 0 57 (dk_at dksX1_about_12 8 rfl rfl)
theorem dX1_about_342 : decode cX1_about 342 = .ok (.athrow, 1) := dk_191 (dk_at dksX1_about_12 11 rfl rfl)
theorem q106 : (Jvm.Cond.initialized "FlashBoard") ∈ lw_all := lw_g (lw_at lw_m1 1 rfl) rfl
theorem q132 : (Jvm.Cond.instantiable "FlashBoard" (1 : Nat)) ∈ lw_all := lw_g (lw_at lw_m1 27 rfl) rfl
theorem q134 : (Jvm.Cond.instanceMethod ({ cls := "FlashBoard", name := "<init>", desc := "()V" } : Jvm.MethodName)) ∈ lw_all := lw_g (lw_at lw_m1 29 rfl) rfl
theorem q135 : (Jvm.Cond.code ({ cls := "FlashBoard", name := "<init>", desc := "()V" } : Jvm.MethodName) prog_1_method_1_code (1 : Nat) (Option.none : Option Jvm.ClassFile.FieldType)) ∈ lw_all := lw_g (lw_at lw_m1 30 rfl) rfl
theorem q136 : (Jvm.Cond.methodLink "FlashBoard" (1 : Nat) ({ cls := "java/lang/Object", name := "<init>", desc := "()V" } : Jvm.MethodName)) ∈ lw_all := lw_g (lw_at lw_m1 31 rfl) rfl
theorem q139 : (Jvm.Cond.classLink "FlashBoard" (7 : Nat) "FlashBoard$Core") ∈ lw_all := lw_g (lw_at lw_m1 34 rfl) rfl
theorem q141 : (Jvm.Cond.methodLink "FlashBoard" (9 : Nat) ({ cls := "FlashBoard$Core", name := "<init>", desc := "()V" } : Jvm.MethodName)) ∈ lw_all := lw_g (lw_at lw_m1 36 rfl) rfl
theorem q157 : (Jvm.Cond.fieldLinkNest "FlashBoard" (100 : Nat) "FlashBoard$Port" "pins" "I" "FlashBoard") ∈ lw_tbl := lw_at lw_m1 52 rfl
theorem q186 : (Jvm.Cond.fieldLinkNest "FlashBoard" (155 : Nat) "FlashBoard$Timer" "prescaler" "I" "FlashBoard") ∈ lw_tbl := lw_at lw_m1 81 rfl
theorem q200 : (Jvm.Cond.fieldLinkNest "FlashBoard" (163 : Nat) "FlashBoard$Line" "sending" "I" "FlashBoard") ∈ lw_tbl := lw_at lw_m1 95 rfl
theorem q203 : (Jvm.Cond.fieldLinkNest "FlashBoard" (166 : Nat) "FlashBoard$Line" "coming" "I" "FlashBoard") ∈ lw_tbl := lw_at lw_m1 98 rfl
theorem q205 : (Jvm.Cond.fieldLinkNest "FlashBoard" (78 : Nat) "FlashBoard$Line" "first" "I" "FlashBoard") ∈ lw_tbl := lw_at lw_m1 100 rfl
theorem q208 : (Jvm.Cond.fieldLinkNest "FlashBoard" (75 : Nat) "FlashBoard$Line" "received" "I" "FlashBoard") ∈ lw_tbl := lw_at lw_m1 103 rfl
theorem q215 : (Jvm.Cond.fieldLinkNest "FlashBoard" (58 : Nat) "FlashBoard$Line" "kept" "[I" "FlashBoard") ∈ lw_tbl := lw_at lw_m1 110 rfl
theorem q218 : (Jvm.Cond.fieldLinkNest "FlashBoard" (160 : Nat) "FlashBoard$Line" "many" "I" "FlashBoard") ∈ lw_tbl := lw_at lw_m1 113 rfl
theorem q220 : (Jvm.Cond.fieldLinkNest "FlashBoard" (45 : Nat) "FlashBoard$Line" "had" "I" "FlashBoard") ∈ lw_tbl := lw_at lw_m1 115 rfl
theorem q262 : (Jvm.Cond.fieldLinkNest "FlashBoard" (91 : Nat) "FlashBoard$Eeprom" "bytes" "[I" "FlashBoard") ∈ lw_tbl := lw_at lw_m1 157 rfl
theorem q264 : (Jvm.Cond.fieldLinkNest "FlashBoard" (183 : Nat) "FlashBoard$Eeprom" "window" "I" "FlashBoard") ∈ lw_tbl := lw_at lw_m1 159 rfl
theorem q266 : (Jvm.Cond.fieldLinkNest "FlashBoard" (169 : Nat) "FlashBoard$Eeprom" "writes" "I" "FlashBoard") ∈ lw_tbl := lw_at lw_m1 161 rfl
theorem q283 : (Jvm.Cond.fieldLinkNest "FlashBoard" (175 : Nat) "FlashBoard$Watchdog" "window" "I" "FlashBoard") ∈ lw_tbl := lw_at lw_m1 178 rfl
theorem q285 : (Jvm.Cond.fieldLinkNest "FlashBoard" (146 : Nat) "FlashBoard$Watchdog" "count" "I" "FlashBoard") ∈ lw_tbl := lw_at lw_m1 180 rfl
theorem q300 : (Jvm.Cond.fieldLinkNest "FlashBoard" (180 : Nat) "FlashBoard$Causes" "window" "I" "FlashBoard") ∈ lw_tbl := lw_at lw_m1 195 rfl
theorem q423 : (Jvm.Cond.fieldLinkNest "FlashBoard" (69 : Nat) "FlashBoard$Flash" "words" "[C" "FlashBoard") ∈ lw_tbl := lw_at lw_m2 78 rfl
theorem q426 : (Jvm.Cond.fieldLinkNest "FlashBoard" (172 : Nat) "FlashBoard$Flash" "window" "I" "FlashBoard") ∈ lw_tbl := lw_at lw_m2 81 rfl
theorem q428 : (Jvm.Cond.fieldLinkNest "FlashBoard" (136 : Nat) "FlashBoard$Flash" "busy" "I" "FlashBoard") ∈ lw_tbl := lw_at lw_m2 83 rfl
theorem q430 : (Jvm.Cond.fieldLinkNest "FlashBoard" (105 : Nat) "FlashBoard$Flash" "locks" "I" "FlashBoard") ∈ lw_tbl := lw_at lw_m2 85 rfl
theorem q433 : (Jvm.Cond.fieldLinkNest "FlashBoard" (108 : Nat) "FlashBoard$Flash" "fuse" "I" "FlashBoard") ∈ lw_tbl := lw_at lw_m2 88 rfl
theorem q497 : (Jvm.Cond.fieldLinkNest "FlashBoard" (84 : Nat) "FlashBoard$Core" "data" "[I" "FlashBoard") ∈ lw_tbl := lw_at lw_m2 152 rfl
theorem q500 : (Jvm.Cond.fieldLinkNest "FlashBoard" (96 : Nat) "FlashBoard$Core" "port" "LFlashBoard$Port;" "FlashBoard") ∈ lw_tbl := lw_at lw_m2 155 rfl
theorem q502 : (Jvm.Cond.fieldLinkNest "FlashBoard" (151 : Nat) "FlashBoard$Core" "timer" "LFlashBoard$Timer;" "FlashBoard") ∈ lw_tbl := lw_at lw_m2 157 rfl
theorem q504 : (Jvm.Cond.fieldLinkNest "FlashBoard" (35 : Nat) "FlashBoard$Core" "line" "LFlashBoard$Line;" "FlashBoard") ∈ lw_tbl := lw_at lw_m2 159 rfl
theorem q506 : (Jvm.Cond.fieldLinkNest "FlashBoard" (87 : Nat) "FlashBoard$Core" "eeprom" "LFlashBoard$Eeprom;" "FlashBoard") ∈ lw_tbl := lw_at lw_m2 161 rfl
theorem q508 : (Jvm.Cond.fieldLinkNest "FlashBoard" (142 : Nat) "FlashBoard$Core" "watchdog" "LFlashBoard$Watchdog;" "FlashBoard") ∈ lw_tbl := lw_at lw_m2 163 rfl
theorem q510 : (Jvm.Cond.fieldLinkNest "FlashBoard" (176 : Nat) "FlashBoard$Core" "causes" "LFlashBoard$Causes;" "FlashBoard") ∈ lw_tbl := lw_at lw_m2 165 rfl
theorem q512 : (Jvm.Cond.fieldLinkNest "FlashBoard" (65 : Nat) "FlashBoard$Core" "flash" "LFlashBoard$Flash;" "FlashBoard") ∈ lw_tbl := lw_at lw_m2 167 rfl
theorem q514 : (Jvm.Cond.fieldLinkNest "FlashBoard" (111 : Nat) "FlashBoard$Core" "pc" "I" "FlashBoard") ∈ lw_tbl := lw_at lw_m2 169 rfl
theorem q518 : (Jvm.Cond.fieldLinkNest "FlashBoard" (124 : Nat) "FlashBoard$Core" "cycles" "I" "FlashBoard") ∈ lw_tbl := lw_at lw_m2 173 rfl
theorem q520 : (Jvm.Cond.fieldLinkNest "FlashBoard" (127 : Nat) "FlashBoard$Core" "steps" "I" "FlashBoard") ∈ lw_tbl := lw_at lw_m2 175 rfl
theorem q522 : (Jvm.Cond.fieldLinkNest "FlashBoard" (130 : Nat) "FlashBoard$Core" "entries" "I" "FlashBoard") ∈ lw_tbl := lw_at lw_m2 177 rfl
theorem q524 : (Jvm.Cond.fieldLinkNest "FlashBoard" (133 : Nat) "FlashBoard$Core" "resets" "I" "FlashBoard") ∈ lw_tbl := lw_at lw_m2 179 rfl
theorem q527 : (Jvm.Cond.fieldLinkNest "FlashBoard" (114 : Nat) "FlashBoard$Core" "sleeps" "Z" "FlashBoard") ∈ lw_tbl := lw_at lw_m2 182 rfl
theorem q532 : (Jvm.Cond.fieldLinkNest "FlashBoard" (30 : Nat) "FlashBoard$Core" "hasPower" "Z" "FlashBoard") ∈ lw_tbl := lw_at lw_m2 187 rfl
theorem q572 : (Jvm.Cond.fieldLink "FlashBoard" (10 : Nat) "FlashBoard" "core" "LFlashBoard$Core;") ∈ lw_all := lw_g (lw_at lw_m2 227 rfl) rfl
theorem q573 : (Jvm.Cond.laysFinal "FlashBoard" "FlashBoard" "core" "LFlashBoard$Core;") ∈ lw_all := lw_g (lw_at lw_m2 228 rfl) rfl
theorem q574 : (Jvm.Cond.soleField "FlashBoard" "core") ∈ lw_all := lw_g (lw_at lw_m2 229 rfl) rfl
theorem q575 : (Jvm.Cond.superclass "FlashBoard" "java/lang/Object") ∈ lw_all := lw_g (lw_at lw_m2 230 rfl) rfl
theorem q577 : (Jvm.Cond.instanceMethod ({ cls := "FlashBoard", name := "step", desc := "()I" } : Jvm.MethodName)) ∈ lw_all := lw_g (lw_at lw_m2 232 rfl) rfl
theorem q578 : (Jvm.Cond.selects "FlashBoard" ({ cls := "FlashBoard", name := "step", desc := "()I" } : Jvm.MethodName) ({ cls := "FlashBoard", name := "step", desc := "()I" } : Jvm.MethodName)) ∈ lw_all := lw_g (lw_at lw_m2 233 rfl) rfl
theorem q579 : (Jvm.Cond.code ({ cls := "FlashBoard", name := "step", desc := "()I" } : Jvm.MethodName) prog_1_method_4_code (1 : Nat) (Option.some Jvm.ClassFile.FieldType.int)) ∈ lw_all := lw_g (lw_at lw_m2 234 rfl) rfl
theorem q580 : (Jvm.Cond.methodLink "FlashBoard" (22 : Nat) ({ cls := "FlashBoard$Core", name := "step", desc := "()I" } : Jvm.MethodName)) ∈ lw_all := lw_g (lw_at lw_m2 235 rfl) rfl
theorem q874 : (Jvm.Cond.instanceMethod ({ cls := "FlashBoard", name := "host", desc := "(I)I" } : Jvm.MethodName)) ∈ lw_all := lw_g (lw_at lw_m4 49 rfl) rfl
theorem q875 : (Jvm.Cond.selects "FlashBoard" ({ cls := "FlashBoard", name := "host", desc := "(I)I" } : Jvm.MethodName) ({ cls := "FlashBoard", name := "host", desc := "(I)I" } : Jvm.MethodName)) ∈ lw_all := lw_g (lw_at lw_m4 50 rfl) rfl
theorem q876 : (Jvm.Cond.code ({ cls := "FlashBoard", name := "host", desc := "(I)I" } : Jvm.MethodName) prog_1_method_7_code (2 : Nat) (Option.some Jvm.ClassFile.FieldType.int)) ∈ lw_all := lw_g (lw_at lw_m4 51 rfl) rfl
theorem q877 : (Jvm.Cond.methodLink "FlashBoard" (39 : Nat) ({ cls := "FlashBoard$Line", name := "add", desc := "(I)I" } : Jvm.MethodName)) ∈ lw_all := lw_g (lw_at lw_m4 52 rfl) rfl
theorem q882 : (Jvm.Cond.instanceMethod ({ cls := "FlashBoard", name := "sent", desc := "()I" } : Jvm.MethodName)) ∈ lw_all := lw_g (lw_at lw_m4 57 rfl) rfl
theorem q883 : (Jvm.Cond.selects "FlashBoard" ({ cls := "FlashBoard", name := "sent", desc := "()I" } : Jvm.MethodName) ({ cls := "FlashBoard", name := "sent", desc := "()I" } : Jvm.MethodName)) ∈ lw_all := lw_g (lw_at lw_m4 58 rfl) rfl
theorem q884 : (Jvm.Cond.code ({ cls := "FlashBoard", name := "sent", desc := "()I" } : Jvm.MethodName) prog_1_method_8_code (1 : Nat) (Option.some Jvm.ClassFile.FieldType.int)) ∈ lw_all := lw_g (lw_at lw_m4 59 rfl) rfl
theorem q886 : (Jvm.Cond.instanceMethod ({ cls := "FlashBoard", name := "pins", desc := "(I)I" } : Jvm.MethodName)) ∈ lw_all := lw_g (lw_at lw_m4 61 rfl) rfl
theorem q887 : (Jvm.Cond.selects "FlashBoard" ({ cls := "FlashBoard", name := "pins", desc := "(I)I" } : Jvm.MethodName) ({ cls := "FlashBoard", name := "pins", desc := "(I)I" } : Jvm.MethodName)) ∈ lw_all := lw_g (lw_at lw_m4 62 rfl) rfl
theorem q888 : (Jvm.Cond.code ({ cls := "FlashBoard", name := "pins", desc := "(I)I" } : Jvm.MethodName) prog_1_method_15_code (3 : Nat) (Option.some Jvm.ClassFile.FieldType.int)) ∈ lw_all := lw_g (lw_at lw_m4 63 rfl) rfl
theorem q890 : (Jvm.Cond.instanceMethod ({ cls := "FlashBoard", name := "fuses", desc := "(I)I" } : Jvm.MethodName)) ∈ lw_all := lw_g (lw_at lw_m4 65 rfl) rfl
theorem q891 : (Jvm.Cond.selects "FlashBoard" ({ cls := "FlashBoard", name := "fuses", desc := "(I)I" } : Jvm.MethodName) ({ cls := "FlashBoard", name := "fuses", desc := "(I)I" } : Jvm.MethodName)) ∈ lw_all := lw_g (lw_at lw_m4 66 rfl) rfl
theorem q892 : (Jvm.Cond.code ({ cls := "FlashBoard", name := "fuses", desc := "(I)I" } : Jvm.MethodName) prog_1_method_16_code (3 : Nat) (Option.some Jvm.ClassFile.FieldType.int)) ∈ lw_all := lw_g (lw_at lw_m4 67 rfl) rfl
theorem q894 : (Jvm.Cond.instanceMethod ({ cls := "FlashBoard", name := "reset", desc := "()V" } : Jvm.MethodName)) ∈ lw_all := lw_g (lw_at lw_m4 69 rfl) rfl
theorem q895 : (Jvm.Cond.selects "FlashBoard" ({ cls := "FlashBoard", name := "reset", desc := "()V" } : Jvm.MethodName) ({ cls := "FlashBoard", name := "reset", desc := "()V" } : Jvm.MethodName)) ∈ lw_all := lw_g (lw_at lw_m4 70 rfl) rfl
theorem q896 : (Jvm.Cond.code ({ cls := "FlashBoard", name := "reset", desc := "()V" } : Jvm.MethodName) prog_1_method_18_code (1 : Nat) (Option.none : Option Jvm.ClassFile.FieldType)) ∈ lw_all := lw_g (lw_at lw_m4 71 rfl) rfl
theorem q897 : (Jvm.Cond.methodLink "FlashBoard" (117 : Nat) ({ cls := "FlashBoard$Core", name := "reset", desc := "(I)V" } : Jvm.MethodName)) ∈ lw_all := lw_g (lw_at lw_m4 72 rfl) rfl
theorem q899 : (Jvm.Cond.instanceMethod ({ cls := "FlashBoard", name := "power", desc := "(Z)Z" } : Jvm.MethodName)) ∈ lw_all := lw_g (lw_at lw_m4 74 rfl) rfl
theorem q900 : (Jvm.Cond.selects "FlashBoard" ({ cls := "FlashBoard", name := "power", desc := "(Z)Z" } : Jvm.MethodName) ({ cls := "FlashBoard", name := "power", desc := "(Z)Z" } : Jvm.MethodName)) ∈ lw_all := lw_g (lw_at lw_m4 75 rfl) rfl
theorem q901 : (Jvm.Cond.code ({ cls := "FlashBoard", name := "power", desc := "(Z)Z" } : Jvm.MethodName) prog_1_method_19_code (3 : Nat) (Option.some Jvm.ClassFile.FieldType.boolean)) ∈ lw_all := lw_g (lw_at lw_m4 76 rfl) rfl
theorem q907 : (Jvm.Cond.instanceMethod ({ cls := "FlashBoard", name := "run", desc := "(I)I" } : Jvm.MethodName)) ∈ lw_all := lw_g (lw_at lw_m4 82 rfl) rfl
theorem q908 : (Jvm.Cond.selects "FlashBoard" ({ cls := "FlashBoard", name := "run", desc := "(I)I" } : Jvm.MethodName) ({ cls := "FlashBoard", name := "run", desc := "(I)I" } : Jvm.MethodName)) ∈ lw_all := lw_g (lw_at lw_m4 83 rfl) rfl
theorem q909 : (Jvm.Cond.code ({ cls := "FlashBoard", name := "run", desc := "(I)I" } : Jvm.MethodName) prog_1_method_5_code (4 : Nat) (Option.some Jvm.ClassFile.FieldType.int)) ∈ lw_all := lw_g (lw_at lw_m4 84 rfl) rfl
theorem q910 : (Jvm.Cond.methodLink "FlashBoard" (26 : Nat) ({ cls := "FlashBoard", name := "right", desc := "(Z)V" } : Jvm.MethodName)) ∈ lw_all := lw_g (lw_at lw_m4 85 rfl) rfl
theorem q911 : (Jvm.Cond.static ({ cls := "FlashBoard", name := "right", desc := "(Z)V" } : Jvm.MethodName)) ∈ lw_all := lw_g (lw_at lw_m4 86 rfl) rfl
theorem q912 : (Jvm.Cond.code ({ cls := "FlashBoard", name := "right", desc := "(Z)V" } : Jvm.MethodName) prog_1_method_2_code (1 : Nat) (Option.none : Option Jvm.ClassFile.FieldType)) ∈ lw_all := lw_g (lw_at lw_m4 87 rfl) rfl
theorem q913 : (Jvm.Cond.classLink "FlashBoard" (16 : Nat) "java/lang/IllegalArgumentException") ∈ lw_all := lw_g (lw_at lw_m4 88 rfl) rfl
theorem q955 : (Jvm.Cond.methodLink "FlashBoard" (18 : Nat) ({ cls := "java/lang/IllegalArgumentException", name := "<init>", desc := "()V" } : Jvm.MethodName)) ∈ lw_all := lw_g (lw_at lw_m4 130 rfl) rfl
theorem q982 : (Jvm.Cond.instanceMethod ({ cls := "FlashBoard", name := "pass", desc := "(I)I" } : Jvm.MethodName)) ∈ lw_all := lw_g (lw_at lw_m4 157 rfl) rfl
theorem q983 : (Jvm.Cond.selects "FlashBoard" ({ cls := "FlashBoard", name := "pass", desc := "(I)I" } : Jvm.MethodName) ({ cls := "FlashBoard", name := "pass", desc := "(I)I" } : Jvm.MethodName)) ∈ lw_all := lw_g (lw_at lw_m4 158 rfl) rfl
theorem q984 : (Jvm.Cond.code ({ cls := "FlashBoard", name := "pass", desc := "(I)I" } : Jvm.MethodName) prog_1_method_6_code (3 : Nat) (Option.some Jvm.ClassFile.FieldType.int)) ∈ lw_all := lw_g (lw_at lw_m4 159 rfl) rfl
theorem q985 : (Jvm.Cond.constant "FlashBoard" (34 : Nat) (200000 : Int32)) ∈ lw_all := lw_g (lw_at lw_m4 160 rfl) rfl
theorem q991 : (Jvm.Cond.instanceMethod ({ cls := "FlashBoard", name := "got", desc := "(I)I" } : Jvm.MethodName)) ∈ lw_all := lw_g (lw_at lw_m4 166 rfl) rfl
theorem q992 : (Jvm.Cond.selects "FlashBoard" ({ cls := "FlashBoard", name := "got", desc := "(I)I" } : Jvm.MethodName) ({ cls := "FlashBoard", name := "got", desc := "(I)I" } : Jvm.MethodName)) ∈ lw_all := lw_g (lw_at lw_m4 167 rfl) rfl
theorem q993 : (Jvm.Cond.code ({ cls := "FlashBoard", name := "got", desc := "(I)I" } : Jvm.MethodName) prog_1_method_9_code (2 : Nat) (Option.some Jvm.ClassFile.FieldType.int)) ∈ lw_all := lw_g (lw_at lw_m4 168 rfl) rfl
theorem q994 : (Jvm.Cond.methodLink "FlashBoard" (49 : Nat) ({ cls := "java/lang/Math", name := "min", desc := "(II)I" } : Jvm.MethodName)) ∈ lw_all := lw_g (lw_at lw_m4 169 rfl) rfl
theorem q995 : (Jvm.Cond.classLink "FlashBoard" (55 : Nat) "java/util/NoSuchElementException") ∈ lw_all := lw_g (lw_at lw_m4 170 rfl) rfl
theorem q1004 : (Jvm.Cond.methodLink "FlashBoard" (57 : Nat) ({ cls := "java/util/NoSuchElementException", name := "<init>", desc := "()V" } : Jvm.MethodName)) ∈ lw_all := lw_g (lw_at lw_m4 179 rfl) rfl
theorem q1047 : (Jvm.Cond.instanceMethod ({ cls := "FlashBoard", name := "burn", desc := "(IIIIII)I" } : Jvm.MethodName)) ∈ lw_all := lw_g (lw_at lw_m4 222 rfl) rfl
theorem q1048 : (Jvm.Cond.selects "FlashBoard" ({ cls := "FlashBoard", name := "burn", desc := "(IIIIII)I" } : Jvm.MethodName) ({ cls := "FlashBoard", name := "burn", desc := "(IIIIII)I" } : Jvm.MethodName)) ∈ lw_all := lw_g (lw_at lw_m4 223 rfl) rfl
theorem q1049 : (Jvm.Cond.code ({ cls := "FlashBoard", name := "burn", desc := "(IIIIII)I" } : Jvm.MethodName) prog_1_method_10_code (10 : Nat) (Option.some Jvm.ClassFile.FieldType.int)) ∈ lw_all := lw_g (lw_at lw_m4 224 rfl) rfl
theorem q1050 : (Jvm.Cond.methodLink "FlashBoard" (62 : Nat) ({ cls := "FlashBoard", name := "there", desc := "(Z)V" } : Jvm.MethodName)) ∈ lw_all := lw_g (lw_at lw_m4 225 rfl) rfl
theorem q1051 : (Jvm.Cond.static ({ cls := "FlashBoard", name := "there", desc := "(Z)V" } : Jvm.MethodName)) ∈ lw_all := lw_g (lw_at lw_m4 226 rfl) rfl
theorem q1052 : (Jvm.Cond.code ({ cls := "FlashBoard", name := "there", desc := "(Z)V" } : Jvm.MethodName) prog_1_method_3_code (1 : Nat) (Option.none : Option Jvm.ClassFile.FieldType)) ∈ lw_all := lw_g (lw_at lw_m4 227 rfl) rfl
theorem q1053 : (Jvm.Cond.classLink "FlashBoard" (19 : Nat) "java/lang/IndexOutOfBoundsException") ∈ lw_all := lw_g (lw_at lw_m4 228 rfl) rfl
theorem q1062 : (Jvm.Cond.methodLink "FlashBoard" (21 : Nat) ({ cls := "java/lang/IndexOutOfBoundsException", name := "<init>", desc := "()V" } : Jvm.MethodName)) ∈ lw_all := lw_g (lw_at lw_m4 237 rfl) rfl
theorem q1072 : (Jvm.Cond.instanceMethod ({ cls := "FlashBoard", name := "word", desc := "(I)I" } : Jvm.MethodName)) ∈ lw_all := lw_g (lw_at lw_m5 7 rfl) rfl
theorem q1073 : (Jvm.Cond.selects "FlashBoard" ({ cls := "FlashBoard", name := "word", desc := "(I)I" } : Jvm.MethodName) ({ cls := "FlashBoard", name := "word", desc := "(I)I" } : Jvm.MethodName)) ∈ lw_all := lw_g (lw_at lw_m5 8 rfl) rfl
theorem q1074 : (Jvm.Cond.code ({ cls := "FlashBoard", name := "word", desc := "(I)I" } : Jvm.MethodName) prog_1_method_11_code (2 : Nat) (Option.some Jvm.ClassFile.FieldType.int)) ∈ lw_all := lw_g (lw_at lw_m5 9 rfl) rfl
theorem q1079 : (Jvm.Cond.instanceMethod ({ cls := "FlashBoard", name := "data", desc := "(I)I" } : Jvm.MethodName)) ∈ lw_all := lw_g (lw_at lw_m5 14 rfl) rfl
theorem q1080 : (Jvm.Cond.selects "FlashBoard" ({ cls := "FlashBoard", name := "data", desc := "(I)I" } : Jvm.MethodName) ({ cls := "FlashBoard", name := "data", desc := "(I)I" } : Jvm.MethodName)) ∈ lw_all := lw_g (lw_at lw_m5 15 rfl) rfl
theorem q1081 : (Jvm.Cond.code ({ cls := "FlashBoard", name := "data", desc := "(I)I" } : Jvm.MethodName) prog_1_method_12_code (2 : Nat) (Option.some Jvm.ClassFile.FieldType.int)) ∈ lw_all := lw_g (lw_at lw_m5 16 rfl) rfl
theorem q1082 : (Jvm.Cond.methodLink "FlashBoard" (81 : Nat) ({ cls := "FlashBoard$Core", name := "load", desc := "(I)I" } : Jvm.MethodName)) ∈ lw_all := lw_g (lw_at lw_m5 17 rfl) rfl
theorem q1087 : (Jvm.Cond.instanceMethod ({ cls := "FlashBoard", name := "put", desc := "(II)V" } : Jvm.MethodName)) ∈ lw_all := lw_g (lw_at lw_m5 22 rfl) rfl
theorem q1088 : (Jvm.Cond.selects "FlashBoard" ({ cls := "FlashBoard", name := "put", desc := "(II)V" } : Jvm.MethodName) ({ cls := "FlashBoard", name := "put", desc := "(II)V" } : Jvm.MethodName)) ∈ lw_all := lw_g (lw_at lw_m5 23 rfl) rfl
theorem q1089 : (Jvm.Cond.code ({ cls := "FlashBoard", name := "put", desc := "(II)V" } : Jvm.MethodName) prog_1_method_13_code (3 : Nat) (Option.none : Option Jvm.ClassFile.FieldType)) ∈ lw_all := lw_g (lw_at lw_m5 24 rfl) rfl
theorem q1094 : (Jvm.Cond.instanceMethod ({ cls := "FlashBoard", name := "eeprom", desc := "(I)I" } : Jvm.MethodName)) ∈ lw_all := lw_g (lw_at lw_m5 29 rfl) rfl
theorem q1095 : (Jvm.Cond.selects "FlashBoard" ({ cls := "FlashBoard", name := "eeprom", desc := "(I)I" } : Jvm.MethodName) ({ cls := "FlashBoard", name := "eeprom", desc := "(I)I" } : Jvm.MethodName)) ∈ lw_all := lw_g (lw_at lw_m5 30 rfl) rfl
theorem q1096 : (Jvm.Cond.code ({ cls := "FlashBoard", name := "eeprom", desc := "(I)I" } : Jvm.MethodName) prog_1_method_14_code (2 : Nat) (Option.some Jvm.ClassFile.FieldType.int)) ∈ lw_all := lw_g (lw_at lw_m5 31 rfl) rfl
theorem q1101 : (Jvm.Cond.instanceMethod ({ cls := "FlashBoard", name := "start", desc := "(I)V" } : Jvm.MethodName)) ∈ lw_all := lw_g (lw_at lw_m5 36 rfl) rfl
theorem q1102 : (Jvm.Cond.selects "FlashBoard" ({ cls := "FlashBoard", name := "start", desc := "(I)V" } : Jvm.MethodName) ({ cls := "FlashBoard", name := "start", desc := "(I)V" } : Jvm.MethodName)) ∈ lw_all := lw_g (lw_at lw_m5 37 rfl) rfl
theorem q1103 : (Jvm.Cond.code ({ cls := "FlashBoard", name := "start", desc := "(I)V" } : Jvm.MethodName) prog_1_method_17_code (2 : Nat) (Option.none : Option Jvm.ClassFile.FieldType)) ∈ lw_all := lw_g (lw_at lw_m5 38 rfl) rfl
theorem q1108 : (Jvm.Cond.instanceMethod ({ cls := "FlashBoard", name := "about", desc := "(I)I" } : Jvm.MethodName)) ∈ lw_all := lw_g (lw_at lw_m5 43 rfl) rfl
theorem q1109 : (Jvm.Cond.selects "FlashBoard" ({ cls := "FlashBoard", name := "about", desc := "(I)I" } : Jvm.MethodName) ({ cls := "FlashBoard", name := "about", desc := "(I)I" } : Jvm.MethodName)) ∈ lw_all := lw_g (lw_at lw_m5 44 rfl) rfl
theorem q1110 : (Jvm.Cond.code ({ cls := "FlashBoard", name := "about", desc := "(I)I" } : Jvm.MethodName) prog_1_method_20_code (2 : Nat) (Option.some Jvm.ClassFile.FieldType.int)) ∈ lw_all := lw_g (lw_at lw_m5 45 rfl) rfl
theorem q1111 : (Jvm.Cond.methodLinkNest "FlashBoard" (121 : Nat) ({ cls := "FlashBoard$Core", name := "stack", desc := "()I" } : Jvm.MethodName) "FlashBoard") ∈ lw_tbl := lw_at lw_m5 46 rfl
theorem q1112 : (Jvm.Cond.methodLink "FlashBoard" (139 : Nat) ({ cls := "FlashBoard$Flash", name := "filled", desc := "()I" } : Jvm.MethodName)) ∈ lw_all := lw_g (lw_at lw_m5 47 rfl) rfl
theorem q1116 : (Jvm.Cond.methodLink "FlashBoard" (184 : Nat) ({ cls := "FlashBoard$Core", name := "waits", desc := "()I" } : Jvm.MethodName)) ∈ lw_all := lw_g (lw_at lw_m5 51 rfl) rfl
theorem q1638 : (Jvm.Cond.castable "FlashBoard" "java/lang/Object") ∈ lw_tbl := lw_at lw_m7 93 rfl
theorem in_X1 : ∀ w ∈ wsX10, w ∈ lw_all := lw_in wsX10 [573] (by decide +kernel) (by decide +kernel)

/-! FlashBoard$Flash -/
set_option maxRecDepth 100000
def RX10 : String := "FlashBoard$Flash"
def TX10 : u_T := fun k => match k with
  | 0 => ("FlashBoard$Unit", "core", "LFlashBoard$Core;", true)
  | 1 => ("FlashBoard$Flash", "words", "[C", true)
  | 2 => ("FlashBoard$Flash", "buffer", "[I", true)
  | 3 => ("FlashBoard$Flash", "window", "I", false)
  | 4 => ("FlashBoard$Flash", "busy", "I", false)
  | 5 => ("FlashBoard$Flash", "locks", "I", false)
  | _ => ("FlashBoard$Flash", "fuse", "I", false)
def tyX10 : Nat → FieldType := fun k => match k with
  | 0 => .object "FlashBoard$Core"
  | 1 => .array .char
  | 2 => .array .int
  | 3 => .int
  | 4 => .int
  | 5 => .int
  | _ => .int
abbrev wsX100 : List Cond := u_ws RX10 TX10 7
theorem nmX10 : ∀ a, a < 7 → ∀ b, b < 7 → a ≠ b → (TX10 a).2.1 ≠ (TX10 b).2.1 := by decide +kernel
theorem tyX10_ok : ∀ k, k < 7 → parseFieldDescriptor (TX10 k).2.2.1 = some (tyX10 k) := by decide +kernel
abbrev cX10_init : ByteArray := prog_5_method_1_code
def yX10_init : MethodName := ⟨RX10, "<init>", "(LFlashBoard$Core;)V"⟩
def dkwX10_init_53 : List UInt8 := [18, 129, 85, 77, 44, 3, 42, 180, 0, 9, 17, 6, 0, 44, 190, 184, 0, 130, 42, 182, 0, 136, 177]
abbrev dktX10_init_53 : List UInt8 := dkwX10_init_53 ++ []
def dkwX10_init_52 : List UInt8 := [17, 39, 238, 85, 89, 17, 0, 179, 17, 39, 255, 85, 89, 17, 0, 180, 18, 128, 85, 89, 17, 0, 181]
abbrev dktX10_init_52 : List UInt8 := dkwX10_init_52 ++ dktX10_init_53
def dkwX10_init_51 : List UInt8 := [17, 0, 175, 16, 96, 85, 89, 17, 0, 176, 18, 39, 85, 89, 17, 0, 177, 16, 96, 85, 89, 17, 0, 178]
abbrev dktX10_init_51 : List UInt8 := dkwX10_init_51 ++ dktX10_init_52
def dkwX10_init_50 : List UInt8 := [17, 0, 172, 17, 0, 193, 85, 89, 17, 0, 173, 18, 36, 85, 89, 17, 0, 174, 18, 37, 85, 89]
abbrev dktX10_init_50 : List UInt8 := dkwX10_init_50 ++ dktX10_init_51
def dkwX10_init_49 : List UInt8 := [17, 0, 169, 17, 63, 15, 85, 89, 17, 0, 170, 18, 127, 85, 89, 17, 0, 171, 18, 39, 85, 89]
abbrev dktX10_init_49 : List UInt8 := dkwX10_init_49 ++ dktX10_init_50
def dkwX10_init_48 : List UInt8 := [17, 0, 166, 18, 107, 85, 89, 17, 0, 167, 18, 126, 85, 89, 17, 0, 168, 17, 35, 1, 85, 89]
abbrev dktX10_init_48 : List UInt8 := dkwX10_init_48 ++ dktX10_init_49
def dkwX10_init_47 : List UInt8 := [17, 0, 163, 18, 125, 85, 89, 17, 0, 164, 17, 39, 238, 85, 89, 17, 0, 165, 17, 39, 255, 85, 89]
abbrev dktX10_init_47 : List UInt8 := dkwX10_init_47 ++ dktX10_init_48
def dkwX10_init_46 : List UInt8 := [17, 0, 160, 17, 0, 192, 85, 89, 17, 0, 161, 18, 124, 85, 89, 17, 0, 162, 18, 113, 85, 89]
abbrev dktX10_init_46 : List UInt8 := dkwX10_init_46 ++ dktX10_init_47
def dkwX10_init_45 : List UInt8 := [89, 17, 0, 157, 18, 61, 85, 89, 17, 0, 158, 18, 123, 85, 89, 17, 0, 159, 18, 114, 85, 89]
abbrev dktX10_init_45 : List UInt8 := dkwX10_init_45 ++ dktX10_init_46
def dkwX10_init_44 : List UInt8 := [18, 119, 85, 89, 17, 0, 154, 18, 120, 85, 89, 17, 0, 155, 18, 121, 85, 89, 17, 0, 156, 18, 122, 85]
abbrev dktX10_init_44 : List UInt8 := dkwX10_init_44 ++ dktX10_init_45
def dkwX10_init_43 : List UInt8 := [17, 0, 150, 18, 117, 85, 89, 17, 0, 151, 18, 117, 85, 89, 17, 0, 152, 18, 118, 85, 89, 17, 0, 153]
abbrev dktX10_init_43 : List UInt8 := dkwX10_init_43 ++ dktX10_init_44
def dkwX10_init_42 : List UInt8 := [17, 0, 147, 18, 116, 85, 89, 17, 0, 148, 17, 50, 0, 85, 89, 17, 0, 149, 18, 44, 85, 89]
abbrev dktX10_init_42 : List UInt8 := dkwX10_init_42 ++ dktX10_init_43
def dkwX10_init_41 : List UInt8 := [17, 0, 144, 18, 37, 85, 89, 17, 0, 145, 17, 0, 198, 85, 89, 17, 0, 146, 18, 97, 85, 89]
abbrev dktX10_init_41 : List UInt8 := dkwX10_init_41 ++ dktX10_init_42
def dkwX10_init_40 : List UInt8 := [17, 0, 141, 17, 0, 192, 85, 89, 17, 0, 142, 18, 115, 85, 89, 17, 0, 143, 18, 113, 85, 89]
abbrev dktX10_init_40 : List UInt8 := dkwX10_init_40 ++ dktX10_init_41
def dkwX10_init_39 : List UInt8 := [17, 0, 138, 17, 0, 198, 85, 89, 17, 0, 139, 18, 97, 85, 89, 17, 0, 140, 18, 114, 85, 89]
abbrev dktX10_init_39 : List UInt8 := dkwX10_init_39 ++ dktX10_init_40
def dkwX10_init_38 : List UInt8 := [85, 89, 17, 0, 135, 18, 113, 85, 89, 17, 0, 136, 18, 33, 85, 89, 17, 0, 137, 18, 111, 85, 89]
abbrev dktX10_init_38 : List UInt8 := dkwX10_init_38 ++ dktX10_init_39
def dkwX10_init_37 : List UInt8 := [18, 110, 85, 89, 17, 0, 132, 18, 111, 85, 89, 17, 0, 133, 17, 0, 192, 85, 89, 17, 0, 134, 18, 112]
abbrev dktX10_init_37 : List UInt8 := dkwX10_init_37 ++ dktX10_init_38
def dkwX10_init_36 : List UInt8 := [17, 0, 128, 18, 108, 85, 89, 17, 0, 129, 18, 72, 85, 89, 17, 0, 130, 18, 109, 85, 89, 17, 0, 131]
abbrev dktX10_init_36 : List UInt8 := dkwX10_init_36 ++ dktX10_init_37
def dkwX10_init_35 : List UInt8 := [16, 124, 18, 105, 85, 89, 16, 125, 18, 106, 85, 89, 16, 126, 18, 69, 85, 89, 16, 127, 18, 107, 85, 89]
abbrev dktX10_init_35 : List UInt8 := dkwX10_init_35 ++ dktX10_init_36
def dkwX10_init_34 : List UInt8 := [16, 120, 18, 97, 85, 89, 16, 121, 18, 103, 85, 89, 16, 122, 18, 92, 85, 89, 16, 123, 18, 104, 85, 89]
abbrev dktX10_init_34 : List UInt8 := dkwX10_init_34 ++ dktX10_init_35
def dkwX10_init_33 : List UInt8 := [16, 116, 18, 99, 85, 89, 16, 117, 18, 100, 85, 89, 16, 118, 18, 101, 85, 89, 16, 119, 18, 102, 85, 89]
abbrev dktX10_init_33 : List UInt8 := dkwX10_init_33 ++ dktX10_init_34
def dkwX10_init_32 : List UInt8 := [17, 15, 238, 85, 89, 16, 113, 17, 31, 255, 85, 89, 16, 114, 18, 97, 85, 89, 16, 115, 18, 98, 85, 89]
abbrev dktX10_init_32 : List UInt8 := dkwX10_init_32 ++ dktX10_init_33
def dkwX10_init_31 : List UInt8 := [89, 16, 109, 18, 95, 85, 89, 16, 110, 18, 96, 85, 89, 16, 111, 17, 1, 252, 85, 89, 16, 112]
abbrev dktX10_init_31 : List UInt8 := dkwX10_init_31 ++ dktX10_init_32
def dkwX10_init_30 : List UInt8 := [89, 16, 105, 18, 92, 85, 89, 16, 106, 18, 83, 85, 89, 16, 107, 18, 93, 85, 89, 16, 108, 18, 94, 85]
abbrev dktX10_init_30 : List UInt8 := dkwX10_init_30 ++ dktX10_init_31
def dkwX10_init_29 : List UInt8 := [17, 36, 17, 85, 89, 16, 102, 17, 84, 224, 85, 89, 16, 103, 17, 64, 240, 85, 89, 16, 104, 18, 91, 85]
abbrev dktX10_init_29 : List UInt8 := dkwX10_init_29 ++ dktX10_init_30
def dkwX10_init_28 : List UInt8 := [85, 89, 16, 98, 18, 89, 85, 89, 16, 99, 18, 72, 85, 89, 16, 100, 18, 90, 85, 89, 16, 101]
abbrev dktX10_init_28 : List UInt8 := dkwX10_init_28 ++ dktX10_init_29
def dkwX10_init_27 : List UInt8 := [85, 89, 16, 94, 18, 85, 85, 89, 16, 95, 18, 86, 85, 89, 16, 96, 18, 87, 85, 89, 16, 97, 18, 88]
abbrev dktX10_init_27 : List UInt8 := dkwX10_init_27 ++ dktX10_init_28
def dkwX10_init_26 : List UInt8 := [85, 89, 16, 90, 18, 80, 85, 89, 16, 91, 18, 67, 85, 89, 16, 92, 18, 68, 85, 89, 16, 93, 18, 84]
abbrev dktX10_init_26 : List UInt8 := dkwX10_init_26 ++ dktX10_init_27
def dkwX10_init_25 : List UInt8 := [85, 89, 16, 86, 18, 80, 85, 89, 16, 87, 18, 81, 85, 89, 16, 88, 18, 82, 85, 89, 16, 89, 18, 83]
abbrev dktX10_init_25 : List UInt8 := dkwX10_init_25 ++ dktX10_init_26
def dkwX10_init_24 : List UInt8 := [16, 82, 17, 113, 47, 85, 89, 16, 83, 18, 78, 85, 89, 16, 84, 17, 48, 150, 85, 89, 16, 85, 18, 79]
abbrev dktX10_init_24 : List UInt8 := dkwX10_init_24 ++ dktX10_init_25
def dkwX10_init_23 : List UInt8 := [18, 76, 85, 89, 16, 79, 17, 52, 102, 85, 89, 16, 80, 18, 77, 85, 89, 16, 81, 17, 47, 40, 85, 89]
abbrev dktX10_init_23 : List UInt8 := dkwX10_init_23 ++ dktX10_init_24
def dkwX10_init_22 : List UInt8 := [85, 89, 16, 75, 17, 43, 71, 85, 89, 16, 76, 18, 75, 85, 89, 16, 77, 17, 52, 80, 85, 89, 16, 78]
abbrev dktX10_init_22 : List UInt8 := dkwX10_init_22 ++ dktX10_init_23
def dkwX10_init_21 : List UInt8 := [89, 16, 71, 18, 73, 85, 89, 16, 72, 18, 74, 85, 89, 16, 73, 17, 39, 112, 85, 89, 16, 74, 18, 65]
abbrev dktX10_init_21 : List UInt8 := dkwX10_init_21 ++ dktX10_init_22
def dkwX10_init_20 : List UInt8 := [16, 67, 18, 70, 85, 89, 16, 68, 18, 71, 85, 89, 16, 69, 17, 39, 112, 85, 89, 16, 70, 18, 72, 85]
abbrev dktX10_init_20 : List UInt8 := dkwX10_init_20 ++ dktX10_init_21
def dkwX10_init_19 : List UInt8 := [18, 67, 85, 89, 16, 64, 18, 68, 85, 89, 16, 65, 17, 39, 119, 85, 89, 16, 66, 18, 69, 85, 89]
abbrev dktX10_init_19 : List UInt8 := dkwX10_init_19 ++ dktX10_init_20
def dkwX10_init_18 : List UInt8 := [85, 89, 16, 60, 17, 47, 80, 85, 89, 16, 61, 18, 66, 85, 89, 16, 62, 17, 47, 96, 85, 89, 16, 63]
abbrev dktX10_init_18 : List UInt8 := dkwX10_init_18 ++ dktX10_init_19
def dkwX10_init_17 : List UInt8 := [89, 16, 56, 18, 63, 85, 89, 16, 57, 18, 64, 85, 89, 16, 58, 17, 47, 64, 85, 89, 16, 59, 18, 65]
abbrev dktX10_init_17 : List UInt8 := dkwX10_init_17 ++ dktX10_init_18
def dkwX10_init_16 : List UInt8 := [16, 52, 17, 47, 144, 85, 89, 16, 53, 18, 60, 85, 89, 16, 54, 18, 61, 85, 89, 16, 55, 18, 62, 85]
abbrev dktX10_init_16 : List UInt8 := dkwX10_init_16 ++ dktX10_init_17
def dkwX10_init_15 : List UInt8 := [18, 57, 85, 89, 16, 49, 18, 58, 85, 89, 16, 50, 17, 47, 128, 85, 89, 16, 51, 18, 59, 85, 89]
abbrev dktX10_init_15 : List UInt8 := dkwX10_init_15 ++ dktX10_init_16
def dkwX10_init_14 : List UInt8 := [18, 53, 85, 89, 16, 45, 18, 54, 85, 89, 16, 46, 18, 55, 85, 89, 16, 47, 18, 56, 85, 89, 16, 48]
abbrev dktX10_init_14 : List UInt8 := dkwX10_init_14 ++ dktX10_init_15
def dkwX10_init_13 : List UInt8 := [18, 49, 85, 89, 16, 41, 18, 50, 85, 89, 16, 42, 18, 51, 85, 89, 16, 43, 18, 52, 85, 89, 16, 44]
abbrev dktX10_init_13 : List UInt8 := dkwX10_init_13 ++ dktX10_init_14
def dkwX10_init_12 : List UInt8 := [18, 45, 85, 89, 16, 37, 18, 46, 85, 89, 16, 38, 18, 47, 85, 89, 16, 39, 18, 48, 85, 89, 16, 40]
abbrev dktX10_init_12 : List UInt8 := dkwX10_init_12 ++ dktX10_init_13
def dkwX10_init_11 : List UInt8 := [85, 89, 16, 33, 18, 43, 85, 89, 16, 34, 17, 53, 1, 85, 89, 16, 35, 18, 44, 85, 89, 16, 36]
abbrev dktX10_init_11 : List UInt8 := dkwX10_init_11 ++ dktX10_init_12
def dkwX10_init_10 : List UInt8 := [16, 29, 18, 41, 85, 89, 16, 30, 17, 55, 4, 85, 89, 16, 31, 18, 43, 85, 89, 16, 32, 17, 55, 5]
abbrev dktX10_init_10 : List UInt8 := dkwX10_init_10 ++ dktX10_init_11
def dkwX10_init_9 : List UInt8 := [18, 41, 85, 89, 16, 26, 17, 53, 5, 85, 89, 16, 27, 18, 42, 85, 89, 16, 28, 17, 54, 4, 85, 89]
abbrev dktX10_init_9 : List UInt8 := dkwX10_init_9 ++ dktX10_init_10
def dkwX10_init_8 : List UInt8 := [89, 16, 22, 17, 0, 193, 85, 89, 16, 23, 18, 40, 85, 89, 16, 24, 17, 51, 0, 85, 89, 16, 25]
abbrev dktX10_init_8 : List UInt8 := dkwX10_init_8 ++ dktX10_init_9
def dkwX10_init_7 : List UInt8 := [16, 18, 18, 39, 85, 89, 16, 19, 17, 0, 196, 85, 89, 16, 20, 18, 36, 85, 89, 16, 21, 18, 37, 85]
abbrev dktX10_init_7 : List UInt8 := dkwX10_init_7 ++ dktX10_init_8
def dkwX10_init_6 : List UInt8 := [18, 37, 85, 89, 16, 15, 16, 96, 85, 89, 16, 16, 18, 39, 85, 89, 16, 17, 17, 0, 197, 85, 89]
abbrev dktX10_init_6 : List UInt8 := dkwX10_init_6 ++ dktX10_init_7
def dkwX10_init_5 : List UInt8 := [18, 36, 85, 89, 16, 11, 18, 37, 85, 89, 16, 12, 16, 96, 85, 89, 16, 13, 18, 38, 85, 89, 16, 14]
abbrev dktX10_init_5 : List UInt8 := dkwX10_init_5 ++ dktX10_init_6
def dkwX10_init_4 : List UInt8 := [18, 32, 85, 89, 16, 7, 18, 33, 85, 89, 16, 8, 18, 34, 85, 89, 16, 9, 18, 35, 85, 89, 16, 10]
abbrev dktX10_init_4 : List UInt8 := dkwX10_init_4 ++ dktX10_init_5
def dkwX10_init_3 : List UInt8 := [89, 5, 18, 29, 85, 89, 6, 18, 30, 85, 89, 7, 18, 31, 85, 89, 8, 17, 36, 17, 85, 89, 16, 6]
abbrev dktX10_init_3 : List UInt8 := dkwX10_init_3 ++ dktX10_init_4
def dkwX10_init_2 : List UInt8 := [18, 26, 85, 132, 2, 1, 167, 255, 238, 17, 0, 182, 188, 5, 89, 3, 18, 27, 85, 89, 4, 18, 28, 85]
abbrev dktX10_init_2 : List UInt8 := dkwX10_init_2 ++ dktX10_init_3
def dkwX10_init_1 : List UInt8 := [16, 15, 181, 0, 19, 42, 4, 181, 0, 23, 3, 61, 28, 17, 8, 0, 162, 0, 17, 42, 180, 0, 9, 28]
abbrev dktX10_init_1 : List UInt8 := dkwX10_init_1 ++ dktX10_init_2
def dkwX10_init_0 : List UInt8 := [42, 43, 183, 0, 3, 42, 17, 8, 0, 188, 5, 181, 0, 9, 42, 16, 32, 188, 10, 181, 0, 15, 42]
abbrev dktX10_init_0 : List UInt8 := dkwX10_init_0 ++ dktX10_init_1
theorem dksX10_init_0 : cX10_init.data.toList.drop 0 = dktX10_init_0 := by decide +kernel
theorem dksX10_init_1 : cX10_init.data.toList.drop 23 = dktX10_init_1 := dk_seg dksX10_init_0 23 rfl rfl
theorem dksX10_init_2 : cX10_init.data.toList.drop 47 = dktX10_init_2 := dk_seg dksX10_init_1 24 rfl rfl
theorem dksX10_init_3 : cX10_init.data.toList.drop 71 = dktX10_init_3 := dk_seg dksX10_init_2 24 rfl rfl
theorem dksX10_init_4 : cX10_init.data.toList.drop 95 = dktX10_init_4 := dk_seg dksX10_init_3 24 rfl rfl
theorem dksX10_init_5 : cX10_init.data.toList.drop 119 = dktX10_init_5 := dk_seg dksX10_init_4 24 rfl rfl
theorem dksX10_init_6 : cX10_init.data.toList.drop 143 = dktX10_init_6 := dk_seg dksX10_init_5 24 rfl rfl
theorem dksX10_init_7 : cX10_init.data.toList.drop 166 = dktX10_init_7 := dk_seg dksX10_init_6 23 rfl rfl
theorem dksX10_init_8 : cX10_init.data.toList.drop 190 = dktX10_init_8 := dk_seg dksX10_init_7 24 rfl rfl
theorem dksX10_init_9 : cX10_init.data.toList.drop 213 = dktX10_init_9 := dk_seg dksX10_init_8 23 rfl rfl
theorem dksX10_init_10 : cX10_init.data.toList.drop 237 = dktX10_init_10 := dk_seg dksX10_init_9 24 rfl rfl
theorem dksX10_init_11 : cX10_init.data.toList.drop 261 = dktX10_init_11 := dk_seg dksX10_init_10 24 rfl rfl
theorem dksX10_init_12 : cX10_init.data.toList.drop 284 = dktX10_init_12 := dk_seg dksX10_init_11 23 rfl rfl
theorem dksX10_init_13 : cX10_init.data.toList.drop 308 = dktX10_init_13 := dk_seg dksX10_init_12 24 rfl rfl
theorem dksX10_init_14 : cX10_init.data.toList.drop 332 = dktX10_init_14 := dk_seg dksX10_init_13 24 rfl rfl
theorem dksX10_init_15 : cX10_init.data.toList.drop 356 = dktX10_init_15 := dk_seg dksX10_init_14 24 rfl rfl
theorem dksX10_init_16 : cX10_init.data.toList.drop 379 = dktX10_init_16 := dk_seg dksX10_init_15 23 rfl rfl
theorem dksX10_init_17 : cX10_init.data.toList.drop 403 = dktX10_init_17 := dk_seg dksX10_init_16 24 rfl rfl
theorem dksX10_init_18 : cX10_init.data.toList.drop 427 = dktX10_init_18 := dk_seg dksX10_init_17 24 rfl rfl
theorem dksX10_init_19 : cX10_init.data.toList.drop 451 = dktX10_init_19 := dk_seg dksX10_init_18 24 rfl rfl
theorem dksX10_init_20 : cX10_init.data.toList.drop 474 = dktX10_init_20 := dk_seg dksX10_init_19 23 rfl rfl
theorem dksX10_init_21 : cX10_init.data.toList.drop 498 = dktX10_init_21 := dk_seg dksX10_init_20 24 rfl rfl
theorem dksX10_init_22 : cX10_init.data.toList.drop 522 = dktX10_init_22 := dk_seg dksX10_init_21 24 rfl rfl
theorem dksX10_init_23 : cX10_init.data.toList.drop 546 = dktX10_init_23 := dk_seg dksX10_init_22 24 rfl rfl
theorem dksX10_init_24 : cX10_init.data.toList.drop 570 = dktX10_init_24 := dk_seg dksX10_init_23 24 rfl rfl
theorem dksX10_init_25 : cX10_init.data.toList.drop 594 = dktX10_init_25 := dk_seg dksX10_init_24 24 rfl rfl
theorem dksX10_init_26 : cX10_init.data.toList.drop 618 = dktX10_init_26 := dk_seg dksX10_init_25 24 rfl rfl
theorem dksX10_init_27 : cX10_init.data.toList.drop 642 = dktX10_init_27 := dk_seg dksX10_init_26 24 rfl rfl
theorem dksX10_init_28 : cX10_init.data.toList.drop 666 = dktX10_init_28 := dk_seg dksX10_init_27 24 rfl rfl
theorem dksX10_init_29 : cX10_init.data.toList.drop 688 = dktX10_init_29 := dk_seg dksX10_init_28 22 rfl rfl
theorem dksX10_init_30 : cX10_init.data.toList.drop 712 = dktX10_init_30 := dk_seg dksX10_init_29 24 rfl rfl
theorem dksX10_init_31 : cX10_init.data.toList.drop 736 = dktX10_init_31 := dk_seg dksX10_init_30 24 rfl rfl
theorem dksX10_init_32 : cX10_init.data.toList.drop 758 = dktX10_init_32 := dk_seg dksX10_init_31 22 rfl rfl
theorem dksX10_init_33 : cX10_init.data.toList.drop 782 = dktX10_init_33 := dk_seg dksX10_init_32 24 rfl rfl
theorem dksX10_init_34 : cX10_init.data.toList.drop 806 = dktX10_init_34 := dk_seg dksX10_init_33 24 rfl rfl
theorem dksX10_init_35 : cX10_init.data.toList.drop 830 = dktX10_init_35 := dk_seg dksX10_init_34 24 rfl rfl
theorem dksX10_init_36 : cX10_init.data.toList.drop 854 = dktX10_init_36 := dk_seg dksX10_init_35 24 rfl rfl
theorem dksX10_init_37 : cX10_init.data.toList.drop 878 = dktX10_init_37 := dk_seg dksX10_init_36 24 rfl rfl
theorem dksX10_init_38 : cX10_init.data.toList.drop 902 = dktX10_init_38 := dk_seg dksX10_init_37 24 rfl rfl
theorem dksX10_init_39 : cX10_init.data.toList.drop 925 = dktX10_init_39 := dk_seg dksX10_init_38 23 rfl rfl
theorem dksX10_init_40 : cX10_init.data.toList.drop 947 = dktX10_init_40 := dk_seg dksX10_init_39 22 rfl rfl
theorem dksX10_init_41 : cX10_init.data.toList.drop 969 = dktX10_init_41 := dk_seg dksX10_init_40 22 rfl rfl
theorem dksX10_init_42 : cX10_init.data.toList.drop 991 = dktX10_init_42 := dk_seg dksX10_init_41 22 rfl rfl
theorem dksX10_init_43 : cX10_init.data.toList.drop 1013 = dktX10_init_43 := dk_seg dksX10_init_42 22 rfl rfl
theorem dksX10_init_44 : cX10_init.data.toList.drop 1037 = dktX10_init_44 := dk_seg dksX10_init_43 24 rfl rfl
theorem dksX10_init_45 : cX10_init.data.toList.drop 1061 = dktX10_init_45 := dk_seg dksX10_init_44 24 rfl rfl
theorem dksX10_init_46 : cX10_init.data.toList.drop 1083 = dktX10_init_46 := dk_seg dksX10_init_45 22 rfl rfl
theorem dksX10_init_47 : cX10_init.data.toList.drop 1105 = dktX10_init_47 := dk_seg dksX10_init_46 22 rfl rfl
theorem dksX10_init_48 : cX10_init.data.toList.drop 1128 = dktX10_init_48 := dk_seg dksX10_init_47 23 rfl rfl
theorem dksX10_init_49 : cX10_init.data.toList.drop 1150 = dktX10_init_49 := dk_seg dksX10_init_48 22 rfl rfl
theorem dksX10_init_50 : cX10_init.data.toList.drop 1172 = dktX10_init_50 := dk_seg dksX10_init_49 22 rfl rfl
theorem dksX10_init_51 : cX10_init.data.toList.drop 1194 = dktX10_init_51 := dk_seg dksX10_init_50 22 rfl rfl
theorem dksX10_init_52 : cX10_init.data.toList.drop 1218 = dktX10_init_52 := dk_seg dksX10_init_51 24 rfl rfl
theorem dksX10_init_53 : cX10_init.data.toList.drop 1241 = dktX10_init_53 := dk_seg dksX10_init_52 23 rfl rfl
theorem dX10_init_0 : decode cX10_init 0 = .ok (.aload_n 0, 1) := dk_42 (dk_at dksX10_init_0 0 rfl rfl)
theorem dX10_init_1 : decode cX10_init 1 = .ok (.aload_n 1, 1) := dk_43 (dk_at dksX10_init_0 1 rfl rfl)
theorem dX10_init_2 : decode cX10_init 2 = .ok (.invokespecial 3, 3) := dk_183 0 3 (dk_at dksX10_init_0 2 rfl rfl)
theorem dX10_init_5 : decode cX10_init 5 = .ok (.aload_n 0, 1) := dk_42 (dk_at dksX10_init_0 5 rfl rfl)
theorem dX10_init_6 : decode cX10_init 6 = .ok (.sipush 2048, 3) := dk_17 8 0 (dk_at dksX10_init_0 6 rfl rfl)
theorem dX10_init_9 : decode cX10_init 9 = .ok (.newarray .char, 2) := dk_188_5 (dk_at dksX10_init_0 9 rfl rfl)
theorem dX10_init_11 : decode cX10_init 11 = .ok (.putfield 9, 3) := dk_181 0 9 (dk_at dksX10_init_0 11 rfl rfl)
theorem dX10_init_14 : decode cX10_init 14 = .ok (.aload_n 0, 1) := dk_42 (dk_at dksX10_init_0 14 rfl rfl)
theorem dX10_init_15 : decode cX10_init 15 = .ok (.bipush 32, 2) := dk_16 32 (dk_at dksX10_init_0 15 rfl rfl)
theorem dX10_init_17 : decode cX10_init 17 = .ok (.newarray .int, 2) := dk_188_10 (dk_at dksX10_init_0 17 rfl rfl)
theorem dX10_init_19 : decode cX10_init 19 = .ok (.putfield 15, 3) := dk_181 0 15 (dk_at dksX10_init_0 19 rfl rfl)
theorem dX10_init_22 : decode cX10_init 22 = .ok (.aload_n 0, 1) := dk_42 (dk_at dksX10_init_0 22 rfl rfl)
theorem dX10_init_23 : decode cX10_init 23 = .ok (.bipush 15, 2) := dk_16 15 (dk_at dksX10_init_1 0 rfl rfl)
theorem dX10_init_25 : decode cX10_init 25 = .ok (.putfield 19, 3) := dk_181 0 19 (dk_at dksX10_init_1 2 rfl rfl)
theorem dX10_init_28 : decode cX10_init 28 = .ok (.aload_n 0, 1) := dk_42 (dk_at dksX10_init_1 5 rfl rfl)
theorem dX10_init_29 : decode cX10_init 29 = .ok (.iconst 1, 1) := dk_4 (dk_at dksX10_init_1 6 rfl rfl)
theorem dX10_init_30 : decode cX10_init 30 = .ok (.putfield 23, 3) := dk_181 0 23 (dk_at dksX10_init_1 7 rfl rfl)
theorem dX10_init_33 : decode cX10_init 33 = .ok (.iconst 0, 1) := dk_3 (dk_at dksX10_init_1 10 rfl rfl)
theorem dX10_init_34 : decode cX10_init 34 = .ok (.istore_n 2, 1) := dk_61 (dk_at dksX10_init_1 11 rfl rfl)
theorem dX10_init_35 : decode cX10_init 35 = .ok (.iload_n 2, 1) := dk_28 (dk_at dksX10_init_1 12 rfl rfl)
theorem dX10_init_36 : decode cX10_init 36 = .ok (.sipush 2048, 3) := dk_17 8 0 (dk_at dksX10_init_1 13 rfl rfl)
theorem dX10_init_39 : decode cX10_init 39 = .ok (.if_icmp .ge 17, 3) := dk_162 0 17 (dk_at dksX10_init_1 16 rfl rfl)
theorem dX10_init_42 : decode cX10_init 42 = .ok (.aload_n 0, 1) := dk_42 (dk_at dksX10_init_1 19 rfl rfl)
theorem dX10_init_43 : decode cX10_init 43 = .ok (.getfield 9, 3) := dk_180 0 9 (dk_at dksX10_init_1 20 rfl rfl)
theorem dX10_init_46 : decode cX10_init 46 = .ok (.iload_n 2, 1) := dk_28 (dk_at dksX10_init_1 23 rfl rfl)
theorem dX10_init_47 : decode cX10_init 47 = .ok (.ldc 26, 2) := dk_18 26 (dk_at dksX10_init_2 0 rfl rfl)
theorem dX10_init_49 : decode cX10_init 49 = .ok (.castore, 1) := dk_85 (dk_at dksX10_init_2 2 rfl rfl)
theorem dX10_init_50 : decode cX10_init 50 = .ok (.iinc 2 1, 3) := dk_132 2 1 (dk_at dksX10_init_2 3 rfl rfl)
theorem dX10_init_53 : decode cX10_init 53 = .ok (.goto (-18), 3) := dk_167 255 238 (dk_at dksX10_init_2 6 rfl rfl)
theorem dX10_init_56 : decode cX10_init 56 = .ok (.sipush 182, 3) := dk_17 0 182 (dk_at dksX10_init_2 9 rfl rfl)
theorem dX10_init_59 : decode cX10_init 59 = .ok (.newarray .char, 2) := dk_188_5 (dk_at dksX10_init_2 12 rfl rfl)
theorem dX10_init_61 : decode cX10_init 61 = .ok (.dup, 1) := dk_89 (dk_at dksX10_init_2 14 rfl rfl)
theorem dX10_init_62 : decode cX10_init 62 = .ok (.iconst 0, 1) := dk_3 (dk_at dksX10_init_2 15 rfl rfl)
theorem dX10_init_63 : decode cX10_init 63 = .ok (.ldc 27, 2) := dk_18 27 (dk_at dksX10_init_2 16 rfl rfl)
theorem dX10_init_65 : decode cX10_init 65 = .ok (.castore, 1) := dk_85 (dk_at dksX10_init_2 18 rfl rfl)
theorem dX10_init_66 : decode cX10_init 66 = .ok (.dup, 1) := dk_89 (dk_at dksX10_init_2 19 rfl rfl)
theorem dX10_init_67 : decode cX10_init 67 = .ok (.iconst 1, 1) := dk_4 (dk_at dksX10_init_2 20 rfl rfl)
theorem dX10_init_68 : decode cX10_init 68 = .ok (.ldc 28, 2) := dk_18 28 (dk_at dksX10_init_2 21 rfl rfl)
theorem dX10_init_70 : decode cX10_init 70 = .ok (.castore, 1) := dk_85 (dk_at dksX10_init_2 23 rfl rfl)
theorem dX10_init_71 : decode cX10_init 71 = .ok (.dup, 1) := dk_89 (dk_at dksX10_init_3 0 rfl rfl)
theorem dX10_init_72 : decode cX10_init 72 = .ok (.iconst 2, 1) := dk_5 (dk_at dksX10_init_3 1 rfl rfl)
theorem dX10_init_73 : decode cX10_init 73 = .ok (.ldc 29, 2) := dk_18 29 (dk_at dksX10_init_3 2 rfl rfl)
theorem dX10_init_75 : decode cX10_init 75 = .ok (.castore, 1) := dk_85 (dk_at dksX10_init_3 4 rfl rfl)
theorem dX10_init_76 : decode cX10_init 76 = .ok (.dup, 1) := dk_89 (dk_at dksX10_init_3 5 rfl rfl)
theorem dX10_init_77 : decode cX10_init 77 = .ok (.iconst 3, 1) := dk_6 (dk_at dksX10_init_3 6 rfl rfl)
theorem dX10_init_78 : decode cX10_init 78 = .ok (.ldc 30, 2) := dk_18 30 (dk_at dksX10_init_3 7 rfl rfl)
theorem dX10_init_80 : decode cX10_init 80 = .ok (.castore, 1) := dk_85 (dk_at dksX10_init_3 9 rfl rfl)
theorem dX10_init_81 : decode cX10_init 81 = .ok (.dup, 1) := dk_89 (dk_at dksX10_init_3 10 rfl rfl)
theorem dX10_init_82 : decode cX10_init 82 = .ok (.iconst 4, 1) := dk_7 (dk_at dksX10_init_3 11 rfl rfl)
theorem dX10_init_83 : decode cX10_init 83 = .ok (.ldc 31, 2) := dk_18 31 (dk_at dksX10_init_3 12 rfl rfl)
theorem dX10_init_85 : decode cX10_init 85 = .ok (.castore, 1) := dk_85 (dk_at dksX10_init_3 14 rfl rfl)
theorem dX10_init_86 : decode cX10_init 86 = .ok (.dup, 1) := dk_89 (dk_at dksX10_init_3 15 rfl rfl)
theorem dX10_init_87 : decode cX10_init 87 = .ok (.iconst 5, 1) := dk_8 (dk_at dksX10_init_3 16 rfl rfl)
theorem dX10_init_88 : decode cX10_init 88 = .ok (.sipush 9233, 3) := dk_17 36 17 (dk_at dksX10_init_3 17 rfl rfl)
theorem dX10_init_91 : decode cX10_init 91 = .ok (.castore, 1) := dk_85 (dk_at dksX10_init_3 20 rfl rfl)
theorem dX10_init_92 : decode cX10_init 92 = .ok (.dup, 1) := dk_89 (dk_at dksX10_init_3 21 rfl rfl)
theorem dX10_init_93 : decode cX10_init 93 = .ok (.bipush 6, 2) := dk_16 6 (dk_at dksX10_init_3 22 rfl rfl)
theorem dX10_init_95 : decode cX10_init 95 = .ok (.ldc 32, 2) := dk_18 32 (dk_at dksX10_init_4 0 rfl rfl)
theorem dX10_init_97 : decode cX10_init 97 = .ok (.castore, 1) := dk_85 (dk_at dksX10_init_4 2 rfl rfl)
theorem dX10_init_98 : decode cX10_init 98 = .ok (.dup, 1) := dk_89 (dk_at dksX10_init_4 3 rfl rfl)
theorem dX10_init_99 : decode cX10_init 99 = .ok (.bipush 7, 2) := dk_16 7 (dk_at dksX10_init_4 4 rfl rfl)
theorem dX10_init_101 : decode cX10_init 101 = .ok (.ldc 33, 2) := dk_18 33 (dk_at dksX10_init_4 6 rfl rfl)
theorem dX10_init_103 : decode cX10_init 103 = .ok (.castore, 1) := dk_85 (dk_at dksX10_init_4 8 rfl rfl)
theorem dX10_init_104 : decode cX10_init 104 = .ok (.dup, 1) := dk_89 (dk_at dksX10_init_4 9 rfl rfl)
theorem dX10_init_105 : decode cX10_init 105 = .ok (.bipush 8, 2) := dk_16 8 (dk_at dksX10_init_4 10 rfl rfl)
theorem dX10_init_107 : decode cX10_init 107 = .ok (.ldc 34, 2) := dk_18 34 (dk_at dksX10_init_4 12 rfl rfl)
theorem dX10_init_109 : decode cX10_init 109 = .ok (.castore, 1) := dk_85 (dk_at dksX10_init_4 14 rfl rfl)
theorem dX10_init_110 : decode cX10_init 110 = .ok (.dup, 1) := dk_89 (dk_at dksX10_init_4 15 rfl rfl)
theorem dX10_init_111 : decode cX10_init 111 = .ok (.bipush 9, 2) := dk_16 9 (dk_at dksX10_init_4 16 rfl rfl)
theorem dX10_init_113 : decode cX10_init 113 = .ok (.ldc 35, 2) := dk_18 35 (dk_at dksX10_init_4 18 rfl rfl)
theorem dX10_init_115 : decode cX10_init 115 = .ok (.castore, 1) := dk_85 (dk_at dksX10_init_4 20 rfl rfl)
theorem dX10_init_116 : decode cX10_init 116 = .ok (.dup, 1) := dk_89 (dk_at dksX10_init_4 21 rfl rfl)
theorem dX10_init_117 : decode cX10_init 117 = .ok (.bipush 10, 2) := dk_16 10 (dk_at dksX10_init_4 22 rfl rfl)
theorem dX10_init_119 : decode cX10_init 119 = .ok (.ldc 36, 2) := dk_18 36 (dk_at dksX10_init_5 0 rfl rfl)
theorem dX10_init_121 : decode cX10_init 121 = .ok (.castore, 1) := dk_85 (dk_at dksX10_init_5 2 rfl rfl)
theorem dX10_init_122 : decode cX10_init 122 = .ok (.dup, 1) := dk_89 (dk_at dksX10_init_5 3 rfl rfl)
theorem dX10_init_123 : decode cX10_init 123 = .ok (.bipush 11, 2) := dk_16 11 (dk_at dksX10_init_5 4 rfl rfl)
theorem dX10_init_125 : decode cX10_init 125 = .ok (.ldc 37, 2) := dk_18 37 (dk_at dksX10_init_5 6 rfl rfl)
theorem dX10_init_127 : decode cX10_init 127 = .ok (.castore, 1) := dk_85 (dk_at dksX10_init_5 8 rfl rfl)
theorem dX10_init_128 : decode cX10_init 128 = .ok (.dup, 1) := dk_89 (dk_at dksX10_init_5 9 rfl rfl)
theorem dX10_init_129 : decode cX10_init 129 = .ok (.bipush 12, 2) := dk_16 12 (dk_at dksX10_init_5 10 rfl rfl)
theorem dX10_init_131 : decode cX10_init 131 = .ok (.bipush 96, 2) := dk_16 96 (dk_at dksX10_init_5 12 rfl rfl)
theorem dX10_init_133 : decode cX10_init 133 = .ok (.castore, 1) := dk_85 (dk_at dksX10_init_5 14 rfl rfl)
theorem dX10_init_134 : decode cX10_init 134 = .ok (.dup, 1) := dk_89 (dk_at dksX10_init_5 15 rfl rfl)
theorem dX10_init_135 : decode cX10_init 135 = .ok (.bipush 13, 2) := dk_16 13 (dk_at dksX10_init_5 16 rfl rfl)
theorem dX10_init_137 : decode cX10_init 137 = .ok (.ldc 38, 2) := dk_18 38 (dk_at dksX10_init_5 18 rfl rfl)
theorem dX10_init_139 : decode cX10_init 139 = .ok (.castore, 1) := dk_85 (dk_at dksX10_init_5 20 rfl rfl)
theorem dX10_init_140 : decode cX10_init 140 = .ok (.dup, 1) := dk_89 (dk_at dksX10_init_5 21 rfl rfl)
theorem dX10_init_141 : decode cX10_init 141 = .ok (.bipush 14, 2) := dk_16 14 (dk_at dksX10_init_5 22 rfl rfl)
theorem dX10_init_143 : decode cX10_init 143 = .ok (.ldc 37, 2) := dk_18 37 (dk_at dksX10_init_6 0 rfl rfl)
theorem dX10_init_145 : decode cX10_init 145 = .ok (.castore, 1) := dk_85 (dk_at dksX10_init_6 2 rfl rfl)
theorem dX10_init_146 : decode cX10_init 146 = .ok (.dup, 1) := dk_89 (dk_at dksX10_init_6 3 rfl rfl)
theorem dX10_init_147 : decode cX10_init 147 = .ok (.bipush 15, 2) := dk_16 15 (dk_at dksX10_init_6 4 rfl rfl)
theorem dX10_init_149 : decode cX10_init 149 = .ok (.bipush 96, 2) := dk_16 96 (dk_at dksX10_init_6 6 rfl rfl)
theorem dX10_init_151 : decode cX10_init 151 = .ok (.castore, 1) := dk_85 (dk_at dksX10_init_6 8 rfl rfl)
theorem dX10_init_152 : decode cX10_init 152 = .ok (.dup, 1) := dk_89 (dk_at dksX10_init_6 9 rfl rfl)
theorem dX10_init_153 : decode cX10_init 153 = .ok (.bipush 16, 2) := dk_16 16 (dk_at dksX10_init_6 10 rfl rfl)
theorem dX10_init_155 : decode cX10_init 155 = .ok (.ldc 39, 2) := dk_18 39 (dk_at dksX10_init_6 12 rfl rfl)
theorem dX10_init_157 : decode cX10_init 157 = .ok (.castore, 1) := dk_85 (dk_at dksX10_init_6 14 rfl rfl)
theorem dX10_init_158 : decode cX10_init 158 = .ok (.dup, 1) := dk_89 (dk_at dksX10_init_6 15 rfl rfl)
theorem dX10_init_159 : decode cX10_init 159 = .ok (.bipush 17, 2) := dk_16 17 (dk_at dksX10_init_6 16 rfl rfl)
theorem dX10_init_161 : decode cX10_init 161 = .ok (.sipush 197, 3) := dk_17 0 197 (dk_at dksX10_init_6 18 rfl rfl)
theorem dX10_init_164 : decode cX10_init 164 = .ok (.castore, 1) := dk_85 (dk_at dksX10_init_6 21 rfl rfl)
theorem dX10_init_165 : decode cX10_init 165 = .ok (.dup, 1) := dk_89 (dk_at dksX10_init_6 22 rfl rfl)
theorem dX10_init_166 : decode cX10_init 166 = .ok (.bipush 18, 2) := dk_16 18 (dk_at dksX10_init_7 0 rfl rfl)
theorem dX10_init_168 : decode cX10_init 168 = .ok (.ldc 39, 2) := dk_18 39 (dk_at dksX10_init_7 2 rfl rfl)
theorem dX10_init_170 : decode cX10_init 170 = .ok (.castore, 1) := dk_85 (dk_at dksX10_init_7 4 rfl rfl)
theorem dX10_init_171 : decode cX10_init 171 = .ok (.dup, 1) := dk_89 (dk_at dksX10_init_7 5 rfl rfl)
theorem dX10_init_172 : decode cX10_init 172 = .ok (.bipush 19, 2) := dk_16 19 (dk_at dksX10_init_7 6 rfl rfl)
theorem dX10_init_174 : decode cX10_init 174 = .ok (.sipush 196, 3) := dk_17 0 196 (dk_at dksX10_init_7 8 rfl rfl)
theorem dX10_init_177 : decode cX10_init 177 = .ok (.castore, 1) := dk_85 (dk_at dksX10_init_7 11 rfl rfl)
theorem dX10_init_178 : decode cX10_init 178 = .ok (.dup, 1) := dk_89 (dk_at dksX10_init_7 12 rfl rfl)
theorem dX10_init_179 : decode cX10_init 179 = .ok (.bipush 20, 2) := dk_16 20 (dk_at dksX10_init_7 13 rfl rfl)
theorem dX10_init_181 : decode cX10_init 181 = .ok (.ldc 36, 2) := dk_18 36 (dk_at dksX10_init_7 15 rfl rfl)
theorem dX10_init_183 : decode cX10_init 183 = .ok (.castore, 1) := dk_85 (dk_at dksX10_init_7 17 rfl rfl)
theorem dX10_init_184 : decode cX10_init 184 = .ok (.dup, 1) := dk_89 (dk_at dksX10_init_7 18 rfl rfl)
theorem dX10_init_185 : decode cX10_init 185 = .ok (.bipush 21, 2) := dk_16 21 (dk_at dksX10_init_7 19 rfl rfl)
theorem dX10_init_187 : decode cX10_init 187 = .ok (.ldc 37, 2) := dk_18 37 (dk_at dksX10_init_7 21 rfl rfl)
theorem dX10_init_189 : decode cX10_init 189 = .ok (.castore, 1) := dk_85 (dk_at dksX10_init_7 23 rfl rfl)
theorem dX10_init_190 : decode cX10_init 190 = .ok (.dup, 1) := dk_89 (dk_at dksX10_init_8 0 rfl rfl)
theorem dX10_init_191 : decode cX10_init 191 = .ok (.bipush 22, 2) := dk_16 22 (dk_at dksX10_init_8 1 rfl rfl)
theorem dX10_init_193 : decode cX10_init 193 = .ok (.sipush 193, 3) := dk_17 0 193 (dk_at dksX10_init_8 3 rfl rfl)
theorem dX10_init_196 : decode cX10_init 196 = .ok (.castore, 1) := dk_85 (dk_at dksX10_init_8 6 rfl rfl)
theorem dX10_init_197 : decode cX10_init 197 = .ok (.dup, 1) := dk_89 (dk_at dksX10_init_8 7 rfl rfl)
theorem dX10_init_198 : decode cX10_init 198 = .ok (.bipush 23, 2) := dk_16 23 (dk_at dksX10_init_8 8 rfl rfl)
theorem dX10_init_200 : decode cX10_init 200 = .ok (.ldc 40, 2) := dk_18 40 (dk_at dksX10_init_8 10 rfl rfl)
theorem dX10_init_202 : decode cX10_init 202 = .ok (.castore, 1) := dk_85 (dk_at dksX10_init_8 12 rfl rfl)
theorem dX10_init_203 : decode cX10_init 203 = .ok (.dup, 1) := dk_89 (dk_at dksX10_init_8 13 rfl rfl)
theorem dX10_init_204 : decode cX10_init 204 = .ok (.bipush 24, 2) := dk_16 24 (dk_at dksX10_init_8 14 rfl rfl)
theorem dX10_init_206 : decode cX10_init 206 = .ok (.sipush 13056, 3) := dk_17 51 0 (dk_at dksX10_init_8 16 rfl rfl)
theorem dX10_init_209 : decode cX10_init 209 = .ok (.castore, 1) := dk_85 (dk_at dksX10_init_8 19 rfl rfl)
theorem dX10_init_210 : decode cX10_init 210 = .ok (.dup, 1) := dk_89 (dk_at dksX10_init_8 20 rfl rfl)
theorem dX10_init_211 : decode cX10_init 211 = .ok (.bipush 25, 2) := dk_16 25 (dk_at dksX10_init_8 21 rfl rfl)
theorem dX10_init_213 : decode cX10_init 213 = .ok (.ldc 41, 2) := dk_18 41 (dk_at dksX10_init_9 0 rfl rfl)
theorem dX10_init_215 : decode cX10_init 215 = .ok (.castore, 1) := dk_85 (dk_at dksX10_init_9 2 rfl rfl)
theorem dX10_init_216 : decode cX10_init 216 = .ok (.dup, 1) := dk_89 (dk_at dksX10_init_9 3 rfl rfl)
theorem dX10_init_217 : decode cX10_init 217 = .ok (.bipush 26, 2) := dk_16 26 (dk_at dksX10_init_9 4 rfl rfl)
theorem dX10_init_219 : decode cX10_init 219 = .ok (.sipush 13573, 3) := dk_17 53 5 (dk_at dksX10_init_9 6 rfl rfl)
theorem dX10_init_222 : decode cX10_init 222 = .ok (.castore, 1) := dk_85 (dk_at dksX10_init_9 9 rfl rfl)
theorem dX10_init_223 : decode cX10_init 223 = .ok (.dup, 1) := dk_89 (dk_at dksX10_init_9 10 rfl rfl)
theorem dX10_init_224 : decode cX10_init 224 = .ok (.bipush 27, 2) := dk_16 27 (dk_at dksX10_init_9 11 rfl rfl)
theorem dX10_init_226 : decode cX10_init 226 = .ok (.ldc 42, 2) := dk_18 42 (dk_at dksX10_init_9 13 rfl rfl)
theorem dX10_init_228 : decode cX10_init 228 = .ok (.castore, 1) := dk_85 (dk_at dksX10_init_9 15 rfl rfl)
theorem dX10_init_229 : decode cX10_init 229 = .ok (.dup, 1) := dk_89 (dk_at dksX10_init_9 16 rfl rfl)
theorem dX10_init_230 : decode cX10_init 230 = .ok (.bipush 28, 2) := dk_16 28 (dk_at dksX10_init_9 17 rfl rfl)
theorem dX10_init_232 : decode cX10_init 232 = .ok (.sipush 13828, 3) := dk_17 54 4 (dk_at dksX10_init_9 19 rfl rfl)
theorem dX10_init_235 : decode cX10_init 235 = .ok (.castore, 1) := dk_85 (dk_at dksX10_init_9 22 rfl rfl)
theorem dX10_init_236 : decode cX10_init 236 = .ok (.dup, 1) := dk_89 (dk_at dksX10_init_9 23 rfl rfl)
theorem dX10_init_237 : decode cX10_init 237 = .ok (.bipush 29, 2) := dk_16 29 (dk_at dksX10_init_10 0 rfl rfl)
theorem dX10_init_239 : decode cX10_init 239 = .ok (.ldc 41, 2) := dk_18 41 (dk_at dksX10_init_10 2 rfl rfl)
theorem dX10_init_241 : decode cX10_init 241 = .ok (.castore, 1) := dk_85 (dk_at dksX10_init_10 4 rfl rfl)
theorem dX10_init_242 : decode cX10_init 242 = .ok (.dup, 1) := dk_89 (dk_at dksX10_init_10 5 rfl rfl)
theorem dX10_init_243 : decode cX10_init 243 = .ok (.bipush 30, 2) := dk_16 30 (dk_at dksX10_init_10 6 rfl rfl)
theorem dX10_init_245 : decode cX10_init 245 = .ok (.sipush 14084, 3) := dk_17 55 4 (dk_at dksX10_init_10 8 rfl rfl)
theorem dX10_init_248 : decode cX10_init 248 = .ok (.castore, 1) := dk_85 (dk_at dksX10_init_10 11 rfl rfl)
theorem dX10_init_249 : decode cX10_init 249 = .ok (.dup, 1) := dk_89 (dk_at dksX10_init_10 12 rfl rfl)
theorem dX10_init_250 : decode cX10_init 250 = .ok (.bipush 31, 2) := dk_16 31 (dk_at dksX10_init_10 13 rfl rfl)
theorem dX10_init_252 : decode cX10_init 252 = .ok (.ldc 43, 2) := dk_18 43 (dk_at dksX10_init_10 15 rfl rfl)
theorem dX10_init_254 : decode cX10_init 254 = .ok (.castore, 1) := dk_85 (dk_at dksX10_init_10 17 rfl rfl)
theorem dX10_init_255 : decode cX10_init 255 = .ok (.dup, 1) := dk_89 (dk_at dksX10_init_10 18 rfl rfl)
theorem dX10_init_256 : decode cX10_init 256 = .ok (.bipush 32, 2) := dk_16 32 (dk_at dksX10_init_10 19 rfl rfl)
theorem dX10_init_258 : decode cX10_init 258 = .ok (.sipush 14085, 3) := dk_17 55 5 (dk_at dksX10_init_10 21 rfl rfl)
theorem dX10_init_261 : decode cX10_init 261 = .ok (.castore, 1) := dk_85 (dk_at dksX10_init_11 0 rfl rfl)
theorem dX10_init_262 : decode cX10_init 262 = .ok (.dup, 1) := dk_89 (dk_at dksX10_init_11 1 rfl rfl)
theorem dX10_init_263 : decode cX10_init 263 = .ok (.bipush 33, 2) := dk_16 33 (dk_at dksX10_init_11 2 rfl rfl)
theorem dX10_init_265 : decode cX10_init 265 = .ok (.ldc 43, 2) := dk_18 43 (dk_at dksX10_init_11 4 rfl rfl)
theorem dX10_init_267 : decode cX10_init 267 = .ok (.castore, 1) := dk_85 (dk_at dksX10_init_11 6 rfl rfl)
theorem dX10_init_268 : decode cX10_init 268 = .ok (.dup, 1) := dk_89 (dk_at dksX10_init_11 7 rfl rfl)
theorem dX10_init_269 : decode cX10_init 269 = .ok (.bipush 34, 2) := dk_16 34 (dk_at dksX10_init_11 8 rfl rfl)
theorem dX10_init_271 : decode cX10_init 271 = .ok (.sipush 13569, 3) := dk_17 53 1 (dk_at dksX10_init_11 10 rfl rfl)
theorem dX10_init_274 : decode cX10_init 274 = .ok (.castore, 1) := dk_85 (dk_at dksX10_init_11 13 rfl rfl)
theorem dX10_init_275 : decode cX10_init 275 = .ok (.dup, 1) := dk_89 (dk_at dksX10_init_11 14 rfl rfl)
theorem dX10_init_276 : decode cX10_init 276 = .ok (.bipush 35, 2) := dk_16 35 (dk_at dksX10_init_11 15 rfl rfl)
theorem dX10_init_278 : decode cX10_init 278 = .ok (.ldc 44, 2) := dk_18 44 (dk_at dksX10_init_11 17 rfl rfl)
theorem dX10_init_280 : decode cX10_init 280 = .ok (.castore, 1) := dk_85 (dk_at dksX10_init_11 19 rfl rfl)
theorem dX10_init_281 : decode cX10_init 281 = .ok (.dup, 1) := dk_89 (dk_at dksX10_init_11 20 rfl rfl)
theorem dX10_init_282 : decode cX10_init 282 = .ok (.bipush 36, 2) := dk_16 36 (dk_at dksX10_init_11 21 rfl rfl)
theorem dX10_init_284 : decode cX10_init 284 = .ok (.ldc 45, 2) := dk_18 45 (dk_at dksX10_init_12 0 rfl rfl)
theorem dX10_init_286 : decode cX10_init 286 = .ok (.castore, 1) := dk_85 (dk_at dksX10_init_12 2 rfl rfl)
theorem dX10_init_287 : decode cX10_init 287 = .ok (.dup, 1) := dk_89 (dk_at dksX10_init_12 3 rfl rfl)
theorem dX10_init_288 : decode cX10_init 288 = .ok (.bipush 37, 2) := dk_16 37 (dk_at dksX10_init_12 4 rfl rfl)
theorem dX10_init_290 : decode cX10_init 290 = .ok (.ldc 46, 2) := dk_18 46 (dk_at dksX10_init_12 6 rfl rfl)
theorem dX10_init_292 : decode cX10_init 292 = .ok (.castore, 1) := dk_85 (dk_at dksX10_init_12 8 rfl rfl)
theorem dX10_init_293 : decode cX10_init 293 = .ok (.dup, 1) := dk_89 (dk_at dksX10_init_12 9 rfl rfl)
theorem dX10_init_294 : decode cX10_init 294 = .ok (.bipush 38, 2) := dk_16 38 (dk_at dksX10_init_12 10 rfl rfl)
theorem dX10_init_296 : decode cX10_init 296 = .ok (.ldc 47, 2) := dk_18 47 (dk_at dksX10_init_12 12 rfl rfl)
theorem dX10_init_298 : decode cX10_init 298 = .ok (.castore, 1) := dk_85 (dk_at dksX10_init_12 14 rfl rfl)
theorem dX10_init_299 : decode cX10_init 299 = .ok (.dup, 1) := dk_89 (dk_at dksX10_init_12 15 rfl rfl)
theorem dX10_init_300 : decode cX10_init 300 = .ok (.bipush 39, 2) := dk_16 39 (dk_at dksX10_init_12 16 rfl rfl)
theorem dX10_init_302 : decode cX10_init 302 = .ok (.ldc 48, 2) := dk_18 48 (dk_at dksX10_init_12 18 rfl rfl)
theorem dX10_init_304 : decode cX10_init 304 = .ok (.castore, 1) := dk_85 (dk_at dksX10_init_12 20 rfl rfl)
theorem dX10_init_305 : decode cX10_init 305 = .ok (.dup, 1) := dk_89 (dk_at dksX10_init_12 21 rfl rfl)
theorem dX10_init_306 : decode cX10_init 306 = .ok (.bipush 40, 2) := dk_16 40 (dk_at dksX10_init_12 22 rfl rfl)
theorem dX10_init_308 : decode cX10_init 308 = .ok (.ldc 49, 2) := dk_18 49 (dk_at dksX10_init_13 0 rfl rfl)
theorem dX10_init_310 : decode cX10_init 310 = .ok (.castore, 1) := dk_85 (dk_at dksX10_init_13 2 rfl rfl)
theorem dX10_init_311 : decode cX10_init 311 = .ok (.dup, 1) := dk_89 (dk_at dksX10_init_13 3 rfl rfl)
theorem dX10_init_312 : decode cX10_init 312 = .ok (.bipush 41, 2) := dk_16 41 (dk_at dksX10_init_13 4 rfl rfl)
theorem dX10_init_314 : decode cX10_init 314 = .ok (.ldc 50, 2) := dk_18 50 (dk_at dksX10_init_13 6 rfl rfl)
theorem dX10_init_316 : decode cX10_init 316 = .ok (.castore, 1) := dk_85 (dk_at dksX10_init_13 8 rfl rfl)
theorem dX10_init_317 : decode cX10_init 317 = .ok (.dup, 1) := dk_89 (dk_at dksX10_init_13 9 rfl rfl)
theorem dX10_init_318 : decode cX10_init 318 = .ok (.bipush 42, 2) := dk_16 42 (dk_at dksX10_init_13 10 rfl rfl)
theorem dX10_init_320 : decode cX10_init 320 = .ok (.ldc 51, 2) := dk_18 51 (dk_at dksX10_init_13 12 rfl rfl)
theorem dX10_init_322 : decode cX10_init 322 = .ok (.castore, 1) := dk_85 (dk_at dksX10_init_13 14 rfl rfl)
theorem dX10_init_323 : decode cX10_init 323 = .ok (.dup, 1) := dk_89 (dk_at dksX10_init_13 15 rfl rfl)
theorem dX10_init_324 : decode cX10_init 324 = .ok (.bipush 43, 2) := dk_16 43 (dk_at dksX10_init_13 16 rfl rfl)
theorem dX10_init_326 : decode cX10_init 326 = .ok (.ldc 52, 2) := dk_18 52 (dk_at dksX10_init_13 18 rfl rfl)
theorem dX10_init_328 : decode cX10_init 328 = .ok (.castore, 1) := dk_85 (dk_at dksX10_init_13 20 rfl rfl)
theorem dX10_init_329 : decode cX10_init 329 = .ok (.dup, 1) := dk_89 (dk_at dksX10_init_13 21 rfl rfl)
theorem dX10_init_330 : decode cX10_init 330 = .ok (.bipush 44, 2) := dk_16 44 (dk_at dksX10_init_13 22 rfl rfl)
theorem dX10_init_332 : decode cX10_init 332 = .ok (.ldc 53, 2) := dk_18 53 (dk_at dksX10_init_14 0 rfl rfl)
theorem dX10_init_334 : decode cX10_init 334 = .ok (.castore, 1) := dk_85 (dk_at dksX10_init_14 2 rfl rfl)
theorem dX10_init_335 : decode cX10_init 335 = .ok (.dup, 1) := dk_89 (dk_at dksX10_init_14 3 rfl rfl)
theorem dX10_init_336 : decode cX10_init 336 = .ok (.bipush 45, 2) := dk_16 45 (dk_at dksX10_init_14 4 rfl rfl)
theorem dX10_init_338 : decode cX10_init 338 = .ok (.ldc 54, 2) := dk_18 54 (dk_at dksX10_init_14 6 rfl rfl)
theorem dX10_init_340 : decode cX10_init 340 = .ok (.castore, 1) := dk_85 (dk_at dksX10_init_14 8 rfl rfl)
theorem dX10_init_341 : decode cX10_init 341 = .ok (.dup, 1) := dk_89 (dk_at dksX10_init_14 9 rfl rfl)
theorem dX10_init_342 : decode cX10_init 342 = .ok (.bipush 46, 2) := dk_16 46 (dk_at dksX10_init_14 10 rfl rfl)
theorem dX10_init_344 : decode cX10_init 344 = .ok (.ldc 55, 2) := dk_18 55 (dk_at dksX10_init_14 12 rfl rfl)
theorem dX10_init_346 : decode cX10_init 346 = .ok (.castore, 1) := dk_85 (dk_at dksX10_init_14 14 rfl rfl)
theorem dX10_init_347 : decode cX10_init 347 = .ok (.dup, 1) := dk_89 (dk_at dksX10_init_14 15 rfl rfl)
theorem dX10_init_348 : decode cX10_init 348 = .ok (.bipush 47, 2) := dk_16 47 (dk_at dksX10_init_14 16 rfl rfl)
theorem dX10_init_350 : decode cX10_init 350 = .ok (.ldc 56, 2) := dk_18 56 (dk_at dksX10_init_14 18 rfl rfl)
theorem dX10_init_352 : decode cX10_init 352 = .ok (.castore, 1) := dk_85 (dk_at dksX10_init_14 20 rfl rfl)
theorem dX10_init_353 : decode cX10_init 353 = .ok (.dup, 1) := dk_89 (dk_at dksX10_init_14 21 rfl rfl)
theorem dX10_init_354 : decode cX10_init 354 = .ok (.bipush 48, 2) := dk_16 48 (dk_at dksX10_init_14 22 rfl rfl)
theorem dX10_init_356 : decode cX10_init 356 = .ok (.ldc 57, 2) := dk_18 57 (dk_at dksX10_init_15 0 rfl rfl)
theorem dX10_init_358 : decode cX10_init 358 = .ok (.castore, 1) := dk_85 (dk_at dksX10_init_15 2 rfl rfl)
theorem dX10_init_359 : decode cX10_init 359 = .ok (.dup, 1) := dk_89 (dk_at dksX10_init_15 3 rfl rfl)
theorem dX10_init_360 : decode cX10_init 360 = .ok (.bipush 49, 2) := dk_16 49 (dk_at dksX10_init_15 4 rfl rfl)
theorem dX10_init_362 : decode cX10_init 362 = .ok (.ldc 58, 2) := dk_18 58 (dk_at dksX10_init_15 6 rfl rfl)
theorem dX10_init_364 : decode cX10_init 364 = .ok (.castore, 1) := dk_85 (dk_at dksX10_init_15 8 rfl rfl)
theorem dX10_init_365 : decode cX10_init 365 = .ok (.dup, 1) := dk_89 (dk_at dksX10_init_15 9 rfl rfl)
theorem dX10_init_366 : decode cX10_init 366 = .ok (.bipush 50, 2) := dk_16 50 (dk_at dksX10_init_15 10 rfl rfl)
theorem dX10_init_368 : decode cX10_init 368 = .ok (.sipush 12160, 3) := dk_17 47 128 (dk_at dksX10_init_15 12 rfl rfl)
theorem dX10_init_371 : decode cX10_init 371 = .ok (.castore, 1) := dk_85 (dk_at dksX10_init_15 15 rfl rfl)
theorem dX10_init_372 : decode cX10_init 372 = .ok (.dup, 1) := dk_89 (dk_at dksX10_init_15 16 rfl rfl)
theorem dX10_init_373 : decode cX10_init 373 = .ok (.bipush 51, 2) := dk_16 51 (dk_at dksX10_init_15 17 rfl rfl)
theorem dX10_init_375 : decode cX10_init 375 = .ok (.ldc 59, 2) := dk_18 59 (dk_at dksX10_init_15 19 rfl rfl)
theorem dX10_init_377 : decode cX10_init 377 = .ok (.castore, 1) := dk_85 (dk_at dksX10_init_15 21 rfl rfl)
theorem dX10_init_378 : decode cX10_init 378 = .ok (.dup, 1) := dk_89 (dk_at dksX10_init_15 22 rfl rfl)
theorem dX10_init_379 : decode cX10_init 379 = .ok (.bipush 52, 2) := dk_16 52 (dk_at dksX10_init_16 0 rfl rfl)
theorem dX10_init_381 : decode cX10_init 381 = .ok (.sipush 12176, 3) := dk_17 47 144 (dk_at dksX10_init_16 2 rfl rfl)
theorem dX10_init_384 : decode cX10_init 384 = .ok (.castore, 1) := dk_85 (dk_at dksX10_init_16 5 rfl rfl)
theorem dX10_init_385 : decode cX10_init 385 = .ok (.dup, 1) := dk_89 (dk_at dksX10_init_16 6 rfl rfl)
theorem dX10_init_386 : decode cX10_init 386 = .ok (.bipush 53, 2) := dk_16 53 (dk_at dksX10_init_16 7 rfl rfl)
theorem dX10_init_388 : decode cX10_init 388 = .ok (.ldc 60, 2) := dk_18 60 (dk_at dksX10_init_16 9 rfl rfl)
theorem dX10_init_390 : decode cX10_init 390 = .ok (.castore, 1) := dk_85 (dk_at dksX10_init_16 11 rfl rfl)
theorem dX10_init_391 : decode cX10_init 391 = .ok (.dup, 1) := dk_89 (dk_at dksX10_init_16 12 rfl rfl)
theorem dX10_init_392 : decode cX10_init 392 = .ok (.bipush 54, 2) := dk_16 54 (dk_at dksX10_init_16 13 rfl rfl)
theorem dX10_init_394 : decode cX10_init 394 = .ok (.ldc 61, 2) := dk_18 61 (dk_at dksX10_init_16 15 rfl rfl)
theorem dX10_init_396 : decode cX10_init 396 = .ok (.castore, 1) := dk_85 (dk_at dksX10_init_16 17 rfl rfl)
theorem dX10_init_397 : decode cX10_init 397 = .ok (.dup, 1) := dk_89 (dk_at dksX10_init_16 18 rfl rfl)
theorem dX10_init_398 : decode cX10_init 398 = .ok (.bipush 55, 2) := dk_16 55 (dk_at dksX10_init_16 19 rfl rfl)
theorem dX10_init_400 : decode cX10_init 400 = .ok (.ldc 62, 2) := dk_18 62 (dk_at dksX10_init_16 21 rfl rfl)
theorem dX10_init_402 : decode cX10_init 402 = .ok (.castore, 1) := dk_85 (dk_at dksX10_init_16 23 rfl rfl)
theorem dX10_init_403 : decode cX10_init 403 = .ok (.dup, 1) := dk_89 (dk_at dksX10_init_17 0 rfl rfl)
theorem dX10_init_404 : decode cX10_init 404 = .ok (.bipush 56, 2) := dk_16 56 (dk_at dksX10_init_17 1 rfl rfl)
theorem dX10_init_406 : decode cX10_init 406 = .ok (.ldc 63, 2) := dk_18 63 (dk_at dksX10_init_17 3 rfl rfl)
theorem dX10_init_408 : decode cX10_init 408 = .ok (.castore, 1) := dk_85 (dk_at dksX10_init_17 5 rfl rfl)
theorem dX10_init_409 : decode cX10_init 409 = .ok (.dup, 1) := dk_89 (dk_at dksX10_init_17 6 rfl rfl)
theorem dX10_init_410 : decode cX10_init 410 = .ok (.bipush 57, 2) := dk_16 57 (dk_at dksX10_init_17 7 rfl rfl)
theorem dX10_init_412 : decode cX10_init 412 = .ok (.ldc 64, 2) := dk_18 64 (dk_at dksX10_init_17 9 rfl rfl)
theorem dX10_init_414 : decode cX10_init 414 = .ok (.castore, 1) := dk_85 (dk_at dksX10_init_17 11 rfl rfl)
theorem dX10_init_415 : decode cX10_init 415 = .ok (.dup, 1) := dk_89 (dk_at dksX10_init_17 12 rfl rfl)
theorem dX10_init_416 : decode cX10_init 416 = .ok (.bipush 58, 2) := dk_16 58 (dk_at dksX10_init_17 13 rfl rfl)
theorem dX10_init_418 : decode cX10_init 418 = .ok (.sipush 12096, 3) := dk_17 47 64 (dk_at dksX10_init_17 15 rfl rfl)
theorem dX10_init_421 : decode cX10_init 421 = .ok (.castore, 1) := dk_85 (dk_at dksX10_init_17 18 rfl rfl)
theorem dX10_init_422 : decode cX10_init 422 = .ok (.dup, 1) := dk_89 (dk_at dksX10_init_17 19 rfl rfl)
theorem dX10_init_423 : decode cX10_init 423 = .ok (.bipush 59, 2) := dk_16 59 (dk_at dksX10_init_17 20 rfl rfl)
theorem dX10_init_425 : decode cX10_init 425 = .ok (.ldc 65, 2) := dk_18 65 (dk_at dksX10_init_17 22 rfl rfl)
theorem dX10_init_427 : decode cX10_init 427 = .ok (.castore, 1) := dk_85 (dk_at dksX10_init_18 0 rfl rfl)
theorem dX10_init_428 : decode cX10_init 428 = .ok (.dup, 1) := dk_89 (dk_at dksX10_init_18 1 rfl rfl)
theorem dX10_init_429 : decode cX10_init 429 = .ok (.bipush 60, 2) := dk_16 60 (dk_at dksX10_init_18 2 rfl rfl)
theorem dX10_init_431 : decode cX10_init 431 = .ok (.sipush 12112, 3) := dk_17 47 80 (dk_at dksX10_init_18 4 rfl rfl)
theorem dX10_init_434 : decode cX10_init 434 = .ok (.castore, 1) := dk_85 (dk_at dksX10_init_18 7 rfl rfl)
theorem dX10_init_435 : decode cX10_init 435 = .ok (.dup, 1) := dk_89 (dk_at dksX10_init_18 8 rfl rfl)
theorem dX10_init_436 : decode cX10_init 436 = .ok (.bipush 61, 2) := dk_16 61 (dk_at dksX10_init_18 9 rfl rfl)
theorem dX10_init_438 : decode cX10_init 438 = .ok (.ldc 66, 2) := dk_18 66 (dk_at dksX10_init_18 11 rfl rfl)
theorem dX10_init_440 : decode cX10_init 440 = .ok (.castore, 1) := dk_85 (dk_at dksX10_init_18 13 rfl rfl)
theorem dX10_init_441 : decode cX10_init 441 = .ok (.dup, 1) := dk_89 (dk_at dksX10_init_18 14 rfl rfl)
theorem dX10_init_442 : decode cX10_init 442 = .ok (.bipush 62, 2) := dk_16 62 (dk_at dksX10_init_18 15 rfl rfl)
theorem dX10_init_444 : decode cX10_init 444 = .ok (.sipush 12128, 3) := dk_17 47 96 (dk_at dksX10_init_18 17 rfl rfl)
theorem dX10_init_447 : decode cX10_init 447 = .ok (.castore, 1) := dk_85 (dk_at dksX10_init_18 20 rfl rfl)
theorem dX10_init_448 : decode cX10_init 448 = .ok (.dup, 1) := dk_89 (dk_at dksX10_init_18 21 rfl rfl)
theorem dX10_init_449 : decode cX10_init 449 = .ok (.bipush 63, 2) := dk_16 63 (dk_at dksX10_init_18 22 rfl rfl)
theorem dX10_init_451 : decode cX10_init 451 = .ok (.ldc 67, 2) := dk_18 67 (dk_at dksX10_init_19 0 rfl rfl)
theorem dX10_init_453 : decode cX10_init 453 = .ok (.castore, 1) := dk_85 (dk_at dksX10_init_19 2 rfl rfl)
theorem dX10_init_454 : decode cX10_init 454 = .ok (.dup, 1) := dk_89 (dk_at dksX10_init_19 3 rfl rfl)
theorem dX10_init_455 : decode cX10_init 455 = .ok (.bipush 64, 2) := dk_16 64 (dk_at dksX10_init_19 4 rfl rfl)
theorem dX10_init_457 : decode cX10_init 457 = .ok (.ldc 68, 2) := dk_18 68 (dk_at dksX10_init_19 6 rfl rfl)
theorem dX10_init_459 : decode cX10_init 459 = .ok (.castore, 1) := dk_85 (dk_at dksX10_init_19 8 rfl rfl)
theorem dX10_init_460 : decode cX10_init 460 = .ok (.dup, 1) := dk_89 (dk_at dksX10_init_19 9 rfl rfl)
theorem dX10_init_461 : decode cX10_init 461 = .ok (.bipush 65, 2) := dk_16 65 (dk_at dksX10_init_19 10 rfl rfl)
theorem dX10_init_463 : decode cX10_init 463 = .ok (.sipush 10103, 3) := dk_17 39 119 (dk_at dksX10_init_19 12 rfl rfl)
theorem dX10_init_466 : decode cX10_init 466 = .ok (.castore, 1) := dk_85 (dk_at dksX10_init_19 15 rfl rfl)
theorem dX10_init_467 : decode cX10_init 467 = .ok (.dup, 1) := dk_89 (dk_at dksX10_init_19 16 rfl rfl)
theorem dX10_init_468 : decode cX10_init 468 = .ok (.bipush 66, 2) := dk_16 66 (dk_at dksX10_init_19 17 rfl rfl)
theorem dX10_init_470 : decode cX10_init 470 = .ok (.ldc 69, 2) := dk_18 69 (dk_at dksX10_init_19 19 rfl rfl)
theorem dX10_init_472 : decode cX10_init 472 = .ok (.castore, 1) := dk_85 (dk_at dksX10_init_19 21 rfl rfl)
theorem dX10_init_473 : decode cX10_init 473 = .ok (.dup, 1) := dk_89 (dk_at dksX10_init_19 22 rfl rfl)
theorem dX10_init_474 : decode cX10_init 474 = .ok (.bipush 67, 2) := dk_16 67 (dk_at dksX10_init_20 0 rfl rfl)
theorem dX10_init_476 : decode cX10_init 476 = .ok (.ldc 70, 2) := dk_18 70 (dk_at dksX10_init_20 2 rfl rfl)
theorem dX10_init_478 : decode cX10_init 478 = .ok (.castore, 1) := dk_85 (dk_at dksX10_init_20 4 rfl rfl)
theorem dX10_init_479 : decode cX10_init 479 = .ok (.dup, 1) := dk_89 (dk_at dksX10_init_20 5 rfl rfl)
theorem dX10_init_480 : decode cX10_init 480 = .ok (.bipush 68, 2) := dk_16 68 (dk_at dksX10_init_20 6 rfl rfl)
theorem dX10_init_482 : decode cX10_init 482 = .ok (.ldc 71, 2) := dk_18 71 (dk_at dksX10_init_20 8 rfl rfl)
theorem dX10_init_484 : decode cX10_init 484 = .ok (.castore, 1) := dk_85 (dk_at dksX10_init_20 10 rfl rfl)
theorem dX10_init_485 : decode cX10_init 485 = .ok (.dup, 1) := dk_89 (dk_at dksX10_init_20 11 rfl rfl)
theorem dX10_init_486 : decode cX10_init 486 = .ok (.bipush 69, 2) := dk_16 69 (dk_at dksX10_init_20 12 rfl rfl)
theorem dX10_init_488 : decode cX10_init 488 = .ok (.sipush 10096, 3) := dk_17 39 112 (dk_at dksX10_init_20 14 rfl rfl)
theorem dX10_init_491 : decode cX10_init 491 = .ok (.castore, 1) := dk_85 (dk_at dksX10_init_20 17 rfl rfl)
theorem dX10_init_492 : decode cX10_init 492 = .ok (.dup, 1) := dk_89 (dk_at dksX10_init_20 18 rfl rfl)
theorem dX10_init_493 : decode cX10_init 493 = .ok (.bipush 70, 2) := dk_16 70 (dk_at dksX10_init_20 19 rfl rfl)
theorem dX10_init_495 : decode cX10_init 495 = .ok (.ldc 72, 2) := dk_18 72 (dk_at dksX10_init_20 21 rfl rfl)
theorem dX10_init_497 : decode cX10_init 497 = .ok (.castore, 1) := dk_85 (dk_at dksX10_init_20 23 rfl rfl)
theorem dX10_init_498 : decode cX10_init 498 = .ok (.dup, 1) := dk_89 (dk_at dksX10_init_21 0 rfl rfl)
theorem dX10_init_499 : decode cX10_init 499 = .ok (.bipush 71, 2) := dk_16 71 (dk_at dksX10_init_21 1 rfl rfl)
theorem dX10_init_501 : decode cX10_init 501 = .ok (.ldc 73, 2) := dk_18 73 (dk_at dksX10_init_21 3 rfl rfl)
theorem dX10_init_503 : decode cX10_init 503 = .ok (.castore, 1) := dk_85 (dk_at dksX10_init_21 5 rfl rfl)
theorem dX10_init_504 : decode cX10_init 504 = .ok (.dup, 1) := dk_89 (dk_at dksX10_init_21 6 rfl rfl)
theorem dX10_init_505 : decode cX10_init 505 = .ok (.bipush 72, 2) := dk_16 72 (dk_at dksX10_init_21 7 rfl rfl)
theorem dX10_init_507 : decode cX10_init 507 = .ok (.ldc 74, 2) := dk_18 74 (dk_at dksX10_init_21 9 rfl rfl)
theorem dX10_init_509 : decode cX10_init 509 = .ok (.castore, 1) := dk_85 (dk_at dksX10_init_21 11 rfl rfl)
theorem dX10_init_510 : decode cX10_init 510 = .ok (.dup, 1) := dk_89 (dk_at dksX10_init_21 12 rfl rfl)
theorem dX10_init_511 : decode cX10_init 511 = .ok (.bipush 73, 2) := dk_16 73 (dk_at dksX10_init_21 13 rfl rfl)
theorem dX10_init_513 : decode cX10_init 513 = .ok (.sipush 10096, 3) := dk_17 39 112 (dk_at dksX10_init_21 15 rfl rfl)
theorem dX10_init_516 : decode cX10_init 516 = .ok (.castore, 1) := dk_85 (dk_at dksX10_init_21 18 rfl rfl)
theorem dX10_init_517 : decode cX10_init 517 = .ok (.dup, 1) := dk_89 (dk_at dksX10_init_21 19 rfl rfl)
theorem dX10_init_518 : decode cX10_init 518 = .ok (.bipush 74, 2) := dk_16 74 (dk_at dksX10_init_21 20 rfl rfl)
theorem dX10_init_520 : decode cX10_init 520 = .ok (.ldc 65, 2) := dk_18 65 (dk_at dksX10_init_21 22 rfl rfl)
theorem dX10_init_522 : decode cX10_init 522 = .ok (.castore, 1) := dk_85 (dk_at dksX10_init_22 0 rfl rfl)
theorem dX10_init_523 : decode cX10_init 523 = .ok (.dup, 1) := dk_89 (dk_at dksX10_init_22 1 rfl rfl)
theorem dX10_init_524 : decode cX10_init 524 = .ok (.bipush 75, 2) := dk_16 75 (dk_at dksX10_init_22 2 rfl rfl)
theorem dX10_init_526 : decode cX10_init 526 = .ok (.sipush 11079, 3) := dk_17 43 71 (dk_at dksX10_init_22 4 rfl rfl)
theorem dX10_init_529 : decode cX10_init 529 = .ok (.castore, 1) := dk_85 (dk_at dksX10_init_22 7 rfl rfl)
theorem dX10_init_530 : decode cX10_init 530 = .ok (.dup, 1) := dk_89 (dk_at dksX10_init_22 8 rfl rfl)
theorem dX10_init_531 : decode cX10_init 531 = .ok (.bipush 76, 2) := dk_16 76 (dk_at dksX10_init_22 9 rfl rfl)
theorem dX10_init_533 : decode cX10_init 533 = .ok (.ldc 75, 2) := dk_18 75 (dk_at dksX10_init_22 11 rfl rfl)
theorem dX10_init_535 : decode cX10_init 535 = .ok (.castore, 1) := dk_85 (dk_at dksX10_init_22 13 rfl rfl)
theorem dX10_init_536 : decode cX10_init 536 = .ok (.dup, 1) := dk_89 (dk_at dksX10_init_22 14 rfl rfl)
theorem dX10_init_537 : decode cX10_init 537 = .ok (.bipush 77, 2) := dk_16 77 (dk_at dksX10_init_22 15 rfl rfl)
theorem dX10_init_539 : decode cX10_init 539 = .ok (.sipush 13392, 3) := dk_17 52 80 (dk_at dksX10_init_22 17 rfl rfl)
theorem dX10_init_542 : decode cX10_init 542 = .ok (.castore, 1) := dk_85 (dk_at dksX10_init_22 20 rfl rfl)
theorem dX10_init_543 : decode cX10_init 543 = .ok (.dup, 1) := dk_89 (dk_at dksX10_init_22 21 rfl rfl)
theorem dX10_init_544 : decode cX10_init 544 = .ok (.bipush 78, 2) := dk_16 78 (dk_at dksX10_init_22 22 rfl rfl)
theorem dX10_init_546 : decode cX10_init 546 = .ok (.ldc 76, 2) := dk_18 76 (dk_at dksX10_init_23 0 rfl rfl)
theorem dX10_init_548 : decode cX10_init 548 = .ok (.castore, 1) := dk_85 (dk_at dksX10_init_23 2 rfl rfl)
theorem dX10_init_549 : decode cX10_init 549 = .ok (.dup, 1) := dk_89 (dk_at dksX10_init_23 3 rfl rfl)
theorem dX10_init_550 : decode cX10_init 550 = .ok (.bipush 79, 2) := dk_16 79 (dk_at dksX10_init_23 4 rfl rfl)
theorem dX10_init_552 : decode cX10_init 552 = .ok (.sipush 13414, 3) := dk_17 52 102 (dk_at dksX10_init_23 6 rfl rfl)
theorem dX10_init_555 : decode cX10_init 555 = .ok (.castore, 1) := dk_85 (dk_at dksX10_init_23 9 rfl rfl)
theorem dX10_init_556 : decode cX10_init 556 = .ok (.dup, 1) := dk_89 (dk_at dksX10_init_23 10 rfl rfl)
theorem dX10_init_557 : decode cX10_init 557 = .ok (.bipush 80, 2) := dk_16 80 (dk_at dksX10_init_23 11 rfl rfl)
theorem dX10_init_559 : decode cX10_init 559 = .ok (.ldc 77, 2) := dk_18 77 (dk_at dksX10_init_23 13 rfl rfl)
theorem dX10_init_561 : decode cX10_init 561 = .ok (.castore, 1) := dk_85 (dk_at dksX10_init_23 15 rfl rfl)
theorem dX10_init_562 : decode cX10_init 562 = .ok (.dup, 1) := dk_89 (dk_at dksX10_init_23 16 rfl rfl)
theorem dX10_init_563 : decode cX10_init 563 = .ok (.bipush 81, 2) := dk_16 81 (dk_at dksX10_init_23 17 rfl rfl)
theorem dX10_init_565 : decode cX10_init 565 = .ok (.sipush 12072, 3) := dk_17 47 40 (dk_at dksX10_init_23 19 rfl rfl)
theorem dX10_init_568 : decode cX10_init 568 = .ok (.castore, 1) := dk_85 (dk_at dksX10_init_23 22 rfl rfl)
theorem dX10_init_569 : decode cX10_init 569 = .ok (.dup, 1) := dk_89 (dk_at dksX10_init_23 23 rfl rfl)
theorem dX10_init_570 : decode cX10_init 570 = .ok (.bipush 82, 2) := dk_16 82 (dk_at dksX10_init_24 0 rfl rfl)
theorem dX10_init_572 : decode cX10_init 572 = .ok (.sipush 28975, 3) := dk_17 113 47 (dk_at dksX10_init_24 2 rfl rfl)
theorem dX10_init_575 : decode cX10_init 575 = .ok (.castore, 1) := dk_85 (dk_at dksX10_init_24 5 rfl rfl)
theorem dX10_init_576 : decode cX10_init 576 = .ok (.dup, 1) := dk_89 (dk_at dksX10_init_24 6 rfl rfl)
theorem dX10_init_577 : decode cX10_init 577 = .ok (.bipush 83, 2) := dk_16 83 (dk_at dksX10_init_24 7 rfl rfl)
theorem dX10_init_579 : decode cX10_init 579 = .ok (.ldc 78, 2) := dk_18 78 (dk_at dksX10_init_24 9 rfl rfl)
theorem dX10_init_581 : decode cX10_init 581 = .ok (.castore, 1) := dk_85 (dk_at dksX10_init_24 11 rfl rfl)
theorem dX10_init_582 : decode cX10_init 582 = .ok (.dup, 1) := dk_89 (dk_at dksX10_init_24 12 rfl rfl)
theorem dX10_init_583 : decode cX10_init 583 = .ok (.bipush 84, 2) := dk_16 84 (dk_at dksX10_init_24 13 rfl rfl)
theorem dX10_init_585 : decode cX10_init 585 = .ok (.sipush 12438, 3) := dk_17 48 150 (dk_at dksX10_init_24 15 rfl rfl)
theorem dX10_init_588 : decode cX10_init 588 = .ok (.castore, 1) := dk_85 (dk_at dksX10_init_24 18 rfl rfl)
theorem dX10_init_589 : decode cX10_init 589 = .ok (.dup, 1) := dk_89 (dk_at dksX10_init_24 19 rfl rfl)
theorem dX10_init_590 : decode cX10_init 590 = .ok (.bipush 85, 2) := dk_16 85 (dk_at dksX10_init_24 20 rfl rfl)
theorem dX10_init_592 : decode cX10_init 592 = .ok (.ldc 79, 2) := dk_18 79 (dk_at dksX10_init_24 22 rfl rfl)
theorem dX10_init_594 : decode cX10_init 594 = .ok (.castore, 1) := dk_85 (dk_at dksX10_init_25 0 rfl rfl)
theorem dX10_init_595 : decode cX10_init 595 = .ok (.dup, 1) := dk_89 (dk_at dksX10_init_25 1 rfl rfl)
theorem dX10_init_596 : decode cX10_init 596 = .ok (.bipush 86, 2) := dk_16 86 (dk_at dksX10_init_25 2 rfl rfl)
theorem dX10_init_598 : decode cX10_init 598 = .ok (.ldc 80, 2) := dk_18 80 (dk_at dksX10_init_25 4 rfl rfl)
theorem dX10_init_600 : decode cX10_init 600 = .ok (.castore, 1) := dk_85 (dk_at dksX10_init_25 6 rfl rfl)
theorem dX10_init_601 : decode cX10_init 601 = .ok (.dup, 1) := dk_89 (dk_at dksX10_init_25 7 rfl rfl)
theorem dX10_init_602 : decode cX10_init 602 = .ok (.bipush 87, 2) := dk_16 87 (dk_at dksX10_init_25 8 rfl rfl)
theorem dX10_init_604 : decode cX10_init 604 = .ok (.ldc 81, 2) := dk_18 81 (dk_at dksX10_init_25 10 rfl rfl)
theorem dX10_init_606 : decode cX10_init 606 = .ok (.castore, 1) := dk_85 (dk_at dksX10_init_25 12 rfl rfl)
theorem dX10_init_607 : decode cX10_init 607 = .ok (.dup, 1) := dk_89 (dk_at dksX10_init_25 13 rfl rfl)
theorem dX10_init_608 : decode cX10_init 608 = .ok (.bipush 88, 2) := dk_16 88 (dk_at dksX10_init_25 14 rfl rfl)
theorem dX10_init_610 : decode cX10_init 610 = .ok (.ldc 82, 2) := dk_18 82 (dk_at dksX10_init_25 16 rfl rfl)
theorem dX10_init_612 : decode cX10_init 612 = .ok (.castore, 1) := dk_85 (dk_at dksX10_init_25 18 rfl rfl)
theorem dX10_init_613 : decode cX10_init 613 = .ok (.dup, 1) := dk_89 (dk_at dksX10_init_25 19 rfl rfl)
theorem dX10_init_614 : decode cX10_init 614 = .ok (.bipush 89, 2) := dk_16 89 (dk_at dksX10_init_25 20 rfl rfl)
theorem dX10_init_616 : decode cX10_init 616 = .ok (.ldc 83, 2) := dk_18 83 (dk_at dksX10_init_25 22 rfl rfl)
theorem dX10_init_618 : decode cX10_init 618 = .ok (.castore, 1) := dk_85 (dk_at dksX10_init_26 0 rfl rfl)
theorem dX10_init_619 : decode cX10_init 619 = .ok (.dup, 1) := dk_89 (dk_at dksX10_init_26 1 rfl rfl)
theorem dX10_init_620 : decode cX10_init 620 = .ok (.bipush 90, 2) := dk_16 90 (dk_at dksX10_init_26 2 rfl rfl)
theorem dX10_init_622 : decode cX10_init 622 = .ok (.ldc 80, 2) := dk_18 80 (dk_at dksX10_init_26 4 rfl rfl)
theorem dX10_init_624 : decode cX10_init 624 = .ok (.castore, 1) := dk_85 (dk_at dksX10_init_26 6 rfl rfl)
theorem dX10_init_625 : decode cX10_init 625 = .ok (.dup, 1) := dk_89 (dk_at dksX10_init_26 7 rfl rfl)
theorem dX10_init_626 : decode cX10_init 626 = .ok (.bipush 91, 2) := dk_16 91 (dk_at dksX10_init_26 8 rfl rfl)
theorem dX10_init_628 : decode cX10_init 628 = .ok (.ldc 67, 2) := dk_18 67 (dk_at dksX10_init_26 10 rfl rfl)
theorem dX10_init_630 : decode cX10_init 630 = .ok (.castore, 1) := dk_85 (dk_at dksX10_init_26 12 rfl rfl)
theorem dX10_init_631 : decode cX10_init 631 = .ok (.dup, 1) := dk_89 (dk_at dksX10_init_26 13 rfl rfl)
theorem dX10_init_632 : decode cX10_init 632 = .ok (.bipush 92, 2) := dk_16 92 (dk_at dksX10_init_26 14 rfl rfl)
theorem dX10_init_634 : decode cX10_init 634 = .ok (.ldc 68, 2) := dk_18 68 (dk_at dksX10_init_26 16 rfl rfl)
theorem dX10_init_636 : decode cX10_init 636 = .ok (.castore, 1) := dk_85 (dk_at dksX10_init_26 18 rfl rfl)
theorem dX10_init_637 : decode cX10_init 637 = .ok (.dup, 1) := dk_89 (dk_at dksX10_init_26 19 rfl rfl)
theorem dX10_init_638 : decode cX10_init 638 = .ok (.bipush 93, 2) := dk_16 93 (dk_at dksX10_init_26 20 rfl rfl)
theorem dX10_init_640 : decode cX10_init 640 = .ok (.ldc 84, 2) := dk_18 84 (dk_at dksX10_init_26 22 rfl rfl)
theorem dX10_init_642 : decode cX10_init 642 = .ok (.castore, 1) := dk_85 (dk_at dksX10_init_27 0 rfl rfl)
theorem dX10_init_643 : decode cX10_init 643 = .ok (.dup, 1) := dk_89 (dk_at dksX10_init_27 1 rfl rfl)
theorem dX10_init_644 : decode cX10_init 644 = .ok (.bipush 94, 2) := dk_16 94 (dk_at dksX10_init_27 2 rfl rfl)
theorem dX10_init_646 : decode cX10_init 646 = .ok (.ldc 85, 2) := dk_18 85 (dk_at dksX10_init_27 4 rfl rfl)
theorem dX10_init_648 : decode cX10_init 648 = .ok (.castore, 1) := dk_85 (dk_at dksX10_init_27 6 rfl rfl)
theorem dX10_init_649 : decode cX10_init 649 = .ok (.dup, 1) := dk_89 (dk_at dksX10_init_27 7 rfl rfl)
theorem dX10_init_650 : decode cX10_init 650 = .ok (.bipush 95, 2) := dk_16 95 (dk_at dksX10_init_27 8 rfl rfl)
theorem dX10_init_652 : decode cX10_init 652 = .ok (.ldc 86, 2) := dk_18 86 (dk_at dksX10_init_27 10 rfl rfl)
theorem dX10_init_654 : decode cX10_init 654 = .ok (.castore, 1) := dk_85 (dk_at dksX10_init_27 12 rfl rfl)
theorem dX10_init_655 : decode cX10_init 655 = .ok (.dup, 1) := dk_89 (dk_at dksX10_init_27 13 rfl rfl)
theorem dX10_init_656 : decode cX10_init 656 = .ok (.bipush 96, 2) := dk_16 96 (dk_at dksX10_init_27 14 rfl rfl)
theorem dX10_init_658 : decode cX10_init 658 = .ok (.ldc 87, 2) := dk_18 87 (dk_at dksX10_init_27 16 rfl rfl)
theorem dX10_init_660 : decode cX10_init 660 = .ok (.castore, 1) := dk_85 (dk_at dksX10_init_27 18 rfl rfl)
theorem dX10_init_661 : decode cX10_init 661 = .ok (.dup, 1) := dk_89 (dk_at dksX10_init_27 19 rfl rfl)
theorem dX10_init_662 : decode cX10_init 662 = .ok (.bipush 97, 2) := dk_16 97 (dk_at dksX10_init_27 20 rfl rfl)
theorem dX10_init_664 : decode cX10_init 664 = .ok (.ldc 88, 2) := dk_18 88 (dk_at dksX10_init_27 22 rfl rfl)
theorem dX10_init_666 : decode cX10_init 666 = .ok (.castore, 1) := dk_85 (dk_at dksX10_init_28 0 rfl rfl)
theorem dX10_init_667 : decode cX10_init 667 = .ok (.dup, 1) := dk_89 (dk_at dksX10_init_28 1 rfl rfl)
theorem dX10_init_668 : decode cX10_init 668 = .ok (.bipush 98, 2) := dk_16 98 (dk_at dksX10_init_28 2 rfl rfl)
theorem dX10_init_670 : decode cX10_init 670 = .ok (.ldc 89, 2) := dk_18 89 (dk_at dksX10_init_28 4 rfl rfl)
theorem dX10_init_672 : decode cX10_init 672 = .ok (.castore, 1) := dk_85 (dk_at dksX10_init_28 6 rfl rfl)
theorem dX10_init_673 : decode cX10_init 673 = .ok (.dup, 1) := dk_89 (dk_at dksX10_init_28 7 rfl rfl)
theorem dX10_init_674 : decode cX10_init 674 = .ok (.bipush 99, 2) := dk_16 99 (dk_at dksX10_init_28 8 rfl rfl)
theorem dX10_init_676 : decode cX10_init 676 = .ok (.ldc 72, 2) := dk_18 72 (dk_at dksX10_init_28 10 rfl rfl)
theorem dX10_init_678 : decode cX10_init 678 = .ok (.castore, 1) := dk_85 (dk_at dksX10_init_28 12 rfl rfl)
theorem dX10_init_679 : decode cX10_init 679 = .ok (.dup, 1) := dk_89 (dk_at dksX10_init_28 13 rfl rfl)
theorem dX10_init_680 : decode cX10_init 680 = .ok (.bipush 100, 2) := dk_16 100 (dk_at dksX10_init_28 14 rfl rfl)
theorem dX10_init_682 : decode cX10_init 682 = .ok (.ldc 90, 2) := dk_18 90 (dk_at dksX10_init_28 16 rfl rfl)
theorem dX10_init_684 : decode cX10_init 684 = .ok (.castore, 1) := dk_85 (dk_at dksX10_init_28 18 rfl rfl)
theorem dX10_init_685 : decode cX10_init 685 = .ok (.dup, 1) := dk_89 (dk_at dksX10_init_28 19 rfl rfl)
theorem dX10_init_686 : decode cX10_init 686 = .ok (.bipush 101, 2) := dk_16 101 (dk_at dksX10_init_28 20 rfl rfl)
theorem dX10_init_688 : decode cX10_init 688 = .ok (.sipush 9233, 3) := dk_17 36 17 (dk_at dksX10_init_29 0 rfl rfl)
theorem dX10_init_691 : decode cX10_init 691 = .ok (.castore, 1) := dk_85 (dk_at dksX10_init_29 3 rfl rfl)
theorem dX10_init_692 : decode cX10_init 692 = .ok (.dup, 1) := dk_89 (dk_at dksX10_init_29 4 rfl rfl)
theorem dX10_init_693 : decode cX10_init 693 = .ok (.bipush 102, 2) := dk_16 102 (dk_at dksX10_init_29 5 rfl rfl)
theorem dX10_init_695 : decode cX10_init 695 = .ok (.sipush 21728, 3) := dk_17 84 224 (dk_at dksX10_init_29 7 rfl rfl)
theorem dX10_init_698 : decode cX10_init 698 = .ok (.castore, 1) := dk_85 (dk_at dksX10_init_29 10 rfl rfl)
theorem dX10_init_699 : decode cX10_init 699 = .ok (.dup, 1) := dk_89 (dk_at dksX10_init_29 11 rfl rfl)
theorem dX10_init_700 : decode cX10_init 700 = .ok (.bipush 103, 2) := dk_16 103 (dk_at dksX10_init_29 12 rfl rfl)
theorem dX10_init_702 : decode cX10_init 702 = .ok (.sipush 16624, 3) := dk_17 64 240 (dk_at dksX10_init_29 14 rfl rfl)
theorem dX10_init_705 : decode cX10_init 705 = .ok (.castore, 1) := dk_85 (dk_at dksX10_init_29 17 rfl rfl)
theorem dX10_init_706 : decode cX10_init 706 = .ok (.dup, 1) := dk_89 (dk_at dksX10_init_29 18 rfl rfl)
theorem dX10_init_707 : decode cX10_init 707 = .ok (.bipush 104, 2) := dk_16 104 (dk_at dksX10_init_29 19 rfl rfl)
theorem dX10_init_709 : decode cX10_init 709 = .ok (.ldc 91, 2) := dk_18 91 (dk_at dksX10_init_29 21 rfl rfl)
theorem dX10_init_711 : decode cX10_init 711 = .ok (.castore, 1) := dk_85 (dk_at dksX10_init_29 23 rfl rfl)
theorem dX10_init_712 : decode cX10_init 712 = .ok (.dup, 1) := dk_89 (dk_at dksX10_init_30 0 rfl rfl)
theorem dX10_init_713 : decode cX10_init 713 = .ok (.bipush 105, 2) := dk_16 105 (dk_at dksX10_init_30 1 rfl rfl)
theorem dX10_init_715 : decode cX10_init 715 = .ok (.ldc 92, 2) := dk_18 92 (dk_at dksX10_init_30 3 rfl rfl)
theorem dX10_init_717 : decode cX10_init 717 = .ok (.castore, 1) := dk_85 (dk_at dksX10_init_30 5 rfl rfl)
theorem dX10_init_718 : decode cX10_init 718 = .ok (.dup, 1) := dk_89 (dk_at dksX10_init_30 6 rfl rfl)
theorem dX10_init_719 : decode cX10_init 719 = .ok (.bipush 106, 2) := dk_16 106 (dk_at dksX10_init_30 7 rfl rfl)
theorem dX10_init_721 : decode cX10_init 721 = .ok (.ldc 83, 2) := dk_18 83 (dk_at dksX10_init_30 9 rfl rfl)
theorem dX10_init_723 : decode cX10_init 723 = .ok (.castore, 1) := dk_85 (dk_at dksX10_init_30 11 rfl rfl)
theorem dX10_init_724 : decode cX10_init 724 = .ok (.dup, 1) := dk_89 (dk_at dksX10_init_30 12 rfl rfl)
theorem dX10_init_725 : decode cX10_init 725 = .ok (.bipush 107, 2) := dk_16 107 (dk_at dksX10_init_30 13 rfl rfl)
theorem dX10_init_727 : decode cX10_init 727 = .ok (.ldc 93, 2) := dk_18 93 (dk_at dksX10_init_30 15 rfl rfl)
theorem dX10_init_729 : decode cX10_init 729 = .ok (.castore, 1) := dk_85 (dk_at dksX10_init_30 17 rfl rfl)
theorem dX10_init_730 : decode cX10_init 730 = .ok (.dup, 1) := dk_89 (dk_at dksX10_init_30 18 rfl rfl)
theorem dX10_init_731 : decode cX10_init 731 = .ok (.bipush 108, 2) := dk_16 108 (dk_at dksX10_init_30 19 rfl rfl)
theorem dX10_init_733 : decode cX10_init 733 = .ok (.ldc 94, 2) := dk_18 94 (dk_at dksX10_init_30 21 rfl rfl)
theorem dX10_init_735 : decode cX10_init 735 = .ok (.castore, 1) := dk_85 (dk_at dksX10_init_30 23 rfl rfl)
theorem dX10_init_736 : decode cX10_init 736 = .ok (.dup, 1) := dk_89 (dk_at dksX10_init_31 0 rfl rfl)
theorem dX10_init_737 : decode cX10_init 737 = .ok (.bipush 109, 2) := dk_16 109 (dk_at dksX10_init_31 1 rfl rfl)
theorem dX10_init_739 : decode cX10_init 739 = .ok (.ldc 95, 2) := dk_18 95 (dk_at dksX10_init_31 3 rfl rfl)
theorem dX10_init_741 : decode cX10_init 741 = .ok (.castore, 1) := dk_85 (dk_at dksX10_init_31 5 rfl rfl)
theorem dX10_init_742 : decode cX10_init 742 = .ok (.dup, 1) := dk_89 (dk_at dksX10_init_31 6 rfl rfl)
theorem dX10_init_743 : decode cX10_init 743 = .ok (.bipush 110, 2) := dk_16 110 (dk_at dksX10_init_31 7 rfl rfl)
theorem dX10_init_745 : decode cX10_init 745 = .ok (.ldc 96, 2) := dk_18 96 (dk_at dksX10_init_31 9 rfl rfl)
theorem dX10_init_747 : decode cX10_init 747 = .ok (.castore, 1) := dk_85 (dk_at dksX10_init_31 11 rfl rfl)
theorem dX10_init_748 : decode cX10_init 748 = .ok (.dup, 1) := dk_89 (dk_at dksX10_init_31 12 rfl rfl)
theorem dX10_init_749 : decode cX10_init 749 = .ok (.bipush 111, 2) := dk_16 111 (dk_at dksX10_init_31 13 rfl rfl)
theorem dX10_init_751 : decode cX10_init 751 = .ok (.sipush 508, 3) := dk_17 1 252 (dk_at dksX10_init_31 15 rfl rfl)
theorem dX10_init_754 : decode cX10_init 754 = .ok (.castore, 1) := dk_85 (dk_at dksX10_init_31 18 rfl rfl)
theorem dX10_init_755 : decode cX10_init 755 = .ok (.dup, 1) := dk_89 (dk_at dksX10_init_31 19 rfl rfl)
theorem dX10_init_756 : decode cX10_init 756 = .ok (.bipush 112, 2) := dk_16 112 (dk_at dksX10_init_31 20 rfl rfl)
theorem dX10_init_758 : decode cX10_init 758 = .ok (.sipush 4078, 3) := dk_17 15 238 (dk_at dksX10_init_32 0 rfl rfl)
theorem dX10_init_761 : decode cX10_init 761 = .ok (.castore, 1) := dk_85 (dk_at dksX10_init_32 3 rfl rfl)
theorem dX10_init_762 : decode cX10_init 762 = .ok (.dup, 1) := dk_89 (dk_at dksX10_init_32 4 rfl rfl)
theorem dX10_init_763 : decode cX10_init 763 = .ok (.bipush 113, 2) := dk_16 113 (dk_at dksX10_init_32 5 rfl rfl)
theorem dX10_init_765 : decode cX10_init 765 = .ok (.sipush 8191, 3) := dk_17 31 255 (dk_at dksX10_init_32 7 rfl rfl)
theorem dX10_init_768 : decode cX10_init 768 = .ok (.castore, 1) := dk_85 (dk_at dksX10_init_32 10 rfl rfl)
theorem dX10_init_769 : decode cX10_init 769 = .ok (.dup, 1) := dk_89 (dk_at dksX10_init_32 11 rfl rfl)
theorem dX10_init_770 : decode cX10_init 770 = .ok (.bipush 114, 2) := dk_16 114 (dk_at dksX10_init_32 12 rfl rfl)
theorem dX10_init_772 : decode cX10_init 772 = .ok (.ldc 97, 2) := dk_18 97 (dk_at dksX10_init_32 14 rfl rfl)
theorem dX10_init_774 : decode cX10_init 774 = .ok (.castore, 1) := dk_85 (dk_at dksX10_init_32 16 rfl rfl)
theorem dX10_init_775 : decode cX10_init 775 = .ok (.dup, 1) := dk_89 (dk_at dksX10_init_32 17 rfl rfl)
theorem dX10_init_776 : decode cX10_init 776 = .ok (.bipush 115, 2) := dk_16 115 (dk_at dksX10_init_32 18 rfl rfl)
theorem dX10_init_778 : decode cX10_init 778 = .ok (.ldc 98, 2) := dk_18 98 (dk_at dksX10_init_32 20 rfl rfl)
theorem dX10_init_780 : decode cX10_init 780 = .ok (.castore, 1) := dk_85 (dk_at dksX10_init_32 22 rfl rfl)
theorem dX10_init_781 : decode cX10_init 781 = .ok (.dup, 1) := dk_89 (dk_at dksX10_init_32 23 rfl rfl)
theorem dX10_init_782 : decode cX10_init 782 = .ok (.bipush 116, 2) := dk_16 116 (dk_at dksX10_init_33 0 rfl rfl)
theorem dX10_init_784 : decode cX10_init 784 = .ok (.ldc 99, 2) := dk_18 99 (dk_at dksX10_init_33 2 rfl rfl)
theorem dX10_init_786 : decode cX10_init 786 = .ok (.castore, 1) := dk_85 (dk_at dksX10_init_33 4 rfl rfl)
theorem dX10_init_787 : decode cX10_init 787 = .ok (.dup, 1) := dk_89 (dk_at dksX10_init_33 5 rfl rfl)
theorem dX10_init_788 : decode cX10_init 788 = .ok (.bipush 117, 2) := dk_16 117 (dk_at dksX10_init_33 6 rfl rfl)
theorem dX10_init_790 : decode cX10_init 790 = .ok (.ldc 100, 2) := dk_18 100 (dk_at dksX10_init_33 8 rfl rfl)
theorem dX10_init_792 : decode cX10_init 792 = .ok (.castore, 1) := dk_85 (dk_at dksX10_init_33 10 rfl rfl)
theorem dX10_init_793 : decode cX10_init 793 = .ok (.dup, 1) := dk_89 (dk_at dksX10_init_33 11 rfl rfl)
theorem dX10_init_794 : decode cX10_init 794 = .ok (.bipush 118, 2) := dk_16 118 (dk_at dksX10_init_33 12 rfl rfl)
theorem dX10_init_796 : decode cX10_init 796 = .ok (.ldc 101, 2) := dk_18 101 (dk_at dksX10_init_33 14 rfl rfl)
theorem dX10_init_798 : decode cX10_init 798 = .ok (.castore, 1) := dk_85 (dk_at dksX10_init_33 16 rfl rfl)
theorem dX10_init_799 : decode cX10_init 799 = .ok (.dup, 1) := dk_89 (dk_at dksX10_init_33 17 rfl rfl)
theorem dX10_init_800 : decode cX10_init 800 = .ok (.bipush 119, 2) := dk_16 119 (dk_at dksX10_init_33 18 rfl rfl)
theorem dX10_init_802 : decode cX10_init 802 = .ok (.ldc 102, 2) := dk_18 102 (dk_at dksX10_init_33 20 rfl rfl)
theorem dX10_init_804 : decode cX10_init 804 = .ok (.castore, 1) := dk_85 (dk_at dksX10_init_33 22 rfl rfl)
theorem dX10_init_805 : decode cX10_init 805 = .ok (.dup, 1) := dk_89 (dk_at dksX10_init_33 23 rfl rfl)
theorem dX10_init_806 : decode cX10_init 806 = .ok (.bipush 120, 2) := dk_16 120 (dk_at dksX10_init_34 0 rfl rfl)
theorem dX10_init_808 : decode cX10_init 808 = .ok (.ldc 97, 2) := dk_18 97 (dk_at dksX10_init_34 2 rfl rfl)
theorem dX10_init_810 : decode cX10_init 810 = .ok (.castore, 1) := dk_85 (dk_at dksX10_init_34 4 rfl rfl)
theorem dX10_init_811 : decode cX10_init 811 = .ok (.dup, 1) := dk_89 (dk_at dksX10_init_34 5 rfl rfl)
theorem dX10_init_812 : decode cX10_init 812 = .ok (.bipush 121, 2) := dk_16 121 (dk_at dksX10_init_34 6 rfl rfl)
theorem dX10_init_814 : decode cX10_init 814 = .ok (.ldc 103, 2) := dk_18 103 (dk_at dksX10_init_34 8 rfl rfl)
theorem dX10_init_816 : decode cX10_init 816 = .ok (.castore, 1) := dk_85 (dk_at dksX10_init_34 10 rfl rfl)
theorem dX10_init_817 : decode cX10_init 817 = .ok (.dup, 1) := dk_89 (dk_at dksX10_init_34 11 rfl rfl)
theorem dX10_init_818 : decode cX10_init 818 = .ok (.bipush 122, 2) := dk_16 122 (dk_at dksX10_init_34 12 rfl rfl)
theorem dX10_init_820 : decode cX10_init 820 = .ok (.ldc 92, 2) := dk_18 92 (dk_at dksX10_init_34 14 rfl rfl)
theorem dX10_init_822 : decode cX10_init 822 = .ok (.castore, 1) := dk_85 (dk_at dksX10_init_34 16 rfl rfl)
theorem dX10_init_823 : decode cX10_init 823 = .ok (.dup, 1) := dk_89 (dk_at dksX10_init_34 17 rfl rfl)
theorem dX10_init_824 : decode cX10_init 824 = .ok (.bipush 123, 2) := dk_16 123 (dk_at dksX10_init_34 18 rfl rfl)
theorem dX10_init_826 : decode cX10_init 826 = .ok (.ldc 104, 2) := dk_18 104 (dk_at dksX10_init_34 20 rfl rfl)
theorem dX10_init_828 : decode cX10_init 828 = .ok (.castore, 1) := dk_85 (dk_at dksX10_init_34 22 rfl rfl)
theorem dX10_init_829 : decode cX10_init 829 = .ok (.dup, 1) := dk_89 (dk_at dksX10_init_34 23 rfl rfl)
theorem dX10_init_830 : decode cX10_init 830 = .ok (.bipush 124, 2) := dk_16 124 (dk_at dksX10_init_35 0 rfl rfl)
theorem dX10_init_832 : decode cX10_init 832 = .ok (.ldc 105, 2) := dk_18 105 (dk_at dksX10_init_35 2 rfl rfl)
theorem dX10_init_834 : decode cX10_init 834 = .ok (.castore, 1) := dk_85 (dk_at dksX10_init_35 4 rfl rfl)
theorem dX10_init_835 : decode cX10_init 835 = .ok (.dup, 1) := dk_89 (dk_at dksX10_init_35 5 rfl rfl)
theorem dX10_init_836 : decode cX10_init 836 = .ok (.bipush 125, 2) := dk_16 125 (dk_at dksX10_init_35 6 rfl rfl)
theorem dX10_init_838 : decode cX10_init 838 = .ok (.ldc 106, 2) := dk_18 106 (dk_at dksX10_init_35 8 rfl rfl)
theorem dX10_init_840 : decode cX10_init 840 = .ok (.castore, 1) := dk_85 (dk_at dksX10_init_35 10 rfl rfl)
theorem dX10_init_841 : decode cX10_init 841 = .ok (.dup, 1) := dk_89 (dk_at dksX10_init_35 11 rfl rfl)
theorem dX10_init_842 : decode cX10_init 842 = .ok (.bipush 126, 2) := dk_16 126 (dk_at dksX10_init_35 12 rfl rfl)
theorem dX10_init_844 : decode cX10_init 844 = .ok (.ldc 69, 2) := dk_18 69 (dk_at dksX10_init_35 14 rfl rfl)
theorem dX10_init_846 : decode cX10_init 846 = .ok (.castore, 1) := dk_85 (dk_at dksX10_init_35 16 rfl rfl)
theorem dX10_init_847 : decode cX10_init 847 = .ok (.dup, 1) := dk_89 (dk_at dksX10_init_35 17 rfl rfl)
theorem dX10_init_848 : decode cX10_init 848 = .ok (.bipush 127, 2) := dk_16 127 (dk_at dksX10_init_35 18 rfl rfl)
theorem dX10_init_850 : decode cX10_init 850 = .ok (.ldc 107, 2) := dk_18 107 (dk_at dksX10_init_35 20 rfl rfl)
theorem dX10_init_852 : decode cX10_init 852 = .ok (.castore, 1) := dk_85 (dk_at dksX10_init_35 22 rfl rfl)
theorem dX10_init_853 : decode cX10_init 853 = .ok (.dup, 1) := dk_89 (dk_at dksX10_init_35 23 rfl rfl)
theorem dX10_init_854 : decode cX10_init 854 = .ok (.sipush 128, 3) := dk_17 0 128 (dk_at dksX10_init_36 0 rfl rfl)
theorem dX10_init_857 : decode cX10_init 857 = .ok (.ldc 108, 2) := dk_18 108 (dk_at dksX10_init_36 3 rfl rfl)
theorem dX10_init_859 : decode cX10_init 859 = .ok (.castore, 1) := dk_85 (dk_at dksX10_init_36 5 rfl rfl)
theorem dX10_init_860 : decode cX10_init 860 = .ok (.dup, 1) := dk_89 (dk_at dksX10_init_36 6 rfl rfl)
theorem dX10_init_861 : decode cX10_init 861 = .ok (.sipush 129, 3) := dk_17 0 129 (dk_at dksX10_init_36 7 rfl rfl)
theorem dX10_init_864 : decode cX10_init 864 = .ok (.ldc 72, 2) := dk_18 72 (dk_at dksX10_init_36 10 rfl rfl)
theorem dX10_init_866 : decode cX10_init 866 = .ok (.castore, 1) := dk_85 (dk_at dksX10_init_36 12 rfl rfl)
theorem dX10_init_867 : decode cX10_init 867 = .ok (.dup, 1) := dk_89 (dk_at dksX10_init_36 13 rfl rfl)
theorem dX10_init_868 : decode cX10_init 868 = .ok (.sipush 130, 3) := dk_17 0 130 (dk_at dksX10_init_36 14 rfl rfl)
theorem dX10_init_871 : decode cX10_init 871 = .ok (.ldc 109, 2) := dk_18 109 (dk_at dksX10_init_36 17 rfl rfl)
theorem dX10_init_873 : decode cX10_init 873 = .ok (.castore, 1) := dk_85 (dk_at dksX10_init_36 19 rfl rfl)
theorem dX10_init_874 : decode cX10_init 874 = .ok (.dup, 1) := dk_89 (dk_at dksX10_init_36 20 rfl rfl)
theorem dX10_init_875 : decode cX10_init 875 = .ok (.sipush 131, 3) := dk_17 0 131 (dk_at dksX10_init_36 21 rfl rfl)
theorem dX10_init_878 : decode cX10_init 878 = .ok (.ldc 110, 2) := dk_18 110 (dk_at dksX10_init_37 0 rfl rfl)
theorem dX10_init_880 : decode cX10_init 880 = .ok (.castore, 1) := dk_85 (dk_at dksX10_init_37 2 rfl rfl)
theorem dX10_init_881 : decode cX10_init 881 = .ok (.dup, 1) := dk_89 (dk_at dksX10_init_37 3 rfl rfl)
theorem dX10_init_882 : decode cX10_init 882 = .ok (.sipush 132, 3) := dk_17 0 132 (dk_at dksX10_init_37 4 rfl rfl)
theorem dX10_init_885 : decode cX10_init 885 = .ok (.ldc 111, 2) := dk_18 111 (dk_at dksX10_init_37 7 rfl rfl)
theorem dX10_init_887 : decode cX10_init 887 = .ok (.castore, 1) := dk_85 (dk_at dksX10_init_37 9 rfl rfl)
theorem dX10_init_888 : decode cX10_init 888 = .ok (.dup, 1) := dk_89 (dk_at dksX10_init_37 10 rfl rfl)
theorem dX10_init_889 : decode cX10_init 889 = .ok (.sipush 133, 3) := dk_17 0 133 (dk_at dksX10_init_37 11 rfl rfl)
theorem dX10_init_892 : decode cX10_init 892 = .ok (.sipush 192, 3) := dk_17 0 192 (dk_at dksX10_init_37 14 rfl rfl)
theorem dX10_init_895 : decode cX10_init 895 = .ok (.castore, 1) := dk_85 (dk_at dksX10_init_37 17 rfl rfl)
theorem dX10_init_896 : decode cX10_init 896 = .ok (.dup, 1) := dk_89 (dk_at dksX10_init_37 18 rfl rfl)
theorem dX10_init_897 : decode cX10_init 897 = .ok (.sipush 134, 3) := dk_17 0 134 (dk_at dksX10_init_37 19 rfl rfl)
theorem dX10_init_900 : decode cX10_init 900 = .ok (.ldc 112, 2) := dk_18 112 (dk_at dksX10_init_37 22 rfl rfl)
theorem dX10_init_902 : decode cX10_init 902 = .ok (.castore, 1) := dk_85 (dk_at dksX10_init_38 0 rfl rfl)
theorem dX10_init_903 : decode cX10_init 903 = .ok (.dup, 1) := dk_89 (dk_at dksX10_init_38 1 rfl rfl)
theorem dX10_init_904 : decode cX10_init 904 = .ok (.sipush 135, 3) := dk_17 0 135 (dk_at dksX10_init_38 2 rfl rfl)
theorem dX10_init_907 : decode cX10_init 907 = .ok (.ldc 113, 2) := dk_18 113 (dk_at dksX10_init_38 5 rfl rfl)
theorem dX10_init_909 : decode cX10_init 909 = .ok (.castore, 1) := dk_85 (dk_at dksX10_init_38 7 rfl rfl)
theorem dX10_init_910 : decode cX10_init 910 = .ok (.dup, 1) := dk_89 (dk_at dksX10_init_38 8 rfl rfl)
theorem dX10_init_911 : decode cX10_init 911 = .ok (.sipush 136, 3) := dk_17 0 136 (dk_at dksX10_init_38 9 rfl rfl)
theorem dX10_init_914 : decode cX10_init 914 = .ok (.ldc 33, 2) := dk_18 33 (dk_at dksX10_init_38 12 rfl rfl)
theorem dX10_init_916 : decode cX10_init 916 = .ok (.castore, 1) := dk_85 (dk_at dksX10_init_38 14 rfl rfl)
theorem dX10_init_917 : decode cX10_init 917 = .ok (.dup, 1) := dk_89 (dk_at dksX10_init_38 15 rfl rfl)
theorem dX10_init_918 : decode cX10_init 918 = .ok (.sipush 137, 3) := dk_17 0 137 (dk_at dksX10_init_38 16 rfl rfl)
theorem dX10_init_921 : decode cX10_init 921 = .ok (.ldc 111, 2) := dk_18 111 (dk_at dksX10_init_38 19 rfl rfl)
theorem dX10_init_923 : decode cX10_init 923 = .ok (.castore, 1) := dk_85 (dk_at dksX10_init_38 21 rfl rfl)
theorem dX10_init_924 : decode cX10_init 924 = .ok (.dup, 1) := dk_89 (dk_at dksX10_init_38 22 rfl rfl)
theorem dX10_init_925 : decode cX10_init 925 = .ok (.sipush 138, 3) := dk_17 0 138 (dk_at dksX10_init_39 0 rfl rfl)
theorem dX10_init_928 : decode cX10_init 928 = .ok (.sipush 198, 3) := dk_17 0 198 (dk_at dksX10_init_39 3 rfl rfl)
theorem dX10_init_931 : decode cX10_init 931 = .ok (.castore, 1) := dk_85 (dk_at dksX10_init_39 6 rfl rfl)
theorem dX10_init_932 : decode cX10_init 932 = .ok (.dup, 1) := dk_89 (dk_at dksX10_init_39 7 rfl rfl)
theorem dX10_init_933 : decode cX10_init 933 = .ok (.sipush 139, 3) := dk_17 0 139 (dk_at dksX10_init_39 8 rfl rfl)
theorem dX10_init_936 : decode cX10_init 936 = .ok (.ldc 97, 2) := dk_18 97 (dk_at dksX10_init_39 11 rfl rfl)
theorem dX10_init_938 : decode cX10_init 938 = .ok (.castore, 1) := dk_85 (dk_at dksX10_init_39 13 rfl rfl)
theorem dX10_init_939 : decode cX10_init 939 = .ok (.dup, 1) := dk_89 (dk_at dksX10_init_39 14 rfl rfl)
theorem dX10_init_940 : decode cX10_init 940 = .ok (.sipush 140, 3) := dk_17 0 140 (dk_at dksX10_init_39 15 rfl rfl)
theorem dX10_init_943 : decode cX10_init 943 = .ok (.ldc 114, 2) := dk_18 114 (dk_at dksX10_init_39 18 rfl rfl)
theorem dX10_init_945 : decode cX10_init 945 = .ok (.castore, 1) := dk_85 (dk_at dksX10_init_39 20 rfl rfl)
theorem dX10_init_946 : decode cX10_init 946 = .ok (.dup, 1) := dk_89 (dk_at dksX10_init_39 21 rfl rfl)
theorem dX10_init_947 : decode cX10_init 947 = .ok (.sipush 141, 3) := dk_17 0 141 (dk_at dksX10_init_40 0 rfl rfl)
theorem dX10_init_950 : decode cX10_init 950 = .ok (.sipush 192, 3) := dk_17 0 192 (dk_at dksX10_init_40 3 rfl rfl)
theorem dX10_init_953 : decode cX10_init 953 = .ok (.castore, 1) := dk_85 (dk_at dksX10_init_40 6 rfl rfl)
theorem dX10_init_954 : decode cX10_init 954 = .ok (.dup, 1) := dk_89 (dk_at dksX10_init_40 7 rfl rfl)
theorem dX10_init_955 : decode cX10_init 955 = .ok (.sipush 142, 3) := dk_17 0 142 (dk_at dksX10_init_40 8 rfl rfl)
theorem dX10_init_958 : decode cX10_init 958 = .ok (.ldc 115, 2) := dk_18 115 (dk_at dksX10_init_40 11 rfl rfl)
theorem dX10_init_960 : decode cX10_init 960 = .ok (.castore, 1) := dk_85 (dk_at dksX10_init_40 13 rfl rfl)
theorem dX10_init_961 : decode cX10_init 961 = .ok (.dup, 1) := dk_89 (dk_at dksX10_init_40 14 rfl rfl)
theorem dX10_init_962 : decode cX10_init 962 = .ok (.sipush 143, 3) := dk_17 0 143 (dk_at dksX10_init_40 15 rfl rfl)
theorem dX10_init_965 : decode cX10_init 965 = .ok (.ldc 113, 2) := dk_18 113 (dk_at dksX10_init_40 18 rfl rfl)
theorem dX10_init_967 : decode cX10_init 967 = .ok (.castore, 1) := dk_85 (dk_at dksX10_init_40 20 rfl rfl)
theorem dX10_init_968 : decode cX10_init 968 = .ok (.dup, 1) := dk_89 (dk_at dksX10_init_40 21 rfl rfl)
theorem dX10_init_969 : decode cX10_init 969 = .ok (.sipush 144, 3) := dk_17 0 144 (dk_at dksX10_init_41 0 rfl rfl)
theorem dX10_init_972 : decode cX10_init 972 = .ok (.ldc 37, 2) := dk_18 37 (dk_at dksX10_init_41 3 rfl rfl)
theorem dX10_init_974 : decode cX10_init 974 = .ok (.castore, 1) := dk_85 (dk_at dksX10_init_41 5 rfl rfl)
theorem dX10_init_975 : decode cX10_init 975 = .ok (.dup, 1) := dk_89 (dk_at dksX10_init_41 6 rfl rfl)
theorem dX10_init_976 : decode cX10_init 976 = .ok (.sipush 145, 3) := dk_17 0 145 (dk_at dksX10_init_41 7 rfl rfl)
theorem dX10_init_979 : decode cX10_init 979 = .ok (.sipush 198, 3) := dk_17 0 198 (dk_at dksX10_init_41 10 rfl rfl)
theorem dX10_init_982 : decode cX10_init 982 = .ok (.castore, 1) := dk_85 (dk_at dksX10_init_41 13 rfl rfl)
theorem dX10_init_983 : decode cX10_init 983 = .ok (.dup, 1) := dk_89 (dk_at dksX10_init_41 14 rfl rfl)
theorem dX10_init_984 : decode cX10_init 984 = .ok (.sipush 146, 3) := dk_17 0 146 (dk_at dksX10_init_41 15 rfl rfl)
theorem dX10_init_987 : decode cX10_init 987 = .ok (.ldc 97, 2) := dk_18 97 (dk_at dksX10_init_41 18 rfl rfl)
theorem dX10_init_989 : decode cX10_init 989 = .ok (.castore, 1) := dk_85 (dk_at dksX10_init_41 20 rfl rfl)
theorem dX10_init_990 : decode cX10_init 990 = .ok (.dup, 1) := dk_89 (dk_at dksX10_init_41 21 rfl rfl)
theorem dX10_init_991 : decode cX10_init 991 = .ok (.sipush 147, 3) := dk_17 0 147 (dk_at dksX10_init_42 0 rfl rfl)
theorem dX10_init_994 : decode cX10_init 994 = .ok (.ldc 116, 2) := dk_18 116 (dk_at dksX10_init_42 3 rfl rfl)
theorem dX10_init_996 : decode cX10_init 996 = .ok (.castore, 1) := dk_85 (dk_at dksX10_init_42 5 rfl rfl)
theorem dX10_init_997 : decode cX10_init 997 = .ok (.dup, 1) := dk_89 (dk_at dksX10_init_42 6 rfl rfl)
theorem dX10_init_998 : decode cX10_init 998 = .ok (.sipush 148, 3) := dk_17 0 148 (dk_at dksX10_init_42 7 rfl rfl)
theorem dX10_init_1001 : decode cX10_init 1001 = .ok (.sipush 12800, 3) := dk_17 50 0 (dk_at dksX10_init_42 10 rfl rfl)
theorem dX10_init_1004 : decode cX10_init 1004 = .ok (.castore, 1) := dk_85 (dk_at dksX10_init_42 13 rfl rfl)
theorem dX10_init_1005 : decode cX10_init 1005 = .ok (.dup, 1) := dk_89 (dk_at dksX10_init_42 14 rfl rfl)
theorem dX10_init_1006 : decode cX10_init 1006 = .ok (.sipush 149, 3) := dk_17 0 149 (dk_at dksX10_init_42 15 rfl rfl)
theorem dX10_init_1009 : decode cX10_init 1009 = .ok (.ldc 44, 2) := dk_18 44 (dk_at dksX10_init_42 18 rfl rfl)
theorem dX10_init_1011 : decode cX10_init 1011 = .ok (.castore, 1) := dk_85 (dk_at dksX10_init_42 20 rfl rfl)
theorem dX10_init_1012 : decode cX10_init 1012 = .ok (.dup, 1) := dk_89 (dk_at dksX10_init_42 21 rfl rfl)
theorem dX10_init_1013 : decode cX10_init 1013 = .ok (.sipush 150, 3) := dk_17 0 150 (dk_at dksX10_init_43 0 rfl rfl)
theorem dX10_init_1016 : decode cX10_init 1016 = .ok (.ldc 117, 2) := dk_18 117 (dk_at dksX10_init_43 3 rfl rfl)
theorem dX10_init_1018 : decode cX10_init 1018 = .ok (.castore, 1) := dk_85 (dk_at dksX10_init_43 5 rfl rfl)
theorem dX10_init_1019 : decode cX10_init 1019 = .ok (.dup, 1) := dk_89 (dk_at dksX10_init_43 6 rfl rfl)
theorem dX10_init_1020 : decode cX10_init 1020 = .ok (.sipush 151, 3) := dk_17 0 151 (dk_at dksX10_init_43 7 rfl rfl)
theorem dX10_init_1023 : decode cX10_init 1023 = .ok (.ldc 117, 2) := dk_18 117 (dk_at dksX10_init_43 10 rfl rfl)
theorem dX10_init_1025 : decode cX10_init 1025 = .ok (.castore, 1) := dk_85 (dk_at dksX10_init_43 12 rfl rfl)
theorem dX10_init_1026 : decode cX10_init 1026 = .ok (.dup, 1) := dk_89 (dk_at dksX10_init_43 13 rfl rfl)
theorem dX10_init_1027 : decode cX10_init 1027 = .ok (.sipush 152, 3) := dk_17 0 152 (dk_at dksX10_init_43 14 rfl rfl)
theorem dX10_init_1030 : decode cX10_init 1030 = .ok (.ldc 118, 2) := dk_18 118 (dk_at dksX10_init_43 17 rfl rfl)
theorem dX10_init_1032 : decode cX10_init 1032 = .ok (.castore, 1) := dk_85 (dk_at dksX10_init_43 19 rfl rfl)
theorem dX10_init_1033 : decode cX10_init 1033 = .ok (.dup, 1) := dk_89 (dk_at dksX10_init_43 20 rfl rfl)
theorem dX10_init_1034 : decode cX10_init 1034 = .ok (.sipush 153, 3) := dk_17 0 153 (dk_at dksX10_init_43 21 rfl rfl)
theorem dX10_init_1037 : decode cX10_init 1037 = .ok (.ldc 119, 2) := dk_18 119 (dk_at dksX10_init_44 0 rfl rfl)
theorem dX10_init_1039 : decode cX10_init 1039 = .ok (.castore, 1) := dk_85 (dk_at dksX10_init_44 2 rfl rfl)
theorem dX10_init_1040 : decode cX10_init 1040 = .ok (.dup, 1) := dk_89 (dk_at dksX10_init_44 3 rfl rfl)
theorem dX10_init_1041 : decode cX10_init 1041 = .ok (.sipush 154, 3) := dk_17 0 154 (dk_at dksX10_init_44 4 rfl rfl)
theorem dX10_init_1044 : decode cX10_init 1044 = .ok (.ldc 120, 2) := dk_18 120 (dk_at dksX10_init_44 7 rfl rfl)
theorem dX10_init_1046 : decode cX10_init 1046 = .ok (.castore, 1) := dk_85 (dk_at dksX10_init_44 9 rfl rfl)
theorem dX10_init_1047 : decode cX10_init 1047 = .ok (.dup, 1) := dk_89 (dk_at dksX10_init_44 10 rfl rfl)
theorem dX10_init_1048 : decode cX10_init 1048 = .ok (.sipush 155, 3) := dk_17 0 155 (dk_at dksX10_init_44 11 rfl rfl)
theorem dX10_init_1051 : decode cX10_init 1051 = .ok (.ldc 121, 2) := dk_18 121 (dk_at dksX10_init_44 14 rfl rfl)
theorem dX10_init_1053 : decode cX10_init 1053 = .ok (.castore, 1) := dk_85 (dk_at dksX10_init_44 16 rfl rfl)
theorem dX10_init_1054 : decode cX10_init 1054 = .ok (.dup, 1) := dk_89 (dk_at dksX10_init_44 17 rfl rfl)
theorem dX10_init_1055 : decode cX10_init 1055 = .ok (.sipush 156, 3) := dk_17 0 156 (dk_at dksX10_init_44 18 rfl rfl)
theorem dX10_init_1058 : decode cX10_init 1058 = .ok (.ldc 122, 2) := dk_18 122 (dk_at dksX10_init_44 21 rfl rfl)
theorem dX10_init_1060 : decode cX10_init 1060 = .ok (.castore, 1) := dk_85 (dk_at dksX10_init_44 23 rfl rfl)
theorem dX10_init_1061 : decode cX10_init 1061 = .ok (.dup, 1) := dk_89 (dk_at dksX10_init_45 0 rfl rfl)
theorem dX10_init_1062 : decode cX10_init 1062 = .ok (.sipush 157, 3) := dk_17 0 157 (dk_at dksX10_init_45 1 rfl rfl)
theorem dX10_init_1065 : decode cX10_init 1065 = .ok (.ldc 61, 2) := dk_18 61 (dk_at dksX10_init_45 4 rfl rfl)
theorem dX10_init_1067 : decode cX10_init 1067 = .ok (.castore, 1) := dk_85 (dk_at dksX10_init_45 6 rfl rfl)
theorem dX10_init_1068 : decode cX10_init 1068 = .ok (.dup, 1) := dk_89 (dk_at dksX10_init_45 7 rfl rfl)
theorem dX10_init_1069 : decode cX10_init 1069 = .ok (.sipush 158, 3) := dk_17 0 158 (dk_at dksX10_init_45 8 rfl rfl)
theorem dX10_init_1072 : decode cX10_init 1072 = .ok (.ldc 123, 2) := dk_18 123 (dk_at dksX10_init_45 11 rfl rfl)
theorem dX10_init_1074 : decode cX10_init 1074 = .ok (.castore, 1) := dk_85 (dk_at dksX10_init_45 13 rfl rfl)
theorem dX10_init_1075 : decode cX10_init 1075 = .ok (.dup, 1) := dk_89 (dk_at dksX10_init_45 14 rfl rfl)
theorem dX10_init_1076 : decode cX10_init 1076 = .ok (.sipush 159, 3) := dk_17 0 159 (dk_at dksX10_init_45 15 rfl rfl)
theorem dX10_init_1079 : decode cX10_init 1079 = .ok (.ldc 114, 2) := dk_18 114 (dk_at dksX10_init_45 18 rfl rfl)
theorem dX10_init_1081 : decode cX10_init 1081 = .ok (.castore, 1) := dk_85 (dk_at dksX10_init_45 20 rfl rfl)
theorem dX10_init_1082 : decode cX10_init 1082 = .ok (.dup, 1) := dk_89 (dk_at dksX10_init_45 21 rfl rfl)
theorem dX10_init_1083 : decode cX10_init 1083 = .ok (.sipush 160, 3) := dk_17 0 160 (dk_at dksX10_init_46 0 rfl rfl)
theorem dX10_init_1086 : decode cX10_init 1086 = .ok (.sipush 192, 3) := dk_17 0 192 (dk_at dksX10_init_46 3 rfl rfl)
theorem dX10_init_1089 : decode cX10_init 1089 = .ok (.castore, 1) := dk_85 (dk_at dksX10_init_46 6 rfl rfl)
theorem dX10_init_1090 : decode cX10_init 1090 = .ok (.dup, 1) := dk_89 (dk_at dksX10_init_46 7 rfl rfl)
theorem dX10_init_1091 : decode cX10_init 1091 = .ok (.sipush 161, 3) := dk_17 0 161 (dk_at dksX10_init_46 8 rfl rfl)
theorem dX10_init_1094 : decode cX10_init 1094 = .ok (.ldc 124, 2) := dk_18 124 (dk_at dksX10_init_46 11 rfl rfl)
theorem dX10_init_1096 : decode cX10_init 1096 = .ok (.castore, 1) := dk_85 (dk_at dksX10_init_46 13 rfl rfl)
theorem dX10_init_1097 : decode cX10_init 1097 = .ok (.dup, 1) := dk_89 (dk_at dksX10_init_46 14 rfl rfl)
theorem dX10_init_1098 : decode cX10_init 1098 = .ok (.sipush 162, 3) := dk_17 0 162 (dk_at dksX10_init_46 15 rfl rfl)
theorem dX10_init_1101 : decode cX10_init 1101 = .ok (.ldc 113, 2) := dk_18 113 (dk_at dksX10_init_46 18 rfl rfl)
theorem dX10_init_1103 : decode cX10_init 1103 = .ok (.castore, 1) := dk_85 (dk_at dksX10_init_46 20 rfl rfl)
theorem dX10_init_1104 : decode cX10_init 1104 = .ok (.dup, 1) := dk_89 (dk_at dksX10_init_46 21 rfl rfl)
theorem dX10_init_1105 : decode cX10_init 1105 = .ok (.sipush 163, 3) := dk_17 0 163 (dk_at dksX10_init_47 0 rfl rfl)
theorem dX10_init_1108 : decode cX10_init 1108 = .ok (.ldc 125, 2) := dk_18 125 (dk_at dksX10_init_47 3 rfl rfl)
theorem dX10_init_1110 : decode cX10_init 1110 = .ok (.castore, 1) := dk_85 (dk_at dksX10_init_47 5 rfl rfl)
theorem dX10_init_1111 : decode cX10_init 1111 = .ok (.dup, 1) := dk_89 (dk_at dksX10_init_47 6 rfl rfl)
theorem dX10_init_1112 : decode cX10_init 1112 = .ok (.sipush 164, 3) := dk_17 0 164 (dk_at dksX10_init_47 7 rfl rfl)
theorem dX10_init_1115 : decode cX10_init 1115 = .ok (.sipush 10222, 3) := dk_17 39 238 (dk_at dksX10_init_47 10 rfl rfl)
theorem dX10_init_1118 : decode cX10_init 1118 = .ok (.castore, 1) := dk_85 (dk_at dksX10_init_47 13 rfl rfl)
theorem dX10_init_1119 : decode cX10_init 1119 = .ok (.dup, 1) := dk_89 (dk_at dksX10_init_47 14 rfl rfl)
theorem dX10_init_1120 : decode cX10_init 1120 = .ok (.sipush 165, 3) := dk_17 0 165 (dk_at dksX10_init_47 15 rfl rfl)
theorem dX10_init_1123 : decode cX10_init 1123 = .ok (.sipush 10239, 3) := dk_17 39 255 (dk_at dksX10_init_47 18 rfl rfl)
theorem dX10_init_1126 : decode cX10_init 1126 = .ok (.castore, 1) := dk_85 (dk_at dksX10_init_47 21 rfl rfl)
theorem dX10_init_1127 : decode cX10_init 1127 = .ok (.dup, 1) := dk_89 (dk_at dksX10_init_47 22 rfl rfl)
theorem dX10_init_1128 : decode cX10_init 1128 = .ok (.sipush 166, 3) := dk_17 0 166 (dk_at dksX10_init_48 0 rfl rfl)
theorem dX10_init_1131 : decode cX10_init 1131 = .ok (.ldc 107, 2) := dk_18 107 (dk_at dksX10_init_48 3 rfl rfl)
theorem dX10_init_1133 : decode cX10_init 1133 = .ok (.castore, 1) := dk_85 (dk_at dksX10_init_48 5 rfl rfl)
theorem dX10_init_1134 : decode cX10_init 1134 = .ok (.dup, 1) := dk_89 (dk_at dksX10_init_48 6 rfl rfl)
theorem dX10_init_1135 : decode cX10_init 1135 = .ok (.sipush 167, 3) := dk_17 0 167 (dk_at dksX10_init_48 7 rfl rfl)
theorem dX10_init_1138 : decode cX10_init 1138 = .ok (.ldc 126, 2) := dk_18 126 (dk_at dksX10_init_48 10 rfl rfl)
theorem dX10_init_1140 : decode cX10_init 1140 = .ok (.castore, 1) := dk_85 (dk_at dksX10_init_48 12 rfl rfl)
theorem dX10_init_1141 : decode cX10_init 1141 = .ok (.dup, 1) := dk_89 (dk_at dksX10_init_48 13 rfl rfl)
theorem dX10_init_1142 : decode cX10_init 1142 = .ok (.sipush 168, 3) := dk_17 0 168 (dk_at dksX10_init_48 14 rfl rfl)
theorem dX10_init_1145 : decode cX10_init 1145 = .ok (.sipush 8961, 3) := dk_17 35 1 (dk_at dksX10_init_48 17 rfl rfl)
theorem dX10_init_1148 : decode cX10_init 1148 = .ok (.castore, 1) := dk_85 (dk_at dksX10_init_48 20 rfl rfl)
theorem dX10_init_1149 : decode cX10_init 1149 = .ok (.dup, 1) := dk_89 (dk_at dksX10_init_48 21 rfl rfl)
theorem dX10_init_1150 : decode cX10_init 1150 = .ok (.sipush 169, 3) := dk_17 0 169 (dk_at dksX10_init_49 0 rfl rfl)
theorem dX10_init_1153 : decode cX10_init 1153 = .ok (.sipush 16143, 3) := dk_17 63 15 (dk_at dksX10_init_49 3 rfl rfl)
theorem dX10_init_1156 : decode cX10_init 1156 = .ok (.castore, 1) := dk_85 (dk_at dksX10_init_49 6 rfl rfl)
theorem dX10_init_1157 : decode cX10_init 1157 = .ok (.dup, 1) := dk_89 (dk_at dksX10_init_49 7 rfl rfl)
theorem dX10_init_1158 : decode cX10_init 1158 = .ok (.sipush 170, 3) := dk_17 0 170 (dk_at dksX10_init_49 8 rfl rfl)
theorem dX10_init_1161 : decode cX10_init 1161 = .ok (.ldc 127, 2) := dk_18 127 (dk_at dksX10_init_49 11 rfl rfl)
theorem dX10_init_1163 : decode cX10_init 1163 = .ok (.castore, 1) := dk_85 (dk_at dksX10_init_49 13 rfl rfl)
theorem dX10_init_1164 : decode cX10_init 1164 = .ok (.dup, 1) := dk_89 (dk_at dksX10_init_49 14 rfl rfl)
theorem dX10_init_1165 : decode cX10_init 1165 = .ok (.sipush 171, 3) := dk_17 0 171 (dk_at dksX10_init_49 15 rfl rfl)
theorem dX10_init_1168 : decode cX10_init 1168 = .ok (.ldc 39, 2) := dk_18 39 (dk_at dksX10_init_49 18 rfl rfl)
theorem dX10_init_1170 : decode cX10_init 1170 = .ok (.castore, 1) := dk_85 (dk_at dksX10_init_49 20 rfl rfl)
theorem dX10_init_1171 : decode cX10_init 1171 = .ok (.dup, 1) := dk_89 (dk_at dksX10_init_49 21 rfl rfl)
theorem dX10_init_1172 : decode cX10_init 1172 = .ok (.sipush 172, 3) := dk_17 0 172 (dk_at dksX10_init_50 0 rfl rfl)
theorem dX10_init_1175 : decode cX10_init 1175 = .ok (.sipush 193, 3) := dk_17 0 193 (dk_at dksX10_init_50 3 rfl rfl)
theorem dX10_init_1178 : decode cX10_init 1178 = .ok (.castore, 1) := dk_85 (dk_at dksX10_init_50 6 rfl rfl)
theorem dX10_init_1179 : decode cX10_init 1179 = .ok (.dup, 1) := dk_89 (dk_at dksX10_init_50 7 rfl rfl)
theorem dX10_init_1180 : decode cX10_init 1180 = .ok (.sipush 173, 3) := dk_17 0 173 (dk_at dksX10_init_50 8 rfl rfl)
theorem dX10_init_1183 : decode cX10_init 1183 = .ok (.ldc 36, 2) := dk_18 36 (dk_at dksX10_init_50 11 rfl rfl)
theorem dX10_init_1185 : decode cX10_init 1185 = .ok (.castore, 1) := dk_85 (dk_at dksX10_init_50 13 rfl rfl)
theorem dX10_init_1186 : decode cX10_init 1186 = .ok (.dup, 1) := dk_89 (dk_at dksX10_init_50 14 rfl rfl)
theorem dX10_init_1187 : decode cX10_init 1187 = .ok (.sipush 174, 3) := dk_17 0 174 (dk_at dksX10_init_50 15 rfl rfl)
theorem dX10_init_1190 : decode cX10_init 1190 = .ok (.ldc 37, 2) := dk_18 37 (dk_at dksX10_init_50 18 rfl rfl)
theorem dX10_init_1192 : decode cX10_init 1192 = .ok (.castore, 1) := dk_85 (dk_at dksX10_init_50 20 rfl rfl)
theorem dX10_init_1193 : decode cX10_init 1193 = .ok (.dup, 1) := dk_89 (dk_at dksX10_init_50 21 rfl rfl)
theorem dX10_init_1194 : decode cX10_init 1194 = .ok (.sipush 175, 3) := dk_17 0 175 (dk_at dksX10_init_51 0 rfl rfl)
theorem dX10_init_1197 : decode cX10_init 1197 = .ok (.bipush 96, 2) := dk_16 96 (dk_at dksX10_init_51 3 rfl rfl)
theorem dX10_init_1199 : decode cX10_init 1199 = .ok (.castore, 1) := dk_85 (dk_at dksX10_init_51 5 rfl rfl)
theorem dX10_init_1200 : decode cX10_init 1200 = .ok (.dup, 1) := dk_89 (dk_at dksX10_init_51 6 rfl rfl)
theorem dX10_init_1201 : decode cX10_init 1201 = .ok (.sipush 176, 3) := dk_17 0 176 (dk_at dksX10_init_51 7 rfl rfl)
theorem dX10_init_1204 : decode cX10_init 1204 = .ok (.ldc 39, 2) := dk_18 39 (dk_at dksX10_init_51 10 rfl rfl)
theorem dX10_init_1206 : decode cX10_init 1206 = .ok (.castore, 1) := dk_85 (dk_at dksX10_init_51 12 rfl rfl)
theorem dX10_init_1207 : decode cX10_init 1207 = .ok (.dup, 1) := dk_89 (dk_at dksX10_init_51 13 rfl rfl)
theorem dX10_init_1208 : decode cX10_init 1208 = .ok (.sipush 177, 3) := dk_17 0 177 (dk_at dksX10_init_51 14 rfl rfl)
theorem dX10_init_1211 : decode cX10_init 1211 = .ok (.bipush 96, 2) := dk_16 96 (dk_at dksX10_init_51 17 rfl rfl)
theorem dX10_init_1213 : decode cX10_init 1213 = .ok (.castore, 1) := dk_85 (dk_at dksX10_init_51 19 rfl rfl)
theorem dX10_init_1214 : decode cX10_init 1214 = .ok (.dup, 1) := dk_89 (dk_at dksX10_init_51 20 rfl rfl)
theorem dX10_init_1215 : decode cX10_init 1215 = .ok (.sipush 178, 3) := dk_17 0 178 (dk_at dksX10_init_51 21 rfl rfl)
theorem dX10_init_1218 : decode cX10_init 1218 = .ok (.sipush 10222, 3) := dk_17 39 238 (dk_at dksX10_init_52 0 rfl rfl)
theorem dX10_init_1221 : decode cX10_init 1221 = .ok (.castore, 1) := dk_85 (dk_at dksX10_init_52 3 rfl rfl)
theorem dX10_init_1222 : decode cX10_init 1222 = .ok (.dup, 1) := dk_89 (dk_at dksX10_init_52 4 rfl rfl)
theorem dX10_init_1223 : decode cX10_init 1223 = .ok (.sipush 179, 3) := dk_17 0 179 (dk_at dksX10_init_52 5 rfl rfl)
theorem dX10_init_1226 : decode cX10_init 1226 = .ok (.sipush 10239, 3) := dk_17 39 255 (dk_at dksX10_init_52 8 rfl rfl)
theorem dX10_init_1229 : decode cX10_init 1229 = .ok (.castore, 1) := dk_85 (dk_at dksX10_init_52 11 rfl rfl)
theorem dX10_init_1230 : decode cX10_init 1230 = .ok (.dup, 1) := dk_89 (dk_at dksX10_init_52 12 rfl rfl)
theorem dX10_init_1231 : decode cX10_init 1231 = .ok (.sipush 180, 3) := dk_17 0 180 (dk_at dksX10_init_52 13 rfl rfl)
theorem dX10_init_1234 : decode cX10_init 1234 = .ok (.ldc 128, 2) := dk_18 128 (dk_at dksX10_init_52 16 rfl rfl)
theorem dX10_init_1236 : decode cX10_init 1236 = .ok (.castore, 1) := dk_85 (dk_at dksX10_init_52 18 rfl rfl)
theorem dX10_init_1237 : decode cX10_init 1237 = .ok (.dup, 1) := dk_89 (dk_at dksX10_init_52 19 rfl rfl)
theorem dX10_init_1238 : decode cX10_init 1238 = .ok (.sipush 181, 3) := dk_17 0 181 (dk_at dksX10_init_52 20 rfl rfl)
theorem dX10_init_1241 : decode cX10_init 1241 = .ok (.ldc 129, 2) := dk_18 129 (dk_at dksX10_init_53 0 rfl rfl)
theorem dX10_init_1243 : decode cX10_init 1243 = .ok (.castore, 1) := dk_85 (dk_at dksX10_init_53 2 rfl rfl)
theorem dX10_init_1244 : decode cX10_init 1244 = .ok (.astore_n 2, 1) := dk_77 (dk_at dksX10_init_53 3 rfl rfl)
theorem dX10_init_1245 : decode cX10_init 1245 = .ok (.aload_n 2, 1) := dk_44 (dk_at dksX10_init_53 4 rfl rfl)
theorem dX10_init_1246 : decode cX10_init 1246 = .ok (.iconst 0, 1) := dk_3 (dk_at dksX10_init_53 5 rfl rfl)
theorem dX10_init_1247 : decode cX10_init 1247 = .ok (.aload_n 0, 1) := dk_42 (dk_at dksX10_init_53 6 rfl rfl)
theorem dX10_init_1248 : decode cX10_init 1248 = .ok (.getfield 9, 3) := dk_180 0 9 (dk_at dksX10_init_53 7 rfl rfl)
theorem dX10_init_1251 : decode cX10_init 1251 = .ok (.sipush 1536, 3) := dk_17 6 0 (dk_at dksX10_init_53 10 rfl rfl)
theorem dX10_init_1254 : decode cX10_init 1254 = .ok (.aload_n 2, 1) := dk_44 (dk_at dksX10_init_53 13 rfl rfl)
theorem dX10_init_1255 : decode cX10_init 1255 = .ok (.arraylength, 1) := dk_190 (dk_at dksX10_init_53 14 rfl rfl)
theorem dX10_init_1256 : decode cX10_init 1256 = .ok (.invokestatic 130, 3) := dk_184 0 130 (dk_at dksX10_init_53 15 rfl rfl)
theorem dX10_init_1259 : decode cX10_init 1259 = .ok (.aload_n 0, 1) := dk_42 (dk_at dksX10_init_53 18 rfl rfl)
theorem dX10_init_1260 : decode cX10_init 1260 = .ok (.invokevirtual 136, 3) := dk_182 0 136 (dk_at dksX10_init_53 19 rfl rfl)
theorem dX10_init_1263 : decode cX10_init 1263 = .ok (.return_, 1) := dk_177 (dk_at dksX10_init_53 22 rfl rfl)
abbrev cX10_empty : ByteArray := prog_5_method_2_code
def yX10_empty : MethodName := ⟨RX10, "empty", "()V"⟩
def dkwX10_empty_0 : List UInt8 := [3, 60, 27, 16, 32, 162, 0, 16, 42, 180, 0, 15, 27, 2, 79, 132, 1, 1, 167, 255, 240, 177]
abbrev dktX10_empty_0 : List UInt8 := dkwX10_empty_0 ++ []
theorem dksX10_empty_0 : cX10_empty.data.toList.drop 0 = dktX10_empty_0 := by decide +kernel
theorem dX10_empty_0 : decode cX10_empty 0 = .ok (.iconst 0, 1) := dk_3 (dk_at dksX10_empty_0 0 rfl rfl)
theorem dX10_empty_1 : decode cX10_empty 1 = .ok (.istore_n 1, 1) := dk_60 (dk_at dksX10_empty_0 1 rfl rfl)
theorem dX10_empty_2 : decode cX10_empty 2 = .ok (.iload_n 1, 1) := dk_27 (dk_at dksX10_empty_0 2 rfl rfl)
theorem dX10_empty_3 : decode cX10_empty 3 = .ok (.bipush 32, 2) := dk_16 32 (dk_at dksX10_empty_0 3 rfl rfl)
theorem dX10_empty_5 : decode cX10_empty 5 = .ok (.if_icmp .ge 16, 3) := dk_162 0 16 (dk_at dksX10_empty_0 5 rfl rfl)
theorem dX10_empty_8 : decode cX10_empty 8 = .ok (.aload_n 0, 1) := dk_42 (dk_at dksX10_empty_0 8 rfl rfl)
theorem dX10_empty_9 : decode cX10_empty 9 = .ok (.getfield 15, 3) := dk_180 0 15 (dk_at dksX10_empty_0 9 rfl rfl)
theorem dX10_empty_12 : decode cX10_empty 12 = .ok (.iload_n 1, 1) := dk_27 (dk_at dksX10_empty_0 12 rfl rfl)
theorem dX10_empty_13 : decode cX10_empty 13 = .ok (.iconst (-1), 1) := dk_2 (dk_at dksX10_empty_0 13 rfl rfl)
theorem dX10_empty_14 : decode cX10_empty 14 = .ok (.iastore, 1) := dk_79 (dk_at dksX10_empty_0 14 rfl rfl)
theorem dX10_empty_15 : decode cX10_empty 15 = .ok (.iinc 1 1, 3) := dk_132 1 1 (dk_at dksX10_empty_0 15 rfl rfl)
theorem dX10_empty_18 : decode cX10_empty 18 = .ok (.goto (-16), 3) := dk_167 255 240 (dk_at dksX10_empty_0 18 rfl rfl)
theorem dX10_empty_21 : decode cX10_empty 21 = .ok (.return_, 1) := dk_177 (dk_at dksX10_empty_0 21 rfl rfl)
abbrev cX10_clear : ByteArray := prog_5_method_11_code
def yX10_clear : MethodName := ⟨RX10, "clear", "()V"⟩
def dkwX10_clear_0 : List UInt8 := [42, 3, 181, 0, 152, 42, 3, 181, 0, 149, 42, 182, 0, 136, 177]
abbrev dktX10_clear_0 : List UInt8 := dkwX10_clear_0 ++ []
theorem dksX10_clear_0 : cX10_clear.data.toList.drop 0 = dktX10_clear_0 := by decide +kernel
theorem dX10_clear_0 : decode cX10_clear 0 = .ok (.aload_n 0, 1) := dk_42 (dk_at dksX10_clear_0 0 rfl rfl)
theorem dX10_clear_1 : decode cX10_clear 1 = .ok (.iconst 0, 1) := dk_3 (dk_at dksX10_clear_0 1 rfl rfl)
theorem dX10_clear_2 : decode cX10_clear 2 = .ok (.putfield 152, 3) := dk_181 0 152 (dk_at dksX10_clear_0 2 rfl rfl)
theorem dX10_clear_5 : decode cX10_clear 5 = .ok (.aload_n 0, 1) := dk_42 (dk_at dksX10_clear_0 5 rfl rfl)
theorem dX10_clear_6 : decode cX10_clear 6 = .ok (.iconst 0, 1) := dk_3 (dk_at dksX10_clear_0 6 rfl rfl)
theorem dX10_clear_7 : decode cX10_clear 7 = .ok (.putfield 149, 3) := dk_181 0 149 (dk_at dksX10_clear_0 7 rfl rfl)
theorem dX10_clear_10 : decode cX10_clear 10 = .ok (.aload_n 0, 1) := dk_42 (dk_at dksX10_clear_0 10 rfl rfl)
theorem dX10_clear_11 : decode cX10_clear 11 = .ok (.invokevirtual 136, 3) := dk_182 0 136 (dk_at dksX10_clear_0 11 rfl rfl)
theorem dX10_clear_14 : decode cX10_clear 14 = .ok (.return_, 1) := dk_177 (dk_at dksX10_clear_0 14 rfl rfl)
abbrev cX10_store : ByteArray := prog_5_method_4_code
def yX10_store : MethodName := ⟨RX10, "store", "(II)V"⟩
def dkwX10_store_3 : List UInt8 := [3, 181, 0, 152, 177]
abbrev dktX10_store_3 : List UInt8 := dkwX10_store_3 ++ []
def dkwX10_store_2 : List UInt8 := [16, 87, 29, 16, 64, 126, 28, 17, 0, 159, 126, 128, 79, 42, 28, 4, 126, 153, 0, 7, 7, 167, 0, 4]
abbrev dktX10_store_2 : List UInt8 := dkwX10_store_2 ++ dktX10_store_3
def dkwX10_store_1 : List UInt8 := [180, 0, 144, 16, 87, 29, 16, 127, 126, 28, 17, 0, 128, 126, 128, 79, 177, 42, 180, 0, 140, 180, 0, 144]
abbrev dktX10_store_1 : List UInt8 := dkwX10_store_1 ++ dktX10_store_2
def dkwX10_store_0 : List UInt8 := [42, 180, 0, 140, 180, 0, 144, 16, 87, 46, 62, 42, 180, 0, 149, 158, 0, 24, 42, 180, 0, 140]
abbrev dktX10_store_0 : List UInt8 := dkwX10_store_0 ++ dktX10_store_1
theorem dksX10_store_0 : cX10_store.data.toList.drop 0 = dktX10_store_0 := by decide +kernel
theorem dksX10_store_1 : cX10_store.data.toList.drop 22 = dktX10_store_1 := dk_seg dksX10_store_0 22 rfl rfl
theorem dksX10_store_2 : cX10_store.data.toList.drop 46 = dktX10_store_2 := dk_seg dksX10_store_1 24 rfl rfl
theorem dksX10_store_3 : cX10_store.data.toList.drop 70 = dktX10_store_3 := dk_seg dksX10_store_2 24 rfl rfl
theorem dX10_store_0 : decode cX10_store 0 = .ok (.aload_n 0, 1) := dk_42 (dk_at dksX10_store_0 0 rfl rfl)
theorem dX10_store_1 : decode cX10_store 1 = .ok (.getfield 140, 3) := dk_180 0 140 (dk_at dksX10_store_0 1 rfl rfl)
theorem dX10_store_4 : decode cX10_store 4 = .ok (.getfield 144, 3) := dk_180 0 144 (dk_at dksX10_store_0 4 rfl rfl)
theorem dX10_store_7 : decode cX10_store 7 = .ok (.bipush 87, 2) := dk_16 87 (dk_at dksX10_store_0 7 rfl rfl)
theorem dX10_store_9 : decode cX10_store 9 = .ok (.iaload, 1) := dk_46 (dk_at dksX10_store_0 9 rfl rfl)
theorem dX10_store_10 : decode cX10_store 10 = .ok (.istore_n 3, 1) := dk_62 (dk_at dksX10_store_0 10 rfl rfl)
theorem dX10_store_11 : decode cX10_store 11 = .ok (.aload_n 0, 1) := dk_42 (dk_at dksX10_store_0 11 rfl rfl)
theorem dX10_store_12 : decode cX10_store 12 = .ok (.getfield 149, 3) := dk_180 0 149 (dk_at dksX10_store_0 12 rfl rfl)
theorem dX10_store_15 : decode cX10_store 15 = .ok (.ifCond .le 24, 3) := dk_158 0 24 (dk_at dksX10_store_0 15 rfl rfl)
theorem dX10_store_18 : decode cX10_store 18 = .ok (.aload_n 0, 1) := dk_42 (dk_at dksX10_store_0 18 rfl rfl)
theorem dX10_store_19 : decode cX10_store 19 = .ok (.getfield 140, 3) := dk_180 0 140 (dk_at dksX10_store_0 19 rfl rfl)
theorem dX10_store_22 : decode cX10_store 22 = .ok (.getfield 144, 3) := dk_180 0 144 (dk_at dksX10_store_1 0 rfl rfl)
theorem dX10_store_25 : decode cX10_store 25 = .ok (.bipush 87, 2) := dk_16 87 (dk_at dksX10_store_1 3 rfl rfl)
theorem dX10_store_27 : decode cX10_store 27 = .ok (.iload_n 3, 1) := dk_29 (dk_at dksX10_store_1 5 rfl rfl)
theorem dX10_store_28 : decode cX10_store 28 = .ok (.bipush 127, 2) := dk_16 127 (dk_at dksX10_store_1 6 rfl rfl)
theorem dX10_store_30 : decode cX10_store 30 = .ok (.iand, 1) := dk_126 (dk_at dksX10_store_1 8 rfl rfl)
theorem dX10_store_31 : decode cX10_store 31 = .ok (.iload_n 2, 1) := dk_28 (dk_at dksX10_store_1 9 rfl rfl)
theorem dX10_store_32 : decode cX10_store 32 = .ok (.sipush 128, 3) := dk_17 0 128 (dk_at dksX10_store_1 10 rfl rfl)
theorem dX10_store_35 : decode cX10_store 35 = .ok (.iand, 1) := dk_126 (dk_at dksX10_store_1 13 rfl rfl)
theorem dX10_store_36 : decode cX10_store 36 = .ok (.ior, 1) := dk_128 (dk_at dksX10_store_1 14 rfl rfl)
theorem dX10_store_37 : decode cX10_store 37 = .ok (.iastore, 1) := dk_79 (dk_at dksX10_store_1 15 rfl rfl)
theorem dX10_store_38 : decode cX10_store 38 = .ok (.return_, 1) := dk_177 (dk_at dksX10_store_1 16 rfl rfl)
theorem dX10_store_39 : decode cX10_store 39 = .ok (.aload_n 0, 1) := dk_42 (dk_at dksX10_store_1 17 rfl rfl)
theorem dX10_store_40 : decode cX10_store 40 = .ok (.getfield 140, 3) := dk_180 0 140 (dk_at dksX10_store_1 18 rfl rfl)
theorem dX10_store_43 : decode cX10_store 43 = .ok (.getfield 144, 3) := dk_180 0 144 (dk_at dksX10_store_1 21 rfl rfl)
theorem dX10_store_46 : decode cX10_store 46 = .ok (.bipush 87, 2) := dk_16 87 (dk_at dksX10_store_2 0 rfl rfl)
theorem dX10_store_48 : decode cX10_store 48 = .ok (.iload_n 3, 1) := dk_29 (dk_at dksX10_store_2 2 rfl rfl)
theorem dX10_store_49 : decode cX10_store 49 = .ok (.bipush 64, 2) := dk_16 64 (dk_at dksX10_store_2 3 rfl rfl)
theorem dX10_store_51 : decode cX10_store 51 = .ok (.iand, 1) := dk_126 (dk_at dksX10_store_2 5 rfl rfl)
theorem dX10_store_52 : decode cX10_store 52 = .ok (.iload_n 2, 1) := dk_28 (dk_at dksX10_store_2 6 rfl rfl)
theorem dX10_store_53 : decode cX10_store 53 = .ok (.sipush 159, 3) := dk_17 0 159 (dk_at dksX10_store_2 7 rfl rfl)
theorem dX10_store_56 : decode cX10_store 56 = .ok (.iand, 1) := dk_126 (dk_at dksX10_store_2 10 rfl rfl)
theorem dX10_store_57 : decode cX10_store 57 = .ok (.ior, 1) := dk_128 (dk_at dksX10_store_2 11 rfl rfl)
theorem dX10_store_58 : decode cX10_store 58 = .ok (.iastore, 1) := dk_79 (dk_at dksX10_store_2 12 rfl rfl)
theorem dX10_store_59 : decode cX10_store 59 = .ok (.aload_n 0, 1) := dk_42 (dk_at dksX10_store_2 13 rfl rfl)
theorem dX10_store_60 : decode cX10_store 60 = .ok (.iload_n 2, 1) := dk_28 (dk_at dksX10_store_2 14 rfl rfl)
theorem dX10_store_61 : decode cX10_store 61 = .ok (.iconst 1, 1) := dk_4 (dk_at dksX10_store_2 15 rfl rfl)
theorem dX10_store_62 : decode cX10_store 62 = .ok (.iand, 1) := dk_126 (dk_at dksX10_store_2 16 rfl rfl)
theorem dX10_store_63 : decode cX10_store 63 = .ok (.ifCond .eq 7, 3) := dk_153 0 7 (dk_at dksX10_store_2 17 rfl rfl)
theorem dX10_store_66 : decode cX10_store 66 = .ok (.iconst 4, 1) := dk_7 (dk_at dksX10_store_2 20 rfl rfl)
theorem dX10_store_67 : decode cX10_store 67 = .ok (.goto 4, 3) := dk_167 0 4 (dk_at dksX10_store_2 21 rfl rfl)
theorem dX10_store_70 : decode cX10_store 70 = .ok (.iconst 0, 1) := dk_3 (dk_at dksX10_store_3 0 rfl rfl)
theorem dX10_store_71 : decode cX10_store 71 = .ok (.putfield 152, 3) := dk_181 0 152 (dk_at dksX10_store_3 1 rfl rfl)
theorem dX10_store_74 : decode cX10_store 74 = .ok (.return_, 1) := dk_177 (dk_at dksX10_store_3 4 rfl rfl)
abbrev cX10_word : ByteArray := prog_5_method_7_code
def yX10_word : MethodName := ⟨RX10, "word", "(I)I"⟩
def dkwX10_word_1 : List UInt8 := [18, 26, 167, 0, 9, 42, 180, 0, 9, 27, 52, 172]
abbrev dktX10_word_1 : List UInt8 := dkwX10_word_1 ++ []
def dkwX10_word_0 : List UInt8 := [27, 17, 6, 0, 162, 0, 24, 42, 180, 0, 140, 180, 0, 144, 16, 87, 46, 16, 64, 126, 153, 0, 8]
abbrev dktX10_word_0 : List UInt8 := dkwX10_word_0 ++ dktX10_word_1
theorem dksX10_word_0 : cX10_word.data.toList.drop 0 = dktX10_word_0 := by decide +kernel
theorem dksX10_word_1 : cX10_word.data.toList.drop 23 = dktX10_word_1 := dk_seg dksX10_word_0 23 rfl rfl
theorem dX10_word_0 : decode cX10_word 0 = .ok (.iload_n 1, 1) := dk_27 (dk_at dksX10_word_0 0 rfl rfl)
theorem dX10_word_1 : decode cX10_word 1 = .ok (.sipush 1536, 3) := dk_17 6 0 (dk_at dksX10_word_0 1 rfl rfl)
theorem dX10_word_4 : decode cX10_word 4 = .ok (.if_icmp .ge 24, 3) := dk_162 0 24 (dk_at dksX10_word_0 4 rfl rfl)
theorem dX10_word_7 : decode cX10_word 7 = .ok (.aload_n 0, 1) := dk_42 (dk_at dksX10_word_0 7 rfl rfl)
theorem dX10_word_8 : decode cX10_word 8 = .ok (.getfield 140, 3) := dk_180 0 140 (dk_at dksX10_word_0 8 rfl rfl)
theorem dX10_word_11 : decode cX10_word 11 = .ok (.getfield 144, 3) := dk_180 0 144 (dk_at dksX10_word_0 11 rfl rfl)
theorem dX10_word_14 : decode cX10_word 14 = .ok (.bipush 87, 2) := dk_16 87 (dk_at dksX10_word_0 14 rfl rfl)
theorem dX10_word_16 : decode cX10_word 16 = .ok (.iaload, 1) := dk_46 (dk_at dksX10_word_0 16 rfl rfl)
theorem dX10_word_17 : decode cX10_word 17 = .ok (.bipush 64, 2) := dk_16 64 (dk_at dksX10_word_0 17 rfl rfl)
theorem dX10_word_19 : decode cX10_word 19 = .ok (.iand, 1) := dk_126 (dk_at dksX10_word_0 19 rfl rfl)
theorem dX10_word_20 : decode cX10_word 20 = .ok (.ifCond .eq 8, 3) := dk_153 0 8 (dk_at dksX10_word_0 20 rfl rfl)
theorem dX10_word_23 : decode cX10_word 23 = .ok (.ldc 26, 2) := dk_18 26 (dk_at dksX10_word_1 0 rfl rfl)
theorem dX10_word_25 : decode cX10_word 25 = .ok (.goto 9, 3) := dk_167 0 9 (dk_at dksX10_word_1 2 rfl rfl)
theorem dX10_word_28 : decode cX10_word 28 = .ok (.aload_n 0, 1) := dk_42 (dk_at dksX10_word_1 5 rfl rfl)
theorem dX10_word_29 : decode cX10_word 29 = .ok (.getfield 9, 3) := dk_180 0 9 (dk_at dksX10_word_1 6 rfl rfl)
theorem dX10_word_32 : decode cX10_word 32 = .ok (.iload_n 1, 1) := dk_27 (dk_at dksX10_word_1 9 rfl rfl)
theorem dX10_word_33 : decode cX10_word 33 = .ok (.caload, 1) := dk_52 (dk_at dksX10_word_1 10 rfl rfl)
theorem dX10_word_34 : decode cX10_word 34 = .ok (.ireturn, 1) := dk_172 (dk_at dksX10_word_1 11 rfl rfl)
abbrev cX10_read : ByteArray := prog_5_method_8_code
def yX10_read : MethodName := ⟨RX10, "read", "(IZ)I"⟩
def dkwX10_read_6 : List UInt8 := [167, 0, 8, 21, 5, 16, 8, 122, 172]
abbrev dktX10_read_6 : List UInt8 := dkwX10_read_6 ++ []
def dkwX10_read_5 : List UInt8 := [17, 0, 255, 172, 42, 29, 182, 0, 158, 54, 5, 27, 4, 126, 154, 0, 12, 21, 5, 17, 0, 255, 126]
abbrev dktX10_read_5 : List UInt8 := dkwX10_read_5 ++ dktX10_read_6
def dkwX10_read_4 : List UInt8 := [159, 0, 27, 42, 180, 0, 19, 21, 4, 153, 0, 7, 6, 167, 0, 4, 4, 122, 4, 126, 154, 0, 7]
abbrev dktX10_read_4 : List UInt8 := dkwX10_read_4 ++ dktX10_read_5
def dkwX10_read_3 : List UInt8 := [4, 122, 17, 7, 255, 126, 62, 29, 17, 6, 0, 161, 0, 7, 4, 167, 0, 4, 3, 54, 4, 21, 4, 28]
abbrev dktX10_read_3 : List UInt8 := dkwX10_read_3 ++ dktX10_read_4
def dkwX10_read_2 : List UInt8 := [128, 167, 0, 21, 27, 154, 0, 14, 42, 180, 0, 23, 17, 0, 254, 128, 167, 0, 6, 17, 0, 255, 172, 27]
abbrev dktX10_read_2 : List UInt8 := dkwX10_read_2 ++ dktX10_read_3
def dkwX10_read_1 : List UInt8 := [160, 0, 47, 42, 3, 181, 0, 152, 42, 182, 0, 155, 27, 4, 160, 0, 14, 42, 180, 0, 19, 17, 0, 240]
abbrev dktX10_read_1 : List UInt8 := dkwX10_read_1 ++ dktX10_read_2
def dkwX10_read_0 : List UInt8 := [42, 180, 0, 152, 158, 0, 65, 42, 180, 0, 140, 180, 0, 144, 16, 87, 46, 16, 30, 126, 16, 8]
abbrev dktX10_read_0 : List UInt8 := dkwX10_read_0 ++ dktX10_read_1
theorem dksX10_read_0 : cX10_read.data.toList.drop 0 = dktX10_read_0 := by decide +kernel
theorem dksX10_read_1 : cX10_read.data.toList.drop 22 = dktX10_read_1 := dk_seg dksX10_read_0 22 rfl rfl
theorem dksX10_read_2 : cX10_read.data.toList.drop 46 = dktX10_read_2 := dk_seg dksX10_read_1 24 rfl rfl
theorem dksX10_read_3 : cX10_read.data.toList.drop 70 = dktX10_read_3 := dk_seg dksX10_read_2 24 rfl rfl
theorem dksX10_read_4 : cX10_read.data.toList.drop 94 = dktX10_read_4 := dk_seg dksX10_read_3 24 rfl rfl
theorem dksX10_read_5 : cX10_read.data.toList.drop 117 = dktX10_read_5 := dk_seg dksX10_read_4 23 rfl rfl
theorem dksX10_read_6 : cX10_read.data.toList.drop 140 = dktX10_read_6 := dk_seg dksX10_read_5 23 rfl rfl
theorem dX10_read_0 : decode cX10_read 0 = .ok (.aload_n 0, 1) := dk_42 (dk_at dksX10_read_0 0 rfl rfl)
theorem dX10_read_1 : decode cX10_read 1 = .ok (.getfield 152, 3) := dk_180 0 152 (dk_at dksX10_read_0 1 rfl rfl)
theorem dX10_read_4 : decode cX10_read 4 = .ok (.ifCond .le 65, 3) := dk_158 0 65 (dk_at dksX10_read_0 4 rfl rfl)
theorem dX10_read_7 : decode cX10_read 7 = .ok (.aload_n 0, 1) := dk_42 (dk_at dksX10_read_0 7 rfl rfl)
theorem dX10_read_8 : decode cX10_read 8 = .ok (.getfield 140, 3) := dk_180 0 140 (dk_at dksX10_read_0 8 rfl rfl)
theorem dX10_read_11 : decode cX10_read 11 = .ok (.getfield 144, 3) := dk_180 0 144 (dk_at dksX10_read_0 11 rfl rfl)
theorem dX10_read_14 : decode cX10_read 14 = .ok (.bipush 87, 2) := dk_16 87 (dk_at dksX10_read_0 14 rfl rfl)
theorem dX10_read_16 : decode cX10_read 16 = .ok (.iaload, 1) := dk_46 (dk_at dksX10_read_0 16 rfl rfl)
theorem dX10_read_17 : decode cX10_read 17 = .ok (.bipush 30, 2) := dk_16 30 (dk_at dksX10_read_0 17 rfl rfl)
theorem dX10_read_19 : decode cX10_read 19 = .ok (.iand, 1) := dk_126 (dk_at dksX10_read_0 19 rfl rfl)
theorem dX10_read_20 : decode cX10_read 20 = .ok (.bipush 8, 2) := dk_16 8 (dk_at dksX10_read_0 20 rfl rfl)
theorem dX10_read_22 : decode cX10_read 22 = .ok (.if_icmp .ne 47, 3) := dk_160 0 47 (dk_at dksX10_read_1 0 rfl rfl)
theorem dX10_read_25 : decode cX10_read 25 = .ok (.aload_n 0, 1) := dk_42 (dk_at dksX10_read_1 3 rfl rfl)
theorem dX10_read_26 : decode cX10_read 26 = .ok (.iconst 0, 1) := dk_3 (dk_at dksX10_read_1 4 rfl rfl)
theorem dX10_read_27 : decode cX10_read 27 = .ok (.putfield 152, 3) := dk_181 0 152 (dk_at dksX10_read_1 5 rfl rfl)
theorem dX10_read_30 : decode cX10_read 30 = .ok (.aload_n 0, 1) := dk_42 (dk_at dksX10_read_1 8 rfl rfl)
theorem dX10_read_31 : decode cX10_read 31 = .ok (.invokevirtual 155, 3) := dk_182 0 155 (dk_at dksX10_read_1 9 rfl rfl)
theorem dX10_read_34 : decode cX10_read 34 = .ok (.iload_n 1, 1) := dk_27 (dk_at dksX10_read_1 12 rfl rfl)
theorem dX10_read_35 : decode cX10_read 35 = .ok (.iconst 1, 1) := dk_4 (dk_at dksX10_read_1 13 rfl rfl)
theorem dX10_read_36 : decode cX10_read 36 = .ok (.if_icmp .ne 14, 3) := dk_160 0 14 (dk_at dksX10_read_1 14 rfl rfl)
theorem dX10_read_39 : decode cX10_read 39 = .ok (.aload_n 0, 1) := dk_42 (dk_at dksX10_read_1 17 rfl rfl)
theorem dX10_read_40 : decode cX10_read 40 = .ok (.getfield 19, 3) := dk_180 0 19 (dk_at dksX10_read_1 18 rfl rfl)
theorem dX10_read_43 : decode cX10_read 43 = .ok (.sipush 240, 3) := dk_17 0 240 (dk_at dksX10_read_1 21 rfl rfl)
theorem dX10_read_46 : decode cX10_read 46 = .ok (.ior, 1) := dk_128 (dk_at dksX10_read_2 0 rfl rfl)
theorem dX10_read_47 : decode cX10_read 47 = .ok (.goto 21, 3) := dk_167 0 21 (dk_at dksX10_read_2 1 rfl rfl)
theorem dX10_read_50 : decode cX10_read 50 = .ok (.iload_n 1, 1) := dk_27 (dk_at dksX10_read_2 4 rfl rfl)
theorem dX10_read_51 : decode cX10_read 51 = .ok (.ifCond .ne 14, 3) := dk_154 0 14 (dk_at dksX10_read_2 5 rfl rfl)
theorem dX10_read_54 : decode cX10_read 54 = .ok (.aload_n 0, 1) := dk_42 (dk_at dksX10_read_2 8 rfl rfl)
theorem dX10_read_55 : decode cX10_read 55 = .ok (.getfield 23, 3) := dk_180 0 23 (dk_at dksX10_read_2 9 rfl rfl)
theorem dX10_read_58 : decode cX10_read 58 = .ok (.sipush 254, 3) := dk_17 0 254 (dk_at dksX10_read_2 12 rfl rfl)
theorem dX10_read_61 : decode cX10_read 61 = .ok (.ior, 1) := dk_128 (dk_at dksX10_read_2 15 rfl rfl)
theorem dX10_read_62 : decode cX10_read 62 = .ok (.goto 6, 3) := dk_167 0 6 (dk_at dksX10_read_2 16 rfl rfl)
theorem dX10_read_65 : decode cX10_read 65 = .ok (.sipush 255, 3) := dk_17 0 255 (dk_at dksX10_read_2 19 rfl rfl)
theorem dX10_read_68 : decode cX10_read 68 = .ok (.ireturn, 1) := dk_172 (dk_at dksX10_read_2 22 rfl rfl)
theorem dX10_read_69 : decode cX10_read 69 = .ok (.iload_n 1, 1) := dk_27 (dk_at dksX10_read_2 23 rfl rfl)
theorem dX10_read_70 : decode cX10_read 70 = .ok (.iconst 1, 1) := dk_4 (dk_at dksX10_read_3 0 rfl rfl)
theorem dX10_read_71 : decode cX10_read 71 = .ok (.ishr, 1) := dk_122 (dk_at dksX10_read_3 1 rfl rfl)
theorem dX10_read_72 : decode cX10_read 72 = .ok (.sipush 2047, 3) := dk_17 7 255 (dk_at dksX10_read_3 2 rfl rfl)
theorem dX10_read_75 : decode cX10_read 75 = .ok (.iand, 1) := dk_126 (dk_at dksX10_read_3 5 rfl rfl)
theorem dX10_read_76 : decode cX10_read 76 = .ok (.istore_n 3, 1) := dk_62 (dk_at dksX10_read_3 6 rfl rfl)
theorem dX10_read_77 : decode cX10_read 77 = .ok (.iload_n 3, 1) := dk_29 (dk_at dksX10_read_3 7 rfl rfl)
theorem dX10_read_78 : decode cX10_read 78 = .ok (.sipush 1536, 3) := dk_17 6 0 (dk_at dksX10_read_3 8 rfl rfl)
theorem dX10_read_81 : decode cX10_read 81 = .ok (.if_icmp .lt 7, 3) := dk_161 0 7 (dk_at dksX10_read_3 11 rfl rfl)
theorem dX10_read_84 : decode cX10_read 84 = .ok (.iconst 1, 1) := dk_4 (dk_at dksX10_read_3 14 rfl rfl)
theorem dX10_read_85 : decode cX10_read 85 = .ok (.goto 4, 3) := dk_167 0 4 (dk_at dksX10_read_3 15 rfl rfl)
theorem dX10_read_88 : decode cX10_read 88 = .ok (.iconst 0, 1) := dk_3 (dk_at dksX10_read_3 18 rfl rfl)
theorem dX10_read_89 : decode cX10_read 89 = .ok (.istore 4, 2) := dk_54 4 (dk_at dksX10_read_3 19 rfl rfl)
theorem dX10_read_91 : decode cX10_read 91 = .ok (.iload 4, 2) := dk_21 4 (dk_at dksX10_read_3 21 rfl rfl)
theorem dX10_read_93 : decode cX10_read 93 = .ok (.iload_n 2, 1) := dk_28 (dk_at dksX10_read_3 23 rfl rfl)
theorem dX10_read_94 : decode cX10_read 94 = .ok (.if_icmp .eq 27, 3) := dk_159 0 27 (dk_at dksX10_read_4 0 rfl rfl)
theorem dX10_read_97 : decode cX10_read 97 = .ok (.aload_n 0, 1) := dk_42 (dk_at dksX10_read_4 3 rfl rfl)
theorem dX10_read_98 : decode cX10_read 98 = .ok (.getfield 19, 3) := dk_180 0 19 (dk_at dksX10_read_4 4 rfl rfl)
theorem dX10_read_101 : decode cX10_read 101 = .ok (.iload 4, 2) := dk_21 4 (dk_at dksX10_read_4 7 rfl rfl)
theorem dX10_read_103 : decode cX10_read 103 = .ok (.ifCond .eq 7, 3) := dk_153 0 7 (dk_at dksX10_read_4 9 rfl rfl)
theorem dX10_read_106 : decode cX10_read 106 = .ok (.iconst 3, 1) := dk_6 (dk_at dksX10_read_4 12 rfl rfl)
theorem dX10_read_107 : decode cX10_read 107 = .ok (.goto 4, 3) := dk_167 0 4 (dk_at dksX10_read_4 13 rfl rfl)
theorem dX10_read_110 : decode cX10_read 110 = .ok (.iconst 1, 1) := dk_4 (dk_at dksX10_read_4 16 rfl rfl)
theorem dX10_read_111 : decode cX10_read 111 = .ok (.ishr, 1) := dk_122 (dk_at dksX10_read_4 17 rfl rfl)
theorem dX10_read_112 : decode cX10_read 112 = .ok (.iconst 1, 1) := dk_4 (dk_at dksX10_read_4 18 rfl rfl)
theorem dX10_read_113 : decode cX10_read 113 = .ok (.iand, 1) := dk_126 (dk_at dksX10_read_4 19 rfl rfl)
theorem dX10_read_114 : decode cX10_read 114 = .ok (.ifCond .ne 7, 3) := dk_154 0 7 (dk_at dksX10_read_4 20 rfl rfl)
theorem dX10_read_117 : decode cX10_read 117 = .ok (.sipush 255, 3) := dk_17 0 255 (dk_at dksX10_read_5 0 rfl rfl)
theorem dX10_read_120 : decode cX10_read 120 = .ok (.ireturn, 1) := dk_172 (dk_at dksX10_read_5 3 rfl rfl)
theorem dX10_read_121 : decode cX10_read 121 = .ok (.aload_n 0, 1) := dk_42 (dk_at dksX10_read_5 4 rfl rfl)
theorem dX10_read_122 : decode cX10_read 122 = .ok (.iload_n 3, 1) := dk_29 (dk_at dksX10_read_5 5 rfl rfl)
theorem dX10_read_123 : decode cX10_read 123 = .ok (.invokevirtual 158, 3) := dk_182 0 158 (dk_at dksX10_read_5 6 rfl rfl)
theorem dX10_read_126 : decode cX10_read 126 = .ok (.istore 5, 2) := dk_54 5 (dk_at dksX10_read_5 9 rfl rfl)
theorem dX10_read_128 : decode cX10_read 128 = .ok (.iload_n 1, 1) := dk_27 (dk_at dksX10_read_5 11 rfl rfl)
theorem dX10_read_129 : decode cX10_read 129 = .ok (.iconst 1, 1) := dk_4 (dk_at dksX10_read_5 12 rfl rfl)
theorem dX10_read_130 : decode cX10_read 130 = .ok (.iand, 1) := dk_126 (dk_at dksX10_read_5 13 rfl rfl)
theorem dX10_read_131 : decode cX10_read 131 = .ok (.ifCond .ne 12, 3) := dk_154 0 12 (dk_at dksX10_read_5 14 rfl rfl)
theorem dX10_read_134 : decode cX10_read 134 = .ok (.iload 5, 2) := dk_21 5 (dk_at dksX10_read_5 17 rfl rfl)
theorem dX10_read_136 : decode cX10_read 136 = .ok (.sipush 255, 3) := dk_17 0 255 (dk_at dksX10_read_5 19 rfl rfl)
theorem dX10_read_139 : decode cX10_read 139 = .ok (.iand, 1) := dk_126 (dk_at dksX10_read_5 22 rfl rfl)
theorem dX10_read_140 : decode cX10_read 140 = .ok (.goto 8, 3) := dk_167 0 8 (dk_at dksX10_read_6 0 rfl rfl)
theorem dX10_read_143 : decode cX10_read 143 = .ok (.iload 5, 2) := dk_21 5 (dk_at dksX10_read_6 3 rfl rfl)
theorem dX10_read_145 : decode cX10_read 145 = .ok (.bipush 8, 2) := dk_16 8 (dk_at dksX10_read_6 5 rfl rfl)
theorem dX10_read_147 : decode cX10_read 147 = .ok (.ishr, 1) := dk_122 (dk_at dksX10_read_6 7 rfl rfl)
theorem dX10_read_148 : decode cX10_read 148 = .ok (.ireturn, 1) := dk_172 (dk_at dksX10_read_6 8 rfl rfl)
abbrev cX10_done : ByteArray := prog_5_method_6_code
def yX10_done : MethodName := ⟨RX10, "done", "()V"⟩
def dkwX10_done_0 : List UInt8 := [42, 180, 0, 140, 180, 0, 144, 16, 87, 92, 46, 16, 224, 126, 79, 177]
abbrev dktX10_done_0 : List UInt8 := dkwX10_done_0 ++ []
theorem dksX10_done_0 : cX10_done.data.toList.drop 0 = dktX10_done_0 := by decide +kernel
theorem dX10_done_0 : decode cX10_done 0 = .ok (.aload_n 0, 1) := dk_42 (dk_at dksX10_done_0 0 rfl rfl)
theorem dX10_done_1 : decode cX10_done 1 = .ok (.getfield 140, 3) := dk_180 0 140 (dk_at dksX10_done_0 1 rfl rfl)
theorem dX10_done_4 : decode cX10_done 4 = .ok (.getfield 144, 3) := dk_180 0 144 (dk_at dksX10_done_0 4 rfl rfl)
theorem dX10_done_7 : decode cX10_done 7 = .ok (.bipush 87, 2) := dk_16 87 (dk_at dksX10_done_0 7 rfl rfl)
theorem dX10_done_9 : decode cX10_done 9 = .ok (.dup2, 1) := dk_92 (dk_at dksX10_done_0 9 rfl rfl)
theorem dX10_done_10 : decode cX10_done 10 = .ok (.iaload, 1) := dk_46 (dk_at dksX10_done_0 10 rfl rfl)
theorem dX10_done_11 : decode cX10_done 11 = .ok (.bipush (-32), 2) := dk_16 224 (dk_at dksX10_done_0 11 rfl rfl)
theorem dX10_done_13 : decode cX10_done 13 = .ok (.iand, 1) := dk_126 (dk_at dksX10_done_0 13 rfl rfl)
theorem dX10_done_14 : decode cX10_done 14 = .ok (.iastore, 1) := dk_79 (dk_at dksX10_done_0 14 rfl rfl)
theorem dX10_done_15 : decode cX10_done 15 = .ok (.return_, 1) := dk_177 (dk_at dksX10_done_0 15 rfl rfl)
abbrev cX10_stores : ByteArray := prog_5_method_9_code
def yX10_stores : MethodName := ⟨RX10, "stores", "(IZ)V"⟩
def dkwX10_stores_7 : List UInt8 := [5, 122, 16, 240, 128, 126, 181, 0, 19, 42, 182, 0, 155, 177]
abbrev dktX10_stores_7 : List UInt8 := dkwX10_stores_7 ++ []
def dkwX10_stores_6 : List UInt8 := [79, 42, 182, 0, 136, 29, 7, 160, 0, 26, 42, 89, 180, 0, 19, 42, 180, 0, 140, 180, 0, 144, 3, 46]
abbrev dktX10_stores_6 : List UInt8 := dkwX10_stores_6 ++ dktX10_stores_7
def dkwX10_stores_5 : List UInt8 := [3, 46, 128, 79, 29, 16, 8, 160, 0, 22, 42, 180, 0, 140, 180, 0, 144, 16, 87, 92, 46, 16, 191, 126]
abbrev dktX10_stores_5 : List UInt8 := dkwX10_stores_5 ++ dktX10_stores_6
def dkwX10_stores_4 : List UInt8 := [4, 122, 16, 31, 126, 42, 180, 0, 140, 180, 0, 144, 4, 46, 16, 8, 120, 42, 180, 0, 140, 180, 0, 144]
abbrev dktX10_stores_4 : List UInt8 := dkwX10_stores_4 ++ dktX10_stores_5
def dkwX10_stores_3 : List UInt8 := [177, 29, 154, 0, 50, 42, 180, 0, 15, 27, 4, 122, 16, 31, 126, 46, 156, 0, 36, 42, 180, 0, 15, 27]
abbrev dktX10_stores_3 : List UInt8 := dkwX10_stores_3 ++ dktX10_stores_4
def dkwX10_stores_2 : List UInt8 := [160, 0, 25, 42, 27, 16, 6, 122, 16, 63, 126, 29, 4, 160, 0, 7, 4, 167, 0, 4, 3, 182, 0, 162]
abbrev dktX10_stores_2 : List UInt8 := dkwX10_stores_2 ++ dktX10_stores_3
def dkwX10_stores_1 : List UInt8 := [42, 180, 0, 140, 180, 0, 144, 16, 87, 46, 4, 122, 16, 15, 126, 62, 29, 4, 159, 0, 8, 29, 5]
abbrev dktX10_stores_1 : List UInt8 := dkwX10_stores_1 ++ dktX10_stores_2
def dkwX10_stores_0 : List UInt8 := [28, 153, 0, 17, 42, 180, 0, 149, 157, 0, 10, 42, 180, 0, 152, 154, 0, 4, 177, 42, 3, 181, 0, 152]
abbrev dktX10_stores_0 : List UInt8 := dkwX10_stores_0 ++ dktX10_stores_1
theorem dksX10_stores_0 : cX10_stores.data.toList.drop 0 = dktX10_stores_0 := by decide +kernel
theorem dksX10_stores_1 : cX10_stores.data.toList.drop 24 = dktX10_stores_1 := dk_seg dksX10_stores_0 24 rfl rfl
theorem dksX10_stores_2 : cX10_stores.data.toList.drop 47 = dktX10_stores_2 := dk_seg dksX10_stores_1 23 rfl rfl
theorem dksX10_stores_3 : cX10_stores.data.toList.drop 71 = dktX10_stores_3 := dk_seg dksX10_stores_2 24 rfl rfl
theorem dksX10_stores_4 : cX10_stores.data.toList.drop 95 = dktX10_stores_4 := dk_seg dksX10_stores_3 24 rfl rfl
theorem dksX10_stores_5 : cX10_stores.data.toList.drop 119 = dktX10_stores_5 := dk_seg dksX10_stores_4 24 rfl rfl
theorem dksX10_stores_6 : cX10_stores.data.toList.drop 143 = dktX10_stores_6 := dk_seg dksX10_stores_5 24 rfl rfl
theorem dksX10_stores_7 : cX10_stores.data.toList.drop 167 = dktX10_stores_7 := dk_seg dksX10_stores_6 24 rfl rfl
theorem dX10_stores_0 : decode cX10_stores 0 = .ok (.iload_n 2, 1) := dk_28 (dk_at dksX10_stores_0 0 rfl rfl)
theorem dX10_stores_1 : decode cX10_stores 1 = .ok (.ifCond .eq 17, 3) := dk_153 0 17 (dk_at dksX10_stores_0 1 rfl rfl)
theorem dX10_stores_4 : decode cX10_stores 4 = .ok (.aload_n 0, 1) := dk_42 (dk_at dksX10_stores_0 4 rfl rfl)
theorem dX10_stores_5 : decode cX10_stores 5 = .ok (.getfield 149, 3) := dk_180 0 149 (dk_at dksX10_stores_0 5 rfl rfl)
theorem dX10_stores_8 : decode cX10_stores 8 = .ok (.ifCond .gt 10, 3) := dk_157 0 10 (dk_at dksX10_stores_0 8 rfl rfl)
theorem dX10_stores_11 : decode cX10_stores 11 = .ok (.aload_n 0, 1) := dk_42 (dk_at dksX10_stores_0 11 rfl rfl)
theorem dX10_stores_12 : decode cX10_stores 12 = .ok (.getfield 152, 3) := dk_180 0 152 (dk_at dksX10_stores_0 12 rfl rfl)
theorem dX10_stores_15 : decode cX10_stores 15 = .ok (.ifCond .ne 4, 3) := dk_154 0 4 (dk_at dksX10_stores_0 15 rfl rfl)
theorem dX10_stores_18 : decode cX10_stores 18 = .ok (.return_, 1) := dk_177 (dk_at dksX10_stores_0 18 rfl rfl)
theorem dX10_stores_19 : decode cX10_stores 19 = .ok (.aload_n 0, 1) := dk_42 (dk_at dksX10_stores_0 19 rfl rfl)
theorem dX10_stores_20 : decode cX10_stores 20 = .ok (.iconst 0, 1) := dk_3 (dk_at dksX10_stores_0 20 rfl rfl)
theorem dX10_stores_21 : decode cX10_stores 21 = .ok (.putfield 152, 3) := dk_181 0 152 (dk_at dksX10_stores_0 21 rfl rfl)
theorem dX10_stores_24 : decode cX10_stores 24 = .ok (.aload_n 0, 1) := dk_42 (dk_at dksX10_stores_1 0 rfl rfl)
theorem dX10_stores_25 : decode cX10_stores 25 = .ok (.getfield 140, 3) := dk_180 0 140 (dk_at dksX10_stores_1 1 rfl rfl)
theorem dX10_stores_28 : decode cX10_stores 28 = .ok (.getfield 144, 3) := dk_180 0 144 (dk_at dksX10_stores_1 4 rfl rfl)
theorem dX10_stores_31 : decode cX10_stores 31 = .ok (.bipush 87, 2) := dk_16 87 (dk_at dksX10_stores_1 7 rfl rfl)
theorem dX10_stores_33 : decode cX10_stores 33 = .ok (.iaload, 1) := dk_46 (dk_at dksX10_stores_1 9 rfl rfl)
theorem dX10_stores_34 : decode cX10_stores 34 = .ok (.iconst 1, 1) := dk_4 (dk_at dksX10_stores_1 10 rfl rfl)
theorem dX10_stores_35 : decode cX10_stores 35 = .ok (.ishr, 1) := dk_122 (dk_at dksX10_stores_1 11 rfl rfl)
theorem dX10_stores_36 : decode cX10_stores 36 = .ok (.bipush 15, 2) := dk_16 15 (dk_at dksX10_stores_1 12 rfl rfl)
theorem dX10_stores_38 : decode cX10_stores 38 = .ok (.iand, 1) := dk_126 (dk_at dksX10_stores_1 14 rfl rfl)
theorem dX10_stores_39 : decode cX10_stores 39 = .ok (.istore_n 3, 1) := dk_62 (dk_at dksX10_stores_1 15 rfl rfl)
theorem dX10_stores_40 : decode cX10_stores 40 = .ok (.iload_n 3, 1) := dk_29 (dk_at dksX10_stores_1 16 rfl rfl)
theorem dX10_stores_41 : decode cX10_stores 41 = .ok (.iconst 1, 1) := dk_4 (dk_at dksX10_stores_1 17 rfl rfl)
theorem dX10_stores_42 : decode cX10_stores 42 = .ok (.if_icmp .eq 8, 3) := dk_159 0 8 (dk_at dksX10_stores_1 18 rfl rfl)
theorem dX10_stores_45 : decode cX10_stores 45 = .ok (.iload_n 3, 1) := dk_29 (dk_at dksX10_stores_1 21 rfl rfl)
theorem dX10_stores_46 : decode cX10_stores 46 = .ok (.iconst 2, 1) := dk_5 (dk_at dksX10_stores_1 22 rfl rfl)
theorem dX10_stores_47 : decode cX10_stores 47 = .ok (.if_icmp .ne 25, 3) := dk_160 0 25 (dk_at dksX10_stores_2 0 rfl rfl)
theorem dX10_stores_50 : decode cX10_stores 50 = .ok (.aload_n 0, 1) := dk_42 (dk_at dksX10_stores_2 3 rfl rfl)
theorem dX10_stores_51 : decode cX10_stores 51 = .ok (.iload_n 1, 1) := dk_27 (dk_at dksX10_stores_2 4 rfl rfl)
theorem dX10_stores_52 : decode cX10_stores 52 = .ok (.bipush 6, 2) := dk_16 6 (dk_at dksX10_stores_2 5 rfl rfl)
theorem dX10_stores_54 : decode cX10_stores 54 = .ok (.ishr, 1) := dk_122 (dk_at dksX10_stores_2 7 rfl rfl)
theorem dX10_stores_55 : decode cX10_stores 55 = .ok (.bipush 63, 2) := dk_16 63 (dk_at dksX10_stores_2 8 rfl rfl)
theorem dX10_stores_57 : decode cX10_stores 57 = .ok (.iand, 1) := dk_126 (dk_at dksX10_stores_2 10 rfl rfl)
theorem dX10_stores_58 : decode cX10_stores 58 = .ok (.iload_n 3, 1) := dk_29 (dk_at dksX10_stores_2 11 rfl rfl)
theorem dX10_stores_59 : decode cX10_stores 59 = .ok (.iconst 1, 1) := dk_4 (dk_at dksX10_stores_2 12 rfl rfl)
theorem dX10_stores_60 : decode cX10_stores 60 = .ok (.if_icmp .ne 7, 3) := dk_160 0 7 (dk_at dksX10_stores_2 13 rfl rfl)
theorem dX10_stores_63 : decode cX10_stores 63 = .ok (.iconst 1, 1) := dk_4 (dk_at dksX10_stores_2 16 rfl rfl)
theorem dX10_stores_64 : decode cX10_stores 64 = .ok (.goto 4, 3) := dk_167 0 4 (dk_at dksX10_stores_2 17 rfl rfl)
theorem dX10_stores_67 : decode cX10_stores 67 = .ok (.iconst 0, 1) := dk_3 (dk_at dksX10_stores_2 20 rfl rfl)
theorem dX10_stores_68 : decode cX10_stores 68 = .ok (.invokevirtual 162, 3) := dk_182 0 162 (dk_at dksX10_stores_2 21 rfl rfl)
theorem dX10_stores_71 : decode cX10_stores 71 = .ok (.return_, 1) := dk_177 (dk_at dksX10_stores_3 0 rfl rfl)
theorem dX10_stores_72 : decode cX10_stores 72 = .ok (.iload_n 3, 1) := dk_29 (dk_at dksX10_stores_3 1 rfl rfl)
theorem dX10_stores_73 : decode cX10_stores 73 = .ok (.ifCond .ne 50, 3) := dk_154 0 50 (dk_at dksX10_stores_3 2 rfl rfl)
theorem dX10_stores_76 : decode cX10_stores 76 = .ok (.aload_n 0, 1) := dk_42 (dk_at dksX10_stores_3 5 rfl rfl)
theorem dX10_stores_77 : decode cX10_stores 77 = .ok (.getfield 15, 3) := dk_180 0 15 (dk_at dksX10_stores_3 6 rfl rfl)
theorem dX10_stores_80 : decode cX10_stores 80 = .ok (.iload_n 1, 1) := dk_27 (dk_at dksX10_stores_3 9 rfl rfl)
theorem dX10_stores_81 : decode cX10_stores 81 = .ok (.iconst 1, 1) := dk_4 (dk_at dksX10_stores_3 10 rfl rfl)
theorem dX10_stores_82 : decode cX10_stores 82 = .ok (.ishr, 1) := dk_122 (dk_at dksX10_stores_3 11 rfl rfl)
theorem dX10_stores_83 : decode cX10_stores 83 = .ok (.bipush 31, 2) := dk_16 31 (dk_at dksX10_stores_3 12 rfl rfl)
theorem dX10_stores_85 : decode cX10_stores 85 = .ok (.iand, 1) := dk_126 (dk_at dksX10_stores_3 14 rfl rfl)
theorem dX10_stores_86 : decode cX10_stores 86 = .ok (.iaload, 1) := dk_46 (dk_at dksX10_stores_3 15 rfl rfl)
theorem dX10_stores_87 : decode cX10_stores 87 = .ok (.ifCond .ge 36, 3) := dk_156 0 36 (dk_at dksX10_stores_3 16 rfl rfl)
theorem dX10_stores_90 : decode cX10_stores 90 = .ok (.aload_n 0, 1) := dk_42 (dk_at dksX10_stores_3 19 rfl rfl)
theorem dX10_stores_91 : decode cX10_stores 91 = .ok (.getfield 15, 3) := dk_180 0 15 (dk_at dksX10_stores_3 20 rfl rfl)
theorem dX10_stores_94 : decode cX10_stores 94 = .ok (.iload_n 1, 1) := dk_27 (dk_at dksX10_stores_3 23 rfl rfl)
theorem dX10_stores_95 : decode cX10_stores 95 = .ok (.iconst 1, 1) := dk_4 (dk_at dksX10_stores_4 0 rfl rfl)
theorem dX10_stores_96 : decode cX10_stores 96 = .ok (.ishr, 1) := dk_122 (dk_at dksX10_stores_4 1 rfl rfl)
theorem dX10_stores_97 : decode cX10_stores 97 = .ok (.bipush 31, 2) := dk_16 31 (dk_at dksX10_stores_4 2 rfl rfl)
theorem dX10_stores_99 : decode cX10_stores 99 = .ok (.iand, 1) := dk_126 (dk_at dksX10_stores_4 4 rfl rfl)
theorem dX10_stores_100 : decode cX10_stores 100 = .ok (.aload_n 0, 1) := dk_42 (dk_at dksX10_stores_4 5 rfl rfl)
theorem dX10_stores_101 : decode cX10_stores 101 = .ok (.getfield 140, 3) := dk_180 0 140 (dk_at dksX10_stores_4 6 rfl rfl)
theorem dX10_stores_104 : decode cX10_stores 104 = .ok (.getfield 144, 3) := dk_180 0 144 (dk_at dksX10_stores_4 9 rfl rfl)
theorem dX10_stores_107 : decode cX10_stores 107 = .ok (.iconst 1, 1) := dk_4 (dk_at dksX10_stores_4 12 rfl rfl)
theorem dX10_stores_108 : decode cX10_stores 108 = .ok (.iaload, 1) := dk_46 (dk_at dksX10_stores_4 13 rfl rfl)
theorem dX10_stores_109 : decode cX10_stores 109 = .ok (.bipush 8, 2) := dk_16 8 (dk_at dksX10_stores_4 14 rfl rfl)
theorem dX10_stores_111 : decode cX10_stores 111 = .ok (.ishl, 1) := dk_120 (dk_at dksX10_stores_4 16 rfl rfl)
theorem dX10_stores_112 : decode cX10_stores 112 = .ok (.aload_n 0, 1) := dk_42 (dk_at dksX10_stores_4 17 rfl rfl)
theorem dX10_stores_113 : decode cX10_stores 113 = .ok (.getfield 140, 3) := dk_180 0 140 (dk_at dksX10_stores_4 18 rfl rfl)
theorem dX10_stores_116 : decode cX10_stores 116 = .ok (.getfield 144, 3) := dk_180 0 144 (dk_at dksX10_stores_4 21 rfl rfl)
theorem dX10_stores_119 : decode cX10_stores 119 = .ok (.iconst 0, 1) := dk_3 (dk_at dksX10_stores_5 0 rfl rfl)
theorem dX10_stores_120 : decode cX10_stores 120 = .ok (.iaload, 1) := dk_46 (dk_at dksX10_stores_5 1 rfl rfl)
theorem dX10_stores_121 : decode cX10_stores 121 = .ok (.ior, 1) := dk_128 (dk_at dksX10_stores_5 2 rfl rfl)
theorem dX10_stores_122 : decode cX10_stores 122 = .ok (.iastore, 1) := dk_79 (dk_at dksX10_stores_5 3 rfl rfl)
theorem dX10_stores_123 : decode cX10_stores 123 = .ok (.iload_n 3, 1) := dk_29 (dk_at dksX10_stores_5 4 rfl rfl)
theorem dX10_stores_124 : decode cX10_stores 124 = .ok (.bipush 8, 2) := dk_16 8 (dk_at dksX10_stores_5 5 rfl rfl)
theorem dX10_stores_126 : decode cX10_stores 126 = .ok (.if_icmp .ne 22, 3) := dk_160 0 22 (dk_at dksX10_stores_5 7 rfl rfl)
theorem dX10_stores_129 : decode cX10_stores 129 = .ok (.aload_n 0, 1) := dk_42 (dk_at dksX10_stores_5 10 rfl rfl)
theorem dX10_stores_130 : decode cX10_stores 130 = .ok (.getfield 140, 3) := dk_180 0 140 (dk_at dksX10_stores_5 11 rfl rfl)
theorem dX10_stores_133 : decode cX10_stores 133 = .ok (.getfield 144, 3) := dk_180 0 144 (dk_at dksX10_stores_5 14 rfl rfl)
theorem dX10_stores_136 : decode cX10_stores 136 = .ok (.bipush 87, 2) := dk_16 87 (dk_at dksX10_stores_5 17 rfl rfl)
theorem dX10_stores_138 : decode cX10_stores 138 = .ok (.dup2, 1) := dk_92 (dk_at dksX10_stores_5 19 rfl rfl)
theorem dX10_stores_139 : decode cX10_stores 139 = .ok (.iaload, 1) := dk_46 (dk_at dksX10_stores_5 20 rfl rfl)
theorem dX10_stores_140 : decode cX10_stores 140 = .ok (.bipush (-65), 2) := dk_16 191 (dk_at dksX10_stores_5 21 rfl rfl)
theorem dX10_stores_142 : decode cX10_stores 142 = .ok (.iand, 1) := dk_126 (dk_at dksX10_stores_5 23 rfl rfl)
theorem dX10_stores_143 : decode cX10_stores 143 = .ok (.iastore, 1) := dk_79 (dk_at dksX10_stores_6 0 rfl rfl)
theorem dX10_stores_144 : decode cX10_stores 144 = .ok (.aload_n 0, 1) := dk_42 (dk_at dksX10_stores_6 1 rfl rfl)
theorem dX10_stores_145 : decode cX10_stores 145 = .ok (.invokevirtual 136, 3) := dk_182 0 136 (dk_at dksX10_stores_6 2 rfl rfl)
theorem dX10_stores_148 : decode cX10_stores 148 = .ok (.iload_n 3, 1) := dk_29 (dk_at dksX10_stores_6 5 rfl rfl)
theorem dX10_stores_149 : decode cX10_stores 149 = .ok (.iconst 4, 1) := dk_7 (dk_at dksX10_stores_6 6 rfl rfl)
theorem dX10_stores_150 : decode cX10_stores 150 = .ok (.if_icmp .ne 26, 3) := dk_160 0 26 (dk_at dksX10_stores_6 7 rfl rfl)
theorem dX10_stores_153 : decode cX10_stores 153 = .ok (.aload_n 0, 1) := dk_42 (dk_at dksX10_stores_6 10 rfl rfl)
theorem dX10_stores_154 : decode cX10_stores 154 = .ok (.dup, 1) := dk_89 (dk_at dksX10_stores_6 11 rfl rfl)
theorem dX10_stores_155 : decode cX10_stores 155 = .ok (.getfield 19, 3) := dk_180 0 19 (dk_at dksX10_stores_6 12 rfl rfl)
theorem dX10_stores_158 : decode cX10_stores 158 = .ok (.aload_n 0, 1) := dk_42 (dk_at dksX10_stores_6 15 rfl rfl)
theorem dX10_stores_159 : decode cX10_stores 159 = .ok (.getfield 140, 3) := dk_180 0 140 (dk_at dksX10_stores_6 16 rfl rfl)
theorem dX10_stores_162 : decode cX10_stores 162 = .ok (.getfield 144, 3) := dk_180 0 144 (dk_at dksX10_stores_6 19 rfl rfl)
theorem dX10_stores_165 : decode cX10_stores 165 = .ok (.iconst 0, 1) := dk_3 (dk_at dksX10_stores_6 22 rfl rfl)
theorem dX10_stores_166 : decode cX10_stores 166 = .ok (.iaload, 1) := dk_46 (dk_at dksX10_stores_6 23 rfl rfl)
theorem dX10_stores_167 : decode cX10_stores 167 = .ok (.iconst 2, 1) := dk_5 (dk_at dksX10_stores_7 0 rfl rfl)
theorem dX10_stores_168 : decode cX10_stores 168 = .ok (.ishr, 1) := dk_122 (dk_at dksX10_stores_7 1 rfl rfl)
theorem dX10_stores_169 : decode cX10_stores 169 = .ok (.bipush (-16), 2) := dk_16 240 (dk_at dksX10_stores_7 2 rfl rfl)
theorem dX10_stores_171 : decode cX10_stores 171 = .ok (.ior, 1) := dk_128 (dk_at dksX10_stores_7 4 rfl rfl)
theorem dX10_stores_172 : decode cX10_stores 172 = .ok (.iand, 1) := dk_126 (dk_at dksX10_stores_7 5 rfl rfl)
theorem dX10_stores_173 : decode cX10_stores 173 = .ok (.putfield 19, 3) := dk_181 0 19 (dk_at dksX10_stores_7 6 rfl rfl)
theorem dX10_stores_176 : decode cX10_stores 176 = .ok (.aload_n 0, 1) := dk_42 (dk_at dksX10_stores_7 9 rfl rfl)
theorem dX10_stores_177 : decode cX10_stores 177 = .ok (.invokevirtual 155, 3) := dk_182 0 155 (dk_at dksX10_stores_7 10 rfl rfl)
theorem dX10_stores_180 : decode cX10_stores 180 = .ok (.return_, 1) := dk_177 (dk_at dksX10_stores_7 13 rfl rfl)
abbrev cX10_page : ByteArray := prog_5_method_10_code
def yX10_page : MethodName := ⟨RX10, "page", "(IZ)V"⟩
def dkwX10_page_7 : List UInt8 := [181, 0, 149, 177]
abbrev dktX10_page_7 : List UInt8 := dkwX10_page_7 ++ []
def dkwX10_page_6 : List UInt8 := [167, 0, 25, 42, 180, 0, 140, 180, 0, 144, 16, 87, 92, 46, 16, 64, 128, 79, 42, 17, 31, 64]
abbrev dktX10_page_6 : List UInt8 := dkwX10_page_6 ++ dktX10_page_7
def dkwX10_page_5 : List UInt8 := [153, 0, 25, 42, 182, 0, 155, 42, 180, 0, 140, 89, 180, 0, 166, 17, 31, 64, 96, 181, 0, 166]
abbrev dktX10_page_5 : List UInt8 := dkwX10_page_5 ++ dktX10_page_6
def dkwX10_page_4 : List UInt8 := [180, 0, 15, 21, 4, 46, 126, 146, 85, 132, 4, 1, 167, 255, 192, 28, 154, 0, 7, 42, 182, 0, 136, 29]
abbrev dktX10_page_4 : List UInt8 := dkwX10_page_4 ++ dktX10_page_5
def dkwX10_page_3 : List UInt8 := [42, 180, 0, 15, 21, 4, 46, 155, 0, 26, 42, 180, 0, 9, 27, 16, 32, 104, 21, 4, 96, 92, 52, 42]
abbrev dktX10_page_3 : List UInt8 := dkwX10_page_3 ++ dktX10_page_4
def dkwX10_page_2 : List UInt8 := [162, 0, 63, 28, 153, 0, 20, 42, 180, 0, 9, 27, 16, 32, 104, 21, 4, 96, 18, 26, 85, 167, 0, 36]
abbrev dktX10_page_2 : List UInt8 := dkwX10_page_2 ++ dktX10_page_3
def dkwX10_page_1 : List UInt8 := [5, 167, 0, 4, 3, 122, 4, 126, 154, 0, 8, 42, 182, 0, 155, 177, 3, 54, 4, 21, 4, 16, 32]
abbrev dktX10_page_1 : List UInt8 := dkwX10_page_1 ++ dktX10_page_2
def dkwX10_page_0 : List UInt8 := [27, 16, 32, 104, 17, 6, 0, 161, 0, 7, 4, 167, 0, 4, 3, 62, 42, 180, 0, 19, 29, 153, 0, 7]
abbrev dktX10_page_0 : List UInt8 := dkwX10_page_0 ++ dktX10_page_1
theorem dksX10_page_0 : cX10_page.data.toList.drop 0 = dktX10_page_0 := by decide +kernel
theorem dksX10_page_1 : cX10_page.data.toList.drop 24 = dktX10_page_1 := dk_seg dksX10_page_0 24 rfl rfl
theorem dksX10_page_2 : cX10_page.data.toList.drop 47 = dktX10_page_2 := dk_seg dksX10_page_1 23 rfl rfl
theorem dksX10_page_3 : cX10_page.data.toList.drop 71 = dktX10_page_3 := dk_seg dksX10_page_2 24 rfl rfl
theorem dksX10_page_4 : cX10_page.data.toList.drop 95 = dktX10_page_4 := dk_seg dksX10_page_3 24 rfl rfl
theorem dksX10_page_5 : cX10_page.data.toList.drop 119 = dktX10_page_5 := dk_seg dksX10_page_4 24 rfl rfl
theorem dksX10_page_6 : cX10_page.data.toList.drop 141 = dktX10_page_6 := dk_seg dksX10_page_5 22 rfl rfl
theorem dksX10_page_7 : cX10_page.data.toList.drop 163 = dktX10_page_7 := dk_seg dksX10_page_6 22 rfl rfl
theorem dX10_page_0 : decode cX10_page 0 = .ok (.iload_n 1, 1) := dk_27 (dk_at dksX10_page_0 0 rfl rfl)
theorem dX10_page_1 : decode cX10_page 1 = .ok (.bipush 32, 2) := dk_16 32 (dk_at dksX10_page_0 1 rfl rfl)
theorem dX10_page_3 : decode cX10_page 3 = .ok (.imul, 1) := dk_104 (dk_at dksX10_page_0 3 rfl rfl)
theorem dX10_page_4 : decode cX10_page 4 = .ok (.sipush 1536, 3) := dk_17 6 0 (dk_at dksX10_page_0 4 rfl rfl)
theorem dX10_page_7 : decode cX10_page 7 = .ok (.if_icmp .lt 7, 3) := dk_161 0 7 (dk_at dksX10_page_0 7 rfl rfl)
theorem dX10_page_10 : decode cX10_page 10 = .ok (.iconst 1, 1) := dk_4 (dk_at dksX10_page_0 10 rfl rfl)
theorem dX10_page_11 : decode cX10_page 11 = .ok (.goto 4, 3) := dk_167 0 4 (dk_at dksX10_page_0 11 rfl rfl)
theorem dX10_page_14 : decode cX10_page 14 = .ok (.iconst 0, 1) := dk_3 (dk_at dksX10_page_0 14 rfl rfl)
theorem dX10_page_15 : decode cX10_page 15 = .ok (.istore_n 3, 1) := dk_62 (dk_at dksX10_page_0 15 rfl rfl)
theorem dX10_page_16 : decode cX10_page 16 = .ok (.aload_n 0, 1) := dk_42 (dk_at dksX10_page_0 16 rfl rfl)
theorem dX10_page_17 : decode cX10_page 17 = .ok (.getfield 19, 3) := dk_180 0 19 (dk_at dksX10_page_0 17 rfl rfl)
theorem dX10_page_20 : decode cX10_page 20 = .ok (.iload_n 3, 1) := dk_29 (dk_at dksX10_page_0 20 rfl rfl)
theorem dX10_page_21 : decode cX10_page 21 = .ok (.ifCond .eq 7, 3) := dk_153 0 7 (dk_at dksX10_page_0 21 rfl rfl)
theorem dX10_page_24 : decode cX10_page 24 = .ok (.iconst 2, 1) := dk_5 (dk_at dksX10_page_1 0 rfl rfl)
theorem dX10_page_25 : decode cX10_page 25 = .ok (.goto 4, 3) := dk_167 0 4 (dk_at dksX10_page_1 1 rfl rfl)
theorem dX10_page_28 : decode cX10_page 28 = .ok (.iconst 0, 1) := dk_3 (dk_at dksX10_page_1 4 rfl rfl)
theorem dX10_page_29 : decode cX10_page 29 = .ok (.ishr, 1) := dk_122 (dk_at dksX10_page_1 5 rfl rfl)
theorem dX10_page_30 : decode cX10_page 30 = .ok (.iconst 1, 1) := dk_4 (dk_at dksX10_page_1 6 rfl rfl)
theorem dX10_page_31 : decode cX10_page 31 = .ok (.iand, 1) := dk_126 (dk_at dksX10_page_1 7 rfl rfl)
theorem dX10_page_32 : decode cX10_page 32 = .ok (.ifCond .ne 8, 3) := dk_154 0 8 (dk_at dksX10_page_1 8 rfl rfl)
theorem dX10_page_35 : decode cX10_page 35 = .ok (.aload_n 0, 1) := dk_42 (dk_at dksX10_page_1 11 rfl rfl)
theorem dX10_page_36 : decode cX10_page 36 = .ok (.invokevirtual 155, 3) := dk_182 0 155 (dk_at dksX10_page_1 12 rfl rfl)
theorem dX10_page_39 : decode cX10_page 39 = .ok (.return_, 1) := dk_177 (dk_at dksX10_page_1 15 rfl rfl)
theorem dX10_page_40 : decode cX10_page 40 = .ok (.iconst 0, 1) := dk_3 (dk_at dksX10_page_1 16 rfl rfl)
theorem dX10_page_41 : decode cX10_page 41 = .ok (.istore 4, 2) := dk_54 4 (dk_at dksX10_page_1 17 rfl rfl)
theorem dX10_page_43 : decode cX10_page 43 = .ok (.iload 4, 2) := dk_21 4 (dk_at dksX10_page_1 19 rfl rfl)
theorem dX10_page_45 : decode cX10_page 45 = .ok (.bipush 32, 2) := dk_16 32 (dk_at dksX10_page_1 21 rfl rfl)
theorem dX10_page_47 : decode cX10_page 47 = .ok (.if_icmp .ge 63, 3) := dk_162 0 63 (dk_at dksX10_page_2 0 rfl rfl)
theorem dX10_page_50 : decode cX10_page 50 = .ok (.iload_n 2, 1) := dk_28 (dk_at dksX10_page_2 3 rfl rfl)
theorem dX10_page_51 : decode cX10_page 51 = .ok (.ifCond .eq 20, 3) := dk_153 0 20 (dk_at dksX10_page_2 4 rfl rfl)
theorem dX10_page_54 : decode cX10_page 54 = .ok (.aload_n 0, 1) := dk_42 (dk_at dksX10_page_2 7 rfl rfl)
theorem dX10_page_55 : decode cX10_page 55 = .ok (.getfield 9, 3) := dk_180 0 9 (dk_at dksX10_page_2 8 rfl rfl)
theorem dX10_page_58 : decode cX10_page 58 = .ok (.iload_n 1, 1) := dk_27 (dk_at dksX10_page_2 11 rfl rfl)
theorem dX10_page_59 : decode cX10_page 59 = .ok (.bipush 32, 2) := dk_16 32 (dk_at dksX10_page_2 12 rfl rfl)
theorem dX10_page_61 : decode cX10_page 61 = .ok (.imul, 1) := dk_104 (dk_at dksX10_page_2 14 rfl rfl)
theorem dX10_page_62 : decode cX10_page 62 = .ok (.iload 4, 2) := dk_21 4 (dk_at dksX10_page_2 15 rfl rfl)
theorem dX10_page_64 : decode cX10_page 64 = .ok (.iadd, 1) := dk_96 (dk_at dksX10_page_2 17 rfl rfl)
theorem dX10_page_65 : decode cX10_page 65 = .ok (.ldc 26, 2) := dk_18 26 (dk_at dksX10_page_2 18 rfl rfl)
theorem dX10_page_67 : decode cX10_page 67 = .ok (.castore, 1) := dk_85 (dk_at dksX10_page_2 20 rfl rfl)
theorem dX10_page_68 : decode cX10_page 68 = .ok (.goto 36, 3) := dk_167 0 36 (dk_at dksX10_page_2 21 rfl rfl)
theorem dX10_page_71 : decode cX10_page 71 = .ok (.aload_n 0, 1) := dk_42 (dk_at dksX10_page_3 0 rfl rfl)
theorem dX10_page_72 : decode cX10_page 72 = .ok (.getfield 15, 3) := dk_180 0 15 (dk_at dksX10_page_3 1 rfl rfl)
theorem dX10_page_75 : decode cX10_page 75 = .ok (.iload 4, 2) := dk_21 4 (dk_at dksX10_page_3 4 rfl rfl)
theorem dX10_page_77 : decode cX10_page 77 = .ok (.iaload, 1) := dk_46 (dk_at dksX10_page_3 6 rfl rfl)
theorem dX10_page_78 : decode cX10_page 78 = .ok (.ifCond .lt 26, 3) := dk_155 0 26 (dk_at dksX10_page_3 7 rfl rfl)
theorem dX10_page_81 : decode cX10_page 81 = .ok (.aload_n 0, 1) := dk_42 (dk_at dksX10_page_3 10 rfl rfl)
theorem dX10_page_82 : decode cX10_page 82 = .ok (.getfield 9, 3) := dk_180 0 9 (dk_at dksX10_page_3 11 rfl rfl)
theorem dX10_page_85 : decode cX10_page 85 = .ok (.iload_n 1, 1) := dk_27 (dk_at dksX10_page_3 14 rfl rfl)
theorem dX10_page_86 : decode cX10_page 86 = .ok (.bipush 32, 2) := dk_16 32 (dk_at dksX10_page_3 15 rfl rfl)
theorem dX10_page_88 : decode cX10_page 88 = .ok (.imul, 1) := dk_104 (dk_at dksX10_page_3 17 rfl rfl)
theorem dX10_page_89 : decode cX10_page 89 = .ok (.iload 4, 2) := dk_21 4 (dk_at dksX10_page_3 18 rfl rfl)
theorem dX10_page_91 : decode cX10_page 91 = .ok (.iadd, 1) := dk_96 (dk_at dksX10_page_3 20 rfl rfl)
theorem dX10_page_92 : decode cX10_page 92 = .ok (.dup2, 1) := dk_92 (dk_at dksX10_page_3 21 rfl rfl)
theorem dX10_page_93 : decode cX10_page 93 = .ok (.caload, 1) := dk_52 (dk_at dksX10_page_3 22 rfl rfl)
theorem dX10_page_94 : decode cX10_page 94 = .ok (.aload_n 0, 1) := dk_42 (dk_at dksX10_page_3 23 rfl rfl)
theorem dX10_page_95 : decode cX10_page 95 = .ok (.getfield 15, 3) := dk_180 0 15 (dk_at dksX10_page_4 0 rfl rfl)
theorem dX10_page_98 : decode cX10_page 98 = .ok (.iload 4, 2) := dk_21 4 (dk_at dksX10_page_4 3 rfl rfl)
theorem dX10_page_100 : decode cX10_page 100 = .ok (.iaload, 1) := dk_46 (dk_at dksX10_page_4 5 rfl rfl)
theorem dX10_page_101 : decode cX10_page 101 = .ok (.iand, 1) := dk_126 (dk_at dksX10_page_4 6 rfl rfl)
theorem dX10_page_102 : decode cX10_page 102 = .ok (.i2c, 1) := dk_146 (dk_at dksX10_page_4 7 rfl rfl)
theorem dX10_page_103 : decode cX10_page 103 = .ok (.castore, 1) := dk_85 (dk_at dksX10_page_4 8 rfl rfl)
theorem dX10_page_104 : decode cX10_page 104 = .ok (.iinc 4 1, 3) := dk_132 4 1 (dk_at dksX10_page_4 9 rfl rfl)
theorem dX10_page_107 : decode cX10_page 107 = .ok (.goto (-64), 3) := dk_167 255 192 (dk_at dksX10_page_4 12 rfl rfl)
theorem dX10_page_110 : decode cX10_page 110 = .ok (.iload_n 2, 1) := dk_28 (dk_at dksX10_page_4 15 rfl rfl)
theorem dX10_page_111 : decode cX10_page 111 = .ok (.ifCond .ne 7, 3) := dk_154 0 7 (dk_at dksX10_page_4 16 rfl rfl)
theorem dX10_page_114 : decode cX10_page 114 = .ok (.aload_n 0, 1) := dk_42 (dk_at dksX10_page_4 19 rfl rfl)
theorem dX10_page_115 : decode cX10_page 115 = .ok (.invokevirtual 136, 3) := dk_182 0 136 (dk_at dksX10_page_4 20 rfl rfl)
theorem dX10_page_118 : decode cX10_page 118 = .ok (.iload_n 3, 1) := dk_29 (dk_at dksX10_page_4 23 rfl rfl)
theorem dX10_page_119 : decode cX10_page 119 = .ok (.ifCond .eq 25, 3) := dk_153 0 25 (dk_at dksX10_page_5 0 rfl rfl)
theorem dX10_page_122 : decode cX10_page 122 = .ok (.aload_n 0, 1) := dk_42 (dk_at dksX10_page_5 3 rfl rfl)
theorem dX10_page_123 : decode cX10_page 123 = .ok (.invokevirtual 155, 3) := dk_182 0 155 (dk_at dksX10_page_5 4 rfl rfl)
theorem dX10_page_126 : decode cX10_page 126 = .ok (.aload_n 0, 1) := dk_42 (dk_at dksX10_page_5 7 rfl rfl)
theorem dX10_page_127 : decode cX10_page 127 = .ok (.getfield 140, 3) := dk_180 0 140 (dk_at dksX10_page_5 8 rfl rfl)
theorem dX10_page_130 : decode cX10_page 130 = .ok (.dup, 1) := dk_89 (dk_at dksX10_page_5 11 rfl rfl)
theorem dX10_page_131 : decode cX10_page 131 = .ok (.getfield 166, 3) := dk_180 0 166 (dk_at dksX10_page_5 12 rfl rfl)
theorem dX10_page_134 : decode cX10_page 134 = .ok (.sipush 8000, 3) := dk_17 31 64 (dk_at dksX10_page_5 15 rfl rfl)
theorem dX10_page_137 : decode cX10_page 137 = .ok (.iadd, 1) := dk_96 (dk_at dksX10_page_5 18 rfl rfl)
theorem dX10_page_138 : decode cX10_page 138 = .ok (.putfield 166, 3) := dk_181 0 166 (dk_at dksX10_page_5 19 rfl rfl)
theorem dX10_page_141 : decode cX10_page 141 = .ok (.goto 25, 3) := dk_167 0 25 (dk_at dksX10_page_6 0 rfl rfl)
theorem dX10_page_144 : decode cX10_page 144 = .ok (.aload_n 0, 1) := dk_42 (dk_at dksX10_page_6 3 rfl rfl)
theorem dX10_page_145 : decode cX10_page 145 = .ok (.getfield 140, 3) := dk_180 0 140 (dk_at dksX10_page_6 4 rfl rfl)
theorem dX10_page_148 : decode cX10_page 148 = .ok (.getfield 144, 3) := dk_180 0 144 (dk_at dksX10_page_6 7 rfl rfl)
theorem dX10_page_151 : decode cX10_page 151 = .ok (.bipush 87, 2) := dk_16 87 (dk_at dksX10_page_6 10 rfl rfl)
theorem dX10_page_153 : decode cX10_page 153 = .ok (.dup2, 1) := dk_92 (dk_at dksX10_page_6 12 rfl rfl)
theorem dX10_page_154 : decode cX10_page 154 = .ok (.iaload, 1) := dk_46 (dk_at dksX10_page_6 13 rfl rfl)
theorem dX10_page_155 : decode cX10_page 155 = .ok (.bipush 64, 2) := dk_16 64 (dk_at dksX10_page_6 14 rfl rfl)
theorem dX10_page_157 : decode cX10_page 157 = .ok (.ior, 1) := dk_128 (dk_at dksX10_page_6 16 rfl rfl)
theorem dX10_page_158 : decode cX10_page 158 = .ok (.iastore, 1) := dk_79 (dk_at dksX10_page_6 17 rfl rfl)
theorem dX10_page_159 : decode cX10_page 159 = .ok (.aload_n 0, 1) := dk_42 (dk_at dksX10_page_6 18 rfl rfl)
theorem dX10_page_160 : decode cX10_page 160 = .ok (.sipush 8000, 3) := dk_17 31 64 (dk_at dksX10_page_6 19 rfl rfl)
theorem dX10_page_163 : decode cX10_page 163 = .ok (.putfield 149, 3) := dk_181 0 149 (dk_at dksX10_page_7 0 rfl rfl)
theorem dX10_page_166 : decode cX10_page 166 = .ok (.return_, 1) := dk_177 (dk_at dksX10_page_7 3 rfl rfl)
abbrev cX10_cycle : ByteArray := prog_5_method_5_code
def yX10_cycle : MethodName := ⟨RX10, "cycle", "()V"⟩
def dkwX10_cycle_2 : List UInt8 := [180, 0, 149, 154, 0, 7, 42, 182, 0, 155, 177]
abbrev dktX10_cycle_2 : List UInt8 := dkwX10_cycle_2 ++ []
def dkwX10_cycle_1 : List UInt8 := [42, 182, 0, 155, 42, 180, 0, 149, 158, 0, 24, 42, 89, 180, 0, 149, 4, 100, 181, 0, 149, 42]
abbrev dktX10_cycle_1 : List UInt8 := dkwX10_cycle_1 ++ dktX10_cycle_2
def dkwX10_cycle_0 : List UInt8 := [42, 180, 0, 152, 158, 0, 24, 42, 89, 180, 0, 152, 4, 100, 181, 0, 152, 42, 180, 0, 152, 154, 0, 7]
abbrev dktX10_cycle_0 : List UInt8 := dkwX10_cycle_0 ++ dktX10_cycle_1
theorem dksX10_cycle_0 : cX10_cycle.data.toList.drop 0 = dktX10_cycle_0 := by decide +kernel
theorem dksX10_cycle_1 : cX10_cycle.data.toList.drop 24 = dktX10_cycle_1 := dk_seg dksX10_cycle_0 24 rfl rfl
theorem dksX10_cycle_2 : cX10_cycle.data.toList.drop 46 = dktX10_cycle_2 := dk_seg dksX10_cycle_1 22 rfl rfl
theorem dX10_cycle_0 : decode cX10_cycle 0 = .ok (.aload_n 0, 1) := dk_42 (dk_at dksX10_cycle_0 0 rfl rfl)
theorem dX10_cycle_1 : decode cX10_cycle 1 = .ok (.getfield 152, 3) := dk_180 0 152 (dk_at dksX10_cycle_0 1 rfl rfl)
theorem dX10_cycle_4 : decode cX10_cycle 4 = .ok (.ifCond .le 24, 3) := dk_158 0 24 (dk_at dksX10_cycle_0 4 rfl rfl)
theorem dX10_cycle_7 : decode cX10_cycle 7 = .ok (.aload_n 0, 1) := dk_42 (dk_at dksX10_cycle_0 7 rfl rfl)
theorem dX10_cycle_8 : decode cX10_cycle 8 = .ok (.dup, 1) := dk_89 (dk_at dksX10_cycle_0 8 rfl rfl)
theorem dX10_cycle_9 : decode cX10_cycle 9 = .ok (.getfield 152, 3) := dk_180 0 152 (dk_at dksX10_cycle_0 9 rfl rfl)
theorem dX10_cycle_12 : decode cX10_cycle 12 = .ok (.iconst 1, 1) := dk_4 (dk_at dksX10_cycle_0 12 rfl rfl)
theorem dX10_cycle_13 : decode cX10_cycle 13 = .ok (.isub, 1) := dk_100 (dk_at dksX10_cycle_0 13 rfl rfl)
theorem dX10_cycle_14 : decode cX10_cycle 14 = .ok (.putfield 152, 3) := dk_181 0 152 (dk_at dksX10_cycle_0 14 rfl rfl)
theorem dX10_cycle_17 : decode cX10_cycle 17 = .ok (.aload_n 0, 1) := dk_42 (dk_at dksX10_cycle_0 17 rfl rfl)
theorem dX10_cycle_18 : decode cX10_cycle 18 = .ok (.getfield 152, 3) := dk_180 0 152 (dk_at dksX10_cycle_0 18 rfl rfl)
theorem dX10_cycle_21 : decode cX10_cycle 21 = .ok (.ifCond .ne 7, 3) := dk_154 0 7 (dk_at dksX10_cycle_0 21 rfl rfl)
theorem dX10_cycle_24 : decode cX10_cycle 24 = .ok (.aload_n 0, 1) := dk_42 (dk_at dksX10_cycle_1 0 rfl rfl)
theorem dX10_cycle_25 : decode cX10_cycle 25 = .ok (.invokevirtual 155, 3) := dk_182 0 155 (dk_at dksX10_cycle_1 1 rfl rfl)
theorem dX10_cycle_28 : decode cX10_cycle 28 = .ok (.aload_n 0, 1) := dk_42 (dk_at dksX10_cycle_1 4 rfl rfl)
theorem dX10_cycle_29 : decode cX10_cycle 29 = .ok (.getfield 149, 3) := dk_180 0 149 (dk_at dksX10_cycle_1 5 rfl rfl)
theorem dX10_cycle_32 : decode cX10_cycle 32 = .ok (.ifCond .le 24, 3) := dk_158 0 24 (dk_at dksX10_cycle_1 8 rfl rfl)
theorem dX10_cycle_35 : decode cX10_cycle 35 = .ok (.aload_n 0, 1) := dk_42 (dk_at dksX10_cycle_1 11 rfl rfl)
theorem dX10_cycle_36 : decode cX10_cycle 36 = .ok (.dup, 1) := dk_89 (dk_at dksX10_cycle_1 12 rfl rfl)
theorem dX10_cycle_37 : decode cX10_cycle 37 = .ok (.getfield 149, 3) := dk_180 0 149 (dk_at dksX10_cycle_1 13 rfl rfl)
theorem dX10_cycle_40 : decode cX10_cycle 40 = .ok (.iconst 1, 1) := dk_4 (dk_at dksX10_cycle_1 16 rfl rfl)
theorem dX10_cycle_41 : decode cX10_cycle 41 = .ok (.isub, 1) := dk_100 (dk_at dksX10_cycle_1 17 rfl rfl)
theorem dX10_cycle_42 : decode cX10_cycle 42 = .ok (.putfield 149, 3) := dk_181 0 149 (dk_at dksX10_cycle_1 18 rfl rfl)
theorem dX10_cycle_45 : decode cX10_cycle 45 = .ok (.aload_n 0, 1) := dk_42 (dk_at dksX10_cycle_1 21 rfl rfl)
theorem dX10_cycle_46 : decode cX10_cycle 46 = .ok (.getfield 149, 3) := dk_180 0 149 (dk_at dksX10_cycle_2 0 rfl rfl)
theorem dX10_cycle_49 : decode cX10_cycle 49 = .ok (.ifCond .ne 7, 3) := dk_154 0 7 (dk_at dksX10_cycle_2 3 rfl rfl)
theorem dX10_cycle_52 : decode cX10_cycle 52 = .ok (.aload_n 0, 1) := dk_42 (dk_at dksX10_cycle_2 6 rfl rfl)
theorem dX10_cycle_53 : decode cX10_cycle 53 = .ok (.invokevirtual 155, 3) := dk_182 0 155 (dk_at dksX10_cycle_2 7 rfl rfl)
theorem dX10_cycle_56 : decode cX10_cycle 56 = .ok (.return_, 1) := dk_177 (dk_at dksX10_cycle_2 10 rfl rfl)
abbrev cX10_filled : ByteArray := prog_5_method_3_code
def yX10_filled : MethodName := ⟨RX10, "filled", "()I"⟩
def dkwX10_filled_1 : List UInt8 := [3, 96, 60, 132, 2, 1, 167, 255, 230, 27, 172]
abbrev dktX10_filled_1 : List UInt8 := dkwX10_filled_1 ++ []
def dkwX10_filled_0 : List UInt8 := [3, 60, 3, 61, 28, 16, 32, 162, 0, 26, 27, 42, 180, 0, 15, 28, 46, 155, 0, 7, 4, 167, 0, 4]
abbrev dktX10_filled_0 : List UInt8 := dkwX10_filled_0 ++ dktX10_filled_1
theorem dksX10_filled_0 : cX10_filled.data.toList.drop 0 = dktX10_filled_0 := by decide +kernel
theorem dksX10_filled_1 : cX10_filled.data.toList.drop 24 = dktX10_filled_1 := dk_seg dksX10_filled_0 24 rfl rfl
theorem dX10_filled_0 : decode cX10_filled 0 = .ok (.iconst 0, 1) := dk_3 (dk_at dksX10_filled_0 0 rfl rfl)
theorem dX10_filled_1 : decode cX10_filled 1 = .ok (.istore_n 1, 1) := dk_60 (dk_at dksX10_filled_0 1 rfl rfl)
theorem dX10_filled_2 : decode cX10_filled 2 = .ok (.iconst 0, 1) := dk_3 (dk_at dksX10_filled_0 2 rfl rfl)
theorem dX10_filled_3 : decode cX10_filled 3 = .ok (.istore_n 2, 1) := dk_61 (dk_at dksX10_filled_0 3 rfl rfl)
theorem dX10_filled_4 : decode cX10_filled 4 = .ok (.iload_n 2, 1) := dk_28 (dk_at dksX10_filled_0 4 rfl rfl)
theorem dX10_filled_5 : decode cX10_filled 5 = .ok (.bipush 32, 2) := dk_16 32 (dk_at dksX10_filled_0 5 rfl rfl)
theorem dX10_filled_7 : decode cX10_filled 7 = .ok (.if_icmp .ge 26, 3) := dk_162 0 26 (dk_at dksX10_filled_0 7 rfl rfl)
theorem dX10_filled_10 : decode cX10_filled 10 = .ok (.iload_n 1, 1) := dk_27 (dk_at dksX10_filled_0 10 rfl rfl)
theorem dX10_filled_11 : decode cX10_filled 11 = .ok (.aload_n 0, 1) := dk_42 (dk_at dksX10_filled_0 11 rfl rfl)
theorem dX10_filled_12 : decode cX10_filled 12 = .ok (.getfield 15, 3) := dk_180 0 15 (dk_at dksX10_filled_0 12 rfl rfl)
theorem dX10_filled_15 : decode cX10_filled 15 = .ok (.iload_n 2, 1) := dk_28 (dk_at dksX10_filled_0 15 rfl rfl)
theorem dX10_filled_16 : decode cX10_filled 16 = .ok (.iaload, 1) := dk_46 (dk_at dksX10_filled_0 16 rfl rfl)
theorem dX10_filled_17 : decode cX10_filled 17 = .ok (.ifCond .lt 7, 3) := dk_155 0 7 (dk_at dksX10_filled_0 17 rfl rfl)
theorem dX10_filled_20 : decode cX10_filled 20 = .ok (.iconst 1, 1) := dk_4 (dk_at dksX10_filled_0 20 rfl rfl)
theorem dX10_filled_21 : decode cX10_filled 21 = .ok (.goto 4, 3) := dk_167 0 4 (dk_at dksX10_filled_0 21 rfl rfl)
theorem dX10_filled_24 : decode cX10_filled 24 = .ok (.iconst 0, 1) := dk_3 (dk_at dksX10_filled_1 0 rfl rfl)
theorem dX10_filled_25 : decode cX10_filled 25 = .ok (.iadd, 1) := dk_96 (dk_at dksX10_filled_1 1 rfl rfl)
theorem dX10_filled_26 : decode cX10_filled 26 = .ok (.istore_n 1, 1) := dk_60 (dk_at dksX10_filled_1 2 rfl rfl)
theorem dX10_filled_27 : decode cX10_filled 27 = .ok (.iinc 2 1, 3) := dk_132 2 1 (dk_at dksX10_filled_1 3 rfl rfl)
theorem dX10_filled_30 : decode cX10_filled 30 = .ok (.goto (-26), 3) := dk_167 255 230 (dk_at dksX10_filled_1 6 rfl rfl)
theorem dX10_filled_33 : decode cX10_filled 33 = .ok (.iload_n 1, 1) := dk_27 (dk_at dksX10_filled_1 9 rfl rfl)
theorem dX10_filled_34 : decode cX10_filled 34 = .ok (.ireturn, 1) := dk_172 (dk_at dksX10_filled_1 10 rfl rfl)
theorem q115 : (Jvm.Cond.initialized "FlashBoard$Flash") ∈ lw_all := lw_g (lw_at lw_m1 10 rfl) rfl
theorem q169 : (Jvm.Cond.fieldLink "FlashBoard$Flash" (140 : Nat) "FlashBoard$Flash" "core" "LFlashBoard$Core;") ∈ lw_all := lw_g (lw_at lw_m1 64 rfl) rfl
theorem q170 : (Jvm.Cond.sameField "FlashBoard$Flash" "FlashBoard$Unit" "core" "LFlashBoard$Core;") ∈ lw_all := lw_g (lw_at lw_m1 65 rfl) rfl
theorem q306 : (Jvm.Cond.instantiable "FlashBoard$Flash" (7 : Nat)) ∈ lw_all := lw_g (lw_at lw_m1 201 rfl) rfl
theorem q308 : (Jvm.Cond.instanceMethod ({ cls := "FlashBoard$Flash", name := "<init>", desc := "(LFlashBoard$Core;)V" } : Jvm.MethodName)) ∈ lw_all := lw_g (lw_at lw_m1 203 rfl) rfl
theorem q309 : (Jvm.Cond.code ({ cls := "FlashBoard$Flash", name := "<init>", desc := "(LFlashBoard$Core;)V" } : Jvm.MethodName) prog_5_method_1_code (3 : Nat) (Option.none : Option Jvm.ClassFile.FieldType)) ∈ lw_all := lw_g (lw_at lw_m1 204 rfl) rfl
theorem q310 : (Jvm.Cond.methodLink "FlashBoard$Flash" (3 : Nat) ({ cls := "FlashBoard$Unit", name := "<init>", desc := "(LFlashBoard$Core;)V" } : Jvm.MethodName)) ∈ lw_all := lw_g (lw_at lw_m1 205 rfl) rfl
theorem q311 : (Jvm.Cond.constant "FlashBoard$Flash" (26 : Nat) (65535 : Int32)) ∈ lw_all := lw_g (lw_at lw_m1 206 rfl) rfl
theorem q312 : (Jvm.Cond.constant "FlashBoard$Flash" (27 : Nat) (57348 : Int32)) ∈ lw_all := lw_g (lw_at lw_m1 207 rfl) rfl
theorem q313 : (Jvm.Cond.constant "FlashBoard$Flash" (28 : Nat) (48910 : Int32)) ∈ lw_all := lw_g (lw_at lw_m1 208 rfl) rfl
theorem q314 : (Jvm.Cond.constant "FlashBoard$Flash" (29 : Nat) (61199 : Int32)) ∈ lw_all := lw_g (lw_at lw_m1 209 rfl) rfl
theorem q315 : (Jvm.Cond.constant "FlashBoard$Flash" (30 : Nat) (48909 : Int32)) ∈ lw_all := lw_g (lw_at lw_m1 210 rfl) rfl
theorem q316 : (Jvm.Cond.constant "FlashBoard$Flash" (31 : Nat) (46868 : Int32)) ∈ lw_all := lw_g (lw_at lw_m1 211 rfl) rfl
theorem q317 : (Jvm.Cond.constant "FlashBoard$Flash" (32 : Nat) (48660 : Int32)) ∈ lw_all := lw_g (lw_at lw_m1 212 rfl) rfl
theorem q318 : (Jvm.Cond.constant "FlashBoard$Flash" (33 : Nat) (38312 : Int32)) ∈ lw_all := lw_g (lw_at lw_m1 213 rfl) rfl
theorem q319 : (Jvm.Cond.constant "FlashBoard$Flash" (34 : Nat) (64787 : Int32)) ∈ lw_all := lw_g (lw_at lw_m1 214 rfl) rfl
theorem q320 : (Jvm.Cond.constant "FlashBoard$Flash" (35 : Nat) (49306 : Int32)) ∈ lw_all := lw_g (lw_at lw_m1 215 rfl) rfl
theorem q321 : (Jvm.Cond.constant "FlashBoard$Flash" (36 : Nat) (57608 : Int32)) ∈ lw_all := lw_g (lw_at lw_m1 216 rfl) rfl
theorem q322 : (Jvm.Cond.constant "FlashBoard$Flash" (37 : Nat) (37632 : Int32)) ∈ lw_all := lw_g (lw_at lw_m1 217 rfl) rfl
theorem q323 : (Jvm.Cond.constant "FlashBoard$Flash" (38 : Nat) (57357 : Int32)) ∈ lw_all := lw_g (lw_at lw_m1 218 rfl) rfl
theorem q324 : (Jvm.Cond.constant "FlashBoard$Flash" (39 : Nat) (37392 : Int32)) ∈ lw_all := lw_g (lw_at lw_m1 219 rfl) rfl
theorem q325 : (Jvm.Cond.constant "FlashBoard$Flash" (40 : Nat) (53356 : Int32)) ∈ lw_all := lw_g (lw_at lw_m1 220 rfl) rfl
theorem q326 : (Jvm.Cond.constant "FlashBoard$Flash" (41 : Nat) (61657 : Int32)) ∈ lw_all := lw_g (lw_at lw_m1 221 rfl) rfl
theorem q327 : (Jvm.Cond.constant "FlashBoard$Flash" (42 : Nat) (61609 : Int32)) ∈ lw_all := lw_g (lw_at lw_m1 222 rfl) rfl
theorem q328 : (Jvm.Cond.constant "FlashBoard$Flash" (43 : Nat) (61497 : Int32)) ∈ lw_all := lw_g (lw_at lw_m1 223 rfl) rfl
theorem q329 : (Jvm.Cond.constant "FlashBoard$Flash" (44 : Nat) (61473 : Int32)) ∈ lw_all := lw_g (lw_at lw_m1 224 rfl) rfl
theorem q330 : (Jvm.Cond.constant "FlashBoard$Flash" (45 : Nat) (53358 : Int32)) ∈ lw_all := lw_g (lw_at lw_m1 225 rfl) rfl
theorem q331 : (Jvm.Cond.constant "FlashBoard$Flash" (46 : Nat) (57602 : Int32)) ∈ lw_all := lw_g (lw_at lw_m1 226 rfl) rfl
theorem q332 : (Jvm.Cond.constant "FlashBoard$Flash" (47 : Nat) (49168 : Int32)) ∈ lw_all := lw_g (lw_at lw_m1 227 rfl) rfl
theorem q333 : (Jvm.Cond.constant "FlashBoard$Flash" (48 : Nat) (49233 : Int32)) ∈ lw_all := lw_g (lw_at lw_m1 228 rfl) rfl
theorem q334 : (Jvm.Cond.constant "FlashBoard$Flash" (49 : Nat) (49267 : Int32)) ∈ lw_all := lw_g (lw_at lw_m1 229 rfl) rfl
theorem q335 : (Jvm.Cond.constant "FlashBoard$Flash" (50 : Nat) (53353 : Int32)) ∈ lw_all := lw_g (lw_at lw_m1 230 rfl) rfl
theorem q336 : (Jvm.Cond.constant "FlashBoard$Flash" (51 : Nat) (57614 : Int32)) ∈ lw_all := lw_g (lw_at lw_m1 231 rfl) rfl
theorem q337 : (Jvm.Cond.constant "FlashBoard$Flash" (52 : Nat) (53344 : Int32)) ∈ lw_all := lw_g (lw_at lw_m1 232 rfl) rfl
theorem q338 : (Jvm.Cond.constant "FlashBoard$Flash" (53 : Nat) (59651 : Int32)) ∈ lw_all := lw_g (lw_at lw_m1 233 rfl) rfl
theorem q339 : (Jvm.Cond.constant "FlashBoard$Flash" (54 : Nat) (53342 : Int32)) ∈ lw_all := lw_g (lw_at lw_m1 234 rfl) rfl
theorem q340 : (Jvm.Cond.constant "FlashBoard$Flash" (55 : Nat) (57351 : Int32)) ∈ lw_all := lw_g (lw_at lw_m1 235 rfl) rfl
theorem q341 : (Jvm.Cond.constant "FlashBoard$Flash" (56 : Nat) (53340 : Int32)) ∈ lw_all := lw_g (lw_at lw_m1 236 rfl) rfl
theorem q342 : (Jvm.Cond.constant "FlashBoard$Flash" (57 : Nat) (49157 : Int32)) ∈ lw_all := lw_g (lw_at lw_m1 237 rfl) rfl
theorem q343 : (Jvm.Cond.constant "FlashBoard$Flash" (58 : Nat) (53330 : Int32)) ∈ lw_all := lw_g (lw_at lw_m1 238 rfl) rfl
theorem q344 : (Jvm.Cond.constant "FlashBoard$Flash" (59 : Nat) (53328 : Int32)) ∈ lw_all := lw_g (lw_at lw_m1 239 rfl) rfl
theorem q345 : (Jvm.Cond.constant "FlashBoard$Flash" (60 : Nat) (53341 : Int32)) ∈ lw_all := lw_g (lw_at lw_m2 0 rfl) rfl
theorem q346 : (Jvm.Cond.constant "FlashBoard$Flash" (61 : Nat) (57600 : Int32)) ∈ lw_all := lw_g (lw_at lw_m2 1 rfl) rfl
theorem q347 : (Jvm.Cond.constant "FlashBoard$Flash" (62 : Nat) (53332 : Int32)) ∈ lw_all := lw_g (lw_at lw_m2 2 rfl) rfl
theorem q348 : (Jvm.Cond.constant "FlashBoard$Flash" (63 : Nat) (53214 : Int32)) ∈ lw_all := lw_g (lw_at lw_m2 3 rfl) rfl
theorem q349 : (Jvm.Cond.constant "FlashBoard$Flash" (64 : Nat) (53322 : Int32)) ∈ lw_all := lw_g (lw_at lw_m2 4 rfl) rfl
theorem q350 : (Jvm.Cond.constant "FlashBoard$Flash" (65 : Nat) (53320 : Int32)) ∈ lw_all := lw_g (lw_at lw_m2 5 rfl) rfl
theorem q351 : (Jvm.Cond.constant "FlashBoard$Flash" (66 : Nat) (53318 : Int32)) ∈ lw_all := lw_g (lw_at lw_m2 6 rfl) rfl
theorem q352 : (Jvm.Cond.constant "FlashBoard$Flash" (67 : Nat) (57504 : Int32)) ∈ lw_all := lw_g (lw_at lw_m2 7 rfl) rfl
theorem q353 : (Jvm.Cond.constant "FlashBoard$Flash" (68 : Nat) (57521 : Int32)) ∈ lw_all := lw_g (lw_at lw_m2 8 rfl) rfl
theorem q354 : (Jvm.Cond.constant "FlashBoard$Flash" (69 : Nat) (58416 : Int32)) ∈ lw_all := lw_g (lw_at lw_m2 9 rfl) rfl
theorem q355 : (Jvm.Cond.constant "FlashBoard$Flash" (70 : Nat) (53312 : Int32)) ∈ lw_all := lw_g (lw_at lw_m2 10 rfl) rfl
theorem q356 : (Jvm.Cond.constant "FlashBoard$Flash" (71 : Nat) (37645 : Int32)) ∈ lw_all := lw_g (lw_at lw_m2 11 rfl) rfl
theorem q357 : (Jvm.Cond.constant "FlashBoard$Flash" (72 : Nat) (38202 : Int32)) ∈ lw_all := lw_g (lw_at lw_m2 12 rfl) rfl
theorem q358 : (Jvm.Cond.constant "FlashBoard$Flash" (73 : Nat) (63449 : Int32)) ∈ lw_all := lw_g (lw_at lw_m2 13 rfl) rfl
theorem q359 : (Jvm.Cond.constant "FlashBoard$Flash" (74 : Nat) (53307 : Int32)) ∈ lw_all := lw_g (lw_at lw_m2 14 rfl) rfl
theorem q360 : (Jvm.Cond.constant "FlashBoard$Flash" (75 : Nat) (62721 : Int32)) ∈ lw_all := lw_g (lw_at lw_m2 15 rfl) rfl
theorem q361 : (Jvm.Cond.constant "FlashBoard$Flash" (76 : Nat) (62705 : Int32)) ∈ lw_all := lw_g (lw_at lw_m2 16 rfl) rfl
theorem q362 : (Jvm.Cond.constant "FlashBoard$Flash" (77 : Nat) (62689 : Int32)) ∈ lw_all := lw_g (lw_at lw_m2 17 rfl) rfl
theorem q363 : (Jvm.Cond.constant "FlashBoard$Flash" (78 : Nat) (62665 : Int32)) ∈ lw_all := lw_g (lw_at lw_m2 18 rfl) rfl
theorem q364 : (Jvm.Cond.constant "FlashBoard$Flash" (79 : Nat) (62648 : Int32)) ∈ lw_all := lw_g (lw_at lw_m2 19 rfl) rfl
theorem q365 : (Jvm.Cond.constant "FlashBoard$Flash" (80 : Nat) (53272 : Int32)) ∈ lw_all := lw_g (lw_at lw_m2 20 rfl) rfl
theorem q366 : (Jvm.Cond.constant "FlashBoard$Flash" (81 : Nat) (57379 : Int32)) ∈ lw_all := lw_g (lw_at lw_m2 21 rfl) rfl
theorem q367 : (Jvm.Cond.constant "FlashBoard$Flash" (82 : Nat) (53274 : Int32)) ∈ lw_all := lw_g (lw_at lw_m2 22 rfl) rfl
theorem q368 : (Jvm.Cond.constant "FlashBoard$Flash" (83 : Nat) (57633 : Int32)) ∈ lw_all := lw_g (lw_at lw_m2 23 rfl) rfl
theorem q369 : (Jvm.Cond.constant "FlashBoard$Flash" (84 : Nat) (57904 : Int32)) ∈ lw_all := lw_g (lw_at lw_m2 24 rfl) rfl
theorem q370 : (Jvm.Cond.constant "FlashBoard$Flash" (85 : Nat) (36877 : Int32)) ∈ lw_all := lw_g (lw_at lw_m2 25 rfl) rfl
theorem q371 : (Jvm.Cond.constant "FlashBoard$Flash" (86 : Nat) (36893 : Int32)) ∈ lw_all := lw_g (lw_at lw_m2 26 rfl) rfl
theorem q372 : (Jvm.Cond.constant "FlashBoard$Flash" (87 : Nat) (57377 : Int32)) ∈ lw_all := lw_g (lw_at lw_m2 27 rfl) rfl
theorem q373 : (Jvm.Cond.constant "FlashBoard$Flash" (88 : Nat) (53265 : Int32)) ∈ lw_all := lw_g (lw_at lw_m2 28 rfl) rfl
theorem q374 : (Jvm.Cond.constant "FlashBoard$Flash" (89 : Nat) (38450 : Int32)) ∈ lw_all := lw_g (lw_at lw_m2 29 rfl) rfl
theorem q375 : (Jvm.Cond.constant "FlashBoard$Flash" (90 : Nat) (63433 : Int32)) ∈ lw_all := lw_g (lw_at lw_m2 30 rfl) rfl
theorem q376 : (Jvm.Cond.constant "FlashBoard$Flash" (91 : Nat) (57381 : Int32)) ∈ lw_all := lw_g (lw_at lw_m2 31 rfl) rfl
theorem q377 : (Jvm.Cond.constant "FlashBoard$Flash" (92 : Nat) (53257 : Int32)) ∈ lw_all := lw_g (lw_at lw_m2 32 rfl) rfl
theorem q378 : (Jvm.Cond.constant "FlashBoard$Flash" (93 : Nat) (53255 : Int32)) ∈ lw_all := lw_g (lw_at lw_m2 33 rfl) rfl
theorem q379 : (Jvm.Cond.constant "FlashBoard$Flash" (94 : Nat) (53193 : Int32)) ∈ lw_all := lw_g (lw_at lw_m2 34 rfl) rfl
theorem q380 : (Jvm.Cond.constant "FlashBoard$Flash" (95 : Nat) (57601 : Int32)) ∈ lw_all := lw_g (lw_at lw_m2 35 rfl) rfl
theorem q381 : (Jvm.Cond.constant "FlashBoard$Flash" (96 : Nat) (53192 : Int32)) ∈ lw_all := lw_g (lw_at lw_m2 36 rfl) rfl
theorem q382 : (Jvm.Cond.constant "FlashBoard$Flash" (97 : Nat) (38152 : Int32)) ∈ lw_all := lw_g (lw_at lw_m2 37 rfl) rfl
theorem q383 : (Jvm.Cond.constant "FlashBoard$Flash" (98 : Nat) (46871 : Int32)) ∈ lw_all := lw_g (lw_at lw_m2 38 rfl) rfl
theorem q384 : (Jvm.Cond.constant "FlashBoard$Flash" (99 : Nat) (64784 : Int32)) ∈ lw_all := lw_g (lw_at lw_m2 39 rfl) rfl
theorem q385 : (Jvm.Cond.constant "FlashBoard$Flash" (100 : Nat) (53245 : Int32)) ∈ lw_all := lw_g (lw_at lw_m2 40 rfl) rfl
theorem q386 : (Jvm.Cond.constant "FlashBoard$Flash" (101 : Nat) (48935 : Int32)) ∈ lw_all := lw_g (lw_at lw_m2 41 rfl) rfl
theorem q387 : (Jvm.Cond.constant "FlashBoard$Flash" (102 : Nat) (38376 : Int32)) ∈ lw_all := lw_g (lw_at lw_m2 42 rfl) rfl
theorem q388 : (Jvm.Cond.constant "FlashBoard$Flash" (103 : Nat) (53258 : Int32)) ∈ lw_all := lw_g (lw_at lw_m2 43 rfl) rfl
theorem q389 : (Jvm.Cond.constant "FlashBoard$Flash" (104 : Nat) (53256 : Int32)) ∈ lw_all := lw_g (lw_at lw_m2 44 rfl) rfl
theorem q390 : (Jvm.Cond.constant "FlashBoard$Flash" (105 : Nat) (53270 : Int32)) ∈ lw_all := lw_g (lw_at lw_m2 45 rfl) rfl
theorem q391 : (Jvm.Cond.constant "FlashBoard$Flash" (106 : Nat) (57329 : Int32)) ∈ lw_all := lw_g (lw_at lw_m2 46 rfl) rfl
theorem q392 : (Jvm.Cond.constant "FlashBoard$Flash" (107 : Nat) (37125 : Int32)) ∈ lw_all := lw_g (lw_at lw_m2 47 rfl) rfl
theorem q393 : (Jvm.Cond.constant "FlashBoard$Flash" (108 : Nat) (53259 : Int32)) ∈ lw_all := lw_g (lw_at lw_m2 48 rfl) rfl
theorem q394 : (Jvm.Cond.constant "FlashBoard$Flash" (109 : Nat) (63457 : Int32)) ∈ lw_all := lw_g (lw_at lw_m2 49 rfl) rfl
theorem q395 : (Jvm.Cond.constant "FlashBoard$Flash" (110 : Nat) (53170 : Int32)) ∈ lw_all := lw_g (lw_at lw_m2 50 rfl) rfl
theorem q396 : (Jvm.Cond.constant "FlashBoard$Flash" (111 : Nat) (37120 : Int32)) ∈ lw_all := lw_g (lw_at lw_m2 51 rfl) rfl
theorem q397 : (Jvm.Cond.constant "FlashBoard$Flash" (112 : Nat) (65287 : Int32)) ∈ lw_all := lw_g (lw_at lw_m2 52 rfl) rfl
theorem q398 : (Jvm.Cond.constant "FlashBoard$Flash" (113 : Nat) (53244 : Int32)) ∈ lw_all := lw_g (lw_at lw_m2 53 rfl) rfl
theorem q399 : (Jvm.Cond.constant "FlashBoard$Flash" (114 : Nat) (37152 : Int32)) ∈ lw_all := lw_g (lw_at lw_m2 54 rfl) rfl
theorem q400 : (Jvm.Cond.constant "FlashBoard$Flash" (115 : Nat) (65317 : Int32)) ∈ lw_all := lw_g (lw_at lw_m2 55 rfl) rfl
theorem q401 : (Jvm.Cond.constant "FlashBoard$Flash" (116 : Nat) (57328 : Int32)) ∈ lw_all := lw_g (lw_at lw_m2 56 rfl) rfl
theorem q402 : (Jvm.Cond.constant "FlashBoard$Flash" (117 : Nat) (37167 : Int32)) ∈ lw_all := lw_g (lw_at lw_m2 57 rfl) rfl
theorem q403 : (Jvm.Cond.constant "FlashBoard$Flash" (118 : Nat) (57605 : Int32)) ∈ lw_all := lw_g (lw_at lw_m2 58 rfl) rfl
theorem q404 : (Jvm.Cond.constant "FlashBoard$Flash" (119 : Nat) (53149 : Int32)) ∈ lw_all := lw_g (lw_at lw_m2 59 rfl) rfl
theorem q405 : (Jvm.Cond.constant "FlashBoard$Flash" (120 : Nat) (57604 : Int32)) ∈ lw_all := lw_g (lw_at lw_m2 60 rfl) rfl
theorem q406 : (Jvm.Cond.constant "FlashBoard$Flash" (121 : Nat) (53232 : Int32)) ∈ lw_all := lw_g (lw_at lw_m2 61 rfl) rfl
theorem q407 : (Jvm.Cond.constant "FlashBoard$Flash" (122 : Nat) (57334 : Int32)) ∈ lw_all := lw_g (lw_at lw_m2 62 rfl) rfl
theorem q408 : (Jvm.Cond.constant "FlashBoard$Flash" (123 : Nat) (57325 : Int32)) ∈ lw_all := lw_g (lw_at lw_m2 63 rfl) rfl
theorem q409 : (Jvm.Cond.constant "FlashBoard$Flash" (124 : Nat) (65318 : Int32)) ∈ lw_all := lw_g (lw_at lw_m2 64 rfl) rfl
theorem q410 : (Jvm.Cond.constant "FlashBoard$Flash" (125 : Nat) (49159 : Int32)) ∈ lw_all := lw_g (lw_at lw_m2 65 rfl) rfl
theorem q411 : (Jvm.Cond.constant "FlashBoard$Flash" (126 : Nat) (37140 : Int32)) ∈ lw_all := lw_g (lw_at lw_m2 66 rfl) rfl
theorem q412 : (Jvm.Cond.constant "FlashBoard$Flash" (127 : Nat) (61521 : Int32)) ∈ lw_all := lw_g (lw_at lw_m2 67 rfl) rfl
theorem q413 : (Jvm.Cond.constant "FlashBoard$Flash" (128 : Nat) (37897 : Int32)) ∈ lw_all := lw_g (lw_at lw_m2 68 rfl) rfl
theorem q414 : (Jvm.Cond.constant "FlashBoard$Flash" (129 : Nat) (53076 : Int32)) ∈ lw_all := lw_g (lw_at lw_m2 69 rfl) rfl
theorem q415 : (Jvm.Cond.methodLink "FlashBoard$Flash" (130 : Nat) ({ cls := "java/lang/System", name := "arraycopy", desc := "(Ljava/lang/Object;ILjava/lang/Object;II)V" } : Jvm.MethodName)) ∈ lw_all := lw_g (lw_at lw_m2 70 rfl) rfl
theorem q418 : (Jvm.Cond.methodLink "FlashBoard$Flash" (136 : Nat) ({ cls := "FlashBoard$Flash", name := "empty", desc := "()V" } : Jvm.MethodName)) ∈ lw_all := lw_g (lw_at lw_m2 73 rfl) rfl
theorem q419 : (Jvm.Cond.instanceMethod ({ cls := "FlashBoard$Flash", name := "empty", desc := "()V" } : Jvm.MethodName)) ∈ lw_all := lw_g (lw_at lw_m2 74 rfl) rfl
theorem q420 : (Jvm.Cond.selects "FlashBoard$Flash" ({ cls := "FlashBoard$Flash", name := "empty", desc := "()V" } : Jvm.MethodName) ({ cls := "FlashBoard$Flash", name := "empty", desc := "()V" } : Jvm.MethodName)) ∈ lw_all := lw_g (lw_at lw_m2 75 rfl) rfl
theorem q421 : (Jvm.Cond.code ({ cls := "FlashBoard$Flash", name := "empty", desc := "()V" } : Jvm.MethodName) prog_5_method_2_code (2 : Nat) (Option.none : Option Jvm.ClassFile.FieldType)) ∈ lw_all := lw_g (lw_at lw_m2 76 rfl) rfl
theorem q422 : (Jvm.Cond.fieldLink "FlashBoard$Flash" (9 : Nat) "FlashBoard$Flash" "words" "[C") ∈ lw_all := lw_g (lw_at lw_m2 77 rfl) rfl
theorem q424 : (Jvm.Cond.fieldLink "FlashBoard$Flash" (15 : Nat) "FlashBoard$Flash" "buffer" "[I") ∈ lw_all := lw_g (lw_at lw_m2 79 rfl) rfl
theorem q425 : (Jvm.Cond.fieldLink "FlashBoard$Flash" (152 : Nat) "FlashBoard$Flash" "window" "I") ∈ lw_all := lw_g (lw_at lw_m2 80 rfl) rfl
theorem q427 : (Jvm.Cond.fieldLink "FlashBoard$Flash" (149 : Nat) "FlashBoard$Flash" "busy" "I") ∈ lw_all := lw_g (lw_at lw_m2 82 rfl) rfl
theorem q429 : (Jvm.Cond.fieldLink "FlashBoard$Flash" (19 : Nat) "FlashBoard$Flash" "locks" "I") ∈ lw_all := lw_g (lw_at lw_m2 84 rfl) rfl
theorem q431 : (Jvm.Cond.fieldLink "FlashBoard$Flash" (23 : Nat) "FlashBoard$Flash" "fuse" "I") ∈ lw_all := lw_g (lw_at lw_m2 86 rfl) rfl
theorem q434 : (Jvm.Cond.laysFinal "FlashBoard$Flash" "FlashBoard$Flash" "words" "[C") ∈ lw_all := lw_g (lw_at lw_m2 89 rfl) rfl
theorem q435 : (Jvm.Cond.soleField "FlashBoard$Flash" "words") ∈ lw_all := lw_g (lw_at lw_m2 90 rfl) rfl
theorem q436 : (Jvm.Cond.laysFinal "FlashBoard$Flash" "FlashBoard$Flash" "buffer" "[I") ∈ lw_all := lw_g (lw_at lw_m2 91 rfl) rfl
theorem q437 : (Jvm.Cond.soleField "FlashBoard$Flash" "buffer") ∈ lw_all := lw_g (lw_at lw_m2 92 rfl) rfl
theorem q438 : (Jvm.Cond.lays "FlashBoard$Flash" "FlashBoard$Flash" "window" "I") ∈ lw_all := lw_g (lw_at lw_m2 93 rfl) rfl
theorem q439 : (Jvm.Cond.soleField "FlashBoard$Flash" "window") ∈ lw_all := lw_g (lw_at lw_m2 94 rfl) rfl
theorem q440 : (Jvm.Cond.lays "FlashBoard$Flash" "FlashBoard$Flash" "busy" "I") ∈ lw_all := lw_g (lw_at lw_m2 95 rfl) rfl
theorem q441 : (Jvm.Cond.soleField "FlashBoard$Flash" "busy") ∈ lw_all := lw_g (lw_at lw_m2 96 rfl) rfl
theorem q442 : (Jvm.Cond.lays "FlashBoard$Flash" "FlashBoard$Flash" "locks" "I") ∈ lw_all := lw_g (lw_at lw_m2 97 rfl) rfl
theorem q443 : (Jvm.Cond.soleField "FlashBoard$Flash" "locks") ∈ lw_all := lw_g (lw_at lw_m2 98 rfl) rfl
theorem q444 : (Jvm.Cond.lays "FlashBoard$Flash" "FlashBoard$Flash" "fuse" "I") ∈ lw_all := lw_g (lw_at lw_m2 99 rfl) rfl
theorem q445 : (Jvm.Cond.soleField "FlashBoard$Flash" "fuse") ∈ lw_all := lw_g (lw_at lw_m2 100 rfl) rfl
theorem q446 : (Jvm.Cond.laysFinal "FlashBoard$Flash" "FlashBoard$Unit" "core" "LFlashBoard$Core;") ∈ lw_all := lw_g (lw_at lw_m2 101 rfl) rfl
theorem q447 : (Jvm.Cond.superclass "FlashBoard$Flash" "FlashBoard$Unit") ∈ lw_all := lw_g (lw_at lw_m2 102 rfl) rfl
theorem q470 : (Jvm.Cond.selects "FlashBoard$Flash" ({ cls := "FlashBoard$Unit", name := "clear", desc := "()V" } : Jvm.MethodName) ({ cls := "FlashBoard$Flash", name := "clear", desc := "()V" } : Jvm.MethodName)) ∈ lw_all := lw_g (lw_at lw_m2 125 rfl) rfl
theorem q471 : (Jvm.Cond.instanceMethod ({ cls := "FlashBoard$Flash", name := "clear", desc := "()V" } : Jvm.MethodName)) ∈ lw_all := lw_g (lw_at lw_m2 126 rfl) rfl
theorem q472 : (Jvm.Cond.code ({ cls := "FlashBoard$Flash", name := "clear", desc := "()V" } : Jvm.MethodName) prog_5_method_11_code (1 : Nat) (Option.none : Option Jvm.ClassFile.FieldType)) ∈ lw_all := lw_g (lw_at lw_m2 127 rfl) rfl
theorem q495 : (Jvm.Cond.fieldLinkNest "FlashBoard$Flash" (144 : Nat) "FlashBoard$Core" "data" "[I" "FlashBoard") ∈ lw_tbl := lw_at lw_m2 150 rfl
theorem q516 : (Jvm.Cond.fieldLinkNest "FlashBoard$Flash" (166 : Nat) "FlashBoard$Core" "more" "I" "FlashBoard") ∈ lw_tbl := lw_at lw_m2 171 rfl
theorem q625 : (Jvm.Cond.selects "FlashBoard$Flash" ({ cls := "FlashBoard$Unit", name := "store", desc := "(II)V" } : Jvm.MethodName) ({ cls := "FlashBoard$Flash", name := "store", desc := "(II)V" } : Jvm.MethodName)) ∈ lw_all := lw_g (lw_at lw_m3 40 rfl) rfl
theorem q626 : (Jvm.Cond.instanceMethod ({ cls := "FlashBoard$Flash", name := "store", desc := "(II)V" } : Jvm.MethodName)) ∈ lw_all := lw_g (lw_at lw_m3 41 rfl) rfl
theorem q627 : (Jvm.Cond.code ({ cls := "FlashBoard$Flash", name := "store", desc := "(II)V" } : Jvm.MethodName) prog_5_method_4_code (4 : Nat) (Option.none : Option Jvm.ClassFile.FieldType)) ∈ lw_all := lw_g (lw_at lw_m3 42 rfl) rfl
theorem q663 : (Jvm.Cond.instanceMethod ({ cls := "FlashBoard$Flash", name := "word", desc := "(I)I" } : Jvm.MethodName)) ∈ lw_all := lw_g (lw_at lw_m3 78 rfl) rfl
theorem q664 : (Jvm.Cond.selects "FlashBoard$Flash" ({ cls := "FlashBoard$Flash", name := "word", desc := "(I)I" } : Jvm.MethodName) ({ cls := "FlashBoard$Flash", name := "word", desc := "(I)I" } : Jvm.MethodName)) ∈ lw_all := lw_g (lw_at lw_m3 79 rfl) rfl
theorem q665 : (Jvm.Cond.code ({ cls := "FlashBoard$Flash", name := "word", desc := "(I)I" } : Jvm.MethodName) prog_5_method_7_code (2 : Nat) (Option.some Jvm.ClassFile.FieldType.int)) ∈ lw_all := lw_g (lw_at lw_m3 80 rfl) rfl
theorem q738 : (Jvm.Cond.selects "FlashBoard$Flash" ({ cls := "FlashBoard$Unit", name := "load", desc := "(I)I" } : Jvm.MethodName) ({ cls := "FlashBoard$Unit", name := "load", desc := "(I)I" } : Jvm.MethodName)) ∈ lw_all := lw_g (lw_at lw_m3 153 rfl) rfl
theorem q762 : (Jvm.Cond.instanceMethod ({ cls := "FlashBoard$Flash", name := "read", desc := "(IZ)I" } : Jvm.MethodName)) ∈ lw_all := lw_g (lw_at lw_m3 177 rfl) rfl
theorem q763 : (Jvm.Cond.selects "FlashBoard$Flash" ({ cls := "FlashBoard$Flash", name := "read", desc := "(IZ)I" } : Jvm.MethodName) ({ cls := "FlashBoard$Flash", name := "read", desc := "(IZ)I" } : Jvm.MethodName)) ∈ lw_all := lw_g (lw_at lw_m3 178 rfl) rfl
theorem q764 : (Jvm.Cond.code ({ cls := "FlashBoard$Flash", name := "read", desc := "(IZ)I" } : Jvm.MethodName) prog_5_method_8_code (6 : Nat) (Option.some Jvm.ClassFile.FieldType.int)) ∈ lw_all := lw_g (lw_at lw_m3 179 rfl) rfl
theorem q765 : (Jvm.Cond.methodLink "FlashBoard$Flash" (155 : Nat) ({ cls := "FlashBoard$Flash", name := "done", desc := "()V" } : Jvm.MethodName)) ∈ lw_all := lw_g (lw_at lw_m3 180 rfl) rfl
theorem q766 : (Jvm.Cond.privateMethod ({ cls := "FlashBoard$Flash", name := "done", desc := "()V" } : Jvm.MethodName)) ∈ lw_tbl := lw_at lw_m3 181 rfl
theorem q767 : (Jvm.Cond.instanceMethod ({ cls := "FlashBoard$Flash", name := "done", desc := "()V" } : Jvm.MethodName)) ∈ lw_all := lw_g (lw_at lw_m3 182 rfl) rfl
theorem q768 : (Jvm.Cond.code ({ cls := "FlashBoard$Flash", name := "done", desc := "()V" } : Jvm.MethodName) prog_5_method_6_code (1 : Nat) (Option.none : Option Jvm.ClassFile.FieldType)) ∈ lw_all := lw_g (lw_at lw_m3 183 rfl) rfl
theorem q769 : (Jvm.Cond.methodLink "FlashBoard$Flash" (158 : Nat) ({ cls := "FlashBoard$Flash", name := "word", desc := "(I)I" } : Jvm.MethodName)) ∈ lw_all := lw_g (lw_at lw_m3 184 rfl) rfl
theorem q793 : (Jvm.Cond.instanceMethod ({ cls := "FlashBoard$Flash", name := "stores", desc := "(IZ)V" } : Jvm.MethodName)) ∈ lw_all := lw_g (lw_at lw_m3 208 rfl) rfl
theorem q794 : (Jvm.Cond.selects "FlashBoard$Flash" ({ cls := "FlashBoard$Flash", name := "stores", desc := "(IZ)V" } : Jvm.MethodName) ({ cls := "FlashBoard$Flash", name := "stores", desc := "(IZ)V" } : Jvm.MethodName)) ∈ lw_all := lw_g (lw_at lw_m3 209 rfl) rfl
theorem q795 : (Jvm.Cond.code ({ cls := "FlashBoard$Flash", name := "stores", desc := "(IZ)V" } : Jvm.MethodName) prog_5_method_9_code (4 : Nat) (Option.none : Option Jvm.ClassFile.FieldType)) ∈ lw_all := lw_g (lw_at lw_m3 210 rfl) rfl
theorem q796 : (Jvm.Cond.methodLink "FlashBoard$Flash" (162 : Nat) ({ cls := "FlashBoard$Flash", name := "page", desc := "(IZ)V" } : Jvm.MethodName)) ∈ lw_all := lw_g (lw_at lw_m3 211 rfl) rfl
theorem q797 : (Jvm.Cond.privateMethod ({ cls := "FlashBoard$Flash", name := "page", desc := "(IZ)V" } : Jvm.MethodName)) ∈ lw_tbl := lw_at lw_m3 212 rfl
theorem q798 : (Jvm.Cond.instanceMethod ({ cls := "FlashBoard$Flash", name := "page", desc := "(IZ)V" } : Jvm.MethodName)) ∈ lw_all := lw_g (lw_at lw_m3 213 rfl) rfl
theorem q799 : (Jvm.Cond.code ({ cls := "FlashBoard$Flash", name := "page", desc := "(IZ)V" } : Jvm.MethodName) prog_5_method_10_code (5 : Nat) (Option.none : Option Jvm.ClassFile.FieldType)) ∈ lw_all := lw_g (lw_at lw_m3 214 rfl) rfl
theorem q831 : (Jvm.Cond.instanceMethod ({ cls := "FlashBoard$Flash", name := "cycle", desc := "()V" } : Jvm.MethodName)) ∈ lw_all := lw_g (lw_at lw_m4 6 rfl) rfl
theorem q832 : (Jvm.Cond.selects "FlashBoard$Flash" ({ cls := "FlashBoard$Flash", name := "cycle", desc := "()V" } : Jvm.MethodName) ({ cls := "FlashBoard$Flash", name := "cycle", desc := "()V" } : Jvm.MethodName)) ∈ lw_all := lw_g (lw_at lw_m4 7 rfl) rfl
theorem q833 : (Jvm.Cond.code ({ cls := "FlashBoard$Flash", name := "cycle", desc := "()V" } : Jvm.MethodName) prog_5_method_5_code (1 : Nat) (Option.none : Option Jvm.ClassFile.FieldType)) ∈ lw_all := lw_g (lw_at lw_m4 8 rfl) rfl
theorem q1113 : (Jvm.Cond.instanceMethod ({ cls := "FlashBoard$Flash", name := "filled", desc := "()I" } : Jvm.MethodName)) ∈ lw_all := lw_g (lw_at lw_m5 48 rfl) rfl
theorem q1114 : (Jvm.Cond.selects "FlashBoard$Flash" ({ cls := "FlashBoard$Flash", name := "filled", desc := "()I" } : Jvm.MethodName) ({ cls := "FlashBoard$Flash", name := "filled", desc := "()I" } : Jvm.MethodName)) ∈ lw_all := lw_g (lw_at lw_m5 49 rfl) rfl
theorem q1115 : (Jvm.Cond.code ({ cls := "FlashBoard$Flash", name := "filled", desc := "()I" } : Jvm.MethodName) prog_5_method_3_code (3 : Nat) (Option.some Jvm.ClassFile.FieldType.int)) ∈ lw_all := lw_g (lw_at lw_m5 50 rfl) rfl
theorem q1646 : (Jvm.Cond.castable "FlashBoard$Flash" "java/lang/Object") ∈ lw_tbl := lw_at lw_m7 101 rfl
theorem q1661 : (Jvm.Cond.castable "FlashBoard$Flash" "FlashBoard$Unit") ∈ lw_tbl := lw_at lw_m7 116 rfl
theorem in_X10 : ∀ w ∈ wsX100, w ∈ lw_all := lw_in wsX100 [446, 434, 436, 438, 440, 442, 444] (by decide +kernel) (by decide +kernel)

/-! FlashBoard$Holder -/
set_option maxRecDepth 100000
def RX11 : String := "FlashBoard$Holder"
def TX11 : u_T := fun k => match k with
  | _ => ("FlashBoard$Unit", "core", "LFlashBoard$Core;", true)
def tyX11 : Nat → FieldType := fun k => match k with
  | _ => .object "FlashBoard$Core"
abbrev wsX110 : List Cond := u_ws RX11 TX11 1
theorem nmX11 : ∀ a, a < 1 → ∀ b, b < 1 → a ≠ b → (TX11 a).2.1 ≠ (TX11 b).2.1 := by decide +kernel
theorem tyX11_ok : ∀ k, k < 1 → parseFieldDescriptor (TX11 k).2.2.1 = some (tyX11 k) := by decide +kernel
abbrev cX11_init : ByteArray := prog_6_method_1_code
def yX11_init : MethodName := ⟨RX11, "<init>", "(LFlashBoard$Core;)V"⟩
def dkwX11_init_0 : List UInt8 := [42, 43, 183, 0, 1, 177]
abbrev dktX11_init_0 : List UInt8 := dkwX11_init_0 ++ []
theorem dksX11_init_0 : cX11_init.data.toList.drop 0 = dktX11_init_0 := by decide +kernel
theorem dX11_init_0 : decode cX11_init 0 = .ok (.aload_n 0, 1) := dk_42 (dk_at dksX11_init_0 0 rfl rfl)
theorem dX11_init_1 : decode cX11_init 1 = .ok (.aload_n 1, 1) := dk_43 (dk_at dksX11_init_0 1 rfl rfl)
theorem dX11_init_2 : decode cX11_init 2 = .ok (.invokespecial 1, 3) := dk_183 0 1 (dk_at dksX11_init_0 2 rfl rfl)
theorem dX11_init_5 : decode cX11_init 5 = .ok (.return_, 1) := dk_177 (dk_at dksX11_init_0 5 rfl rfl)
abbrev cX11_clear : ByteArray := prog_6_method_3_code
def yX11_clear : MethodName := ⟨RX11, "clear", "()V"⟩
theorem dX11_clear_0 : decode cX11_clear 0 = .ok (.return_, 1) := by decide +kernel
theorem q117 : (Jvm.Cond.initialized "FlashBoard$Holder") ∈ lw_all := lw_g (lw_at lw_m1 12 rfl) rfl
theorem q450 : (Jvm.Cond.instantiable "FlashBoard$Holder" (1 : Nat)) ∈ lw_all := lw_g (lw_at lw_m2 105 rfl) rfl
theorem q452 : (Jvm.Cond.instanceMethod ({ cls := "FlashBoard$Holder", name := "<init>", desc := "(LFlashBoard$Core;)V" } : Jvm.MethodName)) ∈ lw_all := lw_g (lw_at lw_m2 107 rfl) rfl
theorem q453 : (Jvm.Cond.code ({ cls := "FlashBoard$Holder", name := "<init>", desc := "(LFlashBoard$Core;)V" } : Jvm.MethodName) prog_6_method_1_code (2 : Nat) (Option.none : Option Jvm.ClassFile.FieldType)) ∈ lw_all := lw_g (lw_at lw_m2 108 rfl) rfl
theorem q454 : (Jvm.Cond.methodLink "FlashBoard$Holder" (1 : Nat) ({ cls := "FlashBoard$Unit", name := "<init>", desc := "(LFlashBoard$Core;)V" } : Jvm.MethodName)) ∈ lw_all := lw_g (lw_at lw_m2 109 rfl) rfl
theorem q455 : (Jvm.Cond.laysFinal "FlashBoard$Holder" "FlashBoard$Unit" "core" "LFlashBoard$Core;") ∈ lw_all := lw_g (lw_at lw_m2 110 rfl) rfl
theorem q456 : (Jvm.Cond.superclass "FlashBoard$Holder" "FlashBoard$Unit") ∈ lw_all := lw_g (lw_at lw_m2 111 rfl) rfl
theorem q473 : (Jvm.Cond.selects "FlashBoard$Holder" ({ cls := "FlashBoard$Unit", name := "clear", desc := "()V" } : Jvm.MethodName) ({ cls := "FlashBoard$Holder", name := "clear", desc := "()V" } : Jvm.MethodName)) ∈ lw_all := lw_g (lw_at lw_m2 128 rfl) rfl
theorem q474 : (Jvm.Cond.instanceMethod ({ cls := "FlashBoard$Holder", name := "clear", desc := "()V" } : Jvm.MethodName)) ∈ lw_all := lw_g (lw_at lw_m2 129 rfl) rfl
theorem q475 : (Jvm.Cond.code ({ cls := "FlashBoard$Holder", name := "clear", desc := "()V" } : Jvm.MethodName) prog_6_method_3_code (1 : Nat) (Option.none : Option Jvm.ClassFile.FieldType)) ∈ lw_all := lw_g (lw_at lw_m2 130 rfl) rfl
theorem q628 : (Jvm.Cond.selects "FlashBoard$Holder" ({ cls := "FlashBoard$Unit", name := "store", desc := "(II)V" } : Jvm.MethodName) ({ cls := "FlashBoard$Unit", name := "store", desc := "(II)V" } : Jvm.MethodName)) ∈ lw_all := lw_g (lw_at lw_m3 43 rfl) rfl
theorem q739 : (Jvm.Cond.selects "FlashBoard$Holder" ({ cls := "FlashBoard$Unit", name := "load", desc := "(I)I" } : Jvm.MethodName) ({ cls := "FlashBoard$Unit", name := "load", desc := "(I)I" } : Jvm.MethodName)) ∈ lw_all := lw_g (lw_at lw_m3 154 rfl) rfl
theorem q1647 : (Jvm.Cond.castable "FlashBoard$Holder" "java/lang/Object") ∈ lw_tbl := lw_at lw_m7 102 rfl
theorem q1662 : (Jvm.Cond.castable "FlashBoard$Holder" "FlashBoard$Unit") ∈ lw_tbl := lw_at lw_m7 117 rfl
theorem in_X11 : ∀ w ∈ wsX110, w ∈ lw_all := lw_in wsX110 [455] (by decide +kernel) (by decide +kernel)

/-! FlashBoard$Core -/
set_option maxRecDepth 100000
def RX2 : String := "FlashBoard$Core"
def TX2 : u_T := fun k => match k with
  | 0 => ("FlashBoard$Core", "data", "[I", true)
  | 1 => ("FlashBoard$Core", "units", "[LFlashBoard$Unit;", true)
  | 2 => ("FlashBoard$Core", "port", "LFlashBoard$Port;", true)
  | 3 => ("FlashBoard$Core", "timer", "LFlashBoard$Timer;", true)
  | 4 => ("FlashBoard$Core", "line", "LFlashBoard$Line;", true)
  | 5 => ("FlashBoard$Core", "eeprom", "LFlashBoard$Eeprom;", true)
  | 6 => ("FlashBoard$Core", "watchdog", "LFlashBoard$Watchdog;", true)
  | 7 => ("FlashBoard$Core", "causes", "LFlashBoard$Causes;", true)
  | 8 => ("FlashBoard$Core", "flash", "LFlashBoard$Flash;", true)
  | 9 => ("FlashBoard$Core", "pc", "I", false)
  | 10 => ("FlashBoard$Core", "more", "I", false)
  | 11 => ("FlashBoard$Core", "cycles", "I", false)
  | 12 => ("FlashBoard$Core", "steps", "I", false)
  | 13 => ("FlashBoard$Core", "entries", "I", false)
  | 14 => ("FlashBoard$Core", "resets", "I", false)
  | 15 => ("FlashBoard$Core", "sleeps", "Z", false)
  | 16 => ("FlashBoard$Core", "isReset", "Z", false)
  | 17 => ("FlashBoard$Core", "wasEnabled", "Z", false)
  | _ => ("FlashBoard$Core", "hasPower", "Z", false)
def tyX2 : Nat → FieldType := fun k => match k with
  | 0 => .array .int
  | 1 => .array (.object "FlashBoard$Unit")
  | 2 => .object "FlashBoard$Port"
  | 3 => .object "FlashBoard$Timer"
  | 4 => .object "FlashBoard$Line"
  | 5 => .object "FlashBoard$Eeprom"
  | 6 => .object "FlashBoard$Watchdog"
  | 7 => .object "FlashBoard$Causes"
  | 8 => .object "FlashBoard$Flash"
  | 9 => .int
  | 10 => .int
  | 11 => .int
  | 12 => .int
  | 13 => .int
  | 14 => .int
  | 15 => .boolean
  | 16 => .boolean
  | 17 => .boolean
  | _ => .boolean
abbrev wsX20 : List Cond := u_ws RX2 TX2 19
set_option maxRecDepth 100000 in
theorem nmX2 : ∀ a, a < 19 → ∀ b, b < 19 → a ≠ b → (TX2 a).2.1 ≠ (TX2 b).2.1 := by decide +kernel
set_option maxRecDepth 100000 in
theorem tyX2_ok : ∀ k, k < 19 → parseFieldDescriptor (TX2 k).2.2.1 = some (tyX2 k) := by decide +kernel
abbrev cX2_init : ByteArray := prog_3_method_1_code
def yX2_init : MethodName := ⟨RX2, "<init>", "()V"⟩
def dkwX2_init_16 : List UInt8 := [180, 0, 40, 83, 42, 180, 0, 17, 17, 0, 198, 42, 180, 0, 40, 83, 42, 3, 182, 0, 79, 177]
abbrev dktX2_init_16 : List UInt8 := dkwX2_init_16 ++ []
def dkwX2_init_15 : List UInt8 := [180, 0, 54, 83, 42, 180, 0, 17, 17, 0, 192, 42, 180, 0, 40, 83, 42, 180, 0, 17, 17, 0, 193, 42]
abbrev dktX2_init_15 : List UInt8 := dkwX2_init_15 ++ dktX2_init_16
def dkwX2_init_14 : List UInt8 := [180, 0, 61, 83, 42, 180, 0, 17, 16, 87, 42, 180, 0, 68, 83, 42, 180, 0, 17, 16, 96, 42]
abbrev dktX2_init_14 : List UInt8 := dkwX2_init_14 ++ dktX2_init_15
def dkwX2_init_13 : List UInt8 := [180, 0, 47, 83, 42, 180, 0, 17, 16, 84, 42, 180, 0, 61, 83, 42, 180, 0, 17, 16, 85, 42]
abbrev dktX2_init_13 : List UInt8 := dkwX2_init_13 ++ dktX2_init_14
def dkwX2_init_12 : List UInt8 := [180, 0, 47, 83, 42, 180, 0, 17, 16, 64, 42, 180, 0, 47, 83, 42, 180, 0, 17, 16, 65, 42]
abbrev dktX2_init_12 : List UInt8 := dkwX2_init_12 ++ dktX2_init_13
def dkwX2_init_11 : List UInt8 := [180, 0, 26, 83, 42, 180, 0, 17, 16, 53, 42, 180, 0, 33, 83, 42, 180, 0, 17, 16, 63, 42]
abbrev dktX2_init_11 : List UInt8 := dkwX2_init_11 ++ dktX2_init_12
def dkwX2_init_10 : List UInt8 := [46, 54, 6, 42, 180, 0, 17, 21, 6, 43, 83, 132, 5, 1, 167, 255, 232, 42, 180, 0, 17, 16, 35, 42]
abbrev dktX2_init_10 : List UInt8 := dkwX2_init_10 ++ dktX2_init_11
def dkwX2_init_9 : List UInt8 := [17, 0, 197, 79, 77, 44, 78, 45, 190, 54, 4, 3, 54, 5, 21, 5, 21, 4, 162, 0, 23, 45, 21, 5]
abbrev dktX2_init_9 : List UInt8 := dkwX2_init_9 ++ dktX2_init_10
def dkwX2_init_8 : List UInt8 := [16, 12, 16, 110, 79, 89, 16, 13, 17, 0, 194, 79, 89, 16, 14, 17, 0, 196, 79, 89, 16, 15]
abbrev dktX2_init_8 : List UInt8 := dkwX2_init_8 ++ dktX2_init_9
def dkwX2_init_7 : List UInt8 := [16, 8, 16, 75, 79, 89, 16, 9, 16, 93, 79, 89, 16, 10, 16, 94, 79, 89, 16, 11, 16, 95, 79, 89]
abbrev dktX2_init_7 : List UInt8 := dkwX2_init_7 ++ dktX2_init_8
def dkwX2_init_6 : List UInt8 := [79, 89, 7, 16, 69, 79, 89, 8, 16, 70, 79, 89, 16, 6, 16, 71, 79, 89, 16, 7, 16, 74, 79, 89]
abbrev dktX2_init_6 : List UInt8 := dkwX2_init_6 ++ dktX2_init_7
def dkwX2_init_5 : List UInt8 := [76, 16, 16, 188, 10, 89, 3, 16, 36, 79, 89, 4, 16, 37, 79, 89, 5, 16, 62, 79, 89, 6, 16, 68]
abbrev dktX2_init_5 : List UInt8 := dkwX2_init_5 ++ dktX2_init_6
def dkwX2_init_4 : List UInt8 := [187, 0, 65, 89, 42, 183, 0, 67, 181, 0, 68, 42, 4, 181, 0, 72, 187, 0, 76, 89, 42, 183, 0, 78]
abbrev dktX2_init_4 : List UInt8 := dkwX2_init_4 ++ dktX2_init_5
def dkwX2_init_3 : List UInt8 := [187, 0, 51, 89, 42, 183, 0, 53, 181, 0, 54, 42, 187, 0, 58, 89, 42, 183, 0, 60, 181, 0, 61, 42]
abbrev dktX2_init_3 : List UInt8 := dkwX2_init_3 ++ dktX2_init_4
def dkwX2_init_2 : List UInt8 := [187, 0, 37, 89, 42, 183, 0, 39, 181, 0, 40, 42, 187, 0, 44, 89, 42, 183, 0, 46, 181, 0, 47, 42]
abbrev dktX2_init_2 : List UInt8 := dkwX2_init_2 ++ dktX2_init_3
def dkwX2_init_1 : List UInt8 := [187, 0, 21, 89, 42, 183, 0, 23, 181, 0, 26, 42, 187, 0, 30, 89, 42, 183, 0, 32, 181, 0, 33, 42]
abbrev dktX2_init_1 : List UInt8 := dkwX2_init_1 ++ dktX2_init_2
def dkwX2_init_0 : List UInt8 := [42, 183, 0, 3, 42, 17, 5, 0, 188, 10, 181, 0, 9, 42, 17, 1, 0, 189, 0, 15, 181, 0, 17, 42]
abbrev dktX2_init_0 : List UInt8 := dkwX2_init_0 ++ dktX2_init_1
theorem dksX2_init_0 : cX2_init.data.toList.drop 0 = dktX2_init_0 := by decide +kernel
theorem dksX2_init_1 : cX2_init.data.toList.drop 24 = dktX2_init_1 := dk_seg dksX2_init_0 24 rfl rfl
theorem dksX2_init_2 : cX2_init.data.toList.drop 48 = dktX2_init_2 := dk_seg dksX2_init_1 24 rfl rfl
theorem dksX2_init_3 : cX2_init.data.toList.drop 72 = dktX2_init_3 := dk_seg dksX2_init_2 24 rfl rfl
theorem dksX2_init_4 : cX2_init.data.toList.drop 96 = dktX2_init_4 := dk_seg dksX2_init_3 24 rfl rfl
theorem dksX2_init_5 : cX2_init.data.toList.drop 120 = dktX2_init_5 := dk_seg dksX2_init_4 24 rfl rfl
theorem dksX2_init_6 : cX2_init.data.toList.drop 144 = dktX2_init_6 := dk_seg dksX2_init_5 24 rfl rfl
theorem dksX2_init_7 : cX2_init.data.toList.drop 168 = dktX2_init_7 := dk_seg dksX2_init_6 24 rfl rfl
theorem dksX2_init_8 : cX2_init.data.toList.drop 192 = dktX2_init_8 := dk_seg dksX2_init_7 24 rfl rfl
theorem dksX2_init_9 : cX2_init.data.toList.drop 214 = dktX2_init_9 := dk_seg dksX2_init_8 22 rfl rfl
theorem dksX2_init_10 : cX2_init.data.toList.drop 238 = dktX2_init_10 := dk_seg dksX2_init_9 24 rfl rfl
theorem dksX2_init_11 : cX2_init.data.toList.drop 262 = dktX2_init_11 := dk_seg dksX2_init_10 24 rfl rfl
theorem dksX2_init_12 : cX2_init.data.toList.drop 284 = dktX2_init_12 := dk_seg dksX2_init_11 22 rfl rfl
theorem dksX2_init_13 : cX2_init.data.toList.drop 306 = dktX2_init_13 := dk_seg dksX2_init_12 22 rfl rfl
theorem dksX2_init_14 : cX2_init.data.toList.drop 328 = dktX2_init_14 := dk_seg dksX2_init_13 22 rfl rfl
theorem dksX2_init_15 : cX2_init.data.toList.drop 350 = dktX2_init_15 := dk_seg dksX2_init_14 22 rfl rfl
theorem dksX2_init_16 : cX2_init.data.toList.drop 374 = dktX2_init_16 := dk_seg dksX2_init_15 24 rfl rfl
theorem dX2_init_0 : decode cX2_init 0 = .ok (.aload_n 0, 1) := dk_42 (dk_at dksX2_init_0 0 rfl rfl)
theorem dX2_init_1 : decode cX2_init 1 = .ok (.invokespecial 3, 3) := dk_183 0 3 (dk_at dksX2_init_0 1 rfl rfl)
theorem dX2_init_4 : decode cX2_init 4 = .ok (.aload_n 0, 1) := dk_42 (dk_at dksX2_init_0 4 rfl rfl)
theorem dX2_init_5 : decode cX2_init 5 = .ok (.sipush 1280, 3) := dk_17 5 0 (dk_at dksX2_init_0 5 rfl rfl)
theorem dX2_init_8 : decode cX2_init 8 = .ok (.newarray .int, 2) := dk_188_10 (dk_at dksX2_init_0 8 rfl rfl)
theorem dX2_init_10 : decode cX2_init 10 = .ok (.putfield 9, 3) := dk_181 0 9 (dk_at dksX2_init_0 10 rfl rfl)
theorem dX2_init_13 : decode cX2_init 13 = .ok (.aload_n 0, 1) := dk_42 (dk_at dksX2_init_0 13 rfl rfl)
theorem dX2_init_14 : decode cX2_init 14 = .ok (.sipush 256, 3) := dk_17 1 0 (dk_at dksX2_init_0 14 rfl rfl)
theorem dX2_init_17 : decode cX2_init 17 = .ok (.anewarray 15, 3) := dk_189 0 15 (dk_at dksX2_init_0 17 rfl rfl)
theorem dX2_init_20 : decode cX2_init 20 = .ok (.putfield 17, 3) := dk_181 0 17 (dk_at dksX2_init_0 20 rfl rfl)
theorem dX2_init_23 : decode cX2_init 23 = .ok (.aload_n 0, 1) := dk_42 (dk_at dksX2_init_0 23 rfl rfl)
theorem dX2_init_24 : decode cX2_init 24 = .ok (.new 21, 3) := dk_187 0 21 (dk_at dksX2_init_1 0 rfl rfl)
theorem dX2_init_27 : decode cX2_init 27 = .ok (.dup, 1) := dk_89 (dk_at dksX2_init_1 3 rfl rfl)
theorem dX2_init_28 : decode cX2_init 28 = .ok (.aload_n 0, 1) := dk_42 (dk_at dksX2_init_1 4 rfl rfl)
theorem dX2_init_29 : decode cX2_init 29 = .ok (.invokespecial 23, 3) := dk_183 0 23 (dk_at dksX2_init_1 5 rfl rfl)
theorem dX2_init_32 : decode cX2_init 32 = .ok (.putfield 26, 3) := dk_181 0 26 (dk_at dksX2_init_1 8 rfl rfl)
theorem dX2_init_35 : decode cX2_init 35 = .ok (.aload_n 0, 1) := dk_42 (dk_at dksX2_init_1 11 rfl rfl)
theorem dX2_init_36 : decode cX2_init 36 = .ok (.new 30, 3) := dk_187 0 30 (dk_at dksX2_init_1 12 rfl rfl)
theorem dX2_init_39 : decode cX2_init 39 = .ok (.dup, 1) := dk_89 (dk_at dksX2_init_1 15 rfl rfl)
theorem dX2_init_40 : decode cX2_init 40 = .ok (.aload_n 0, 1) := dk_42 (dk_at dksX2_init_1 16 rfl rfl)
theorem dX2_init_41 : decode cX2_init 41 = .ok (.invokespecial 32, 3) := dk_183 0 32 (dk_at dksX2_init_1 17 rfl rfl)
theorem dX2_init_44 : decode cX2_init 44 = .ok (.putfield 33, 3) := dk_181 0 33 (dk_at dksX2_init_1 20 rfl rfl)
theorem dX2_init_47 : decode cX2_init 47 = .ok (.aload_n 0, 1) := dk_42 (dk_at dksX2_init_1 23 rfl rfl)
theorem dX2_init_48 : decode cX2_init 48 = .ok (.new 37, 3) := dk_187 0 37 (dk_at dksX2_init_2 0 rfl rfl)
theorem dX2_init_51 : decode cX2_init 51 = .ok (.dup, 1) := dk_89 (dk_at dksX2_init_2 3 rfl rfl)
theorem dX2_init_52 : decode cX2_init 52 = .ok (.aload_n 0, 1) := dk_42 (dk_at dksX2_init_2 4 rfl rfl)
theorem dX2_init_53 : decode cX2_init 53 = .ok (.invokespecial 39, 3) := dk_183 0 39 (dk_at dksX2_init_2 5 rfl rfl)
theorem dX2_init_56 : decode cX2_init 56 = .ok (.putfield 40, 3) := dk_181 0 40 (dk_at dksX2_init_2 8 rfl rfl)
theorem dX2_init_59 : decode cX2_init 59 = .ok (.aload_n 0, 1) := dk_42 (dk_at dksX2_init_2 11 rfl rfl)
theorem dX2_init_60 : decode cX2_init 60 = .ok (.new 44, 3) := dk_187 0 44 (dk_at dksX2_init_2 12 rfl rfl)
theorem dX2_init_63 : decode cX2_init 63 = .ok (.dup, 1) := dk_89 (dk_at dksX2_init_2 15 rfl rfl)
theorem dX2_init_64 : decode cX2_init 64 = .ok (.aload_n 0, 1) := dk_42 (dk_at dksX2_init_2 16 rfl rfl)
theorem dX2_init_65 : decode cX2_init 65 = .ok (.invokespecial 46, 3) := dk_183 0 46 (dk_at dksX2_init_2 17 rfl rfl)
theorem dX2_init_68 : decode cX2_init 68 = .ok (.putfield 47, 3) := dk_181 0 47 (dk_at dksX2_init_2 20 rfl rfl)
theorem dX2_init_71 : decode cX2_init 71 = .ok (.aload_n 0, 1) := dk_42 (dk_at dksX2_init_2 23 rfl rfl)
theorem dX2_init_72 : decode cX2_init 72 = .ok (.new 51, 3) := dk_187 0 51 (dk_at dksX2_init_3 0 rfl rfl)
theorem dX2_init_75 : decode cX2_init 75 = .ok (.dup, 1) := dk_89 (dk_at dksX2_init_3 3 rfl rfl)
theorem dX2_init_76 : decode cX2_init 76 = .ok (.aload_n 0, 1) := dk_42 (dk_at dksX2_init_3 4 rfl rfl)
theorem dX2_init_77 : decode cX2_init 77 = .ok (.invokespecial 53, 3) := dk_183 0 53 (dk_at dksX2_init_3 5 rfl rfl)
theorem dX2_init_80 : decode cX2_init 80 = .ok (.putfield 54, 3) := dk_181 0 54 (dk_at dksX2_init_3 8 rfl rfl)
theorem dX2_init_83 : decode cX2_init 83 = .ok (.aload_n 0, 1) := dk_42 (dk_at dksX2_init_3 11 rfl rfl)
theorem dX2_init_84 : decode cX2_init 84 = .ok (.new 58, 3) := dk_187 0 58 (dk_at dksX2_init_3 12 rfl rfl)
theorem dX2_init_87 : decode cX2_init 87 = .ok (.dup, 1) := dk_89 (dk_at dksX2_init_3 15 rfl rfl)
theorem dX2_init_88 : decode cX2_init 88 = .ok (.aload_n 0, 1) := dk_42 (dk_at dksX2_init_3 16 rfl rfl)
theorem dX2_init_89 : decode cX2_init 89 = .ok (.invokespecial 60, 3) := dk_183 0 60 (dk_at dksX2_init_3 17 rfl rfl)
theorem dX2_init_92 : decode cX2_init 92 = .ok (.putfield 61, 3) := dk_181 0 61 (dk_at dksX2_init_3 20 rfl rfl)
theorem dX2_init_95 : decode cX2_init 95 = .ok (.aload_n 0, 1) := dk_42 (dk_at dksX2_init_3 23 rfl rfl)
theorem dX2_init_96 : decode cX2_init 96 = .ok (.new 65, 3) := dk_187 0 65 (dk_at dksX2_init_4 0 rfl rfl)
theorem dX2_init_99 : decode cX2_init 99 = .ok (.dup, 1) := dk_89 (dk_at dksX2_init_4 3 rfl rfl)
theorem dX2_init_100 : decode cX2_init 100 = .ok (.aload_n 0, 1) := dk_42 (dk_at dksX2_init_4 4 rfl rfl)
theorem dX2_init_101 : decode cX2_init 101 = .ok (.invokespecial 67, 3) := dk_183 0 67 (dk_at dksX2_init_4 5 rfl rfl)
theorem dX2_init_104 : decode cX2_init 104 = .ok (.putfield 68, 3) := dk_181 0 68 (dk_at dksX2_init_4 8 rfl rfl)
theorem dX2_init_107 : decode cX2_init 107 = .ok (.aload_n 0, 1) := dk_42 (dk_at dksX2_init_4 11 rfl rfl)
theorem dX2_init_108 : decode cX2_init 108 = .ok (.iconst 1, 1) := dk_4 (dk_at dksX2_init_4 12 rfl rfl)
theorem dX2_init_109 : decode cX2_init 109 = .ok (.putfield 72, 3) := dk_181 0 72 (dk_at dksX2_init_4 13 rfl rfl)
theorem dX2_init_112 : decode cX2_init 112 = .ok (.new 76, 3) := dk_187 0 76 (dk_at dksX2_init_4 16 rfl rfl)
theorem dX2_init_115 : decode cX2_init 115 = .ok (.dup, 1) := dk_89 (dk_at dksX2_init_4 19 rfl rfl)
theorem dX2_init_116 : decode cX2_init 116 = .ok (.aload_n 0, 1) := dk_42 (dk_at dksX2_init_4 20 rfl rfl)
theorem dX2_init_117 : decode cX2_init 117 = .ok (.invokespecial 78, 3) := dk_183 0 78 (dk_at dksX2_init_4 21 rfl rfl)
theorem dX2_init_120 : decode cX2_init 120 = .ok (.astore_n 1, 1) := dk_76 (dk_at dksX2_init_5 0 rfl rfl)
theorem dX2_init_121 : decode cX2_init 121 = .ok (.bipush 16, 2) := dk_16 16 (dk_at dksX2_init_5 1 rfl rfl)
theorem dX2_init_123 : decode cX2_init 123 = .ok (.newarray .int, 2) := dk_188_10 (dk_at dksX2_init_5 3 rfl rfl)
theorem dX2_init_125 : decode cX2_init 125 = .ok (.dup, 1) := dk_89 (dk_at dksX2_init_5 5 rfl rfl)
theorem dX2_init_126 : decode cX2_init 126 = .ok (.iconst 0, 1) := dk_3 (dk_at dksX2_init_5 6 rfl rfl)
theorem dX2_init_127 : decode cX2_init 127 = .ok (.bipush 36, 2) := dk_16 36 (dk_at dksX2_init_5 7 rfl rfl)
theorem dX2_init_129 : decode cX2_init 129 = .ok (.iastore, 1) := dk_79 (dk_at dksX2_init_5 9 rfl rfl)
theorem dX2_init_130 : decode cX2_init 130 = .ok (.dup, 1) := dk_89 (dk_at dksX2_init_5 10 rfl rfl)
theorem dX2_init_131 : decode cX2_init 131 = .ok (.iconst 1, 1) := dk_4 (dk_at dksX2_init_5 11 rfl rfl)
theorem dX2_init_132 : decode cX2_init 132 = .ok (.bipush 37, 2) := dk_16 37 (dk_at dksX2_init_5 12 rfl rfl)
theorem dX2_init_134 : decode cX2_init 134 = .ok (.iastore, 1) := dk_79 (dk_at dksX2_init_5 14 rfl rfl)
theorem dX2_init_135 : decode cX2_init 135 = .ok (.dup, 1) := dk_89 (dk_at dksX2_init_5 15 rfl rfl)
theorem dX2_init_136 : decode cX2_init 136 = .ok (.iconst 2, 1) := dk_5 (dk_at dksX2_init_5 16 rfl rfl)
theorem dX2_init_137 : decode cX2_init 137 = .ok (.bipush 62, 2) := dk_16 62 (dk_at dksX2_init_5 17 rfl rfl)
theorem dX2_init_139 : decode cX2_init 139 = .ok (.iastore, 1) := dk_79 (dk_at dksX2_init_5 19 rfl rfl)
theorem dX2_init_140 : decode cX2_init 140 = .ok (.dup, 1) := dk_89 (dk_at dksX2_init_5 20 rfl rfl)
theorem dX2_init_141 : decode cX2_init 141 = .ok (.iconst 3, 1) := dk_6 (dk_at dksX2_init_5 21 rfl rfl)
theorem dX2_init_142 : decode cX2_init 142 = .ok (.bipush 68, 2) := dk_16 68 (dk_at dksX2_init_5 22 rfl rfl)
theorem dX2_init_144 : decode cX2_init 144 = .ok (.iastore, 1) := dk_79 (dk_at dksX2_init_6 0 rfl rfl)
theorem dX2_init_145 : decode cX2_init 145 = .ok (.dup, 1) := dk_89 (dk_at dksX2_init_6 1 rfl rfl)
theorem dX2_init_146 : decode cX2_init 146 = .ok (.iconst 4, 1) := dk_7 (dk_at dksX2_init_6 2 rfl rfl)
theorem dX2_init_147 : decode cX2_init 147 = .ok (.bipush 69, 2) := dk_16 69 (dk_at dksX2_init_6 3 rfl rfl)
theorem dX2_init_149 : decode cX2_init 149 = .ok (.iastore, 1) := dk_79 (dk_at dksX2_init_6 5 rfl rfl)
theorem dX2_init_150 : decode cX2_init 150 = .ok (.dup, 1) := dk_89 (dk_at dksX2_init_6 6 rfl rfl)
theorem dX2_init_151 : decode cX2_init 151 = .ok (.iconst 5, 1) := dk_8 (dk_at dksX2_init_6 7 rfl rfl)
theorem dX2_init_152 : decode cX2_init 152 = .ok (.bipush 70, 2) := dk_16 70 (dk_at dksX2_init_6 8 rfl rfl)
theorem dX2_init_154 : decode cX2_init 154 = .ok (.iastore, 1) := dk_79 (dk_at dksX2_init_6 10 rfl rfl)
theorem dX2_init_155 : decode cX2_init 155 = .ok (.dup, 1) := dk_89 (dk_at dksX2_init_6 11 rfl rfl)
theorem dX2_init_156 : decode cX2_init 156 = .ok (.bipush 6, 2) := dk_16 6 (dk_at dksX2_init_6 12 rfl rfl)
theorem dX2_init_158 : decode cX2_init 158 = .ok (.bipush 71, 2) := dk_16 71 (dk_at dksX2_init_6 14 rfl rfl)
theorem dX2_init_160 : decode cX2_init 160 = .ok (.iastore, 1) := dk_79 (dk_at dksX2_init_6 16 rfl rfl)
theorem dX2_init_161 : decode cX2_init 161 = .ok (.dup, 1) := dk_89 (dk_at dksX2_init_6 17 rfl rfl)
theorem dX2_init_162 : decode cX2_init 162 = .ok (.bipush 7, 2) := dk_16 7 (dk_at dksX2_init_6 18 rfl rfl)
theorem dX2_init_164 : decode cX2_init 164 = .ok (.bipush 74, 2) := dk_16 74 (dk_at dksX2_init_6 20 rfl rfl)
theorem dX2_init_166 : decode cX2_init 166 = .ok (.iastore, 1) := dk_79 (dk_at dksX2_init_6 22 rfl rfl)
theorem dX2_init_167 : decode cX2_init 167 = .ok (.dup, 1) := dk_89 (dk_at dksX2_init_6 23 rfl rfl)
theorem dX2_init_168 : decode cX2_init 168 = .ok (.bipush 8, 2) := dk_16 8 (dk_at dksX2_init_7 0 rfl rfl)
theorem dX2_init_170 : decode cX2_init 170 = .ok (.bipush 75, 2) := dk_16 75 (dk_at dksX2_init_7 2 rfl rfl)
theorem dX2_init_172 : decode cX2_init 172 = .ok (.iastore, 1) := dk_79 (dk_at dksX2_init_7 4 rfl rfl)
theorem dX2_init_173 : decode cX2_init 173 = .ok (.dup, 1) := dk_89 (dk_at dksX2_init_7 5 rfl rfl)
theorem dX2_init_174 : decode cX2_init 174 = .ok (.bipush 9, 2) := dk_16 9 (dk_at dksX2_init_7 6 rfl rfl)
theorem dX2_init_176 : decode cX2_init 176 = .ok (.bipush 93, 2) := dk_16 93 (dk_at dksX2_init_7 8 rfl rfl)
theorem dX2_init_178 : decode cX2_init 178 = .ok (.iastore, 1) := dk_79 (dk_at dksX2_init_7 10 rfl rfl)
theorem dX2_init_179 : decode cX2_init 179 = .ok (.dup, 1) := dk_89 (dk_at dksX2_init_7 11 rfl rfl)
theorem dX2_init_180 : decode cX2_init 180 = .ok (.bipush 10, 2) := dk_16 10 (dk_at dksX2_init_7 12 rfl rfl)
theorem dX2_init_182 : decode cX2_init 182 = .ok (.bipush 94, 2) := dk_16 94 (dk_at dksX2_init_7 14 rfl rfl)
theorem dX2_init_184 : decode cX2_init 184 = .ok (.iastore, 1) := dk_79 (dk_at dksX2_init_7 16 rfl rfl)
theorem dX2_init_185 : decode cX2_init 185 = .ok (.dup, 1) := dk_89 (dk_at dksX2_init_7 17 rfl rfl)
theorem dX2_init_186 : decode cX2_init 186 = .ok (.bipush 11, 2) := dk_16 11 (dk_at dksX2_init_7 18 rfl rfl)
theorem dX2_init_188 : decode cX2_init 188 = .ok (.bipush 95, 2) := dk_16 95 (dk_at dksX2_init_7 20 rfl rfl)
theorem dX2_init_190 : decode cX2_init 190 = .ok (.iastore, 1) := dk_79 (dk_at dksX2_init_7 22 rfl rfl)
theorem dX2_init_191 : decode cX2_init 191 = .ok (.dup, 1) := dk_89 (dk_at dksX2_init_7 23 rfl rfl)
theorem dX2_init_192 : decode cX2_init 192 = .ok (.bipush 12, 2) := dk_16 12 (dk_at dksX2_init_8 0 rfl rfl)
theorem dX2_init_194 : decode cX2_init 194 = .ok (.bipush 110, 2) := dk_16 110 (dk_at dksX2_init_8 2 rfl rfl)
theorem dX2_init_196 : decode cX2_init 196 = .ok (.iastore, 1) := dk_79 (dk_at dksX2_init_8 4 rfl rfl)
theorem dX2_init_197 : decode cX2_init 197 = .ok (.dup, 1) := dk_89 (dk_at dksX2_init_8 5 rfl rfl)
theorem dX2_init_198 : decode cX2_init 198 = .ok (.bipush 13, 2) := dk_16 13 (dk_at dksX2_init_8 6 rfl rfl)
theorem dX2_init_200 : decode cX2_init 200 = .ok (.sipush 194, 3) := dk_17 0 194 (dk_at dksX2_init_8 8 rfl rfl)
theorem dX2_init_203 : decode cX2_init 203 = .ok (.iastore, 1) := dk_79 (dk_at dksX2_init_8 11 rfl rfl)
theorem dX2_init_204 : decode cX2_init 204 = .ok (.dup, 1) := dk_89 (dk_at dksX2_init_8 12 rfl rfl)
theorem dX2_init_205 : decode cX2_init 205 = .ok (.bipush 14, 2) := dk_16 14 (dk_at dksX2_init_8 13 rfl rfl)
theorem dX2_init_207 : decode cX2_init 207 = .ok (.sipush 196, 3) := dk_17 0 196 (dk_at dksX2_init_8 15 rfl rfl)
theorem dX2_init_210 : decode cX2_init 210 = .ok (.iastore, 1) := dk_79 (dk_at dksX2_init_8 18 rfl rfl)
theorem dX2_init_211 : decode cX2_init 211 = .ok (.dup, 1) := dk_89 (dk_at dksX2_init_8 19 rfl rfl)
theorem dX2_init_212 : decode cX2_init 212 = .ok (.bipush 15, 2) := dk_16 15 (dk_at dksX2_init_8 20 rfl rfl)
theorem dX2_init_214 : decode cX2_init 214 = .ok (.sipush 197, 3) := dk_17 0 197 (dk_at dksX2_init_9 0 rfl rfl)
theorem dX2_init_217 : decode cX2_init 217 = .ok (.iastore, 1) := dk_79 (dk_at dksX2_init_9 3 rfl rfl)
theorem dX2_init_218 : decode cX2_init 218 = .ok (.astore_n 2, 1) := dk_77 (dk_at dksX2_init_9 4 rfl rfl)
theorem dX2_init_219 : decode cX2_init 219 = .ok (.aload_n 2, 1) := dk_44 (dk_at dksX2_init_9 5 rfl rfl)
theorem dX2_init_220 : decode cX2_init 220 = .ok (.astore_n 3, 1) := dk_78 (dk_at dksX2_init_9 6 rfl rfl)
theorem dX2_init_221 : decode cX2_init 221 = .ok (.aload_n 3, 1) := dk_45 (dk_at dksX2_init_9 7 rfl rfl)
theorem dX2_init_222 : decode cX2_init 222 = .ok (.arraylength, 1) := dk_190 (dk_at dksX2_init_9 8 rfl rfl)
theorem dX2_init_223 : decode cX2_init 223 = .ok (.istore 4, 2) := dk_54 4 (dk_at dksX2_init_9 9 rfl rfl)
theorem dX2_init_225 : decode cX2_init 225 = .ok (.iconst 0, 1) := dk_3 (dk_at dksX2_init_9 11 rfl rfl)
theorem dX2_init_226 : decode cX2_init 226 = .ok (.istore 5, 2) := dk_54 5 (dk_at dksX2_init_9 12 rfl rfl)
theorem dX2_init_228 : decode cX2_init 228 = .ok (.iload 5, 2) := dk_21 5 (dk_at dksX2_init_9 14 rfl rfl)
theorem dX2_init_230 : decode cX2_init 230 = .ok (.iload 4, 2) := dk_21 4 (dk_at dksX2_init_9 16 rfl rfl)
theorem dX2_init_232 : decode cX2_init 232 = .ok (.if_icmp .ge 23, 3) := dk_162 0 23 (dk_at dksX2_init_9 18 rfl rfl)
theorem dX2_init_235 : decode cX2_init 235 = .ok (.aload_n 3, 1) := dk_45 (dk_at dksX2_init_9 21 rfl rfl)
theorem dX2_init_236 : decode cX2_init 236 = .ok (.iload 5, 2) := dk_21 5 (dk_at dksX2_init_9 22 rfl rfl)
theorem dX2_init_238 : decode cX2_init 238 = .ok (.iaload, 1) := dk_46 (dk_at dksX2_init_10 0 rfl rfl)
theorem dX2_init_239 : decode cX2_init 239 = .ok (.istore 6, 2) := dk_54 6 (dk_at dksX2_init_10 1 rfl rfl)
theorem dX2_init_241 : decode cX2_init 241 = .ok (.aload_n 0, 1) := dk_42 (dk_at dksX2_init_10 3 rfl rfl)
theorem dX2_init_242 : decode cX2_init 242 = .ok (.getfield 17, 3) := dk_180 0 17 (dk_at dksX2_init_10 4 rfl rfl)
theorem dX2_init_245 : decode cX2_init 245 = .ok (.iload 6, 2) := dk_21 6 (dk_at dksX2_init_10 7 rfl rfl)
theorem dX2_init_247 : decode cX2_init 247 = .ok (.aload_n 1, 1) := dk_43 (dk_at dksX2_init_10 9 rfl rfl)
theorem dX2_init_248 : decode cX2_init 248 = .ok (.aastore, 1) := dk_83 (dk_at dksX2_init_10 10 rfl rfl)
theorem dX2_init_249 : decode cX2_init 249 = .ok (.iinc 5 1, 3) := dk_132 5 1 (dk_at dksX2_init_10 11 rfl rfl)
theorem dX2_init_252 : decode cX2_init 252 = .ok (.goto (-24), 3) := dk_167 255 232 (dk_at dksX2_init_10 14 rfl rfl)
theorem dX2_init_255 : decode cX2_init 255 = .ok (.aload_n 0, 1) := dk_42 (dk_at dksX2_init_10 17 rfl rfl)
theorem dX2_init_256 : decode cX2_init 256 = .ok (.getfield 17, 3) := dk_180 0 17 (dk_at dksX2_init_10 18 rfl rfl)
theorem dX2_init_259 : decode cX2_init 259 = .ok (.bipush 35, 2) := dk_16 35 (dk_at dksX2_init_10 21 rfl rfl)
theorem dX2_init_261 : decode cX2_init 261 = .ok (.aload_n 0, 1) := dk_42 (dk_at dksX2_init_10 23 rfl rfl)
theorem dX2_init_262 : decode cX2_init 262 = .ok (.getfield 26, 3) := dk_180 0 26 (dk_at dksX2_init_11 0 rfl rfl)
theorem dX2_init_265 : decode cX2_init 265 = .ok (.aastore, 1) := dk_83 (dk_at dksX2_init_11 3 rfl rfl)
theorem dX2_init_266 : decode cX2_init 266 = .ok (.aload_n 0, 1) := dk_42 (dk_at dksX2_init_11 4 rfl rfl)
theorem dX2_init_267 : decode cX2_init 267 = .ok (.getfield 17, 3) := dk_180 0 17 (dk_at dksX2_init_11 5 rfl rfl)
theorem dX2_init_270 : decode cX2_init 270 = .ok (.bipush 53, 2) := dk_16 53 (dk_at dksX2_init_11 8 rfl rfl)
theorem dX2_init_272 : decode cX2_init 272 = .ok (.aload_n 0, 1) := dk_42 (dk_at dksX2_init_11 10 rfl rfl)
theorem dX2_init_273 : decode cX2_init 273 = .ok (.getfield 33, 3) := dk_180 0 33 (dk_at dksX2_init_11 11 rfl rfl)
theorem dX2_init_276 : decode cX2_init 276 = .ok (.aastore, 1) := dk_83 (dk_at dksX2_init_11 14 rfl rfl)
theorem dX2_init_277 : decode cX2_init 277 = .ok (.aload_n 0, 1) := dk_42 (dk_at dksX2_init_11 15 rfl rfl)
theorem dX2_init_278 : decode cX2_init 278 = .ok (.getfield 17, 3) := dk_180 0 17 (dk_at dksX2_init_11 16 rfl rfl)
theorem dX2_init_281 : decode cX2_init 281 = .ok (.bipush 63, 2) := dk_16 63 (dk_at dksX2_init_11 19 rfl rfl)
theorem dX2_init_283 : decode cX2_init 283 = .ok (.aload_n 0, 1) := dk_42 (dk_at dksX2_init_11 21 rfl rfl)
theorem dX2_init_284 : decode cX2_init 284 = .ok (.getfield 47, 3) := dk_180 0 47 (dk_at dksX2_init_12 0 rfl rfl)
theorem dX2_init_287 : decode cX2_init 287 = .ok (.aastore, 1) := dk_83 (dk_at dksX2_init_12 3 rfl rfl)
theorem dX2_init_288 : decode cX2_init 288 = .ok (.aload_n 0, 1) := dk_42 (dk_at dksX2_init_12 4 rfl rfl)
theorem dX2_init_289 : decode cX2_init 289 = .ok (.getfield 17, 3) := dk_180 0 17 (dk_at dksX2_init_12 5 rfl rfl)
theorem dX2_init_292 : decode cX2_init 292 = .ok (.bipush 64, 2) := dk_16 64 (dk_at dksX2_init_12 8 rfl rfl)
theorem dX2_init_294 : decode cX2_init 294 = .ok (.aload_n 0, 1) := dk_42 (dk_at dksX2_init_12 10 rfl rfl)
theorem dX2_init_295 : decode cX2_init 295 = .ok (.getfield 47, 3) := dk_180 0 47 (dk_at dksX2_init_12 11 rfl rfl)
theorem dX2_init_298 : decode cX2_init 298 = .ok (.aastore, 1) := dk_83 (dk_at dksX2_init_12 14 rfl rfl)
theorem dX2_init_299 : decode cX2_init 299 = .ok (.aload_n 0, 1) := dk_42 (dk_at dksX2_init_12 15 rfl rfl)
theorem dX2_init_300 : decode cX2_init 300 = .ok (.getfield 17, 3) := dk_180 0 17 (dk_at dksX2_init_12 16 rfl rfl)
theorem dX2_init_303 : decode cX2_init 303 = .ok (.bipush 65, 2) := dk_16 65 (dk_at dksX2_init_12 19 rfl rfl)
theorem dX2_init_305 : decode cX2_init 305 = .ok (.aload_n 0, 1) := dk_42 (dk_at dksX2_init_12 21 rfl rfl)
theorem dX2_init_306 : decode cX2_init 306 = .ok (.getfield 47, 3) := dk_180 0 47 (dk_at dksX2_init_13 0 rfl rfl)
theorem dX2_init_309 : decode cX2_init 309 = .ok (.aastore, 1) := dk_83 (dk_at dksX2_init_13 3 rfl rfl)
theorem dX2_init_310 : decode cX2_init 310 = .ok (.aload_n 0, 1) := dk_42 (dk_at dksX2_init_13 4 rfl rfl)
theorem dX2_init_311 : decode cX2_init 311 = .ok (.getfield 17, 3) := dk_180 0 17 (dk_at dksX2_init_13 5 rfl rfl)
theorem dX2_init_314 : decode cX2_init 314 = .ok (.bipush 84, 2) := dk_16 84 (dk_at dksX2_init_13 8 rfl rfl)
theorem dX2_init_316 : decode cX2_init 316 = .ok (.aload_n 0, 1) := dk_42 (dk_at dksX2_init_13 10 rfl rfl)
theorem dX2_init_317 : decode cX2_init 317 = .ok (.getfield 61, 3) := dk_180 0 61 (dk_at dksX2_init_13 11 rfl rfl)
theorem dX2_init_320 : decode cX2_init 320 = .ok (.aastore, 1) := dk_83 (dk_at dksX2_init_13 14 rfl rfl)
theorem dX2_init_321 : decode cX2_init 321 = .ok (.aload_n 0, 1) := dk_42 (dk_at dksX2_init_13 15 rfl rfl)
theorem dX2_init_322 : decode cX2_init 322 = .ok (.getfield 17, 3) := dk_180 0 17 (dk_at dksX2_init_13 16 rfl rfl)
theorem dX2_init_325 : decode cX2_init 325 = .ok (.bipush 85, 2) := dk_16 85 (dk_at dksX2_init_13 19 rfl rfl)
theorem dX2_init_327 : decode cX2_init 327 = .ok (.aload_n 0, 1) := dk_42 (dk_at dksX2_init_13 21 rfl rfl)
theorem dX2_init_328 : decode cX2_init 328 = .ok (.getfield 61, 3) := dk_180 0 61 (dk_at dksX2_init_14 0 rfl rfl)
theorem dX2_init_331 : decode cX2_init 331 = .ok (.aastore, 1) := dk_83 (dk_at dksX2_init_14 3 rfl rfl)
theorem dX2_init_332 : decode cX2_init 332 = .ok (.aload_n 0, 1) := dk_42 (dk_at dksX2_init_14 4 rfl rfl)
theorem dX2_init_333 : decode cX2_init 333 = .ok (.getfield 17, 3) := dk_180 0 17 (dk_at dksX2_init_14 5 rfl rfl)
theorem dX2_init_336 : decode cX2_init 336 = .ok (.bipush 87, 2) := dk_16 87 (dk_at dksX2_init_14 8 rfl rfl)
theorem dX2_init_338 : decode cX2_init 338 = .ok (.aload_n 0, 1) := dk_42 (dk_at dksX2_init_14 10 rfl rfl)
theorem dX2_init_339 : decode cX2_init 339 = .ok (.getfield 68, 3) := dk_180 0 68 (dk_at dksX2_init_14 11 rfl rfl)
theorem dX2_init_342 : decode cX2_init 342 = .ok (.aastore, 1) := dk_83 (dk_at dksX2_init_14 14 rfl rfl)
theorem dX2_init_343 : decode cX2_init 343 = .ok (.aload_n 0, 1) := dk_42 (dk_at dksX2_init_14 15 rfl rfl)
theorem dX2_init_344 : decode cX2_init 344 = .ok (.getfield 17, 3) := dk_180 0 17 (dk_at dksX2_init_14 16 rfl rfl)
theorem dX2_init_347 : decode cX2_init 347 = .ok (.bipush 96, 2) := dk_16 96 (dk_at dksX2_init_14 19 rfl rfl)
theorem dX2_init_349 : decode cX2_init 349 = .ok (.aload_n 0, 1) := dk_42 (dk_at dksX2_init_14 21 rfl rfl)
theorem dX2_init_350 : decode cX2_init 350 = .ok (.getfield 54, 3) := dk_180 0 54 (dk_at dksX2_init_15 0 rfl rfl)
theorem dX2_init_353 : decode cX2_init 353 = .ok (.aastore, 1) := dk_83 (dk_at dksX2_init_15 3 rfl rfl)
theorem dX2_init_354 : decode cX2_init 354 = .ok (.aload_n 0, 1) := dk_42 (dk_at dksX2_init_15 4 rfl rfl)
theorem dX2_init_355 : decode cX2_init 355 = .ok (.getfield 17, 3) := dk_180 0 17 (dk_at dksX2_init_15 5 rfl rfl)
theorem dX2_init_358 : decode cX2_init 358 = .ok (.sipush 192, 3) := dk_17 0 192 (dk_at dksX2_init_15 8 rfl rfl)
theorem dX2_init_361 : decode cX2_init 361 = .ok (.aload_n 0, 1) := dk_42 (dk_at dksX2_init_15 11 rfl rfl)
theorem dX2_init_362 : decode cX2_init 362 = .ok (.getfield 40, 3) := dk_180 0 40 (dk_at dksX2_init_15 12 rfl rfl)
theorem dX2_init_365 : decode cX2_init 365 = .ok (.aastore, 1) := dk_83 (dk_at dksX2_init_15 15 rfl rfl)
theorem dX2_init_366 : decode cX2_init 366 = .ok (.aload_n 0, 1) := dk_42 (dk_at dksX2_init_15 16 rfl rfl)
theorem dX2_init_367 : decode cX2_init 367 = .ok (.getfield 17, 3) := dk_180 0 17 (dk_at dksX2_init_15 17 rfl rfl)
theorem dX2_init_370 : decode cX2_init 370 = .ok (.sipush 193, 3) := dk_17 0 193 (dk_at dksX2_init_15 20 rfl rfl)
theorem dX2_init_373 : decode cX2_init 373 = .ok (.aload_n 0, 1) := dk_42 (dk_at dksX2_init_15 23 rfl rfl)
theorem dX2_init_374 : decode cX2_init 374 = .ok (.getfield 40, 3) := dk_180 0 40 (dk_at dksX2_init_16 0 rfl rfl)
theorem dX2_init_377 : decode cX2_init 377 = .ok (.aastore, 1) := dk_83 (dk_at dksX2_init_16 3 rfl rfl)
theorem dX2_init_378 : decode cX2_init 378 = .ok (.aload_n 0, 1) := dk_42 (dk_at dksX2_init_16 4 rfl rfl)
theorem dX2_init_379 : decode cX2_init 379 = .ok (.getfield 17, 3) := dk_180 0 17 (dk_at dksX2_init_16 5 rfl rfl)
theorem dX2_init_382 : decode cX2_init 382 = .ok (.sipush 198, 3) := dk_17 0 198 (dk_at dksX2_init_16 8 rfl rfl)
theorem dX2_init_385 : decode cX2_init 385 = .ok (.aload_n 0, 1) := dk_42 (dk_at dksX2_init_16 11 rfl rfl)
theorem dX2_init_386 : decode cX2_init 386 = .ok (.getfield 40, 3) := dk_180 0 40 (dk_at dksX2_init_16 12 rfl rfl)
theorem dX2_init_389 : decode cX2_init 389 = .ok (.aastore, 1) := dk_83 (dk_at dksX2_init_16 15 rfl rfl)
theorem dX2_init_390 : decode cX2_init 390 = .ok (.aload_n 0, 1) := dk_42 (dk_at dksX2_init_16 16 rfl rfl)
theorem dX2_init_391 : decode cX2_init 391 = .ok (.iconst 0, 1) := dk_3 (dk_at dksX2_init_16 17 rfl rfl)
theorem dX2_init_392 : decode cX2_init 392 = .ok (.invokevirtual 79, 3) := dk_182 0 79 (dk_at dksX2_init_16 18 rfl rfl)
theorem dX2_init_395 : decode cX2_init 395 = .ok (.return_, 1) := dk_177 (dk_at dksX2_init_16 21 rfl rfl)
abbrev cX2_reset : ByteArray := prog_3_method_2_code
def yX2_reset : MethodName := ⟨RX2, "reset", "(I)V"⟩
def dkwX2_reset_6 : List UInt8 := [167, 0, 4, 3, 181, 0, 90, 42, 3, 181, 0, 93, 42, 3, 181, 0, 96, 42, 3, 181, 0, 99, 177]
abbrev dktX2_reset_6 : List UInt8 := dkwX2_reset_6 ++ []
def dkwX2_reset_5 : List UInt8 := [180, 0, 9, 16, 96, 16, 8, 79, 42, 42, 180, 0, 68, 180, 0, 86, 4, 160, 0, 9, 17, 6, 0]
abbrev dktX2_reset_5 : List UInt8 := dkwX2_reset_5 ++ dktX2_reset_6
def dkwX2_reset_4 : List UInt8 := [25, 6, 198, 0, 8, 25, 6, 182, 0, 83, 132, 5, 1, 167, 255, 230, 28, 16, 8, 126, 153, 0, 12, 42]
abbrev dktX2_reset_4 : List UInt8 := dkwX2_reset_4 ++ dktX2_reset_5
def dkwX2_reset_3 : List UInt8 := [180, 0, 17, 78, 45, 190, 54, 4, 3, 54, 5, 21, 5, 21, 4, 162, 0, 25, 45, 21, 5, 50, 58, 6]
abbrev dktX2_reset_3 : List UInt8 := dkwX2_reset_3 ++ dktX2_reset_4
def dkwX2_reset_2 : List UInt8 := [42, 180, 0, 9, 29, 3, 79, 132, 3, 1, 167, 255, 229, 42, 180, 0, 9, 16, 84, 28, 79, 42]
abbrev dktX2_reset_2 : List UInt8 := dkwX2_reset_2 ++ dktX2_reset_3
def dkwX2_reset_1 : List UInt8 := [3, 167, 0, 5, 16, 32, 62, 29, 27, 154, 0, 9, 17, 5, 0, 167, 0, 6, 17, 1, 0, 162, 0, 16]
abbrev dktX2_reset_1 : List UInt8 := dkwX2_reset_1 ++ dktX2_reset_2
def dkwX2_reset_0 : List UInt8 := [27, 154, 0, 7, 3, 167, 0, 10, 42, 180, 0, 9, 16, 84, 46, 4, 27, 120, 128, 61, 27, 154, 0, 7]
abbrev dktX2_reset_0 : List UInt8 := dkwX2_reset_0 ++ dktX2_reset_1
theorem dksX2_reset_0 : cX2_reset.data.toList.drop 0 = dktX2_reset_0 := by decide +kernel
theorem dksX2_reset_1 : cX2_reset.data.toList.drop 24 = dktX2_reset_1 := dk_seg dksX2_reset_0 24 rfl rfl
theorem dksX2_reset_2 : cX2_reset.data.toList.drop 48 = dktX2_reset_2 := dk_seg dksX2_reset_1 24 rfl rfl
theorem dksX2_reset_3 : cX2_reset.data.toList.drop 70 = dktX2_reset_3 := dk_seg dksX2_reset_2 22 rfl rfl
theorem dksX2_reset_4 : cX2_reset.data.toList.drop 94 = dktX2_reset_4 := dk_seg dksX2_reset_3 24 rfl rfl
theorem dksX2_reset_5 : cX2_reset.data.toList.drop 118 = dktX2_reset_5 := dk_seg dksX2_reset_4 24 rfl rfl
theorem dksX2_reset_6 : cX2_reset.data.toList.drop 141 = dktX2_reset_6 := dk_seg dksX2_reset_5 23 rfl rfl
theorem dX2_reset_0 : decode cX2_reset 0 = .ok (.iload_n 1, 1) := dk_27 (dk_at dksX2_reset_0 0 rfl rfl)
theorem dX2_reset_1 : decode cX2_reset 1 = .ok (.ifCond .ne 7, 3) := dk_154 0 7 (dk_at dksX2_reset_0 1 rfl rfl)
theorem dX2_reset_4 : decode cX2_reset 4 = .ok (.iconst 0, 1) := dk_3 (dk_at dksX2_reset_0 4 rfl rfl)
theorem dX2_reset_5 : decode cX2_reset 5 = .ok (.goto 10, 3) := dk_167 0 10 (dk_at dksX2_reset_0 5 rfl rfl)
theorem dX2_reset_8 : decode cX2_reset 8 = .ok (.aload_n 0, 1) := dk_42 (dk_at dksX2_reset_0 8 rfl rfl)
theorem dX2_reset_9 : decode cX2_reset 9 = .ok (.getfield 9, 3) := dk_180 0 9 (dk_at dksX2_reset_0 9 rfl rfl)
theorem dX2_reset_12 : decode cX2_reset 12 = .ok (.bipush 84, 2) := dk_16 84 (dk_at dksX2_reset_0 12 rfl rfl)
theorem dX2_reset_14 : decode cX2_reset 14 = .ok (.iaload, 1) := dk_46 (dk_at dksX2_reset_0 14 rfl rfl)
theorem dX2_reset_15 : decode cX2_reset 15 = .ok (.iconst 1, 1) := dk_4 (dk_at dksX2_reset_0 15 rfl rfl)
theorem dX2_reset_16 : decode cX2_reset 16 = .ok (.iload_n 1, 1) := dk_27 (dk_at dksX2_reset_0 16 rfl rfl)
theorem dX2_reset_17 : decode cX2_reset 17 = .ok (.ishl, 1) := dk_120 (dk_at dksX2_reset_0 17 rfl rfl)
theorem dX2_reset_18 : decode cX2_reset 18 = .ok (.ior, 1) := dk_128 (dk_at dksX2_reset_0 18 rfl rfl)
theorem dX2_reset_19 : decode cX2_reset 19 = .ok (.istore_n 2, 1) := dk_61 (dk_at dksX2_reset_0 19 rfl rfl)
theorem dX2_reset_20 : decode cX2_reset 20 = .ok (.iload_n 1, 1) := dk_27 (dk_at dksX2_reset_0 20 rfl rfl)
theorem dX2_reset_21 : decode cX2_reset 21 = .ok (.ifCond .ne 7, 3) := dk_154 0 7 (dk_at dksX2_reset_0 21 rfl rfl)
theorem dX2_reset_24 : decode cX2_reset 24 = .ok (.iconst 0, 1) := dk_3 (dk_at dksX2_reset_1 0 rfl rfl)
theorem dX2_reset_25 : decode cX2_reset 25 = .ok (.goto 5, 3) := dk_167 0 5 (dk_at dksX2_reset_1 1 rfl rfl)
theorem dX2_reset_28 : decode cX2_reset 28 = .ok (.bipush 32, 2) := dk_16 32 (dk_at dksX2_reset_1 4 rfl rfl)
theorem dX2_reset_30 : decode cX2_reset 30 = .ok (.istore_n 3, 1) := dk_62 (dk_at dksX2_reset_1 6 rfl rfl)
theorem dX2_reset_31 : decode cX2_reset 31 = .ok (.iload_n 3, 1) := dk_29 (dk_at dksX2_reset_1 7 rfl rfl)
theorem dX2_reset_32 : decode cX2_reset 32 = .ok (.iload_n 1, 1) := dk_27 (dk_at dksX2_reset_1 8 rfl rfl)
theorem dX2_reset_33 : decode cX2_reset 33 = .ok (.ifCond .ne 9, 3) := dk_154 0 9 (dk_at dksX2_reset_1 9 rfl rfl)
theorem dX2_reset_36 : decode cX2_reset 36 = .ok (.sipush 1280, 3) := dk_17 5 0 (dk_at dksX2_reset_1 12 rfl rfl)
theorem dX2_reset_39 : decode cX2_reset 39 = .ok (.goto 6, 3) := dk_167 0 6 (dk_at dksX2_reset_1 15 rfl rfl)
theorem dX2_reset_42 : decode cX2_reset 42 = .ok (.sipush 256, 3) := dk_17 1 0 (dk_at dksX2_reset_1 18 rfl rfl)
theorem dX2_reset_45 : decode cX2_reset 45 = .ok (.if_icmp .ge 16, 3) := dk_162 0 16 (dk_at dksX2_reset_1 21 rfl rfl)
theorem dX2_reset_48 : decode cX2_reset 48 = .ok (.aload_n 0, 1) := dk_42 (dk_at dksX2_reset_2 0 rfl rfl)
theorem dX2_reset_49 : decode cX2_reset 49 = .ok (.getfield 9, 3) := dk_180 0 9 (dk_at dksX2_reset_2 1 rfl rfl)
theorem dX2_reset_52 : decode cX2_reset 52 = .ok (.iload_n 3, 1) := dk_29 (dk_at dksX2_reset_2 4 rfl rfl)
theorem dX2_reset_53 : decode cX2_reset 53 = .ok (.iconst 0, 1) := dk_3 (dk_at dksX2_reset_2 5 rfl rfl)
theorem dX2_reset_54 : decode cX2_reset 54 = .ok (.iastore, 1) := dk_79 (dk_at dksX2_reset_2 6 rfl rfl)
theorem dX2_reset_55 : decode cX2_reset 55 = .ok (.iinc 3 1, 3) := dk_132 3 1 (dk_at dksX2_reset_2 7 rfl rfl)
theorem dX2_reset_58 : decode cX2_reset 58 = .ok (.goto (-27), 3) := dk_167 255 229 (dk_at dksX2_reset_2 10 rfl rfl)
theorem dX2_reset_61 : decode cX2_reset 61 = .ok (.aload_n 0, 1) := dk_42 (dk_at dksX2_reset_2 13 rfl rfl)
theorem dX2_reset_62 : decode cX2_reset 62 = .ok (.getfield 9, 3) := dk_180 0 9 (dk_at dksX2_reset_2 14 rfl rfl)
theorem dX2_reset_65 : decode cX2_reset 65 = .ok (.bipush 84, 2) := dk_16 84 (dk_at dksX2_reset_2 17 rfl rfl)
theorem dX2_reset_67 : decode cX2_reset 67 = .ok (.iload_n 2, 1) := dk_28 (dk_at dksX2_reset_2 19 rfl rfl)
theorem dX2_reset_68 : decode cX2_reset 68 = .ok (.iastore, 1) := dk_79 (dk_at dksX2_reset_2 20 rfl rfl)
theorem dX2_reset_69 : decode cX2_reset 69 = .ok (.aload_n 0, 1) := dk_42 (dk_at dksX2_reset_2 21 rfl rfl)
theorem dX2_reset_70 : decode cX2_reset 70 = .ok (.getfield 17, 3) := dk_180 0 17 (dk_at dksX2_reset_3 0 rfl rfl)
theorem dX2_reset_73 : decode cX2_reset 73 = .ok (.astore_n 3, 1) := dk_78 (dk_at dksX2_reset_3 3 rfl rfl)
theorem dX2_reset_74 : decode cX2_reset 74 = .ok (.aload_n 3, 1) := dk_45 (dk_at dksX2_reset_3 4 rfl rfl)
theorem dX2_reset_75 : decode cX2_reset 75 = .ok (.arraylength, 1) := dk_190 (dk_at dksX2_reset_3 5 rfl rfl)
theorem dX2_reset_76 : decode cX2_reset 76 = .ok (.istore 4, 2) := dk_54 4 (dk_at dksX2_reset_3 6 rfl rfl)
theorem dX2_reset_78 : decode cX2_reset 78 = .ok (.iconst 0, 1) := dk_3 (dk_at dksX2_reset_3 8 rfl rfl)
theorem dX2_reset_79 : decode cX2_reset 79 = .ok (.istore 5, 2) := dk_54 5 (dk_at dksX2_reset_3 9 rfl rfl)
theorem dX2_reset_81 : decode cX2_reset 81 = .ok (.iload 5, 2) := dk_21 5 (dk_at dksX2_reset_3 11 rfl rfl)
theorem dX2_reset_83 : decode cX2_reset 83 = .ok (.iload 4, 2) := dk_21 4 (dk_at dksX2_reset_3 13 rfl rfl)
theorem dX2_reset_85 : decode cX2_reset 85 = .ok (.if_icmp .ge 25, 3) := dk_162 0 25 (dk_at dksX2_reset_3 15 rfl rfl)
theorem dX2_reset_88 : decode cX2_reset 88 = .ok (.aload_n 3, 1) := dk_45 (dk_at dksX2_reset_3 18 rfl rfl)
theorem dX2_reset_89 : decode cX2_reset 89 = .ok (.iload 5, 2) := dk_21 5 (dk_at dksX2_reset_3 19 rfl rfl)
theorem dX2_reset_91 : decode cX2_reset 91 = .ok (.aaload, 1) := dk_50 (dk_at dksX2_reset_3 21 rfl rfl)
theorem dX2_reset_92 : decode cX2_reset 92 = .ok (.astore 6, 2) := dk_58 6 (dk_at dksX2_reset_3 22 rfl rfl)
theorem dX2_reset_94 : decode cX2_reset 94 = .ok (.aload 6, 2) := dk_25 6 (dk_at dksX2_reset_4 0 rfl rfl)
theorem dX2_reset_96 : decode cX2_reset 96 = .ok (.ifnull 8, 3) := dk_198 0 8 (dk_at dksX2_reset_4 2 rfl rfl)
theorem dX2_reset_99 : decode cX2_reset 99 = .ok (.aload 6, 2) := dk_25 6 (dk_at dksX2_reset_4 5 rfl rfl)
theorem dX2_reset_101 : decode cX2_reset 101 = .ok (.invokevirtual 83, 3) := dk_182 0 83 (dk_at dksX2_reset_4 7 rfl rfl)
theorem dX2_reset_104 : decode cX2_reset 104 = .ok (.iinc 5 1, 3) := dk_132 5 1 (dk_at dksX2_reset_4 10 rfl rfl)
theorem dX2_reset_107 : decode cX2_reset 107 = .ok (.goto (-26), 3) := dk_167 255 230 (dk_at dksX2_reset_4 13 rfl rfl)
theorem dX2_reset_110 : decode cX2_reset 110 = .ok (.iload_n 2, 1) := dk_28 (dk_at dksX2_reset_4 16 rfl rfl)
theorem dX2_reset_111 : decode cX2_reset 111 = .ok (.bipush 8, 2) := dk_16 8 (dk_at dksX2_reset_4 17 rfl rfl)
theorem dX2_reset_113 : decode cX2_reset 113 = .ok (.iand, 1) := dk_126 (dk_at dksX2_reset_4 19 rfl rfl)
theorem dX2_reset_114 : decode cX2_reset 114 = .ok (.ifCond .eq 12, 3) := dk_153 0 12 (dk_at dksX2_reset_4 20 rfl rfl)
theorem dX2_reset_117 : decode cX2_reset 117 = .ok (.aload_n 0, 1) := dk_42 (dk_at dksX2_reset_4 23 rfl rfl)
theorem dX2_reset_118 : decode cX2_reset 118 = .ok (.getfield 9, 3) := dk_180 0 9 (dk_at dksX2_reset_5 0 rfl rfl)
theorem dX2_reset_121 : decode cX2_reset 121 = .ok (.bipush 96, 2) := dk_16 96 (dk_at dksX2_reset_5 3 rfl rfl)
theorem dX2_reset_123 : decode cX2_reset 123 = .ok (.bipush 8, 2) := dk_16 8 (dk_at dksX2_reset_5 5 rfl rfl)
theorem dX2_reset_125 : decode cX2_reset 125 = .ok (.iastore, 1) := dk_79 (dk_at dksX2_reset_5 7 rfl rfl)
theorem dX2_reset_126 : decode cX2_reset 126 = .ok (.aload_n 0, 1) := dk_42 (dk_at dksX2_reset_5 8 rfl rfl)
theorem dX2_reset_127 : decode cX2_reset 127 = .ok (.aload_n 0, 1) := dk_42 (dk_at dksX2_reset_5 9 rfl rfl)
theorem dX2_reset_128 : decode cX2_reset 128 = .ok (.getfield 68, 3) := dk_180 0 68 (dk_at dksX2_reset_5 10 rfl rfl)
theorem dX2_reset_131 : decode cX2_reset 131 = .ok (.getfield 86, 3) := dk_180 0 86 (dk_at dksX2_reset_5 13 rfl rfl)
theorem dX2_reset_134 : decode cX2_reset 134 = .ok (.iconst 1, 1) := dk_4 (dk_at dksX2_reset_5 16 rfl rfl)
theorem dX2_reset_135 : decode cX2_reset 135 = .ok (.if_icmp .ne 9, 3) := dk_160 0 9 (dk_at dksX2_reset_5 17 rfl rfl)
theorem dX2_reset_138 : decode cX2_reset 138 = .ok (.sipush 1536, 3) := dk_17 6 0 (dk_at dksX2_reset_5 20 rfl rfl)
theorem dX2_reset_141 : decode cX2_reset 141 = .ok (.goto 4, 3) := dk_167 0 4 (dk_at dksX2_reset_6 0 rfl rfl)
theorem dX2_reset_144 : decode cX2_reset 144 = .ok (.iconst 0, 1) := dk_3 (dk_at dksX2_reset_6 3 rfl rfl)
theorem dX2_reset_145 : decode cX2_reset 145 = .ok (.putfield 90, 3) := dk_181 0 90 (dk_at dksX2_reset_6 4 rfl rfl)
theorem dX2_reset_148 : decode cX2_reset 148 = .ok (.aload_n 0, 1) := dk_42 (dk_at dksX2_reset_6 7 rfl rfl)
theorem dX2_reset_149 : decode cX2_reset 149 = .ok (.iconst 0, 1) := dk_3 (dk_at dksX2_reset_6 8 rfl rfl)
theorem dX2_reset_150 : decode cX2_reset 150 = .ok (.putfield 93, 3) := dk_181 0 93 (dk_at dksX2_reset_6 9 rfl rfl)
theorem dX2_reset_153 : decode cX2_reset 153 = .ok (.aload_n 0, 1) := dk_42 (dk_at dksX2_reset_6 12 rfl rfl)
theorem dX2_reset_154 : decode cX2_reset 154 = .ok (.iconst 0, 1) := dk_3 (dk_at dksX2_reset_6 13 rfl rfl)
theorem dX2_reset_155 : decode cX2_reset 155 = .ok (.putfield 96, 3) := dk_181 0 96 (dk_at dksX2_reset_6 14 rfl rfl)
theorem dX2_reset_158 : decode cX2_reset 158 = .ok (.aload_n 0, 1) := dk_42 (dk_at dksX2_reset_6 17 rfl rfl)
theorem dX2_reset_159 : decode cX2_reset 159 = .ok (.iconst 0, 1) := dk_3 (dk_at dksX2_reset_6 18 rfl rfl)
theorem dX2_reset_160 : decode cX2_reset 160 = .ok (.putfield 99, 3) := dk_181 0 99 (dk_at dksX2_reset_6 19 rfl rfl)
theorem dX2_reset_163 : decode cX2_reset 163 = .ok (.return_, 1) := dk_177 (dk_at dksX2_reset_6 22 rfl rfl)
abbrev cX2_step : ByteArray := prog_3_method_24_code
def yX2_step : MethodName := ⟨RX2, "step", "()I"⟩
def dkwX2_step_3 : List UInt8 := [154, 0, 8, 42, 182, 0, 175, 61, 42, 28, 42, 180, 0, 169, 96, 182, 0, 178, 172]
abbrev dktX2_step_3 : List UInt8 := dkwX2_step_3 ++ []
def dkwX2_step_2 : List UInt8 := [154, 0, 18, 42, 27, 182, 0, 172, 7, 61, 42, 3, 181, 0, 169, 167, 0, 15, 42, 180, 0, 93]
abbrev dktX2_step_2 : List UInt8 := dkwX2_step_2 ++ dktX2_step_3
def dkwX2_step_1 : List UInt8 := [4, 61, 42, 3, 181, 0, 169, 42, 180, 0, 96, 62, 42, 3, 181, 0, 96, 27, 158, 0, 22, 29]
abbrev dktX2_step_1 : List UInt8 := dkwX2_step_1 ++ dktX2_step_2
def dkwX2_step_0 : List UInt8 := [42, 180, 0, 72, 154, 0, 5, 3, 172, 42, 89, 180, 0, 163, 4, 96, 181, 0, 163, 42, 182, 0, 166, 60]
abbrev dktX2_step_0 : List UInt8 := dkwX2_step_0 ++ dktX2_step_1
theorem dksX2_step_0 : cX2_step.data.toList.drop 0 = dktX2_step_0 := by decide +kernel
theorem dksX2_step_1 : cX2_step.data.toList.drop 24 = dktX2_step_1 := dk_seg dksX2_step_0 24 rfl rfl
theorem dksX2_step_2 : cX2_step.data.toList.drop 46 = dktX2_step_2 := dk_seg dksX2_step_1 22 rfl rfl
theorem dksX2_step_3 : cX2_step.data.toList.drop 68 = dktX2_step_3 := dk_seg dksX2_step_2 22 rfl rfl
theorem dX2_step_0 : decode cX2_step 0 = .ok (.aload_n 0, 1) := dk_42 (dk_at dksX2_step_0 0 rfl rfl)
theorem dX2_step_1 : decode cX2_step 1 = .ok (.getfield 72, 3) := dk_180 0 72 (dk_at dksX2_step_0 1 rfl rfl)
theorem dX2_step_4 : decode cX2_step 4 = .ok (.ifCond .ne 5, 3) := dk_154 0 5 (dk_at dksX2_step_0 4 rfl rfl)
theorem dX2_step_7 : decode cX2_step 7 = .ok (.iconst 0, 1) := dk_3 (dk_at dksX2_step_0 7 rfl rfl)
theorem dX2_step_8 : decode cX2_step 8 = .ok (.ireturn, 1) := dk_172 (dk_at dksX2_step_0 8 rfl rfl)
theorem dX2_step_9 : decode cX2_step 9 = .ok (.aload_n 0, 1) := dk_42 (dk_at dksX2_step_0 9 rfl rfl)
theorem dX2_step_10 : decode cX2_step 10 = .ok (.dup, 1) := dk_89 (dk_at dksX2_step_0 10 rfl rfl)
theorem dX2_step_11 : decode cX2_step 11 = .ok (.getfield 163, 3) := dk_180 0 163 (dk_at dksX2_step_0 11 rfl rfl)
theorem dX2_step_14 : decode cX2_step 14 = .ok (.iconst 1, 1) := dk_4 (dk_at dksX2_step_0 14 rfl rfl)
theorem dX2_step_15 : decode cX2_step 15 = .ok (.iadd, 1) := dk_96 (dk_at dksX2_step_0 15 rfl rfl)
theorem dX2_step_16 : decode cX2_step 16 = .ok (.putfield 163, 3) := dk_181 0 163 (dk_at dksX2_step_0 16 rfl rfl)
theorem dX2_step_19 : decode cX2_step 19 = .ok (.aload_n 0, 1) := dk_42 (dk_at dksX2_step_0 19 rfl rfl)
theorem dX2_step_20 : decode cX2_step 20 = .ok (.invokevirtual 166, 3) := dk_182 0 166 (dk_at dksX2_step_0 20 rfl rfl)
theorem dX2_step_23 : decode cX2_step 23 = .ok (.istore_n 1, 1) := dk_60 (dk_at dksX2_step_0 23 rfl rfl)
theorem dX2_step_24 : decode cX2_step 24 = .ok (.iconst 1, 1) := dk_4 (dk_at dksX2_step_1 0 rfl rfl)
theorem dX2_step_25 : decode cX2_step 25 = .ok (.istore_n 2, 1) := dk_61 (dk_at dksX2_step_1 1 rfl rfl)
theorem dX2_step_26 : decode cX2_step 26 = .ok (.aload_n 0, 1) := dk_42 (dk_at dksX2_step_1 2 rfl rfl)
theorem dX2_step_27 : decode cX2_step 27 = .ok (.iconst 0, 1) := dk_3 (dk_at dksX2_step_1 3 rfl rfl)
theorem dX2_step_28 : decode cX2_step 28 = .ok (.putfield 169, 3) := dk_181 0 169 (dk_at dksX2_step_1 4 rfl rfl)
theorem dX2_step_31 : decode cX2_step 31 = .ok (.aload_n 0, 1) := dk_42 (dk_at dksX2_step_1 7 rfl rfl)
theorem dX2_step_32 : decode cX2_step 32 = .ok (.getfield 96, 3) := dk_180 0 96 (dk_at dksX2_step_1 8 rfl rfl)
theorem dX2_step_35 : decode cX2_step 35 = .ok (.istore_n 3, 1) := dk_62 (dk_at dksX2_step_1 11 rfl rfl)
theorem dX2_step_36 : decode cX2_step 36 = .ok (.aload_n 0, 1) := dk_42 (dk_at dksX2_step_1 12 rfl rfl)
theorem dX2_step_37 : decode cX2_step 37 = .ok (.iconst 0, 1) := dk_3 (dk_at dksX2_step_1 13 rfl rfl)
theorem dX2_step_38 : decode cX2_step 38 = .ok (.putfield 96, 3) := dk_181 0 96 (dk_at dksX2_step_1 14 rfl rfl)
theorem dX2_step_41 : decode cX2_step 41 = .ok (.iload_n 1, 1) := dk_27 (dk_at dksX2_step_1 17 rfl rfl)
theorem dX2_step_42 : decode cX2_step 42 = .ok (.ifCond .le 22, 3) := dk_158 0 22 (dk_at dksX2_step_1 18 rfl rfl)
theorem dX2_step_45 : decode cX2_step 45 = .ok (.iload_n 3, 1) := dk_29 (dk_at dksX2_step_1 21 rfl rfl)
theorem dX2_step_46 : decode cX2_step 46 = .ok (.ifCond .ne 18, 3) := dk_154 0 18 (dk_at dksX2_step_2 0 rfl rfl)
theorem dX2_step_49 : decode cX2_step 49 = .ok (.aload_n 0, 1) := dk_42 (dk_at dksX2_step_2 3 rfl rfl)
theorem dX2_step_50 : decode cX2_step 50 = .ok (.iload_n 1, 1) := dk_27 (dk_at dksX2_step_2 4 rfl rfl)
theorem dX2_step_51 : decode cX2_step 51 = .ok (.invokevirtual 172, 3) := dk_182 0 172 (dk_at dksX2_step_2 5 rfl rfl)
theorem dX2_step_54 : decode cX2_step 54 = .ok (.iconst 4, 1) := dk_7 (dk_at dksX2_step_2 8 rfl rfl)
theorem dX2_step_55 : decode cX2_step 55 = .ok (.istore_n 2, 1) := dk_61 (dk_at dksX2_step_2 9 rfl rfl)
theorem dX2_step_56 : decode cX2_step 56 = .ok (.aload_n 0, 1) := dk_42 (dk_at dksX2_step_2 10 rfl rfl)
theorem dX2_step_57 : decode cX2_step 57 = .ok (.iconst 0, 1) := dk_3 (dk_at dksX2_step_2 11 rfl rfl)
theorem dX2_step_58 : decode cX2_step 58 = .ok (.putfield 169, 3) := dk_181 0 169 (dk_at dksX2_step_2 12 rfl rfl)
theorem dX2_step_61 : decode cX2_step 61 = .ok (.goto 15, 3) := dk_167 0 15 (dk_at dksX2_step_2 15 rfl rfl)
theorem dX2_step_64 : decode cX2_step 64 = .ok (.aload_n 0, 1) := dk_42 (dk_at dksX2_step_2 18 rfl rfl)
theorem dX2_step_65 : decode cX2_step 65 = .ok (.getfield 93, 3) := dk_180 0 93 (dk_at dksX2_step_2 19 rfl rfl)
theorem dX2_step_68 : decode cX2_step 68 = .ok (.ifCond .ne 8, 3) := dk_154 0 8 (dk_at dksX2_step_3 0 rfl rfl)
theorem dX2_step_71 : decode cX2_step 71 = .ok (.aload_n 0, 1) := dk_42 (dk_at dksX2_step_3 3 rfl rfl)
theorem dX2_step_72 : decode cX2_step 72 = .ok (.invokevirtual 175, 3) := dk_182 0 175 (dk_at dksX2_step_3 4 rfl rfl)
theorem dX2_step_75 : decode cX2_step 75 = .ok (.istore_n 2, 1) := dk_61 (dk_at dksX2_step_3 7 rfl rfl)
theorem dX2_step_76 : decode cX2_step 76 = .ok (.aload_n 0, 1) := dk_42 (dk_at dksX2_step_3 8 rfl rfl)
theorem dX2_step_77 : decode cX2_step 77 = .ok (.iload_n 2, 1) := dk_28 (dk_at dksX2_step_3 9 rfl rfl)
theorem dX2_step_78 : decode cX2_step 78 = .ok (.aload_n 0, 1) := dk_42 (dk_at dksX2_step_3 10 rfl rfl)
theorem dX2_step_79 : decode cX2_step 79 = .ok (.getfield 169, 3) := dk_180 0 169 (dk_at dksX2_step_3 11 rfl rfl)
theorem dX2_step_82 : decode cX2_step 82 = .ok (.iadd, 1) := dk_96 (dk_at dksX2_step_3 14 rfl rfl)
theorem dX2_step_83 : decode cX2_step 83 = .ok (.invokevirtual 178, 3) := dk_182 0 178 (dk_at dksX2_step_3 15 rfl rfl)
theorem dX2_step_86 : decode cX2_step 86 = .ok (.ireturn, 1) := dk_172 (dk_at dksX2_step_3 18 rfl rfl)
abbrev cX2_waits : ByteArray := prog_3_method_22_code
def yX2_waits : MethodName := ⟨RX2, "waits", "()I"⟩
def dkwX2_waits_6 : List UInt8 := [17, 0, 129, 126, 17, 0, 128, 160, 0, 8, 16, 8, 167, 0, 4, 3, 172]
abbrev dktX2_waits_6 : List UInt8 := dkwX2_waits_6 ++ []
def dkwX2_waits_5 : List UInt8 := [126, 153, 0, 16, 42, 180, 0, 47, 180, 0, 151, 154, 0, 6, 16, 7, 172, 42, 180, 0, 9, 16, 87, 46]
abbrev dktX2_waits_5 : List UInt8 := dkwX2_waits_5 ++ dktX2_waits_6
def dkwX2_waits_4 : List UInt8 := [153, 0, 5, 8, 172, 28, 16, 64, 126, 153, 0, 6, 16, 6, 172, 42, 180, 0, 9, 16, 63, 46, 16, 8]
abbrev dktX2_waits_4 : List UInt8 := dkwX2_waits_4 ++ dktX2_waits_5
def dkwX2_waits_3 : List UInt8 := [5, 172, 27, 4, 126, 153, 0, 5, 6, 172, 28, 17, 0, 128, 126, 153, 0, 5, 7, 172, 28, 16, 32, 126]
abbrev dktX2_waits_3 : List UInt8 := dkwX2_waits_3 ++ dktX2_waits_4
def dkwX2_waits_2 : List UInt8 := [180, 0, 9, 16, 96, 46, 17, 0, 192, 126, 17, 0, 192, 160, 0, 5, 4, 172, 27, 5, 126, 153, 0, 5]
abbrev dktX2_waits_2 : List UInt8 := dkwX2_waits_2 ++ dktX2_waits_3
def dkwX2_waits_1 : List UInt8 := [16, 110, 46, 126, 60, 42, 180, 0, 40, 182, 0, 148, 42, 180, 0, 9, 17, 0, 193, 46, 126, 61, 42]
abbrev dktX2_waits_1 : List UInt8 := dkwX2_waits_1 ++ dktX2_waits_2
def dkwX2_waits_0 : List UInt8 := [42, 17, 0, 128, 182, 0, 132, 154, 0, 5, 3, 172, 42, 180, 0, 9, 16, 53, 46, 42, 180, 0, 9]
abbrev dktX2_waits_0 : List UInt8 := dkwX2_waits_0 ++ dktX2_waits_1
theorem dksX2_waits_0 : cX2_waits.data.toList.drop 0 = dktX2_waits_0 := by decide +kernel
theorem dksX2_waits_1 : cX2_waits.data.toList.drop 23 = dktX2_waits_1 := dk_seg dksX2_waits_0 23 rfl rfl
theorem dksX2_waits_2 : cX2_waits.data.toList.drop 46 = dktX2_waits_2 := dk_seg dksX2_waits_1 23 rfl rfl
theorem dksX2_waits_3 : cX2_waits.data.toList.drop 70 = dktX2_waits_3 := dk_seg dksX2_waits_2 24 rfl rfl
theorem dksX2_waits_4 : cX2_waits.data.toList.drop 94 = dktX2_waits_4 := dk_seg dksX2_waits_3 24 rfl rfl
theorem dksX2_waits_5 : cX2_waits.data.toList.drop 118 = dktX2_waits_5 := dk_seg dksX2_waits_4 24 rfl rfl
theorem dksX2_waits_6 : cX2_waits.data.toList.drop 142 = dktX2_waits_6 := dk_seg dksX2_waits_5 24 rfl rfl
theorem dX2_waits_0 : decode cX2_waits 0 = .ok (.aload_n 0, 1) := dk_42 (dk_at dksX2_waits_0 0 rfl rfl)
theorem dX2_waits_1 : decode cX2_waits 1 = .ok (.sipush 128, 3) := dk_17 0 128 (dk_at dksX2_waits_0 1 rfl rfl)
theorem dX2_waits_4 : decode cX2_waits 4 = .ok (.invokevirtual 132, 3) := dk_182 0 132 (dk_at dksX2_waits_0 4 rfl rfl)
theorem dX2_waits_7 : decode cX2_waits 7 = .ok (.ifCond .ne 5, 3) := dk_154 0 5 (dk_at dksX2_waits_0 7 rfl rfl)
theorem dX2_waits_10 : decode cX2_waits 10 = .ok (.iconst 0, 1) := dk_3 (dk_at dksX2_waits_0 10 rfl rfl)
theorem dX2_waits_11 : decode cX2_waits 11 = .ok (.ireturn, 1) := dk_172 (dk_at dksX2_waits_0 11 rfl rfl)
theorem dX2_waits_12 : decode cX2_waits 12 = .ok (.aload_n 0, 1) := dk_42 (dk_at dksX2_waits_0 12 rfl rfl)
theorem dX2_waits_13 : decode cX2_waits 13 = .ok (.getfield 9, 3) := dk_180 0 9 (dk_at dksX2_waits_0 13 rfl rfl)
theorem dX2_waits_16 : decode cX2_waits 16 = .ok (.bipush 53, 2) := dk_16 53 (dk_at dksX2_waits_0 16 rfl rfl)
theorem dX2_waits_18 : decode cX2_waits 18 = .ok (.iaload, 1) := dk_46 (dk_at dksX2_waits_0 18 rfl rfl)
theorem dX2_waits_19 : decode cX2_waits 19 = .ok (.aload_n 0, 1) := dk_42 (dk_at dksX2_waits_0 19 rfl rfl)
theorem dX2_waits_20 : decode cX2_waits 20 = .ok (.getfield 9, 3) := dk_180 0 9 (dk_at dksX2_waits_0 20 rfl rfl)
theorem dX2_waits_23 : decode cX2_waits 23 = .ok (.bipush 110, 2) := dk_16 110 (dk_at dksX2_waits_1 0 rfl rfl)
theorem dX2_waits_25 : decode cX2_waits 25 = .ok (.iaload, 1) := dk_46 (dk_at dksX2_waits_1 2 rfl rfl)
theorem dX2_waits_26 : decode cX2_waits 26 = .ok (.iand, 1) := dk_126 (dk_at dksX2_waits_1 3 rfl rfl)
theorem dX2_waits_27 : decode cX2_waits 27 = .ok (.istore_n 1, 1) := dk_60 (dk_at dksX2_waits_1 4 rfl rfl)
theorem dX2_waits_28 : decode cX2_waits 28 = .ok (.aload_n 0, 1) := dk_42 (dk_at dksX2_waits_1 5 rfl rfl)
theorem dX2_waits_29 : decode cX2_waits 29 = .ok (.getfield 40, 3) := dk_180 0 40 (dk_at dksX2_waits_1 6 rfl rfl)
theorem dX2_waits_32 : decode cX2_waits 32 = .ok (.invokevirtual 148, 3) := dk_182 0 148 (dk_at dksX2_waits_1 9 rfl rfl)
theorem dX2_waits_35 : decode cX2_waits 35 = .ok (.aload_n 0, 1) := dk_42 (dk_at dksX2_waits_1 12 rfl rfl)
theorem dX2_waits_36 : decode cX2_waits 36 = .ok (.getfield 9, 3) := dk_180 0 9 (dk_at dksX2_waits_1 13 rfl rfl)
theorem dX2_waits_39 : decode cX2_waits 39 = .ok (.sipush 193, 3) := dk_17 0 193 (dk_at dksX2_waits_1 16 rfl rfl)
theorem dX2_waits_42 : decode cX2_waits 42 = .ok (.iaload, 1) := dk_46 (dk_at dksX2_waits_1 19 rfl rfl)
theorem dX2_waits_43 : decode cX2_waits 43 = .ok (.iand, 1) := dk_126 (dk_at dksX2_waits_1 20 rfl rfl)
theorem dX2_waits_44 : decode cX2_waits 44 = .ok (.istore_n 2, 1) := dk_61 (dk_at dksX2_waits_1 21 rfl rfl)
theorem dX2_waits_45 : decode cX2_waits 45 = .ok (.aload_n 0, 1) := dk_42 (dk_at dksX2_waits_1 22 rfl rfl)
theorem dX2_waits_46 : decode cX2_waits 46 = .ok (.getfield 9, 3) := dk_180 0 9 (dk_at dksX2_waits_2 0 rfl rfl)
theorem dX2_waits_49 : decode cX2_waits 49 = .ok (.bipush 96, 2) := dk_16 96 (dk_at dksX2_waits_2 3 rfl rfl)
theorem dX2_waits_51 : decode cX2_waits 51 = .ok (.iaload, 1) := dk_46 (dk_at dksX2_waits_2 5 rfl rfl)
theorem dX2_waits_52 : decode cX2_waits 52 = .ok (.sipush 192, 3) := dk_17 0 192 (dk_at dksX2_waits_2 6 rfl rfl)
theorem dX2_waits_55 : decode cX2_waits 55 = .ok (.iand, 1) := dk_126 (dk_at dksX2_waits_2 9 rfl rfl)
theorem dX2_waits_56 : decode cX2_waits 56 = .ok (.sipush 192, 3) := dk_17 0 192 (dk_at dksX2_waits_2 10 rfl rfl)
theorem dX2_waits_59 : decode cX2_waits 59 = .ok (.if_icmp .ne 5, 3) := dk_160 0 5 (dk_at dksX2_waits_2 13 rfl rfl)
theorem dX2_waits_62 : decode cX2_waits 62 = .ok (.iconst 1, 1) := dk_4 (dk_at dksX2_waits_2 16 rfl rfl)
theorem dX2_waits_63 : decode cX2_waits 63 = .ok (.ireturn, 1) := dk_172 (dk_at dksX2_waits_2 17 rfl rfl)
theorem dX2_waits_64 : decode cX2_waits 64 = .ok (.iload_n 1, 1) := dk_27 (dk_at dksX2_waits_2 18 rfl rfl)
theorem dX2_waits_65 : decode cX2_waits 65 = .ok (.iconst 2, 1) := dk_5 (dk_at dksX2_waits_2 19 rfl rfl)
theorem dX2_waits_66 : decode cX2_waits 66 = .ok (.iand, 1) := dk_126 (dk_at dksX2_waits_2 20 rfl rfl)
theorem dX2_waits_67 : decode cX2_waits 67 = .ok (.ifCond .eq 5, 3) := dk_153 0 5 (dk_at dksX2_waits_2 21 rfl rfl)
theorem dX2_waits_70 : decode cX2_waits 70 = .ok (.iconst 2, 1) := dk_5 (dk_at dksX2_waits_3 0 rfl rfl)
theorem dX2_waits_71 : decode cX2_waits 71 = .ok (.ireturn, 1) := dk_172 (dk_at dksX2_waits_3 1 rfl rfl)
theorem dX2_waits_72 : decode cX2_waits 72 = .ok (.iload_n 1, 1) := dk_27 (dk_at dksX2_waits_3 2 rfl rfl)
theorem dX2_waits_73 : decode cX2_waits 73 = .ok (.iconst 1, 1) := dk_4 (dk_at dksX2_waits_3 3 rfl rfl)
theorem dX2_waits_74 : decode cX2_waits 74 = .ok (.iand, 1) := dk_126 (dk_at dksX2_waits_3 4 rfl rfl)
theorem dX2_waits_75 : decode cX2_waits 75 = .ok (.ifCond .eq 5, 3) := dk_153 0 5 (dk_at dksX2_waits_3 5 rfl rfl)
theorem dX2_waits_78 : decode cX2_waits 78 = .ok (.iconst 3, 1) := dk_6 (dk_at dksX2_waits_3 8 rfl rfl)
theorem dX2_waits_79 : decode cX2_waits 79 = .ok (.ireturn, 1) := dk_172 (dk_at dksX2_waits_3 9 rfl rfl)
theorem dX2_waits_80 : decode cX2_waits 80 = .ok (.iload_n 2, 1) := dk_28 (dk_at dksX2_waits_3 10 rfl rfl)
theorem dX2_waits_81 : decode cX2_waits 81 = .ok (.sipush 128, 3) := dk_17 0 128 (dk_at dksX2_waits_3 11 rfl rfl)
theorem dX2_waits_84 : decode cX2_waits 84 = .ok (.iand, 1) := dk_126 (dk_at dksX2_waits_3 14 rfl rfl)
theorem dX2_waits_85 : decode cX2_waits 85 = .ok (.ifCond .eq 5, 3) := dk_153 0 5 (dk_at dksX2_waits_3 15 rfl rfl)
theorem dX2_waits_88 : decode cX2_waits 88 = .ok (.iconst 4, 1) := dk_7 (dk_at dksX2_waits_3 18 rfl rfl)
theorem dX2_waits_89 : decode cX2_waits 89 = .ok (.ireturn, 1) := dk_172 (dk_at dksX2_waits_3 19 rfl rfl)
theorem dX2_waits_90 : decode cX2_waits 90 = .ok (.iload_n 2, 1) := dk_28 (dk_at dksX2_waits_3 20 rfl rfl)
theorem dX2_waits_91 : decode cX2_waits 91 = .ok (.bipush 32, 2) := dk_16 32 (dk_at dksX2_waits_3 21 rfl rfl)
theorem dX2_waits_93 : decode cX2_waits 93 = .ok (.iand, 1) := dk_126 (dk_at dksX2_waits_3 23 rfl rfl)
theorem dX2_waits_94 : decode cX2_waits 94 = .ok (.ifCond .eq 5, 3) := dk_153 0 5 (dk_at dksX2_waits_4 0 rfl rfl)
theorem dX2_waits_97 : decode cX2_waits 97 = .ok (.iconst 5, 1) := dk_8 (dk_at dksX2_waits_4 3 rfl rfl)
theorem dX2_waits_98 : decode cX2_waits 98 = .ok (.ireturn, 1) := dk_172 (dk_at dksX2_waits_4 4 rfl rfl)
theorem dX2_waits_99 : decode cX2_waits 99 = .ok (.iload_n 2, 1) := dk_28 (dk_at dksX2_waits_4 5 rfl rfl)
theorem dX2_waits_100 : decode cX2_waits 100 = .ok (.bipush 64, 2) := dk_16 64 (dk_at dksX2_waits_4 6 rfl rfl)
theorem dX2_waits_102 : decode cX2_waits 102 = .ok (.iand, 1) := dk_126 (dk_at dksX2_waits_4 8 rfl rfl)
theorem dX2_waits_103 : decode cX2_waits 103 = .ok (.ifCond .eq 6, 3) := dk_153 0 6 (dk_at dksX2_waits_4 9 rfl rfl)
theorem dX2_waits_106 : decode cX2_waits 106 = .ok (.bipush 6, 2) := dk_16 6 (dk_at dksX2_waits_4 12 rfl rfl)
theorem dX2_waits_108 : decode cX2_waits 108 = .ok (.ireturn, 1) := dk_172 (dk_at dksX2_waits_4 14 rfl rfl)
theorem dX2_waits_109 : decode cX2_waits 109 = .ok (.aload_n 0, 1) := dk_42 (dk_at dksX2_waits_4 15 rfl rfl)
theorem dX2_waits_110 : decode cX2_waits 110 = .ok (.getfield 9, 3) := dk_180 0 9 (dk_at dksX2_waits_4 16 rfl rfl)
theorem dX2_waits_113 : decode cX2_waits 113 = .ok (.bipush 63, 2) := dk_16 63 (dk_at dksX2_waits_4 19 rfl rfl)
theorem dX2_waits_115 : decode cX2_waits 115 = .ok (.iaload, 1) := dk_46 (dk_at dksX2_waits_4 21 rfl rfl)
theorem dX2_waits_116 : decode cX2_waits 116 = .ok (.bipush 8, 2) := dk_16 8 (dk_at dksX2_waits_4 22 rfl rfl)
theorem dX2_waits_118 : decode cX2_waits 118 = .ok (.iand, 1) := dk_126 (dk_at dksX2_waits_5 0 rfl rfl)
theorem dX2_waits_119 : decode cX2_waits 119 = .ok (.ifCond .eq 16, 3) := dk_153 0 16 (dk_at dksX2_waits_5 1 rfl rfl)
theorem dX2_waits_122 : decode cX2_waits 122 = .ok (.aload_n 0, 1) := dk_42 (dk_at dksX2_waits_5 4 rfl rfl)
theorem dX2_waits_123 : decode cX2_waits 123 = .ok (.getfield 47, 3) := dk_180 0 47 (dk_at dksX2_waits_5 5 rfl rfl)
theorem dX2_waits_126 : decode cX2_waits 126 = .ok (.getfield 151, 3) := dk_180 0 151 (dk_at dksX2_waits_5 8 rfl rfl)
theorem dX2_waits_129 : decode cX2_waits 129 = .ok (.ifCond .ne 6, 3) := dk_154 0 6 (dk_at dksX2_waits_5 11 rfl rfl)
theorem dX2_waits_132 : decode cX2_waits 132 = .ok (.bipush 7, 2) := dk_16 7 (dk_at dksX2_waits_5 14 rfl rfl)
theorem dX2_waits_134 : decode cX2_waits 134 = .ok (.ireturn, 1) := dk_172 (dk_at dksX2_waits_5 16 rfl rfl)
theorem dX2_waits_135 : decode cX2_waits 135 = .ok (.aload_n 0, 1) := dk_42 (dk_at dksX2_waits_5 17 rfl rfl)
theorem dX2_waits_136 : decode cX2_waits 136 = .ok (.getfield 9, 3) := dk_180 0 9 (dk_at dksX2_waits_5 18 rfl rfl)
theorem dX2_waits_139 : decode cX2_waits 139 = .ok (.bipush 87, 2) := dk_16 87 (dk_at dksX2_waits_5 21 rfl rfl)
theorem dX2_waits_141 : decode cX2_waits 141 = .ok (.iaload, 1) := dk_46 (dk_at dksX2_waits_5 23 rfl rfl)
theorem dX2_waits_142 : decode cX2_waits 142 = .ok (.sipush 129, 3) := dk_17 0 129 (dk_at dksX2_waits_6 0 rfl rfl)
theorem dX2_waits_145 : decode cX2_waits 145 = .ok (.iand, 1) := dk_126 (dk_at dksX2_waits_6 3 rfl rfl)
theorem dX2_waits_146 : decode cX2_waits 146 = .ok (.sipush 128, 3) := dk_17 0 128 (dk_at dksX2_waits_6 4 rfl rfl)
theorem dX2_waits_149 : decode cX2_waits 149 = .ok (.if_icmp .ne 8, 3) := dk_160 0 8 (dk_at dksX2_waits_6 7 rfl rfl)
theorem dX2_waits_152 : decode cX2_waits 152 = .ok (.bipush 8, 2) := dk_16 8 (dk_at dksX2_waits_6 10 rfl rfl)
theorem dX2_waits_154 : decode cX2_waits 154 = .ok (.goto 4, 3) := dk_167 0 4 (dk_at dksX2_waits_6 12 rfl rfl)
theorem dX2_waits_157 : decode cX2_waits 157 = .ok (.iconst 0, 1) := dk_3 (dk_at dksX2_waits_6 15 rfl rfl)
theorem dX2_waits_158 : decode cX2_waits 158 = .ok (.ireturn, 1) := dk_172 (dk_at dksX2_waits_6 16 rfl rfl)
abbrev cX2_is : ByteArray := prog_3_method_14_code
def yX2_is : MethodName := ⟨RX2, "is", "(I)Z"⟩
def dkwX2_is_0 : List UInt8 := [42, 180, 0, 9, 16, 95, 46, 27, 126, 153, 0, 7, 4, 167, 0, 4, 3, 172]
abbrev dktX2_is_0 : List UInt8 := dkwX2_is_0 ++ []
theorem dksX2_is_0 : cX2_is.data.toList.drop 0 = dktX2_is_0 := by decide +kernel
theorem dX2_is_0 : decode cX2_is 0 = .ok (.aload_n 0, 1) := dk_42 (dk_at dksX2_is_0 0 rfl rfl)
theorem dX2_is_1 : decode cX2_is 1 = .ok (.getfield 9, 3) := dk_180 0 9 (dk_at dksX2_is_0 1 rfl rfl)
theorem dX2_is_4 : decode cX2_is 4 = .ok (.bipush 95, 2) := dk_16 95 (dk_at dksX2_is_0 4 rfl rfl)
theorem dX2_is_6 : decode cX2_is 6 = .ok (.iaload, 1) := dk_46 (dk_at dksX2_is_0 6 rfl rfl)
theorem dX2_is_7 : decode cX2_is 7 = .ok (.iload_n 1, 1) := dk_27 (dk_at dksX2_is_0 7 rfl rfl)
theorem dX2_is_8 : decode cX2_is 8 = .ok (.iand, 1) := dk_126 (dk_at dksX2_is_0 8 rfl rfl)
theorem dX2_is_9 : decode cX2_is 9 = .ok (.ifCond .eq 7, 3) := dk_153 0 7 (dk_at dksX2_is_0 9 rfl rfl)
theorem dX2_is_12 : decode cX2_is 12 = .ok (.iconst 1, 1) := dk_4 (dk_at dksX2_is_0 12 rfl rfl)
theorem dX2_is_13 : decode cX2_is 13 = .ok (.goto 4, 3) := dk_167 0 4 (dk_at dksX2_is_0 13 rfl rfl)
theorem dX2_is_16 : decode cX2_is 16 = .ok (.iconst 0, 1) := dk_3 (dk_at dksX2_is_0 16 rfl rfl)
theorem dX2_is_17 : decode cX2_is 17 = .ok (.ireturn, 1) := dk_172 (dk_at dksX2_is_0 17 rfl rfl)
abbrev cX2_entry : ByteArray := prog_3_method_23_code
def yX2_entry : MethodName := ⟨RX2, "entry", "(I)V"⟩
def dkwX2_entry_5 : List UInt8 := [160, 0, 11, 42, 180, 0, 40, 3, 181, 0, 157, 42, 89, 180, 0, 160, 4, 96, 181, 0, 160, 177]
abbrev dktX2_entry_5 : List UInt8 := dkwX2_entry_5 ++ []
def dkwX2_entry_4 : List UInt8 := [126, 79, 27, 6, 160, 0, 15, 42, 180, 0, 9, 16, 53, 92, 46, 16, 254, 126, 79, 27, 16, 6]
abbrev dktX2_entry_4 : List UInt8 := dkwX2_entry_4 ++ dktX2_entry_5
def dkwX2_entry_3 : List UInt8 := [16, 63, 167, 0, 5, 16, 127, 126, 79, 27, 5, 160, 0, 15, 42, 180, 0, 9, 16, 53, 92, 46, 16, 253]
abbrev dktX2_entry_3 : List UInt8 := dkwX2_entry_3 ++ dktX2_entry_4
def dkwX2_entry_2 : List UInt8 := [160, 0, 33, 42, 180, 0, 9, 16, 96, 92, 46, 42, 180, 0, 9, 16, 96, 46, 16, 8, 126, 153, 0, 8]
abbrev dktX2_entry_2 : List UInt8 := dkwX2_entry_2 ++ dktX2_entry_3
def dkwX2_entry_1 : List UInt8 := [180, 0, 9, 16, 85, 46, 5, 126, 153, 0, 9, 17, 6, 0, 167, 0, 4, 3, 96, 182, 0, 125, 27, 4]
abbrev dktX2_entry_1 : List UInt8 := dkwX2_entry_1 ++ dktX2_entry_2
def dkwX2_entry_0 : List UInt8 := [42, 3, 181, 0, 93, 42, 182, 0, 154, 42, 17, 0, 128, 3, 182, 0, 128, 42, 5, 27, 104, 42]
abbrev dktX2_entry_0 : List UInt8 := dkwX2_entry_0 ++ dktX2_entry_1
theorem dksX2_entry_0 : cX2_entry.data.toList.drop 0 = dktX2_entry_0 := by decide +kernel
theorem dksX2_entry_1 : cX2_entry.data.toList.drop 22 = dktX2_entry_1 := dk_seg dksX2_entry_0 22 rfl rfl
theorem dksX2_entry_2 : cX2_entry.data.toList.drop 46 = dktX2_entry_2 := dk_seg dksX2_entry_1 24 rfl rfl
theorem dksX2_entry_3 : cX2_entry.data.toList.drop 70 = dktX2_entry_3 := dk_seg dksX2_entry_2 24 rfl rfl
theorem dksX2_entry_4 : cX2_entry.data.toList.drop 94 = dktX2_entry_4 := dk_seg dksX2_entry_3 24 rfl rfl
theorem dksX2_entry_5 : cX2_entry.data.toList.drop 116 = dktX2_entry_5 := dk_seg dksX2_entry_4 22 rfl rfl
theorem dX2_entry_0 : decode cX2_entry 0 = .ok (.aload_n 0, 1) := dk_42 (dk_at dksX2_entry_0 0 rfl rfl)
theorem dX2_entry_1 : decode cX2_entry 1 = .ok (.iconst 0, 1) := dk_3 (dk_at dksX2_entry_0 1 rfl rfl)
theorem dX2_entry_2 : decode cX2_entry 2 = .ok (.putfield 93, 3) := dk_181 0 93 (dk_at dksX2_entry_0 2 rfl rfl)
theorem dX2_entry_5 : decode cX2_entry 5 = .ok (.aload_n 0, 1) := dk_42 (dk_at dksX2_entry_0 5 rfl rfl)
theorem dX2_entry_6 : decode cX2_entry 6 = .ok (.invokevirtual 154, 3) := dk_182 0 154 (dk_at dksX2_entry_0 6 rfl rfl)
theorem dX2_entry_9 : decode cX2_entry 9 = .ok (.aload_n 0, 1) := dk_42 (dk_at dksX2_entry_0 9 rfl rfl)
theorem dX2_entry_10 : decode cX2_entry 10 = .ok (.sipush 128, 3) := dk_17 0 128 (dk_at dksX2_entry_0 10 rfl rfl)
theorem dX2_entry_13 : decode cX2_entry 13 = .ok (.iconst 0, 1) := dk_3 (dk_at dksX2_entry_0 13 rfl rfl)
theorem dX2_entry_14 : decode cX2_entry 14 = .ok (.invokevirtual 128, 3) := dk_182 0 128 (dk_at dksX2_entry_0 14 rfl rfl)
theorem dX2_entry_17 : decode cX2_entry 17 = .ok (.aload_n 0, 1) := dk_42 (dk_at dksX2_entry_0 17 rfl rfl)
theorem dX2_entry_18 : decode cX2_entry 18 = .ok (.iconst 2, 1) := dk_5 (dk_at dksX2_entry_0 18 rfl rfl)
theorem dX2_entry_19 : decode cX2_entry 19 = .ok (.iload_n 1, 1) := dk_27 (dk_at dksX2_entry_0 19 rfl rfl)
theorem dX2_entry_20 : decode cX2_entry 20 = .ok (.imul, 1) := dk_104 (dk_at dksX2_entry_0 20 rfl rfl)
theorem dX2_entry_21 : decode cX2_entry 21 = .ok (.aload_n 0, 1) := dk_42 (dk_at dksX2_entry_0 21 rfl rfl)
theorem dX2_entry_22 : decode cX2_entry 22 = .ok (.getfield 9, 3) := dk_180 0 9 (dk_at dksX2_entry_1 0 rfl rfl)
theorem dX2_entry_25 : decode cX2_entry 25 = .ok (.bipush 85, 2) := dk_16 85 (dk_at dksX2_entry_1 3 rfl rfl)
theorem dX2_entry_27 : decode cX2_entry 27 = .ok (.iaload, 1) := dk_46 (dk_at dksX2_entry_1 5 rfl rfl)
theorem dX2_entry_28 : decode cX2_entry 28 = .ok (.iconst 2, 1) := dk_5 (dk_at dksX2_entry_1 6 rfl rfl)
theorem dX2_entry_29 : decode cX2_entry 29 = .ok (.iand, 1) := dk_126 (dk_at dksX2_entry_1 7 rfl rfl)
theorem dX2_entry_30 : decode cX2_entry 30 = .ok (.ifCond .eq 9, 3) := dk_153 0 9 (dk_at dksX2_entry_1 8 rfl rfl)
theorem dX2_entry_33 : decode cX2_entry 33 = .ok (.sipush 1536, 3) := dk_17 6 0 (dk_at dksX2_entry_1 11 rfl rfl)
theorem dX2_entry_36 : decode cX2_entry 36 = .ok (.goto 4, 3) := dk_167 0 4 (dk_at dksX2_entry_1 14 rfl rfl)
theorem dX2_entry_39 : decode cX2_entry 39 = .ok (.iconst 0, 1) := dk_3 (dk_at dksX2_entry_1 17 rfl rfl)
theorem dX2_entry_40 : decode cX2_entry 40 = .ok (.iadd, 1) := dk_96 (dk_at dksX2_entry_1 18 rfl rfl)
theorem dX2_entry_41 : decode cX2_entry 41 = .ok (.invokevirtual 125, 3) := dk_182 0 125 (dk_at dksX2_entry_1 19 rfl rfl)
theorem dX2_entry_44 : decode cX2_entry 44 = .ok (.iload_n 1, 1) := dk_27 (dk_at dksX2_entry_1 22 rfl rfl)
theorem dX2_entry_45 : decode cX2_entry 45 = .ok (.iconst 1, 1) := dk_4 (dk_at dksX2_entry_1 23 rfl rfl)
theorem dX2_entry_46 : decode cX2_entry 46 = .ok (.if_icmp .ne 33, 3) := dk_160 0 33 (dk_at dksX2_entry_2 0 rfl rfl)
theorem dX2_entry_49 : decode cX2_entry 49 = .ok (.aload_n 0, 1) := dk_42 (dk_at dksX2_entry_2 3 rfl rfl)
theorem dX2_entry_50 : decode cX2_entry 50 = .ok (.getfield 9, 3) := dk_180 0 9 (dk_at dksX2_entry_2 4 rfl rfl)
theorem dX2_entry_53 : decode cX2_entry 53 = .ok (.bipush 96, 2) := dk_16 96 (dk_at dksX2_entry_2 7 rfl rfl)
theorem dX2_entry_55 : decode cX2_entry 55 = .ok (.dup2, 1) := dk_92 (dk_at dksX2_entry_2 9 rfl rfl)
theorem dX2_entry_56 : decode cX2_entry 56 = .ok (.iaload, 1) := dk_46 (dk_at dksX2_entry_2 10 rfl rfl)
theorem dX2_entry_57 : decode cX2_entry 57 = .ok (.aload_n 0, 1) := dk_42 (dk_at dksX2_entry_2 11 rfl rfl)
theorem dX2_entry_58 : decode cX2_entry 58 = .ok (.getfield 9, 3) := dk_180 0 9 (dk_at dksX2_entry_2 12 rfl rfl)
theorem dX2_entry_61 : decode cX2_entry 61 = .ok (.bipush 96, 2) := dk_16 96 (dk_at dksX2_entry_2 15 rfl rfl)
theorem dX2_entry_63 : decode cX2_entry 63 = .ok (.iaload, 1) := dk_46 (dk_at dksX2_entry_2 17 rfl rfl)
theorem dX2_entry_64 : decode cX2_entry 64 = .ok (.bipush 8, 2) := dk_16 8 (dk_at dksX2_entry_2 18 rfl rfl)
theorem dX2_entry_66 : decode cX2_entry 66 = .ok (.iand, 1) := dk_126 (dk_at dksX2_entry_2 20 rfl rfl)
theorem dX2_entry_67 : decode cX2_entry 67 = .ok (.ifCond .eq 8, 3) := dk_153 0 8 (dk_at dksX2_entry_2 21 rfl rfl)
theorem dX2_entry_70 : decode cX2_entry 70 = .ok (.bipush 63, 2) := dk_16 63 (dk_at dksX2_entry_3 0 rfl rfl)
theorem dX2_entry_72 : decode cX2_entry 72 = .ok (.goto 5, 3) := dk_167 0 5 (dk_at dksX2_entry_3 2 rfl rfl)
theorem dX2_entry_75 : decode cX2_entry 75 = .ok (.bipush 127, 2) := dk_16 127 (dk_at dksX2_entry_3 5 rfl rfl)
theorem dX2_entry_77 : decode cX2_entry 77 = .ok (.iand, 1) := dk_126 (dk_at dksX2_entry_3 7 rfl rfl)
theorem dX2_entry_78 : decode cX2_entry 78 = .ok (.iastore, 1) := dk_79 (dk_at dksX2_entry_3 8 rfl rfl)
theorem dX2_entry_79 : decode cX2_entry 79 = .ok (.iload_n 1, 1) := dk_27 (dk_at dksX2_entry_3 9 rfl rfl)
theorem dX2_entry_80 : decode cX2_entry 80 = .ok (.iconst 2, 1) := dk_5 (dk_at dksX2_entry_3 10 rfl rfl)
theorem dX2_entry_81 : decode cX2_entry 81 = .ok (.if_icmp .ne 15, 3) := dk_160 0 15 (dk_at dksX2_entry_3 11 rfl rfl)
theorem dX2_entry_84 : decode cX2_entry 84 = .ok (.aload_n 0, 1) := dk_42 (dk_at dksX2_entry_3 14 rfl rfl)
theorem dX2_entry_85 : decode cX2_entry 85 = .ok (.getfield 9, 3) := dk_180 0 9 (dk_at dksX2_entry_3 15 rfl rfl)
theorem dX2_entry_88 : decode cX2_entry 88 = .ok (.bipush 53, 2) := dk_16 53 (dk_at dksX2_entry_3 18 rfl rfl)
theorem dX2_entry_90 : decode cX2_entry 90 = .ok (.dup2, 1) := dk_92 (dk_at dksX2_entry_3 20 rfl rfl)
theorem dX2_entry_91 : decode cX2_entry 91 = .ok (.iaload, 1) := dk_46 (dk_at dksX2_entry_3 21 rfl rfl)
theorem dX2_entry_92 : decode cX2_entry 92 = .ok (.bipush (-3), 2) := dk_16 253 (dk_at dksX2_entry_3 22 rfl rfl)
theorem dX2_entry_94 : decode cX2_entry 94 = .ok (.iand, 1) := dk_126 (dk_at dksX2_entry_4 0 rfl rfl)
theorem dX2_entry_95 : decode cX2_entry 95 = .ok (.iastore, 1) := dk_79 (dk_at dksX2_entry_4 1 rfl rfl)
theorem dX2_entry_96 : decode cX2_entry 96 = .ok (.iload_n 1, 1) := dk_27 (dk_at dksX2_entry_4 2 rfl rfl)
theorem dX2_entry_97 : decode cX2_entry 97 = .ok (.iconst 3, 1) := dk_6 (dk_at dksX2_entry_4 3 rfl rfl)
theorem dX2_entry_98 : decode cX2_entry 98 = .ok (.if_icmp .ne 15, 3) := dk_160 0 15 (dk_at dksX2_entry_4 4 rfl rfl)
theorem dX2_entry_101 : decode cX2_entry 101 = .ok (.aload_n 0, 1) := dk_42 (dk_at dksX2_entry_4 7 rfl rfl)
theorem dX2_entry_102 : decode cX2_entry 102 = .ok (.getfield 9, 3) := dk_180 0 9 (dk_at dksX2_entry_4 8 rfl rfl)
theorem dX2_entry_105 : decode cX2_entry 105 = .ok (.bipush 53, 2) := dk_16 53 (dk_at dksX2_entry_4 11 rfl rfl)
theorem dX2_entry_107 : decode cX2_entry 107 = .ok (.dup2, 1) := dk_92 (dk_at dksX2_entry_4 13 rfl rfl)
theorem dX2_entry_108 : decode cX2_entry 108 = .ok (.iaload, 1) := dk_46 (dk_at dksX2_entry_4 14 rfl rfl)
theorem dX2_entry_109 : decode cX2_entry 109 = .ok (.bipush (-2), 2) := dk_16 254 (dk_at dksX2_entry_4 15 rfl rfl)
theorem dX2_entry_111 : decode cX2_entry 111 = .ok (.iand, 1) := dk_126 (dk_at dksX2_entry_4 17 rfl rfl)
theorem dX2_entry_112 : decode cX2_entry 112 = .ok (.iastore, 1) := dk_79 (dk_at dksX2_entry_4 18 rfl rfl)
theorem dX2_entry_113 : decode cX2_entry 113 = .ok (.iload_n 1, 1) := dk_27 (dk_at dksX2_entry_4 19 rfl rfl)
theorem dX2_entry_114 : decode cX2_entry 114 = .ok (.bipush 6, 2) := dk_16 6 (dk_at dksX2_entry_4 20 rfl rfl)
theorem dX2_entry_116 : decode cX2_entry 116 = .ok (.if_icmp .ne 11, 3) := dk_160 0 11 (dk_at dksX2_entry_5 0 rfl rfl)
theorem dX2_entry_119 : decode cX2_entry 119 = .ok (.aload_n 0, 1) := dk_42 (dk_at dksX2_entry_5 3 rfl rfl)
theorem dX2_entry_120 : decode cX2_entry 120 = .ok (.getfield 40, 3) := dk_180 0 40 (dk_at dksX2_entry_5 4 rfl rfl)
theorem dX2_entry_123 : decode cX2_entry 123 = .ok (.iconst 0, 1) := dk_3 (dk_at dksX2_entry_5 7 rfl rfl)
theorem dX2_entry_124 : decode cX2_entry 124 = .ok (.putfield 157, 3) := dk_181 0 157 (dk_at dksX2_entry_5 8 rfl rfl)
theorem dX2_entry_127 : decode cX2_entry 127 = .ok (.aload_n 0, 1) := dk_42 (dk_at dksX2_entry_5 11 rfl rfl)
theorem dX2_entry_128 : decode cX2_entry 128 = .ok (.dup, 1) := dk_89 (dk_at dksX2_entry_5 12 rfl rfl)
theorem dX2_entry_129 : decode cX2_entry 129 = .ok (.getfield 160, 3) := dk_180 0 160 (dk_at dksX2_entry_5 13 rfl rfl)
theorem dX2_entry_132 : decode cX2_entry 132 = .ok (.iconst 1, 1) := dk_4 (dk_at dksX2_entry_5 16 rfl rfl)
theorem dX2_entry_133 : decode cX2_entry 133 = .ok (.iadd, 1) := dk_96 (dk_at dksX2_entry_5 17 rfl rfl)
theorem dX2_entry_134 : decode cX2_entry 134 = .ok (.putfield 160, 3) := dk_181 0 160 (dk_at dksX2_entry_5 18 rfl rfl)
theorem dX2_entry_137 : decode cX2_entry 137 = .ok (.return_, 1) := dk_177 (dk_at dksX2_entry_5 21 rfl rfl)
abbrev cX2_pushPlace : ByteArray := prog_3_method_11_code
def yX2_pushPlace : MethodName := ⟨RX2, "pushPlace", "()V"⟩
def dkwX2_pushPlace_0 : List UInt8 := [42, 42, 180, 0, 90, 17, 0, 255, 126, 182, 0, 119, 42, 42, 180, 0, 90, 16, 8, 122, 182, 0, 119, 177]
abbrev dktX2_pushPlace_0 : List UInt8 := dkwX2_pushPlace_0 ++ []
theorem dksX2_pushPlace_0 : cX2_pushPlace.data.toList.drop 0 = dktX2_pushPlace_0 := by decide +kernel
theorem dX2_pushPlace_0 : decode cX2_pushPlace 0 = .ok (.aload_n 0, 1) := dk_42 (dk_at dksX2_pushPlace_0 0 rfl rfl)
theorem dX2_pushPlace_1 : decode cX2_pushPlace 1 = .ok (.aload_n 0, 1) := dk_42 (dk_at dksX2_pushPlace_0 1 rfl rfl)
theorem dX2_pushPlace_2 : decode cX2_pushPlace 2 = .ok (.getfield 90, 3) := dk_180 0 90 (dk_at dksX2_pushPlace_0 2 rfl rfl)
theorem dX2_pushPlace_5 : decode cX2_pushPlace 5 = .ok (.sipush 255, 3) := dk_17 0 255 (dk_at dksX2_pushPlace_0 5 rfl rfl)
theorem dX2_pushPlace_8 : decode cX2_pushPlace 8 = .ok (.iand, 1) := dk_126 (dk_at dksX2_pushPlace_0 8 rfl rfl)
theorem dX2_pushPlace_9 : decode cX2_pushPlace 9 = .ok (.invokevirtual 119, 3) := dk_182 0 119 (dk_at dksX2_pushPlace_0 9 rfl rfl)
theorem dX2_pushPlace_12 : decode cX2_pushPlace 12 = .ok (.aload_n 0, 1) := dk_42 (dk_at dksX2_pushPlace_0 12 rfl rfl)
theorem dX2_pushPlace_13 : decode cX2_pushPlace 13 = .ok (.aload_n 0, 1) := dk_42 (dk_at dksX2_pushPlace_0 13 rfl rfl)
theorem dX2_pushPlace_14 : decode cX2_pushPlace 14 = .ok (.getfield 90, 3) := dk_180 0 90 (dk_at dksX2_pushPlace_0 14 rfl rfl)
theorem dX2_pushPlace_17 : decode cX2_pushPlace 17 = .ok (.bipush 8, 2) := dk_16 8 (dk_at dksX2_pushPlace_0 17 rfl rfl)
theorem dX2_pushPlace_19 : decode cX2_pushPlace 19 = .ok (.ishr, 1) := dk_122 (dk_at dksX2_pushPlace_0 19 rfl rfl)
theorem dX2_pushPlace_20 : decode cX2_pushPlace 20 = .ok (.invokevirtual 119, 3) := dk_182 0 119 (dk_at dksX2_pushPlace_0 20 rfl rfl)
theorem dX2_pushPlace_23 : decode cX2_pushPlace 23 = .ok (.return_, 1) := dk_177 (dk_at dksX2_pushPlace_0 23 rfl rfl)
abbrev cX2_push : ByteArray := prog_3_method_9_code
def yX2_push : MethodName := ⟨RX2, "push", "(I)V"⟩
def dkwX2_push_0 : List UInt8 := [42, 182, 0, 110, 61, 42, 28, 27, 182, 0, 114, 42, 28, 4, 100, 182, 0, 115, 177]
abbrev dktX2_push_0 : List UInt8 := dkwX2_push_0 ++ []
theorem dksX2_push_0 : cX2_push.data.toList.drop 0 = dktX2_push_0 := by decide +kernel
theorem dX2_push_0 : decode cX2_push 0 = .ok (.aload_n 0, 1) := dk_42 (dk_at dksX2_push_0 0 rfl rfl)
theorem dX2_push_1 : decode cX2_push 1 = .ok (.invokevirtual 110, 3) := dk_182 0 110 (dk_at dksX2_push_0 1 rfl rfl)
theorem dX2_push_4 : decode cX2_push 4 = .ok (.istore_n 2, 1) := dk_61 (dk_at dksX2_push_0 4 rfl rfl)
theorem dX2_push_5 : decode cX2_push 5 = .ok (.aload_n 0, 1) := dk_42 (dk_at dksX2_push_0 5 rfl rfl)
theorem dX2_push_6 : decode cX2_push 6 = .ok (.iload_n 2, 1) := dk_28 (dk_at dksX2_push_0 6 rfl rfl)
theorem dX2_push_7 : decode cX2_push 7 = .ok (.iload_n 1, 1) := dk_27 (dk_at dksX2_push_0 7 rfl rfl)
theorem dX2_push_8 : decode cX2_push 8 = .ok (.invokevirtual 114, 3) := dk_182 0 114 (dk_at dksX2_push_0 8 rfl rfl)
theorem dX2_push_11 : decode cX2_push 11 = .ok (.aload_n 0, 1) := dk_42 (dk_at dksX2_push_0 11 rfl rfl)
theorem dX2_push_12 : decode cX2_push 12 = .ok (.iload_n 2, 1) := dk_28 (dk_at dksX2_push_0 12 rfl rfl)
theorem dX2_push_13 : decode cX2_push 13 = .ok (.iconst 1, 1) := dk_4 (dk_at dksX2_push_0 13 rfl rfl)
theorem dX2_push_14 : decode cX2_push 14 = .ok (.isub, 1) := dk_100 (dk_at dksX2_push_0 14 rfl rfl)
theorem dX2_push_15 : decode cX2_push 15 = .ok (.invokevirtual 115, 3) := dk_182 0 115 (dk_at dksX2_push_0 15 rfl rfl)
theorem dX2_push_18 : decode cX2_push 18 = .ok (.return_, 1) := dk_177 (dk_at dksX2_push_0 18 rfl rfl)
abbrev cX2_stack : ByteArray := prog_3_method_7_code
def yX2_stack : MethodName := ⟨RX2, "stack", "()I"⟩
def dkwX2_stack_0 : List UInt8 := [42, 180, 0, 9, 16, 94, 46, 16, 8, 120, 42, 180, 0, 9, 16, 93, 46, 128, 172]
abbrev dktX2_stack_0 : List UInt8 := dkwX2_stack_0 ++ []
theorem dksX2_stack_0 : cX2_stack.data.toList.drop 0 = dktX2_stack_0 := by decide +kernel
theorem dX2_stack_0 : decode cX2_stack 0 = .ok (.aload_n 0, 1) := dk_42 (dk_at dksX2_stack_0 0 rfl rfl)
theorem dX2_stack_1 : decode cX2_stack 1 = .ok (.getfield 9, 3) := dk_180 0 9 (dk_at dksX2_stack_0 1 rfl rfl)
theorem dX2_stack_4 : decode cX2_stack 4 = .ok (.bipush 94, 2) := dk_16 94 (dk_at dksX2_stack_0 4 rfl rfl)
theorem dX2_stack_6 : decode cX2_stack 6 = .ok (.iaload, 1) := dk_46 (dk_at dksX2_stack_0 6 rfl rfl)
theorem dX2_stack_7 : decode cX2_stack 7 = .ok (.bipush 8, 2) := dk_16 8 (dk_at dksX2_stack_0 7 rfl rfl)
theorem dX2_stack_9 : decode cX2_stack 9 = .ok (.ishl, 1) := dk_120 (dk_at dksX2_stack_0 9 rfl rfl)
theorem dX2_stack_10 : decode cX2_stack 10 = .ok (.aload_n 0, 1) := dk_42 (dk_at dksX2_stack_0 10 rfl rfl)
theorem dX2_stack_11 : decode cX2_stack 11 = .ok (.getfield 9, 3) := dk_180 0 9 (dk_at dksX2_stack_0 11 rfl rfl)
theorem dX2_stack_14 : decode cX2_stack 14 = .ok (.bipush 93, 2) := dk_16 93 (dk_at dksX2_stack_0 14 rfl rfl)
theorem dX2_stack_16 : decode cX2_stack 16 = .ok (.iaload, 1) := dk_46 (dk_at dksX2_stack_0 16 rfl rfl)
theorem dX2_stack_17 : decode cX2_stack 17 = .ok (.ior, 1) := dk_128 (dk_at dksX2_stack_0 17 rfl rfl)
theorem dX2_stack_18 : decode cX2_stack 18 = .ok (.ireturn, 1) := dk_172 (dk_at dksX2_stack_0 18 rfl rfl)
abbrev cX2_store : ByteArray := prog_3_method_4_code
def yX2_store : MethodName := ⟨RX2, "store", "(II)V"⟩
def dkwX2_store_2 : List UInt8 := [50, 27, 28, 17, 0, 255, 126, 182, 0, 106, 177]
abbrev dktX2_store_2 : List UInt8 := dkwX2_store_2 ++ []
def dkwX2_store_1 : List UInt8 := [27, 28, 17, 0, 255, 126, 79, 167, 0, 27, 42, 180, 0, 17, 27, 50, 198, 0, 18, 42, 180, 0, 17, 27]
abbrev dktX2_store_1 : List UInt8 := dkwX2_store_1 ++ dktX2_store_2
def dkwX2_store_0 : List UInt8 := [27, 16, 32, 161, 0, 10, 27, 17, 1, 0, 161, 0, 24, 27, 17, 5, 0, 162, 0, 41, 42, 180, 0, 9]
abbrev dktX2_store_0 : List UInt8 := dkwX2_store_0 ++ dktX2_store_1
theorem dksX2_store_0 : cX2_store.data.toList.drop 0 = dktX2_store_0 := by decide +kernel
theorem dksX2_store_1 : cX2_store.data.toList.drop 24 = dktX2_store_1 := dk_seg dksX2_store_0 24 rfl rfl
theorem dksX2_store_2 : cX2_store.data.toList.drop 48 = dktX2_store_2 := dk_seg dksX2_store_1 24 rfl rfl
theorem dX2_store_0 : decode cX2_store 0 = .ok (.iload_n 1, 1) := dk_27 (dk_at dksX2_store_0 0 rfl rfl)
theorem dX2_store_1 : decode cX2_store 1 = .ok (.bipush 32, 2) := dk_16 32 (dk_at dksX2_store_0 1 rfl rfl)
theorem dX2_store_3 : decode cX2_store 3 = .ok (.if_icmp .lt 10, 3) := dk_161 0 10 (dk_at dksX2_store_0 3 rfl rfl)
theorem dX2_store_6 : decode cX2_store 6 = .ok (.iload_n 1, 1) := dk_27 (dk_at dksX2_store_0 6 rfl rfl)
theorem dX2_store_7 : decode cX2_store 7 = .ok (.sipush 256, 3) := dk_17 1 0 (dk_at dksX2_store_0 7 rfl rfl)
theorem dX2_store_10 : decode cX2_store 10 = .ok (.if_icmp .lt 24, 3) := dk_161 0 24 (dk_at dksX2_store_0 10 rfl rfl)
theorem dX2_store_13 : decode cX2_store 13 = .ok (.iload_n 1, 1) := dk_27 (dk_at dksX2_store_0 13 rfl rfl)
theorem dX2_store_14 : decode cX2_store 14 = .ok (.sipush 1280, 3) := dk_17 5 0 (dk_at dksX2_store_0 14 rfl rfl)
theorem dX2_store_17 : decode cX2_store 17 = .ok (.if_icmp .ge 41, 3) := dk_162 0 41 (dk_at dksX2_store_0 17 rfl rfl)
theorem dX2_store_20 : decode cX2_store 20 = .ok (.aload_n 0, 1) := dk_42 (dk_at dksX2_store_0 20 rfl rfl)
theorem dX2_store_21 : decode cX2_store 21 = .ok (.getfield 9, 3) := dk_180 0 9 (dk_at dksX2_store_0 21 rfl rfl)
theorem dX2_store_24 : decode cX2_store 24 = .ok (.iload_n 1, 1) := dk_27 (dk_at dksX2_store_1 0 rfl rfl)
theorem dX2_store_25 : decode cX2_store 25 = .ok (.iload_n 2, 1) := dk_28 (dk_at dksX2_store_1 1 rfl rfl)
theorem dX2_store_26 : decode cX2_store 26 = .ok (.sipush 255, 3) := dk_17 0 255 (dk_at dksX2_store_1 2 rfl rfl)
theorem dX2_store_29 : decode cX2_store 29 = .ok (.iand, 1) := dk_126 (dk_at dksX2_store_1 5 rfl rfl)
theorem dX2_store_30 : decode cX2_store 30 = .ok (.iastore, 1) := dk_79 (dk_at dksX2_store_1 6 rfl rfl)
theorem dX2_store_31 : decode cX2_store 31 = .ok (.goto 27, 3) := dk_167 0 27 (dk_at dksX2_store_1 7 rfl rfl)
theorem dX2_store_34 : decode cX2_store 34 = .ok (.aload_n 0, 1) := dk_42 (dk_at dksX2_store_1 10 rfl rfl)
theorem dX2_store_35 : decode cX2_store 35 = .ok (.getfield 17, 3) := dk_180 0 17 (dk_at dksX2_store_1 11 rfl rfl)
theorem dX2_store_38 : decode cX2_store 38 = .ok (.iload_n 1, 1) := dk_27 (dk_at dksX2_store_1 14 rfl rfl)
theorem dX2_store_39 : decode cX2_store 39 = .ok (.aaload, 1) := dk_50 (dk_at dksX2_store_1 15 rfl rfl)
theorem dX2_store_40 : decode cX2_store 40 = .ok (.ifnull 18, 3) := dk_198 0 18 (dk_at dksX2_store_1 16 rfl rfl)
theorem dX2_store_43 : decode cX2_store 43 = .ok (.aload_n 0, 1) := dk_42 (dk_at dksX2_store_1 19 rfl rfl)
theorem dX2_store_44 : decode cX2_store 44 = .ok (.getfield 17, 3) := dk_180 0 17 (dk_at dksX2_store_1 20 rfl rfl)
theorem dX2_store_47 : decode cX2_store 47 = .ok (.iload_n 1, 1) := dk_27 (dk_at dksX2_store_1 23 rfl rfl)
theorem dX2_store_48 : decode cX2_store 48 = .ok (.aaload, 1) := dk_50 (dk_at dksX2_store_2 0 rfl rfl)
theorem dX2_store_49 : decode cX2_store 49 = .ok (.iload_n 1, 1) := dk_27 (dk_at dksX2_store_2 1 rfl rfl)
theorem dX2_store_50 : decode cX2_store 50 = .ok (.iload_n 2, 1) := dk_28 (dk_at dksX2_store_2 2 rfl rfl)
theorem dX2_store_51 : decode cX2_store 51 = .ok (.sipush 255, 3) := dk_17 0 255 (dk_at dksX2_store_2 3 rfl rfl)
theorem dX2_store_54 : decode cX2_store 54 = .ok (.iand, 1) := dk_126 (dk_at dksX2_store_2 6 rfl rfl)
theorem dX2_store_55 : decode cX2_store 55 = .ok (.invokevirtual 106, 3) := dk_182 0 106 (dk_at dksX2_store_2 7 rfl rfl)
theorem dX2_store_58 : decode cX2_store 58 = .ok (.return_, 1) := dk_177 (dk_at dksX2_store_2 10 rfl rfl)
abbrev cX2_toStack : ByteArray := prog_3_method_8_code
def yX2_toStack : MethodName := ⟨RX2, "toStack", "(I)V"⟩
def dkwX2_toStack_1 : List UInt8 := [17, 0, 255, 126, 79, 177]
abbrev dktX2_toStack_1 : List UInt8 := dkwX2_toStack_1 ++ []
def dkwX2_toStack_0 : List UInt8 := [42, 180, 0, 9, 16, 93, 27, 17, 0, 255, 126, 79, 42, 180, 0, 9, 16, 94, 27, 16, 8, 122]
abbrev dktX2_toStack_0 : List UInt8 := dkwX2_toStack_0 ++ dktX2_toStack_1
theorem dksX2_toStack_0 : cX2_toStack.data.toList.drop 0 = dktX2_toStack_0 := by decide +kernel
theorem dksX2_toStack_1 : cX2_toStack.data.toList.drop 22 = dktX2_toStack_1 := dk_seg dksX2_toStack_0 22 rfl rfl
theorem dX2_toStack_0 : decode cX2_toStack 0 = .ok (.aload_n 0, 1) := dk_42 (dk_at dksX2_toStack_0 0 rfl rfl)
theorem dX2_toStack_1 : decode cX2_toStack 1 = .ok (.getfield 9, 3) := dk_180 0 9 (dk_at dksX2_toStack_0 1 rfl rfl)
theorem dX2_toStack_4 : decode cX2_toStack 4 = .ok (.bipush 93, 2) := dk_16 93 (dk_at dksX2_toStack_0 4 rfl rfl)
theorem dX2_toStack_6 : decode cX2_toStack 6 = .ok (.iload_n 1, 1) := dk_27 (dk_at dksX2_toStack_0 6 rfl rfl)
theorem dX2_toStack_7 : decode cX2_toStack 7 = .ok (.sipush 255, 3) := dk_17 0 255 (dk_at dksX2_toStack_0 7 rfl rfl)
theorem dX2_toStack_10 : decode cX2_toStack 10 = .ok (.iand, 1) := dk_126 (dk_at dksX2_toStack_0 10 rfl rfl)
theorem dX2_toStack_11 : decode cX2_toStack 11 = .ok (.iastore, 1) := dk_79 (dk_at dksX2_toStack_0 11 rfl rfl)
theorem dX2_toStack_12 : decode cX2_toStack 12 = .ok (.aload_n 0, 1) := dk_42 (dk_at dksX2_toStack_0 12 rfl rfl)
theorem dX2_toStack_13 : decode cX2_toStack 13 = .ok (.getfield 9, 3) := dk_180 0 9 (dk_at dksX2_toStack_0 13 rfl rfl)
theorem dX2_toStack_16 : decode cX2_toStack 16 = .ok (.bipush 94, 2) := dk_16 94 (dk_at dksX2_toStack_0 16 rfl rfl)
theorem dX2_toStack_18 : decode cX2_toStack 18 = .ok (.iload_n 1, 1) := dk_27 (dk_at dksX2_toStack_0 18 rfl rfl)
theorem dX2_toStack_19 : decode cX2_toStack 19 = .ok (.bipush 8, 2) := dk_16 8 (dk_at dksX2_toStack_0 19 rfl rfl)
theorem dX2_toStack_21 : decode cX2_toStack 21 = .ok (.ishr, 1) := dk_122 (dk_at dksX2_toStack_0 21 rfl rfl)
theorem dX2_toStack_22 : decode cX2_toStack 22 = .ok (.sipush 255, 3) := dk_17 0 255 (dk_at dksX2_toStack_1 0 rfl rfl)
theorem dX2_toStack_25 : decode cX2_toStack 25 = .ok (.iand, 1) := dk_126 (dk_at dksX2_toStack_1 3 rfl rfl)
theorem dX2_toStack_26 : decode cX2_toStack 26 = .ok (.iastore, 1) := dk_79 (dk_at dksX2_toStack_1 4 rfl rfl)
theorem dX2_toStack_27 : decode cX2_toStack 27 = .ok (.return_, 1) := dk_177 (dk_at dksX2_toStack_1 5 rfl rfl)
abbrev cX2_set : ByteArray := prog_3_method_15_code
def yX2_set : MethodName := ⟨RX2, "set", "(IZ)V"⟩
def dkwX2_set_1 : List UInt8 := [180, 0, 9, 16, 95, 46, 27, 2, 130, 126, 79, 177]
abbrev dktX2_set_1 : List UInt8 := dkwX2_set_1 ++ []
def dkwX2_set_0 : List UInt8 := [42, 180, 0, 9, 16, 95, 28, 153, 0, 15, 42, 180, 0, 9, 16, 95, 46, 27, 128, 167, 0, 14, 42]
abbrev dktX2_set_0 : List UInt8 := dkwX2_set_0 ++ dktX2_set_1
theorem dksX2_set_0 : cX2_set.data.toList.drop 0 = dktX2_set_0 := by decide +kernel
theorem dksX2_set_1 : cX2_set.data.toList.drop 23 = dktX2_set_1 := dk_seg dksX2_set_0 23 rfl rfl
theorem dX2_set_0 : decode cX2_set 0 = .ok (.aload_n 0, 1) := dk_42 (dk_at dksX2_set_0 0 rfl rfl)
theorem dX2_set_1 : decode cX2_set 1 = .ok (.getfield 9, 3) := dk_180 0 9 (dk_at dksX2_set_0 1 rfl rfl)
theorem dX2_set_4 : decode cX2_set 4 = .ok (.bipush 95, 2) := dk_16 95 (dk_at dksX2_set_0 4 rfl rfl)
theorem dX2_set_6 : decode cX2_set 6 = .ok (.iload_n 2, 1) := dk_28 (dk_at dksX2_set_0 6 rfl rfl)
theorem dX2_set_7 : decode cX2_set 7 = .ok (.ifCond .eq 15, 3) := dk_153 0 15 (dk_at dksX2_set_0 7 rfl rfl)
theorem dX2_set_10 : decode cX2_set 10 = .ok (.aload_n 0, 1) := dk_42 (dk_at dksX2_set_0 10 rfl rfl)
theorem dX2_set_11 : decode cX2_set 11 = .ok (.getfield 9, 3) := dk_180 0 9 (dk_at dksX2_set_0 11 rfl rfl)
theorem dX2_set_14 : decode cX2_set 14 = .ok (.bipush 95, 2) := dk_16 95 (dk_at dksX2_set_0 14 rfl rfl)
theorem dX2_set_16 : decode cX2_set 16 = .ok (.iaload, 1) := dk_46 (dk_at dksX2_set_0 16 rfl rfl)
theorem dX2_set_17 : decode cX2_set 17 = .ok (.iload_n 1, 1) := dk_27 (dk_at dksX2_set_0 17 rfl rfl)
theorem dX2_set_18 : decode cX2_set 18 = .ok (.ior, 1) := dk_128 (dk_at dksX2_set_0 18 rfl rfl)
theorem dX2_set_19 : decode cX2_set 19 = .ok (.goto 14, 3) := dk_167 0 14 (dk_at dksX2_set_0 19 rfl rfl)
theorem dX2_set_22 : decode cX2_set 22 = .ok (.aload_n 0, 1) := dk_42 (dk_at dksX2_set_0 22 rfl rfl)
theorem dX2_set_23 : decode cX2_set 23 = .ok (.getfield 9, 3) := dk_180 0 9 (dk_at dksX2_set_1 0 rfl rfl)
theorem dX2_set_26 : decode cX2_set 26 = .ok (.bipush 95, 2) := dk_16 95 (dk_at dksX2_set_1 3 rfl rfl)
theorem dX2_set_28 : decode cX2_set 28 = .ok (.iaload, 1) := dk_46 (dk_at dksX2_set_1 5 rfl rfl)
theorem dX2_set_29 : decode cX2_set 29 = .ok (.iload_n 1, 1) := dk_27 (dk_at dksX2_set_1 6 rfl rfl)
theorem dX2_set_30 : decode cX2_set 30 = .ok (.iconst (-1), 1) := dk_2 (dk_at dksX2_set_1 7 rfl rfl)
theorem dX2_set_31 : decode cX2_set 31 = .ok (.ixor, 1) := dk_130 (dk_at dksX2_set_1 8 rfl rfl)
theorem dX2_set_32 : decode cX2_set 32 = .ok (.iand, 1) := dk_126 (dk_at dksX2_set_1 9 rfl rfl)
theorem dX2_set_33 : decode cX2_set 33 = .ok (.iastore, 1) := dk_79 (dk_at dksX2_set_1 10 rfl rfl)
theorem dX2_set_34 : decode cX2_set 34 = .ok (.return_, 1) := dk_177 (dk_at dksX2_set_1 11 rfl rfl)
abbrev cX2_go : ByteArray := prog_3_method_13_code
def yX2_go : MethodName := ⟨RX2, "go", "(I)V"⟩
def dkwX2_go_0 : List UInt8 := [42, 27, 17, 7, 255, 126, 181, 0, 90, 177]
abbrev dktX2_go_0 : List UInt8 := dkwX2_go_0 ++ []
theorem dksX2_go_0 : cX2_go.data.toList.drop 0 = dktX2_go_0 := by decide +kernel
theorem dX2_go_0 : decode cX2_go 0 = .ok (.aload_n 0, 1) := dk_42 (dk_at dksX2_go_0 0 rfl rfl)
theorem dX2_go_1 : decode cX2_go 1 = .ok (.iload_n 1, 1) := dk_27 (dk_at dksX2_go_0 1 rfl rfl)
theorem dX2_go_2 : decode cX2_go 2 = .ok (.sipush 2047, 3) := dk_17 7 255 (dk_at dksX2_go_0 2 rfl rfl)
theorem dX2_go_5 : decode cX2_go 5 = .ok (.iand, 1) := dk_126 (dk_at dksX2_go_0 5 rfl rfl)
theorem dX2_go_6 : decode cX2_go 6 = .ok (.putfield 90, 3) := dk_181 0 90 (dk_at dksX2_go_0 6 rfl rfl)
theorem dX2_go_9 : decode cX2_go 9 = .ok (.return_, 1) := dk_177 (dk_at dksX2_go_0 9 rfl rfl)
abbrev cX2_instruction : ByteArray := prog_3_method_29_code
def yX2_instruction : MethodName := ⟨RX2, "instruction", "()I"⟩
def dkwX2_instruction_6 : List UInt8 := [16, 13, 160, 0, 7, 6, 167, 0, 4, 5, 172, 42, 28, 182, 0, 227, 172, 42, 28, 182, 0, 230, 172]
abbrev dktX2_instruction_6 : List UInt8 := dkwX2_instruction_6 ++ []
def dkwX2_instruction_5 : List UInt8 := [42, 180, 0, 90, 28, 17, 15, 255, 126, 16, 20, 120, 16, 20, 122, 96, 182, 0, 125, 28, 16, 12, 122]
abbrev dktX2_instruction_5 : List UInt8 := dkwX2_instruction_5 ++ dktX2_instruction_6
def dkwX2_instruction_4 : List UInt8 := [182, 0, 220, 172, 42, 28, 182, 0, 224, 172, 28, 16, 12, 122, 16, 13, 160, 0, 7, 42, 182, 0, 154, 42]
abbrev dktX2_instruction_4 : List UInt8 := dkwX2_instruction_4 ++ dktX2_instruction_5
def dkwX2_instruction_3 : List UInt8 := [182, 0, 214, 172, 42, 28, 182, 0, 217, 172, 42, 28, 27, 17, 6, 0, 161, 0, 7, 4, 167, 0, 4, 3]
abbrev dktX2_instruction_3 : List UInt8 := dkwX2_instruction_3 ++ dktX2_instruction_4
def dkwX2_instruction_2 : List UInt8 := [28, 17, 4, 0, 162, 0, 11, 42, 28, 182, 0, 211, 167, 0, 8, 42, 28, 182, 0, 214, 172, 42, 28]
abbrev dktX2_instruction_2 : List UInt8 := dkwX2_instruction_2 ++ dktX2_instruction_3
def dkwX2_instruction_1 : List UInt8 := [170, 0, 0, 0, 0, 189, 0, 0, 0, 0, 0, 0, 0, 15, 0, 0, 0, 78, 0, 0, 0, 99, 0, 0, 0, 99, 0, 0, 0, 189, 0, 0, 0, 189, 0, 0, 0, 189, 0, 0, 0, 189, 0, 0, 0, 189, 0, 0, 0, 105, 0, 0, 0, 111, 0, 0, 0, 105, 0, 0, 0, 129, 0, 0, 0, 135, 0, 0, 0, 135, 0, 0, 0, 189, 0, 0, 0, 183]
abbrev dktX2_instruction_1 : List UInt8 := dkwX2_instruction_1 ++ dktX2_instruction_2
def dkwX2_instruction_0 : List UInt8 := [42, 180, 0, 90, 60, 42, 182, 0, 205, 61, 28, 16, 12, 122]
abbrev dktX2_instruction_0 : List UInt8 := dkwX2_instruction_0 ++ dktX2_instruction_1
theorem dksX2_instruction_0 : cX2_instruction.data.toList.drop 0 = dktX2_instruction_0 := by decide +kernel
theorem dksX2_instruction_1 : cX2_instruction.data.toList.drop 14 = dktX2_instruction_1 := dk_seg dksX2_instruction_0 14 rfl rfl
theorem dksX2_instruction_2 : cX2_instruction.data.toList.drop 92 = dktX2_instruction_2 := dk_seg dksX2_instruction_1 78 rfl rfl
theorem dksX2_instruction_3 : cX2_instruction.data.toList.drop 115 = dktX2_instruction_3 := dk_seg dksX2_instruction_2 23 rfl rfl
theorem dksX2_instruction_4 : cX2_instruction.data.toList.drop 139 = dktX2_instruction_4 := dk_seg dksX2_instruction_3 24 rfl rfl
theorem dksX2_instruction_5 : cX2_instruction.data.toList.drop 163 = dktX2_instruction_5 := dk_seg dksX2_instruction_4 24 rfl rfl
theorem dksX2_instruction_6 : cX2_instruction.data.toList.drop 186 = dktX2_instruction_6 := dk_seg dksX2_instruction_5 23 rfl rfl
theorem dX2_instruction_0 : decode cX2_instruction 0 = .ok (.aload_n 0, 1) := dk_42 (dk_at dksX2_instruction_0 0 rfl rfl)
theorem dX2_instruction_1 : decode cX2_instruction 1 = .ok (.getfield 90, 3) := dk_180 0 90 (dk_at dksX2_instruction_0 1 rfl rfl)
theorem dX2_instruction_4 : decode cX2_instruction 4 = .ok (.istore_n 1, 1) := dk_60 (dk_at dksX2_instruction_0 4 rfl rfl)
theorem dX2_instruction_5 : decode cX2_instruction 5 = .ok (.aload_n 0, 1) := dk_42 (dk_at dksX2_instruction_0 5 rfl rfl)
theorem dX2_instruction_6 : decode cX2_instruction 6 = .ok (.invokevirtual 205, 3) := dk_182 0 205 (dk_at dksX2_instruction_0 6 rfl rfl)
theorem dX2_instruction_9 : decode cX2_instruction 9 = .ok (.istore_n 2, 1) := dk_61 (dk_at dksX2_instruction_0 9 rfl rfl)
theorem dX2_instruction_10 : decode cX2_instruction 10 = .ok (.iload_n 2, 1) := dk_28 (dk_at dksX2_instruction_0 10 rfl rfl)
theorem dX2_instruction_11 : decode cX2_instruction 11 = .ok (.bipush 12, 2) := dk_16 12 (dk_at dksX2_instruction_0 11 rfl rfl)
theorem dX2_instruction_13 : decode cX2_instruction 13 = .ok (.ishr, 1) := dk_122 (dk_at dksX2_instruction_0 13 rfl rfl)
theorem dX2_instruction_14 : decode cX2_instruction 14 = .ok (.tableswitch 189 0 15 #[78, 99, 99, 189, 189, 189, 189, 189, 105, 111, 105, 129, 135, 135, 189, 183], 78) := by decide +kernel
theorem dX2_instruction_92 : decode cX2_instruction 92 = .ok (.iload_n 2, 1) := dk_28 (dk_at dksX2_instruction_2 0 rfl rfl)
theorem dX2_instruction_93 : decode cX2_instruction 93 = .ok (.sipush 1024, 3) := dk_17 4 0 (dk_at dksX2_instruction_2 1 rfl rfl)
theorem dX2_instruction_96 : decode cX2_instruction 96 = .ok (.if_icmp .ge 11, 3) := dk_162 0 11 (dk_at dksX2_instruction_2 4 rfl rfl)
theorem dX2_instruction_99 : decode cX2_instruction 99 = .ok (.aload_n 0, 1) := dk_42 (dk_at dksX2_instruction_2 7 rfl rfl)
theorem dX2_instruction_100 : decode cX2_instruction 100 = .ok (.iload_n 2, 1) := dk_28 (dk_at dksX2_instruction_2 8 rfl rfl)
theorem dX2_instruction_101 : decode cX2_instruction 101 = .ok (.invokevirtual 211, 3) := dk_182 0 211 (dk_at dksX2_instruction_2 9 rfl rfl)
theorem dX2_instruction_104 : decode cX2_instruction 104 = .ok (.goto 8, 3) := dk_167 0 8 (dk_at dksX2_instruction_2 12 rfl rfl)
theorem dX2_instruction_107 : decode cX2_instruction 107 = .ok (.aload_n 0, 1) := dk_42 (dk_at dksX2_instruction_2 15 rfl rfl)
theorem dX2_instruction_108 : decode cX2_instruction 108 = .ok (.iload_n 2, 1) := dk_28 (dk_at dksX2_instruction_2 16 rfl rfl)
theorem dX2_instruction_109 : decode cX2_instruction 109 = .ok (.invokevirtual 214, 3) := dk_182 0 214 (dk_at dksX2_instruction_2 17 rfl rfl)
theorem dX2_instruction_112 : decode cX2_instruction 112 = .ok (.ireturn, 1) := dk_172 (dk_at dksX2_instruction_2 20 rfl rfl)
theorem dX2_instruction_113 : decode cX2_instruction 113 = .ok (.aload_n 0, 1) := dk_42 (dk_at dksX2_instruction_2 21 rfl rfl)
theorem dX2_instruction_114 : decode cX2_instruction 114 = .ok (.iload_n 2, 1) := dk_28 (dk_at dksX2_instruction_2 22 rfl rfl)
theorem dX2_instruction_115 : decode cX2_instruction 115 = .ok (.invokevirtual 214, 3) := dk_182 0 214 (dk_at dksX2_instruction_3 0 rfl rfl)
theorem dX2_instruction_118 : decode cX2_instruction 118 = .ok (.ireturn, 1) := dk_172 (dk_at dksX2_instruction_3 3 rfl rfl)
theorem dX2_instruction_119 : decode cX2_instruction 119 = .ok (.aload_n 0, 1) := dk_42 (dk_at dksX2_instruction_3 4 rfl rfl)
theorem dX2_instruction_120 : decode cX2_instruction 120 = .ok (.iload_n 2, 1) := dk_28 (dk_at dksX2_instruction_3 5 rfl rfl)
theorem dX2_instruction_121 : decode cX2_instruction 121 = .ok (.invokevirtual 217, 3) := dk_182 0 217 (dk_at dksX2_instruction_3 6 rfl rfl)
theorem dX2_instruction_124 : decode cX2_instruction 124 = .ok (.ireturn, 1) := dk_172 (dk_at dksX2_instruction_3 9 rfl rfl)
theorem dX2_instruction_125 : decode cX2_instruction 125 = .ok (.aload_n 0, 1) := dk_42 (dk_at dksX2_instruction_3 10 rfl rfl)
theorem dX2_instruction_126 : decode cX2_instruction 126 = .ok (.iload_n 2, 1) := dk_28 (dk_at dksX2_instruction_3 11 rfl rfl)
theorem dX2_instruction_127 : decode cX2_instruction 127 = .ok (.iload_n 1, 1) := dk_27 (dk_at dksX2_instruction_3 12 rfl rfl)
theorem dX2_instruction_128 : decode cX2_instruction 128 = .ok (.sipush 1536, 3) := dk_17 6 0 (dk_at dksX2_instruction_3 13 rfl rfl)
theorem dX2_instruction_131 : decode cX2_instruction 131 = .ok (.if_icmp .lt 7, 3) := dk_161 0 7 (dk_at dksX2_instruction_3 16 rfl rfl)
theorem dX2_instruction_134 : decode cX2_instruction 134 = .ok (.iconst 1, 1) := dk_4 (dk_at dksX2_instruction_3 19 rfl rfl)
theorem dX2_instruction_135 : decode cX2_instruction 135 = .ok (.goto 4, 3) := dk_167 0 4 (dk_at dksX2_instruction_3 20 rfl rfl)
theorem dX2_instruction_138 : decode cX2_instruction 138 = .ok (.iconst 0, 1) := dk_3 (dk_at dksX2_instruction_3 23 rfl rfl)
theorem dX2_instruction_139 : decode cX2_instruction 139 = .ok (.invokevirtual 220, 3) := dk_182 0 220 (dk_at dksX2_instruction_4 0 rfl rfl)
theorem dX2_instruction_142 : decode cX2_instruction 142 = .ok (.ireturn, 1) := dk_172 (dk_at dksX2_instruction_4 3 rfl rfl)
theorem dX2_instruction_143 : decode cX2_instruction 143 = .ok (.aload_n 0, 1) := dk_42 (dk_at dksX2_instruction_4 4 rfl rfl)
theorem dX2_instruction_144 : decode cX2_instruction 144 = .ok (.iload_n 2, 1) := dk_28 (dk_at dksX2_instruction_4 5 rfl rfl)
theorem dX2_instruction_145 : decode cX2_instruction 145 = .ok (.invokevirtual 224, 3) := dk_182 0 224 (dk_at dksX2_instruction_4 6 rfl rfl)
theorem dX2_instruction_148 : decode cX2_instruction 148 = .ok (.ireturn, 1) := dk_172 (dk_at dksX2_instruction_4 9 rfl rfl)
theorem dX2_instruction_149 : decode cX2_instruction 149 = .ok (.iload_n 2, 1) := dk_28 (dk_at dksX2_instruction_4 10 rfl rfl)
theorem dX2_instruction_150 : decode cX2_instruction 150 = .ok (.bipush 12, 2) := dk_16 12 (dk_at dksX2_instruction_4 11 rfl rfl)
theorem dX2_instruction_152 : decode cX2_instruction 152 = .ok (.ishr, 1) := dk_122 (dk_at dksX2_instruction_4 13 rfl rfl)
theorem dX2_instruction_153 : decode cX2_instruction 153 = .ok (.bipush 13, 2) := dk_16 13 (dk_at dksX2_instruction_4 14 rfl rfl)
theorem dX2_instruction_155 : decode cX2_instruction 155 = .ok (.if_icmp .ne 7, 3) := dk_160 0 7 (dk_at dksX2_instruction_4 16 rfl rfl)
theorem dX2_instruction_158 : decode cX2_instruction 158 = .ok (.aload_n 0, 1) := dk_42 (dk_at dksX2_instruction_4 19 rfl rfl)
theorem dX2_instruction_159 : decode cX2_instruction 159 = .ok (.invokevirtual 154, 3) := dk_182 0 154 (dk_at dksX2_instruction_4 20 rfl rfl)
theorem dX2_instruction_162 : decode cX2_instruction 162 = .ok (.aload_n 0, 1) := dk_42 (dk_at dksX2_instruction_4 23 rfl rfl)
theorem dX2_instruction_163 : decode cX2_instruction 163 = .ok (.aload_n 0, 1) := dk_42 (dk_at dksX2_instruction_5 0 rfl rfl)
theorem dX2_instruction_164 : decode cX2_instruction 164 = .ok (.getfield 90, 3) := dk_180 0 90 (dk_at dksX2_instruction_5 1 rfl rfl)
theorem dX2_instruction_167 : decode cX2_instruction 167 = .ok (.iload_n 2, 1) := dk_28 (dk_at dksX2_instruction_5 4 rfl rfl)
theorem dX2_instruction_168 : decode cX2_instruction 168 = .ok (.sipush 4095, 3) := dk_17 15 255 (dk_at dksX2_instruction_5 5 rfl rfl)
theorem dX2_instruction_171 : decode cX2_instruction 171 = .ok (.iand, 1) := dk_126 (dk_at dksX2_instruction_5 8 rfl rfl)
theorem dX2_instruction_172 : decode cX2_instruction 172 = .ok (.bipush 20, 2) := dk_16 20 (dk_at dksX2_instruction_5 9 rfl rfl)
theorem dX2_instruction_174 : decode cX2_instruction 174 = .ok (.ishl, 1) := dk_120 (dk_at dksX2_instruction_5 11 rfl rfl)
theorem dX2_instruction_175 : decode cX2_instruction 175 = .ok (.bipush 20, 2) := dk_16 20 (dk_at dksX2_instruction_5 12 rfl rfl)
theorem dX2_instruction_177 : decode cX2_instruction 177 = .ok (.ishr, 1) := dk_122 (dk_at dksX2_instruction_5 14 rfl rfl)
theorem dX2_instruction_178 : decode cX2_instruction 178 = .ok (.iadd, 1) := dk_96 (dk_at dksX2_instruction_5 15 rfl rfl)
theorem dX2_instruction_179 : decode cX2_instruction 179 = .ok (.invokevirtual 125, 3) := dk_182 0 125 (dk_at dksX2_instruction_5 16 rfl rfl)
theorem dX2_instruction_182 : decode cX2_instruction 182 = .ok (.iload_n 2, 1) := dk_28 (dk_at dksX2_instruction_5 19 rfl rfl)
theorem dX2_instruction_183 : decode cX2_instruction 183 = .ok (.bipush 12, 2) := dk_16 12 (dk_at dksX2_instruction_5 20 rfl rfl)
theorem dX2_instruction_185 : decode cX2_instruction 185 = .ok (.ishr, 1) := dk_122 (dk_at dksX2_instruction_5 22 rfl rfl)
theorem dX2_instruction_186 : decode cX2_instruction 186 = .ok (.bipush 13, 2) := dk_16 13 (dk_at dksX2_instruction_6 0 rfl rfl)
theorem dX2_instruction_188 : decode cX2_instruction 188 = .ok (.if_icmp .ne 7, 3) := dk_160 0 7 (dk_at dksX2_instruction_6 2 rfl rfl)
theorem dX2_instruction_191 : decode cX2_instruction 191 = .ok (.iconst 3, 1) := dk_6 (dk_at dksX2_instruction_6 5 rfl rfl)
theorem dX2_instruction_192 : decode cX2_instruction 192 = .ok (.goto 4, 3) := dk_167 0 4 (dk_at dksX2_instruction_6 6 rfl rfl)
theorem dX2_instruction_195 : decode cX2_instruction 195 = .ok (.iconst 2, 1) := dk_5 (dk_at dksX2_instruction_6 9 rfl rfl)
theorem dX2_instruction_196 : decode cX2_instruction 196 = .ok (.ireturn, 1) := dk_172 (dk_at dksX2_instruction_6 10 rfl rfl)
theorem dX2_instruction_197 : decode cX2_instruction 197 = .ok (.aload_n 0, 1) := dk_42 (dk_at dksX2_instruction_6 11 rfl rfl)
theorem dX2_instruction_198 : decode cX2_instruction 198 = .ok (.iload_n 2, 1) := dk_28 (dk_at dksX2_instruction_6 12 rfl rfl)
theorem dX2_instruction_199 : decode cX2_instruction 199 = .ok (.invokevirtual 227, 3) := dk_182 0 227 (dk_at dksX2_instruction_6 13 rfl rfl)
theorem dX2_instruction_202 : decode cX2_instruction 202 = .ok (.ireturn, 1) := dk_172 (dk_at dksX2_instruction_6 16 rfl rfl)
theorem dX2_instruction_203 : decode cX2_instruction 203 = .ok (.aload_n 0, 1) := dk_42 (dk_at dksX2_instruction_6 17 rfl rfl)
theorem dX2_instruction_204 : decode cX2_instruction 204 = .ok (.iload_n 2, 1) := dk_28 (dk_at dksX2_instruction_6 18 rfl rfl)
theorem dX2_instruction_205 : decode cX2_instruction 205 = .ok (.invokevirtual 230, 3) := dk_182 0 230 (dk_at dksX2_instruction_6 19 rfl rfl)
theorem dX2_instruction_208 : decode cX2_instruction 208 = .ok (.ireturn, 1) := dk_172 (dk_at dksX2_instruction_6 22 rfl rfl)
abbrev cX2_next : ByteArray := prog_3_method_26_code
def yX2_next : MethodName := ⟨RX2, "next", "()I"⟩
def dkwX2_next_0 : List UInt8 := [42, 180, 0, 68, 42, 180, 0, 90, 182, 0, 198, 60, 42, 42, 180, 0, 90, 4, 96, 182, 0, 125, 27, 172]
abbrev dktX2_next_0 : List UInt8 := dkwX2_next_0 ++ []
theorem dksX2_next_0 : cX2_next.data.toList.drop 0 = dktX2_next_0 := by decide +kernel
theorem dX2_next_0 : decode cX2_next 0 = .ok (.aload_n 0, 1) := dk_42 (dk_at dksX2_next_0 0 rfl rfl)
theorem dX2_next_1 : decode cX2_next 1 = .ok (.getfield 68, 3) := dk_180 0 68 (dk_at dksX2_next_0 1 rfl rfl)
theorem dX2_next_4 : decode cX2_next 4 = .ok (.aload_n 0, 1) := dk_42 (dk_at dksX2_next_0 4 rfl rfl)
theorem dX2_next_5 : decode cX2_next 5 = .ok (.getfield 90, 3) := dk_180 0 90 (dk_at dksX2_next_0 5 rfl rfl)
theorem dX2_next_8 : decode cX2_next 8 = .ok (.invokevirtual 198, 3) := dk_182 0 198 (dk_at dksX2_next_0 8 rfl rfl)
theorem dX2_next_11 : decode cX2_next 11 = .ok (.istore_n 1, 1) := dk_60 (dk_at dksX2_next_0 11 rfl rfl)
theorem dX2_next_12 : decode cX2_next 12 = .ok (.aload_n 0, 1) := dk_42 (dk_at dksX2_next_0 12 rfl rfl)
theorem dX2_next_13 : decode cX2_next 13 = .ok (.aload_n 0, 1) := dk_42 (dk_at dksX2_next_0 13 rfl rfl)
theorem dX2_next_14 : decode cX2_next 14 = .ok (.getfield 90, 3) := dk_180 0 90 (dk_at dksX2_next_0 14 rfl rfl)
theorem dX2_next_17 : decode cX2_next 17 = .ok (.iconst 1, 1) := dk_4 (dk_at dksX2_next_0 17 rfl rfl)
theorem dX2_next_18 : decode cX2_next 18 = .ok (.iadd, 1) := dk_96 (dk_at dksX2_next_0 18 rfl rfl)
theorem dX2_next_19 : decode cX2_next 19 = .ok (.invokevirtual 125, 3) := dk_182 0 125 (dk_at dksX2_next_0 19 rfl rfl)
theorem dX2_next_22 : decode cX2_next 22 = .ok (.iload_n 1, 1) := dk_27 (dk_at dksX2_next_0 22 rfl rfl)
theorem dX2_next_23 : decode cX2_next 23 = .ok (.ireturn, 1) := dk_172 (dk_at dksX2_next_0 23 rfl rfl)
abbrev cX2_pairs : ByteArray := prog_3_method_31_code
def yX2_pairs : MethodName := ⟨RX2, "pairs", "(I)I"⟩
def dkwX2_pairs_7 : List UInt8 := [145, 21, 5, 104, 21, 6, 158, 0, 7, 4, 167, 0, 4, 3, 182, 0, 243, 5, 172, 4, 172]
abbrev dktX2_pairs_7 : List UInt8 := dkwX2_pairs_7 ++ []
def dkwX2_pairs_6 : List UInt8 := [21, 5, 104, 167, 0, 25, 21, 6, 5, 160, 0, 13, 21, 4, 145, 21, 5, 145, 104, 167, 0, 9, 21, 4]
abbrev dktX2_pairs_6 : List UInt8 := dkwX2_pairs_6 ++ dktX2_pairs_7
def dkwX2_pairs_5 : List UInt8 := [28, 16, 8, 126, 5, 122, 29, 16, 8, 126, 6, 122, 128, 54, 6, 42, 21, 6, 4, 160, 0, 11, 21, 4]
abbrev dktX2_pairs_5 : List UInt8 := dkwX2_pairs_5 ++ dktX2_pairs_6
def dkwX2_pairs_4 : List UInt8 := [16, 16, 28, 16, 7, 126, 96, 46, 54, 4, 42, 180, 0, 9, 16, 16, 29, 16, 7, 126, 96, 46, 54, 5]
abbrev dktX2_pairs_4 : List UInt8 := dkwX2_pairs_4 ++ dktX2_pairs_5
def dkwX2_pairs_3 : List UInt8 := [96, 46, 145, 42, 180, 0, 9, 16, 16, 29, 96, 46, 145, 104, 3, 182, 0, 243, 5, 172, 42, 180, 0, 9]
abbrev dktX2_pairs_3 : List UInt8 := dkwX2_pairs_3 ++ dktX2_pairs_4
def dkwX2_pairs_2 : List UInt8 := [42, 5, 28, 104, 42, 5, 29, 104, 182, 0, 240, 182, 0, 144, 4, 172, 42, 42, 180, 0, 9, 16, 16, 28]
abbrev dktX2_pairs_2 : List UInt8 := dkwX2_pairs_2 ++ dktX2_pairs_3
def dkwX2_pairs_1 : List UInt8 := [170, 0, 0, 0, 0, 0, 0, 167, 0, 0, 0, 1, 0, 0, 0, 3, 0, 0, 0, 28, 0, 0, 0, 44, 0, 0, 0, 72]
abbrev dktX2_pairs_1 : List UInt8 := dkwX2_pairs_1 ++ dktX2_pairs_2
def dkwX2_pairs_0 : List UInt8 := [27, 7, 122, 16, 15, 126, 61, 27, 16, 15, 126, 62, 27, 16, 8, 122]
abbrev dktX2_pairs_0 : List UInt8 := dkwX2_pairs_0 ++ dktX2_pairs_1
theorem dksX2_pairs_0 : cX2_pairs.data.toList.drop 0 = dktX2_pairs_0 := by decide +kernel
theorem dksX2_pairs_1 : cX2_pairs.data.toList.drop 16 = dktX2_pairs_1 := dk_seg dksX2_pairs_0 16 rfl rfl
theorem dksX2_pairs_2 : cX2_pairs.data.toList.drop 44 = dktX2_pairs_2 := dk_seg dksX2_pairs_1 28 rfl rfl
theorem dksX2_pairs_3 : cX2_pairs.data.toList.drop 68 = dktX2_pairs_3 := dk_seg dksX2_pairs_2 24 rfl rfl
theorem dksX2_pairs_4 : cX2_pairs.data.toList.drop 92 = dktX2_pairs_4 := dk_seg dksX2_pairs_3 24 rfl rfl
theorem dksX2_pairs_5 : cX2_pairs.data.toList.drop 116 = dktX2_pairs_5 := dk_seg dksX2_pairs_4 24 rfl rfl
theorem dksX2_pairs_6 : cX2_pairs.data.toList.drop 140 = dktX2_pairs_6 := dk_seg dksX2_pairs_5 24 rfl rfl
theorem dksX2_pairs_7 : cX2_pairs.data.toList.drop 164 = dktX2_pairs_7 := dk_seg dksX2_pairs_6 24 rfl rfl
theorem dX2_pairs_0 : decode cX2_pairs 0 = .ok (.iload_n 1, 1) := dk_27 (dk_at dksX2_pairs_0 0 rfl rfl)
theorem dX2_pairs_1 : decode cX2_pairs 1 = .ok (.iconst 4, 1) := dk_7 (dk_at dksX2_pairs_0 1 rfl rfl)
theorem dX2_pairs_2 : decode cX2_pairs 2 = .ok (.ishr, 1) := dk_122 (dk_at dksX2_pairs_0 2 rfl rfl)
theorem dX2_pairs_3 : decode cX2_pairs 3 = .ok (.bipush 15, 2) := dk_16 15 (dk_at dksX2_pairs_0 3 rfl rfl)
theorem dX2_pairs_5 : decode cX2_pairs 5 = .ok (.iand, 1) := dk_126 (dk_at dksX2_pairs_0 5 rfl rfl)
theorem dX2_pairs_6 : decode cX2_pairs 6 = .ok (.istore_n 2, 1) := dk_61 (dk_at dksX2_pairs_0 6 rfl rfl)
theorem dX2_pairs_7 : decode cX2_pairs 7 = .ok (.iload_n 1, 1) := dk_27 (dk_at dksX2_pairs_0 7 rfl rfl)
theorem dX2_pairs_8 : decode cX2_pairs 8 = .ok (.bipush 15, 2) := dk_16 15 (dk_at dksX2_pairs_0 8 rfl rfl)
theorem dX2_pairs_10 : decode cX2_pairs 10 = .ok (.iand, 1) := dk_126 (dk_at dksX2_pairs_0 10 rfl rfl)
theorem dX2_pairs_11 : decode cX2_pairs 11 = .ok (.istore_n 3, 1) := dk_62 (dk_at dksX2_pairs_0 11 rfl rfl)
theorem dX2_pairs_12 : decode cX2_pairs 12 = .ok (.iload_n 1, 1) := dk_27 (dk_at dksX2_pairs_0 12 rfl rfl)
theorem dX2_pairs_13 : decode cX2_pairs 13 = .ok (.bipush 8, 2) := dk_16 8 (dk_at dksX2_pairs_0 13 rfl rfl)
theorem dX2_pairs_15 : decode cX2_pairs 15 = .ok (.ishr, 1) := dk_122 (dk_at dksX2_pairs_0 15 rfl rfl)
theorem dX2_pairs_16 : decode cX2_pairs 16 = .ok (.tableswitch 167 1 3 #[28, 44, 72], 28) := by decide +kernel
theorem dX2_pairs_44 : decode cX2_pairs 44 = .ok (.aload_n 0, 1) := dk_42 (dk_at dksX2_pairs_2 0 rfl rfl)
theorem dX2_pairs_45 : decode cX2_pairs 45 = .ok (.iconst 2, 1) := dk_5 (dk_at dksX2_pairs_2 1 rfl rfl)
theorem dX2_pairs_46 : decode cX2_pairs 46 = .ok (.iload_n 2, 1) := dk_28 (dk_at dksX2_pairs_2 2 rfl rfl)
theorem dX2_pairs_47 : decode cX2_pairs 47 = .ok (.imul, 1) := dk_104 (dk_at dksX2_pairs_2 3 rfl rfl)
theorem dX2_pairs_48 : decode cX2_pairs 48 = .ok (.aload_n 0, 1) := dk_42 (dk_at dksX2_pairs_2 4 rfl rfl)
theorem dX2_pairs_49 : decode cX2_pairs 49 = .ok (.iconst 2, 1) := dk_5 (dk_at dksX2_pairs_2 5 rfl rfl)
theorem dX2_pairs_50 : decode cX2_pairs 50 = .ok (.iload_n 3, 1) := dk_29 (dk_at dksX2_pairs_2 6 rfl rfl)
theorem dX2_pairs_51 : decode cX2_pairs 51 = .ok (.imul, 1) := dk_104 (dk_at dksX2_pairs_2 7 rfl rfl)
theorem dX2_pairs_52 : decode cX2_pairs 52 = .ok (.invokevirtual 240, 3) := dk_182 0 240 (dk_at dksX2_pairs_2 8 rfl rfl)
theorem dX2_pairs_55 : decode cX2_pairs 55 = .ok (.invokevirtual 144, 3) := dk_182 0 144 (dk_at dksX2_pairs_2 11 rfl rfl)
theorem dX2_pairs_58 : decode cX2_pairs 58 = .ok (.iconst 1, 1) := dk_4 (dk_at dksX2_pairs_2 14 rfl rfl)
theorem dX2_pairs_59 : decode cX2_pairs 59 = .ok (.ireturn, 1) := dk_172 (dk_at dksX2_pairs_2 15 rfl rfl)
theorem dX2_pairs_60 : decode cX2_pairs 60 = .ok (.aload_n 0, 1) := dk_42 (dk_at dksX2_pairs_2 16 rfl rfl)
theorem dX2_pairs_61 : decode cX2_pairs 61 = .ok (.aload_n 0, 1) := dk_42 (dk_at dksX2_pairs_2 17 rfl rfl)
theorem dX2_pairs_62 : decode cX2_pairs 62 = .ok (.getfield 9, 3) := dk_180 0 9 (dk_at dksX2_pairs_2 18 rfl rfl)
theorem dX2_pairs_65 : decode cX2_pairs 65 = .ok (.bipush 16, 2) := dk_16 16 (dk_at dksX2_pairs_2 21 rfl rfl)
theorem dX2_pairs_67 : decode cX2_pairs 67 = .ok (.iload_n 2, 1) := dk_28 (dk_at dksX2_pairs_2 23 rfl rfl)
theorem dX2_pairs_68 : decode cX2_pairs 68 = .ok (.iadd, 1) := dk_96 (dk_at dksX2_pairs_3 0 rfl rfl)
theorem dX2_pairs_69 : decode cX2_pairs 69 = .ok (.iaload, 1) := dk_46 (dk_at dksX2_pairs_3 1 rfl rfl)
theorem dX2_pairs_70 : decode cX2_pairs 70 = .ok (.i2b, 1) := dk_145 (dk_at dksX2_pairs_3 2 rfl rfl)
theorem dX2_pairs_71 : decode cX2_pairs 71 = .ok (.aload_n 0, 1) := dk_42 (dk_at dksX2_pairs_3 3 rfl rfl)
theorem dX2_pairs_72 : decode cX2_pairs 72 = .ok (.getfield 9, 3) := dk_180 0 9 (dk_at dksX2_pairs_3 4 rfl rfl)
theorem dX2_pairs_75 : decode cX2_pairs 75 = .ok (.bipush 16, 2) := dk_16 16 (dk_at dksX2_pairs_3 7 rfl rfl)
theorem dX2_pairs_77 : decode cX2_pairs 77 = .ok (.iload_n 3, 1) := dk_29 (dk_at dksX2_pairs_3 9 rfl rfl)
theorem dX2_pairs_78 : decode cX2_pairs 78 = .ok (.iadd, 1) := dk_96 (dk_at dksX2_pairs_3 10 rfl rfl)
theorem dX2_pairs_79 : decode cX2_pairs 79 = .ok (.iaload, 1) := dk_46 (dk_at dksX2_pairs_3 11 rfl rfl)
theorem dX2_pairs_80 : decode cX2_pairs 80 = .ok (.i2b, 1) := dk_145 (dk_at dksX2_pairs_3 12 rfl rfl)
theorem dX2_pairs_81 : decode cX2_pairs 81 = .ok (.imul, 1) := dk_104 (dk_at dksX2_pairs_3 13 rfl rfl)
theorem dX2_pairs_82 : decode cX2_pairs 82 = .ok (.iconst 0, 1) := dk_3 (dk_at dksX2_pairs_3 14 rfl rfl)
theorem dX2_pairs_83 : decode cX2_pairs 83 = .ok (.invokevirtual 243, 3) := dk_182 0 243 (dk_at dksX2_pairs_3 15 rfl rfl)
theorem dX2_pairs_86 : decode cX2_pairs 86 = .ok (.iconst 2, 1) := dk_5 (dk_at dksX2_pairs_3 18 rfl rfl)
theorem dX2_pairs_87 : decode cX2_pairs 87 = .ok (.ireturn, 1) := dk_172 (dk_at dksX2_pairs_3 19 rfl rfl)
theorem dX2_pairs_88 : decode cX2_pairs 88 = .ok (.aload_n 0, 1) := dk_42 (dk_at dksX2_pairs_3 20 rfl rfl)
theorem dX2_pairs_89 : decode cX2_pairs 89 = .ok (.getfield 9, 3) := dk_180 0 9 (dk_at dksX2_pairs_3 21 rfl rfl)
theorem dX2_pairs_92 : decode cX2_pairs 92 = .ok (.bipush 16, 2) := dk_16 16 (dk_at dksX2_pairs_4 0 rfl rfl)
theorem dX2_pairs_94 : decode cX2_pairs 94 = .ok (.iload_n 2, 1) := dk_28 (dk_at dksX2_pairs_4 2 rfl rfl)
theorem dX2_pairs_95 : decode cX2_pairs 95 = .ok (.bipush 7, 2) := dk_16 7 (dk_at dksX2_pairs_4 3 rfl rfl)
theorem dX2_pairs_97 : decode cX2_pairs 97 = .ok (.iand, 1) := dk_126 (dk_at dksX2_pairs_4 5 rfl rfl)
theorem dX2_pairs_98 : decode cX2_pairs 98 = .ok (.iadd, 1) := dk_96 (dk_at dksX2_pairs_4 6 rfl rfl)
theorem dX2_pairs_99 : decode cX2_pairs 99 = .ok (.iaload, 1) := dk_46 (dk_at dksX2_pairs_4 7 rfl rfl)
theorem dX2_pairs_100 : decode cX2_pairs 100 = .ok (.istore 4, 2) := dk_54 4 (dk_at dksX2_pairs_4 8 rfl rfl)
theorem dX2_pairs_102 : decode cX2_pairs 102 = .ok (.aload_n 0, 1) := dk_42 (dk_at dksX2_pairs_4 10 rfl rfl)
theorem dX2_pairs_103 : decode cX2_pairs 103 = .ok (.getfield 9, 3) := dk_180 0 9 (dk_at dksX2_pairs_4 11 rfl rfl)
theorem dX2_pairs_106 : decode cX2_pairs 106 = .ok (.bipush 16, 2) := dk_16 16 (dk_at dksX2_pairs_4 14 rfl rfl)
theorem dX2_pairs_108 : decode cX2_pairs 108 = .ok (.iload_n 3, 1) := dk_29 (dk_at dksX2_pairs_4 16 rfl rfl)
theorem dX2_pairs_109 : decode cX2_pairs 109 = .ok (.bipush 7, 2) := dk_16 7 (dk_at dksX2_pairs_4 17 rfl rfl)
theorem dX2_pairs_111 : decode cX2_pairs 111 = .ok (.iand, 1) := dk_126 (dk_at dksX2_pairs_4 19 rfl rfl)
theorem dX2_pairs_112 : decode cX2_pairs 112 = .ok (.iadd, 1) := dk_96 (dk_at dksX2_pairs_4 20 rfl rfl)
theorem dX2_pairs_113 : decode cX2_pairs 113 = .ok (.iaload, 1) := dk_46 (dk_at dksX2_pairs_4 21 rfl rfl)
theorem dX2_pairs_114 : decode cX2_pairs 114 = .ok (.istore 5, 2) := dk_54 5 (dk_at dksX2_pairs_4 22 rfl rfl)
theorem dX2_pairs_116 : decode cX2_pairs 116 = .ok (.iload_n 2, 1) := dk_28 (dk_at dksX2_pairs_5 0 rfl rfl)
theorem dX2_pairs_117 : decode cX2_pairs 117 = .ok (.bipush 8, 2) := dk_16 8 (dk_at dksX2_pairs_5 1 rfl rfl)
theorem dX2_pairs_119 : decode cX2_pairs 119 = .ok (.iand, 1) := dk_126 (dk_at dksX2_pairs_5 3 rfl rfl)
theorem dX2_pairs_120 : decode cX2_pairs 120 = .ok (.iconst 2, 1) := dk_5 (dk_at dksX2_pairs_5 4 rfl rfl)
theorem dX2_pairs_121 : decode cX2_pairs 121 = .ok (.ishr, 1) := dk_122 (dk_at dksX2_pairs_5 5 rfl rfl)
theorem dX2_pairs_122 : decode cX2_pairs 122 = .ok (.iload_n 3, 1) := dk_29 (dk_at dksX2_pairs_5 6 rfl rfl)
theorem dX2_pairs_123 : decode cX2_pairs 123 = .ok (.bipush 8, 2) := dk_16 8 (dk_at dksX2_pairs_5 7 rfl rfl)
theorem dX2_pairs_125 : decode cX2_pairs 125 = .ok (.iand, 1) := dk_126 (dk_at dksX2_pairs_5 9 rfl rfl)
theorem dX2_pairs_126 : decode cX2_pairs 126 = .ok (.iconst 3, 1) := dk_6 (dk_at dksX2_pairs_5 10 rfl rfl)
theorem dX2_pairs_127 : decode cX2_pairs 127 = .ok (.ishr, 1) := dk_122 (dk_at dksX2_pairs_5 11 rfl rfl)
theorem dX2_pairs_128 : decode cX2_pairs 128 = .ok (.ior, 1) := dk_128 (dk_at dksX2_pairs_5 12 rfl rfl)
theorem dX2_pairs_129 : decode cX2_pairs 129 = .ok (.istore 6, 2) := dk_54 6 (dk_at dksX2_pairs_5 13 rfl rfl)
theorem dX2_pairs_131 : decode cX2_pairs 131 = .ok (.aload_n 0, 1) := dk_42 (dk_at dksX2_pairs_5 15 rfl rfl)
theorem dX2_pairs_132 : decode cX2_pairs 132 = .ok (.iload 6, 2) := dk_21 6 (dk_at dksX2_pairs_5 16 rfl rfl)
theorem dX2_pairs_134 : decode cX2_pairs 134 = .ok (.iconst 1, 1) := dk_4 (dk_at dksX2_pairs_5 18 rfl rfl)
theorem dX2_pairs_135 : decode cX2_pairs 135 = .ok (.if_icmp .ne 11, 3) := dk_160 0 11 (dk_at dksX2_pairs_5 19 rfl rfl)
theorem dX2_pairs_138 : decode cX2_pairs 138 = .ok (.iload 4, 2) := dk_21 4 (dk_at dksX2_pairs_5 22 rfl rfl)
theorem dX2_pairs_140 : decode cX2_pairs 140 = .ok (.iload 5, 2) := dk_21 5 (dk_at dksX2_pairs_6 0 rfl rfl)
theorem dX2_pairs_142 : decode cX2_pairs 142 = .ok (.imul, 1) := dk_104 (dk_at dksX2_pairs_6 2 rfl rfl)
theorem dX2_pairs_143 : decode cX2_pairs 143 = .ok (.goto 25, 3) := dk_167 0 25 (dk_at dksX2_pairs_6 3 rfl rfl)
theorem dX2_pairs_146 : decode cX2_pairs 146 = .ok (.iload 6, 2) := dk_21 6 (dk_at dksX2_pairs_6 6 rfl rfl)
theorem dX2_pairs_148 : decode cX2_pairs 148 = .ok (.iconst 2, 1) := dk_5 (dk_at dksX2_pairs_6 8 rfl rfl)
theorem dX2_pairs_149 : decode cX2_pairs 149 = .ok (.if_icmp .ne 13, 3) := dk_160 0 13 (dk_at dksX2_pairs_6 9 rfl rfl)
theorem dX2_pairs_152 : decode cX2_pairs 152 = .ok (.iload 4, 2) := dk_21 4 (dk_at dksX2_pairs_6 12 rfl rfl)
theorem dX2_pairs_154 : decode cX2_pairs 154 = .ok (.i2b, 1) := dk_145 (dk_at dksX2_pairs_6 14 rfl rfl)
theorem dX2_pairs_155 : decode cX2_pairs 155 = .ok (.iload 5, 2) := dk_21 5 (dk_at dksX2_pairs_6 15 rfl rfl)
theorem dX2_pairs_157 : decode cX2_pairs 157 = .ok (.i2b, 1) := dk_145 (dk_at dksX2_pairs_6 17 rfl rfl)
theorem dX2_pairs_158 : decode cX2_pairs 158 = .ok (.imul, 1) := dk_104 (dk_at dksX2_pairs_6 18 rfl rfl)
theorem dX2_pairs_159 : decode cX2_pairs 159 = .ok (.goto 9, 3) := dk_167 0 9 (dk_at dksX2_pairs_6 19 rfl rfl)
theorem dX2_pairs_162 : decode cX2_pairs 162 = .ok (.iload 4, 2) := dk_21 4 (dk_at dksX2_pairs_6 22 rfl rfl)
theorem dX2_pairs_164 : decode cX2_pairs 164 = .ok (.i2b, 1) := dk_145 (dk_at dksX2_pairs_7 0 rfl rfl)
theorem dX2_pairs_165 : decode cX2_pairs 165 = .ok (.iload 5, 2) := dk_21 5 (dk_at dksX2_pairs_7 1 rfl rfl)
theorem dX2_pairs_167 : decode cX2_pairs 167 = .ok (.imul, 1) := dk_104 (dk_at dksX2_pairs_7 3 rfl rfl)
theorem dX2_pairs_168 : decode cX2_pairs 168 = .ok (.iload 6, 2) := dk_21 6 (dk_at dksX2_pairs_7 4 rfl rfl)
theorem dX2_pairs_170 : decode cX2_pairs 170 = .ok (.ifCond .le 7, 3) := dk_158 0 7 (dk_at dksX2_pairs_7 6 rfl rfl)
theorem dX2_pairs_173 : decode cX2_pairs 173 = .ok (.iconst 1, 1) := dk_4 (dk_at dksX2_pairs_7 9 rfl rfl)
theorem dX2_pairs_174 : decode cX2_pairs 174 = .ok (.goto 4, 3) := dk_167 0 4 (dk_at dksX2_pairs_7 10 rfl rfl)
theorem dX2_pairs_177 : decode cX2_pairs 177 = .ok (.iconst 0, 1) := dk_3 (dk_at dksX2_pairs_7 13 rfl rfl)
theorem dX2_pairs_178 : decode cX2_pairs 178 = .ok (.invokevirtual 243, 3) := dk_182 0 243 (dk_at dksX2_pairs_7 14 rfl rfl)
theorem dX2_pairs_181 : decode cX2_pairs 181 = .ok (.iconst 2, 1) := dk_5 (dk_at dksX2_pairs_7 17 rfl rfl)
theorem dX2_pairs_182 : decode cX2_pairs 182 = .ok (.ireturn, 1) := dk_172 (dk_at dksX2_pairs_7 18 rfl rfl)
theorem dX2_pairs_183 : decode cX2_pairs 183 = .ok (.iconst 1, 1) := dk_4 (dk_at dksX2_pairs_7 19 rfl rfl)
theorem dX2_pairs_184 : decode cX2_pairs 184 = .ok (.ireturn, 1) := dk_172 (dk_at dksX2_pairs_7 20 rfl rfl)
abbrev cX2_pair : ByteArray := prog_3_method_5_code
def yX2_pair : MethodName := ⟨RX2, "pair", "(I)I"⟩
def dkwX2_pair_0 : List UInt8 := [42, 180, 0, 9, 27, 4, 96, 46, 16, 8, 120, 42, 180, 0, 9, 27, 46, 128, 172]
abbrev dktX2_pair_0 : List UInt8 := dkwX2_pair_0 ++ []
theorem dksX2_pair_0 : cX2_pair.data.toList.drop 0 = dktX2_pair_0 := by decide +kernel
theorem dX2_pair_0 : decode cX2_pair 0 = .ok (.aload_n 0, 1) := dk_42 (dk_at dksX2_pair_0 0 rfl rfl)
theorem dX2_pair_1 : decode cX2_pair 1 = .ok (.getfield 9, 3) := dk_180 0 9 (dk_at dksX2_pair_0 1 rfl rfl)
theorem dX2_pair_4 : decode cX2_pair 4 = .ok (.iload_n 1, 1) := dk_27 (dk_at dksX2_pair_0 4 rfl rfl)
theorem dX2_pair_5 : decode cX2_pair 5 = .ok (.iconst 1, 1) := dk_4 (dk_at dksX2_pair_0 5 rfl rfl)
theorem dX2_pair_6 : decode cX2_pair 6 = .ok (.iadd, 1) := dk_96 (dk_at dksX2_pair_0 6 rfl rfl)
theorem dX2_pair_7 : decode cX2_pair 7 = .ok (.iaload, 1) := dk_46 (dk_at dksX2_pair_0 7 rfl rfl)
theorem dX2_pair_8 : decode cX2_pair 8 = .ok (.bipush 8, 2) := dk_16 8 (dk_at dksX2_pair_0 8 rfl rfl)
theorem dX2_pair_10 : decode cX2_pair 10 = .ok (.ishl, 1) := dk_120 (dk_at dksX2_pair_0 10 rfl rfl)
theorem dX2_pair_11 : decode cX2_pair 11 = .ok (.aload_n 0, 1) := dk_42 (dk_at dksX2_pair_0 11 rfl rfl)
theorem dX2_pair_12 : decode cX2_pair 12 = .ok (.getfield 9, 3) := dk_180 0 9 (dk_at dksX2_pair_0 12 rfl rfl)
theorem dX2_pair_15 : decode cX2_pair 15 = .ok (.iload_n 1, 1) := dk_27 (dk_at dksX2_pair_0 15 rfl rfl)
theorem dX2_pair_16 : decode cX2_pair 16 = .ok (.iaload, 1) := dk_46 (dk_at dksX2_pair_0 16 rfl rfl)
theorem dX2_pair_17 : decode cX2_pair 17 = .ok (.ior, 1) := dk_128 (dk_at dksX2_pair_0 17 rfl rfl)
theorem dX2_pair_18 : decode cX2_pair 18 = .ok (.ireturn, 1) := dk_172 (dk_at dksX2_pair_0 18 rfl rfl)
abbrev cX2_toPair : ByteArray := prog_3_method_6_code
def yX2_toPair : MethodName := ⟨RX2, "toPair", "(II)V"⟩
def dkwX2_toPair_1 : List UInt8 := [17, 0, 255, 126, 79, 177]
abbrev dktX2_toPair_1 : List UInt8 := dkwX2_toPair_1 ++ []
def dkwX2_toPair_0 : List UInt8 := [42, 180, 0, 9, 27, 28, 17, 0, 255, 126, 79, 42, 180, 0, 9, 27, 4, 96, 28, 16, 8, 122]
abbrev dktX2_toPair_0 : List UInt8 := dkwX2_toPair_0 ++ dktX2_toPair_1
theorem dksX2_toPair_0 : cX2_toPair.data.toList.drop 0 = dktX2_toPair_0 := by decide +kernel
theorem dksX2_toPair_1 : cX2_toPair.data.toList.drop 22 = dktX2_toPair_1 := dk_seg dksX2_toPair_0 22 rfl rfl
theorem dX2_toPair_0 : decode cX2_toPair 0 = .ok (.aload_n 0, 1) := dk_42 (dk_at dksX2_toPair_0 0 rfl rfl)
theorem dX2_toPair_1 : decode cX2_toPair 1 = .ok (.getfield 9, 3) := dk_180 0 9 (dk_at dksX2_toPair_0 1 rfl rfl)
theorem dX2_toPair_4 : decode cX2_toPair 4 = .ok (.iload_n 1, 1) := dk_27 (dk_at dksX2_toPair_0 4 rfl rfl)
theorem dX2_toPair_5 : decode cX2_toPair 5 = .ok (.iload_n 2, 1) := dk_28 (dk_at dksX2_toPair_0 5 rfl rfl)
theorem dX2_toPair_6 : decode cX2_toPair 6 = .ok (.sipush 255, 3) := dk_17 0 255 (dk_at dksX2_toPair_0 6 rfl rfl)
theorem dX2_toPair_9 : decode cX2_toPair 9 = .ok (.iand, 1) := dk_126 (dk_at dksX2_toPair_0 9 rfl rfl)
theorem dX2_toPair_10 : decode cX2_toPair 10 = .ok (.iastore, 1) := dk_79 (dk_at dksX2_toPair_0 10 rfl rfl)
theorem dX2_toPair_11 : decode cX2_toPair 11 = .ok (.aload_n 0, 1) := dk_42 (dk_at dksX2_toPair_0 11 rfl rfl)
theorem dX2_toPair_12 : decode cX2_toPair 12 = .ok (.getfield 9, 3) := dk_180 0 9 (dk_at dksX2_toPair_0 12 rfl rfl)
theorem dX2_toPair_15 : decode cX2_toPair 15 = .ok (.iload_n 1, 1) := dk_27 (dk_at dksX2_toPair_0 15 rfl rfl)
theorem dX2_toPair_16 : decode cX2_toPair 16 = .ok (.iconst 1, 1) := dk_4 (dk_at dksX2_toPair_0 16 rfl rfl)
theorem dX2_toPair_17 : decode cX2_toPair 17 = .ok (.iadd, 1) := dk_96 (dk_at dksX2_toPair_0 17 rfl rfl)
theorem dX2_toPair_18 : decode cX2_toPair 18 = .ok (.iload_n 2, 1) := dk_28 (dk_at dksX2_toPair_0 18 rfl rfl)
theorem dX2_toPair_19 : decode cX2_toPair 19 = .ok (.bipush 8, 2) := dk_16 8 (dk_at dksX2_toPair_0 19 rfl rfl)
theorem dX2_toPair_21 : decode cX2_toPair 21 = .ok (.ishr, 1) := dk_122 (dk_at dksX2_toPair_0 21 rfl rfl)
theorem dX2_toPair_22 : decode cX2_toPair 22 = .ok (.sipush 255, 3) := dk_17 0 255 (dk_at dksX2_toPair_1 0 rfl rfl)
theorem dX2_toPair_25 : decode cX2_toPair 25 = .ok (.iand, 1) := dk_126 (dk_at dksX2_toPair_1 3 rfl rfl)
theorem dX2_toPair_26 : decode cX2_toPair 26 = .ok (.iastore, 1) := dk_79 (dk_at dksX2_toPair_1 4 rfl rfl)
theorem dX2_toPair_27 : decode cX2_toPair 27 = .ok (.return_, 1) := dk_177 (dk_at dksX2_toPair_1 5 rfl rfl)
abbrev cX2_product : ByteArray := prog_3_method_21_code
def yX2_product : MethodName := ⟨RX2, "product", "(IZ)V"⟩
def dkwX2_product_2 : List UInt8 := [3, 182, 0, 128, 177]
abbrev dktX2_product_2 : List UInt8 := dkwX2_product_2 ++ []
def dkwX2_product_1 : List UInt8 := [167, 0, 4, 27, 62, 42, 3, 29, 182, 0, 144, 42, 5, 29, 18, 147, 126, 154, 0, 7, 4, 167, 0, 4]
abbrev dktX2_product_1 : List UInt8 := dkwX2_product_1 ++ dktX2_product_2
def dkwX2_product_0 : List UInt8 := [42, 4, 27, 18, 143, 126, 153, 0, 7, 4, 167, 0, 4, 3, 182, 0, 128, 28, 153, 0, 9, 27, 4, 120]
abbrev dktX2_product_0 : List UInt8 := dkwX2_product_0 ++ dktX2_product_1
theorem dksX2_product_0 : cX2_product.data.toList.drop 0 = dktX2_product_0 := by decide +kernel
theorem dksX2_product_1 : cX2_product.data.toList.drop 24 = dktX2_product_1 := dk_seg dksX2_product_0 24 rfl rfl
theorem dksX2_product_2 : cX2_product.data.toList.drop 48 = dktX2_product_2 := dk_seg dksX2_product_1 24 rfl rfl
theorem dX2_product_0 : decode cX2_product 0 = .ok (.aload_n 0, 1) := dk_42 (dk_at dksX2_product_0 0 rfl rfl)
theorem dX2_product_1 : decode cX2_product 1 = .ok (.iconst 1, 1) := dk_4 (dk_at dksX2_product_0 1 rfl rfl)
theorem dX2_product_2 : decode cX2_product 2 = .ok (.iload_n 1, 1) := dk_27 (dk_at dksX2_product_0 2 rfl rfl)
theorem dX2_product_3 : decode cX2_product 3 = .ok (.ldc 143, 2) := dk_18 143 (dk_at dksX2_product_0 3 rfl rfl)
theorem dX2_product_5 : decode cX2_product 5 = .ok (.iand, 1) := dk_126 (dk_at dksX2_product_0 5 rfl rfl)
theorem dX2_product_6 : decode cX2_product 6 = .ok (.ifCond .eq 7, 3) := dk_153 0 7 (dk_at dksX2_product_0 6 rfl rfl)
theorem dX2_product_9 : decode cX2_product 9 = .ok (.iconst 1, 1) := dk_4 (dk_at dksX2_product_0 9 rfl rfl)
theorem dX2_product_10 : decode cX2_product 10 = .ok (.goto 4, 3) := dk_167 0 4 (dk_at dksX2_product_0 10 rfl rfl)
theorem dX2_product_13 : decode cX2_product 13 = .ok (.iconst 0, 1) := dk_3 (dk_at dksX2_product_0 13 rfl rfl)
theorem dX2_product_14 : decode cX2_product 14 = .ok (.invokevirtual 128, 3) := dk_182 0 128 (dk_at dksX2_product_0 14 rfl rfl)
theorem dX2_product_17 : decode cX2_product 17 = .ok (.iload_n 2, 1) := dk_28 (dk_at dksX2_product_0 17 rfl rfl)
theorem dX2_product_18 : decode cX2_product 18 = .ok (.ifCond .eq 9, 3) := dk_153 0 9 (dk_at dksX2_product_0 18 rfl rfl)
theorem dX2_product_21 : decode cX2_product 21 = .ok (.iload_n 1, 1) := dk_27 (dk_at dksX2_product_0 21 rfl rfl)
theorem dX2_product_22 : decode cX2_product 22 = .ok (.iconst 1, 1) := dk_4 (dk_at dksX2_product_0 22 rfl rfl)
theorem dX2_product_23 : decode cX2_product 23 = .ok (.ishl, 1) := dk_120 (dk_at dksX2_product_0 23 rfl rfl)
theorem dX2_product_24 : decode cX2_product 24 = .ok (.goto 4, 3) := dk_167 0 4 (dk_at dksX2_product_1 0 rfl rfl)
theorem dX2_product_27 : decode cX2_product 27 = .ok (.iload_n 1, 1) := dk_27 (dk_at dksX2_product_1 3 rfl rfl)
theorem dX2_product_28 : decode cX2_product 28 = .ok (.istore_n 3, 1) := dk_62 (dk_at dksX2_product_1 4 rfl rfl)
theorem dX2_product_29 : decode cX2_product 29 = .ok (.aload_n 0, 1) := dk_42 (dk_at dksX2_product_1 5 rfl rfl)
theorem dX2_product_30 : decode cX2_product 30 = .ok (.iconst 0, 1) := dk_3 (dk_at dksX2_product_1 6 rfl rfl)
theorem dX2_product_31 : decode cX2_product 31 = .ok (.iload_n 3, 1) := dk_29 (dk_at dksX2_product_1 7 rfl rfl)
theorem dX2_product_32 : decode cX2_product 32 = .ok (.invokevirtual 144, 3) := dk_182 0 144 (dk_at dksX2_product_1 8 rfl rfl)
theorem dX2_product_35 : decode cX2_product 35 = .ok (.aload_n 0, 1) := dk_42 (dk_at dksX2_product_1 11 rfl rfl)
theorem dX2_product_36 : decode cX2_product 36 = .ok (.iconst 2, 1) := dk_5 (dk_at dksX2_product_1 12 rfl rfl)
theorem dX2_product_37 : decode cX2_product 37 = .ok (.iload_n 3, 1) := dk_29 (dk_at dksX2_product_1 13 rfl rfl)
theorem dX2_product_38 : decode cX2_product 38 = .ok (.ldc 147, 2) := dk_18 147 (dk_at dksX2_product_1 14 rfl rfl)
theorem dX2_product_40 : decode cX2_product 40 = .ok (.iand, 1) := dk_126 (dk_at dksX2_product_1 16 rfl rfl)
theorem dX2_product_41 : decode cX2_product 41 = .ok (.ifCond .ne 7, 3) := dk_154 0 7 (dk_at dksX2_product_1 17 rfl rfl)
theorem dX2_product_44 : decode cX2_product 44 = .ok (.iconst 1, 1) := dk_4 (dk_at dksX2_product_1 20 rfl rfl)
theorem dX2_product_45 : decode cX2_product 45 = .ok (.goto 4, 3) := dk_167 0 4 (dk_at dksX2_product_1 21 rfl rfl)
theorem dX2_product_48 : decode cX2_product 48 = .ok (.iconst 0, 1) := dk_3 (dk_at dksX2_product_2 0 rfl rfl)
theorem dX2_product_49 : decode cX2_product 49 = .ok (.invokevirtual 128, 3) := dk_182 0 128 (dk_at dksX2_product_2 1 rfl rfl)
theorem dX2_product_52 : decode cX2_product 52 = .ok (.return_, 1) := dk_177 (dk_at dksX2_product_2 4 rfl rfl)
abbrev cX2_twoRegisters : ByteArray := prog_3_method_32_code
def yX2_twoRegisters : MethodName := ⟨RX2, "twoRegisters", "(I)I"⟩
def dkwX2_twoRegisters_11 : List UInt8 := [4, 172]
abbrev dktX2_twoRegisters_11 : List UInt8 := dkwX2_twoRegisters_11 ++ []
def dkwX2_twoRegisters_10 : List UInt8 := [180, 0, 9, 28, 42, 29, 21, 4, 128, 182, 0, 237, 79, 167, 0, 11, 42, 180, 0, 9, 28, 21, 4, 79]
abbrev dktX2_twoRegisters_10 : List UInt8 := dkwX2_twoRegisters_10 ++ dktX2_twoRegisters_11
def dkwX2_twoRegisters_9 : List UInt8 := [79, 167, 0, 45, 42, 180, 0, 9, 28, 42, 29, 21, 4, 130, 182, 0, 237, 79, 167, 0, 28, 42]
abbrev dktX2_twoRegisters_9 : List UInt8 := dkwX2_twoRegisters_9 ++ dktX2_twoRegisters_10
def dkwX2_twoRegisters_8 : List UInt8 := [21, 4, 21, 5, 182, 0, 246, 79, 167, 0, 62, 42, 180, 0, 9, 28, 42, 29, 21, 4, 126, 182, 0, 237]
abbrev dktX2_twoRegisters_8 : List UInt8 := dkwX2_twoRegisters_8 ++ dktX2_twoRegisters_9
def dkwX2_twoRegisters_7 : List UInt8 := [42, 180, 0, 9, 28, 42, 29, 21, 4, 3, 182, 0, 139, 79, 167, 0, 80, 42, 180, 0, 9, 28, 42, 29]
abbrev dktX2_twoRegisters_7 : List UInt8 := dkwX2_twoRegisters_7 ++ dktX2_twoRegisters_8
def dkwX2_twoRegisters_6 : List UInt8 := [160, 0, 7, 4, 167, 0, 4, 3, 182, 0, 249, 172, 42, 29, 21, 4, 3, 182, 0, 139, 87, 167, 0, 97]
abbrev dktX2_twoRegisters_6 : List UInt8 := dkwX2_twoRegisters_6 ++ dktX2_twoRegisters_7
def dkwX2_twoRegisters_5 : List UInt8 := [167, 0, 142, 42, 180, 0, 9, 28, 42, 29, 21, 4, 3, 182, 0, 246, 79, 167, 0, 125, 42, 29, 21, 4]
abbrev dktX2_twoRegisters_5 : List UInt8 := dkwX2_twoRegisters_5 ++ dktX2_twoRegisters_6
def dkwX2_twoRegisters_4 : List UInt8 := [42, 29, 21, 4, 182, 0, 233, 87, 167, 0, 158, 42, 180, 0, 9, 28, 42, 29, 21, 4, 182, 0, 233, 79]
abbrev dktX2_twoRegisters_4 : List UInt8 := dkwX2_twoRegisters_4 ++ dktX2_twoRegisters_5
def dkwX2_twoRegisters_3 : List UInt8 := [170, 0, 0, 0, 211, 0, 0, 0, 1, 0, 0, 0, 10, 0, 0, 0, 53, 0, 0, 0, 64, 0, 0, 0, 80, 0, 0, 0, 97, 0, 0, 0, 113, 0, 0, 0, 125, 0, 0, 0, 142, 0, 0, 0, 160, 0, 0, 0, 177, 0, 0, 0, 194]
abbrev dktX2_twoRegisters_3 : List UInt8 := dkwX2_twoRegisters_3 ++ dktX2_twoRegisters_4
def dkwX2_twoRegisters_2 : List UInt8 := [16, 10, 122]
abbrev dktX2_twoRegisters_2 : List UInt8 := dkwX2_twoRegisters_2 ++ dktX2_twoRegisters_3
def dkwX2_twoRegisters_1 : List UInt8 := [122, 16, 16, 126, 128, 46, 54, 4, 42, 4, 182, 0, 132, 153, 0, 7, 4, 167, 0, 4, 3, 54, 5, 27]
abbrev dktX2_twoRegisters_1 : List UInt8 := dkwX2_twoRegisters_1 ++ dktX2_twoRegisters_2
def dkwX2_twoRegisters_0 : List UInt8 := [27, 7, 122, 16, 31, 126, 61, 42, 180, 0, 9, 28, 46, 62, 42, 180, 0, 9, 27, 16, 15, 126, 27, 8]
abbrev dktX2_twoRegisters_0 : List UInt8 := dkwX2_twoRegisters_0 ++ dktX2_twoRegisters_1
theorem dksX2_twoRegisters_0 : cX2_twoRegisters.data.toList.drop 0 = dktX2_twoRegisters_0 := by decide +kernel
theorem dksX2_twoRegisters_1 : cX2_twoRegisters.data.toList.drop 24 = dktX2_twoRegisters_1 := dk_seg dksX2_twoRegisters_0 24 rfl rfl
theorem dksX2_twoRegisters_2 : cX2_twoRegisters.data.toList.drop 48 = dktX2_twoRegisters_2 := dk_seg dksX2_twoRegisters_1 24 rfl rfl
theorem dksX2_twoRegisters_3 : cX2_twoRegisters.data.toList.drop 51 = dktX2_twoRegisters_3 := dk_seg dksX2_twoRegisters_2 3 rfl rfl
theorem dksX2_twoRegisters_4 : cX2_twoRegisters.data.toList.drop 104 = dktX2_twoRegisters_4 := dk_seg dksX2_twoRegisters_3 53 rfl rfl
theorem dksX2_twoRegisters_5 : cX2_twoRegisters.data.toList.drop 128 = dktX2_twoRegisters_5 := dk_seg dksX2_twoRegisters_4 24 rfl rfl
theorem dksX2_twoRegisters_6 : cX2_twoRegisters.data.toList.drop 152 = dktX2_twoRegisters_6 := dk_seg dksX2_twoRegisters_5 24 rfl rfl
theorem dksX2_twoRegisters_7 : cX2_twoRegisters.data.toList.drop 176 = dktX2_twoRegisters_7 := dk_seg dksX2_twoRegisters_6 24 rfl rfl
theorem dksX2_twoRegisters_8 : cX2_twoRegisters.data.toList.drop 200 = dktX2_twoRegisters_8 := dk_seg dksX2_twoRegisters_7 24 rfl rfl
theorem dksX2_twoRegisters_9 : cX2_twoRegisters.data.toList.drop 224 = dktX2_twoRegisters_9 := dk_seg dksX2_twoRegisters_8 24 rfl rfl
theorem dksX2_twoRegisters_10 : cX2_twoRegisters.data.toList.drop 246 = dktX2_twoRegisters_10 := dk_seg dksX2_twoRegisters_9 22 rfl rfl
theorem dksX2_twoRegisters_11 : cX2_twoRegisters.data.toList.drop 270 = dktX2_twoRegisters_11 := dk_seg dksX2_twoRegisters_10 24 rfl rfl
theorem dX2_twoRegisters_0 : decode cX2_twoRegisters 0 = .ok (.iload_n 1, 1) := dk_27 (dk_at dksX2_twoRegisters_0 0 rfl rfl)
theorem dX2_twoRegisters_1 : decode cX2_twoRegisters 1 = .ok (.iconst 4, 1) := dk_7 (dk_at dksX2_twoRegisters_0 1 rfl rfl)
theorem dX2_twoRegisters_2 : decode cX2_twoRegisters 2 = .ok (.ishr, 1) := dk_122 (dk_at dksX2_twoRegisters_0 2 rfl rfl)
theorem dX2_twoRegisters_3 : decode cX2_twoRegisters 3 = .ok (.bipush 31, 2) := dk_16 31 (dk_at dksX2_twoRegisters_0 3 rfl rfl)
theorem dX2_twoRegisters_5 : decode cX2_twoRegisters 5 = .ok (.iand, 1) := dk_126 (dk_at dksX2_twoRegisters_0 5 rfl rfl)
theorem dX2_twoRegisters_6 : decode cX2_twoRegisters 6 = .ok (.istore_n 2, 1) := dk_61 (dk_at dksX2_twoRegisters_0 6 rfl rfl)
theorem dX2_twoRegisters_7 : decode cX2_twoRegisters 7 = .ok (.aload_n 0, 1) := dk_42 (dk_at dksX2_twoRegisters_0 7 rfl rfl)
theorem dX2_twoRegisters_8 : decode cX2_twoRegisters 8 = .ok (.getfield 9, 3) := dk_180 0 9 (dk_at dksX2_twoRegisters_0 8 rfl rfl)
theorem dX2_twoRegisters_11 : decode cX2_twoRegisters 11 = .ok (.iload_n 2, 1) := dk_28 (dk_at dksX2_twoRegisters_0 11 rfl rfl)
theorem dX2_twoRegisters_12 : decode cX2_twoRegisters 12 = .ok (.iaload, 1) := dk_46 (dk_at dksX2_twoRegisters_0 12 rfl rfl)
theorem dX2_twoRegisters_13 : decode cX2_twoRegisters 13 = .ok (.istore_n 3, 1) := dk_62 (dk_at dksX2_twoRegisters_0 13 rfl rfl)
theorem dX2_twoRegisters_14 : decode cX2_twoRegisters 14 = .ok (.aload_n 0, 1) := dk_42 (dk_at dksX2_twoRegisters_0 14 rfl rfl)
theorem dX2_twoRegisters_15 : decode cX2_twoRegisters 15 = .ok (.getfield 9, 3) := dk_180 0 9 (dk_at dksX2_twoRegisters_0 15 rfl rfl)
theorem dX2_twoRegisters_18 : decode cX2_twoRegisters 18 = .ok (.iload_n 1, 1) := dk_27 (dk_at dksX2_twoRegisters_0 18 rfl rfl)
theorem dX2_twoRegisters_19 : decode cX2_twoRegisters 19 = .ok (.bipush 15, 2) := dk_16 15 (dk_at dksX2_twoRegisters_0 19 rfl rfl)
theorem dX2_twoRegisters_21 : decode cX2_twoRegisters 21 = .ok (.iand, 1) := dk_126 (dk_at dksX2_twoRegisters_0 21 rfl rfl)
theorem dX2_twoRegisters_22 : decode cX2_twoRegisters 22 = .ok (.iload_n 1, 1) := dk_27 (dk_at dksX2_twoRegisters_0 22 rfl rfl)
theorem dX2_twoRegisters_23 : decode cX2_twoRegisters 23 = .ok (.iconst 5, 1) := dk_8 (dk_at dksX2_twoRegisters_0 23 rfl rfl)
theorem dX2_twoRegisters_24 : decode cX2_twoRegisters 24 = .ok (.ishr, 1) := dk_122 (dk_at dksX2_twoRegisters_1 0 rfl rfl)
theorem dX2_twoRegisters_25 : decode cX2_twoRegisters 25 = .ok (.bipush 16, 2) := dk_16 16 (dk_at dksX2_twoRegisters_1 1 rfl rfl)
theorem dX2_twoRegisters_27 : decode cX2_twoRegisters 27 = .ok (.iand, 1) := dk_126 (dk_at dksX2_twoRegisters_1 3 rfl rfl)
theorem dX2_twoRegisters_28 : decode cX2_twoRegisters 28 = .ok (.ior, 1) := dk_128 (dk_at dksX2_twoRegisters_1 4 rfl rfl)
theorem dX2_twoRegisters_29 : decode cX2_twoRegisters 29 = .ok (.iaload, 1) := dk_46 (dk_at dksX2_twoRegisters_1 5 rfl rfl)
theorem dX2_twoRegisters_30 : decode cX2_twoRegisters 30 = .ok (.istore 4, 2) := dk_54 4 (dk_at dksX2_twoRegisters_1 6 rfl rfl)
theorem dX2_twoRegisters_32 : decode cX2_twoRegisters 32 = .ok (.aload_n 0, 1) := dk_42 (dk_at dksX2_twoRegisters_1 8 rfl rfl)
theorem dX2_twoRegisters_33 : decode cX2_twoRegisters 33 = .ok (.iconst 1, 1) := dk_4 (dk_at dksX2_twoRegisters_1 9 rfl rfl)
theorem dX2_twoRegisters_34 : decode cX2_twoRegisters 34 = .ok (.invokevirtual 132, 3) := dk_182 0 132 (dk_at dksX2_twoRegisters_1 10 rfl rfl)
theorem dX2_twoRegisters_37 : decode cX2_twoRegisters 37 = .ok (.ifCond .eq 7, 3) := dk_153 0 7 (dk_at dksX2_twoRegisters_1 13 rfl rfl)
theorem dX2_twoRegisters_40 : decode cX2_twoRegisters 40 = .ok (.iconst 1, 1) := dk_4 (dk_at dksX2_twoRegisters_1 16 rfl rfl)
theorem dX2_twoRegisters_41 : decode cX2_twoRegisters 41 = .ok (.goto 4, 3) := dk_167 0 4 (dk_at dksX2_twoRegisters_1 17 rfl rfl)
theorem dX2_twoRegisters_44 : decode cX2_twoRegisters 44 = .ok (.iconst 0, 1) := dk_3 (dk_at dksX2_twoRegisters_1 20 rfl rfl)
theorem dX2_twoRegisters_45 : decode cX2_twoRegisters 45 = .ok (.istore 5, 2) := dk_54 5 (dk_at dksX2_twoRegisters_1 21 rfl rfl)
theorem dX2_twoRegisters_47 : decode cX2_twoRegisters 47 = .ok (.iload_n 1, 1) := dk_27 (dk_at dksX2_twoRegisters_1 23 rfl rfl)
theorem dX2_twoRegisters_48 : decode cX2_twoRegisters 48 = .ok (.bipush 10, 2) := dk_16 10 (dk_at dksX2_twoRegisters_2 0 rfl rfl)
theorem dX2_twoRegisters_50 : decode cX2_twoRegisters 50 = .ok (.ishr, 1) := dk_122 (dk_at dksX2_twoRegisters_2 2 rfl rfl)
theorem dX2_twoRegisters_51 : decode cX2_twoRegisters 51 = .ok (.tableswitch 211 1 10 #[53, 64, 80, 97, 113, 125, 142, 160, 177, 194], 53) := by decide +kernel
theorem dX2_twoRegisters_104 : decode cX2_twoRegisters 104 = .ok (.aload_n 0, 1) := dk_42 (dk_at dksX2_twoRegisters_4 0 rfl rfl)
theorem dX2_twoRegisters_105 : decode cX2_twoRegisters 105 = .ok (.iload_n 3, 1) := dk_29 (dk_at dksX2_twoRegisters_4 1 rfl rfl)
theorem dX2_twoRegisters_106 : decode cX2_twoRegisters 106 = .ok (.iload 4, 2) := dk_21 4 (dk_at dksX2_twoRegisters_4 2 rfl rfl)
theorem dX2_twoRegisters_108 : decode cX2_twoRegisters 108 = .ok (.invokevirtual 233, 3) := dk_182 0 233 (dk_at dksX2_twoRegisters_4 4 rfl rfl)
theorem dX2_twoRegisters_111 : decode cX2_twoRegisters 111 = .ok (.pop, 1) := dk_87 (dk_at dksX2_twoRegisters_4 7 rfl rfl)
theorem dX2_twoRegisters_112 : decode cX2_twoRegisters 112 = .ok (.goto 158, 3) := dk_167 0 158 (dk_at dksX2_twoRegisters_4 8 rfl rfl)
theorem dX2_twoRegisters_115 : decode cX2_twoRegisters 115 = .ok (.aload_n 0, 1) := dk_42 (dk_at dksX2_twoRegisters_4 11 rfl rfl)
theorem dX2_twoRegisters_116 : decode cX2_twoRegisters 116 = .ok (.getfield 9, 3) := dk_180 0 9 (dk_at dksX2_twoRegisters_4 12 rfl rfl)
theorem dX2_twoRegisters_119 : decode cX2_twoRegisters 119 = .ok (.iload_n 2, 1) := dk_28 (dk_at dksX2_twoRegisters_4 15 rfl rfl)
theorem dX2_twoRegisters_120 : decode cX2_twoRegisters 120 = .ok (.aload_n 0, 1) := dk_42 (dk_at dksX2_twoRegisters_4 16 rfl rfl)
theorem dX2_twoRegisters_121 : decode cX2_twoRegisters 121 = .ok (.iload_n 3, 1) := dk_29 (dk_at dksX2_twoRegisters_4 17 rfl rfl)
theorem dX2_twoRegisters_122 : decode cX2_twoRegisters 122 = .ok (.iload 4, 2) := dk_21 4 (dk_at dksX2_twoRegisters_4 18 rfl rfl)
theorem dX2_twoRegisters_124 : decode cX2_twoRegisters 124 = .ok (.invokevirtual 233, 3) := dk_182 0 233 (dk_at dksX2_twoRegisters_4 20 rfl rfl)
theorem dX2_twoRegisters_127 : decode cX2_twoRegisters 127 = .ok (.iastore, 1) := dk_79 (dk_at dksX2_twoRegisters_4 23 rfl rfl)
theorem dX2_twoRegisters_128 : decode cX2_twoRegisters 128 = .ok (.goto 142, 3) := dk_167 0 142 (dk_at dksX2_twoRegisters_5 0 rfl rfl)
theorem dX2_twoRegisters_131 : decode cX2_twoRegisters 131 = .ok (.aload_n 0, 1) := dk_42 (dk_at dksX2_twoRegisters_5 3 rfl rfl)
theorem dX2_twoRegisters_132 : decode cX2_twoRegisters 132 = .ok (.getfield 9, 3) := dk_180 0 9 (dk_at dksX2_twoRegisters_5 4 rfl rfl)
theorem dX2_twoRegisters_135 : decode cX2_twoRegisters 135 = .ok (.iload_n 2, 1) := dk_28 (dk_at dksX2_twoRegisters_5 7 rfl rfl)
theorem dX2_twoRegisters_136 : decode cX2_twoRegisters 136 = .ok (.aload_n 0, 1) := dk_42 (dk_at dksX2_twoRegisters_5 8 rfl rfl)
theorem dX2_twoRegisters_137 : decode cX2_twoRegisters 137 = .ok (.iload_n 3, 1) := dk_29 (dk_at dksX2_twoRegisters_5 9 rfl rfl)
theorem dX2_twoRegisters_138 : decode cX2_twoRegisters 138 = .ok (.iload 4, 2) := dk_21 4 (dk_at dksX2_twoRegisters_5 10 rfl rfl)
theorem dX2_twoRegisters_140 : decode cX2_twoRegisters 140 = .ok (.iconst 0, 1) := dk_3 (dk_at dksX2_twoRegisters_5 12 rfl rfl)
theorem dX2_twoRegisters_141 : decode cX2_twoRegisters 141 = .ok (.invokevirtual 246, 3) := dk_182 0 246 (dk_at dksX2_twoRegisters_5 13 rfl rfl)
theorem dX2_twoRegisters_144 : decode cX2_twoRegisters 144 = .ok (.iastore, 1) := dk_79 (dk_at dksX2_twoRegisters_5 16 rfl rfl)
theorem dX2_twoRegisters_145 : decode cX2_twoRegisters 145 = .ok (.goto 125, 3) := dk_167 0 125 (dk_at dksX2_twoRegisters_5 17 rfl rfl)
theorem dX2_twoRegisters_148 : decode cX2_twoRegisters 148 = .ok (.aload_n 0, 1) := dk_42 (dk_at dksX2_twoRegisters_5 20 rfl rfl)
theorem dX2_twoRegisters_149 : decode cX2_twoRegisters 149 = .ok (.iload_n 3, 1) := dk_29 (dk_at dksX2_twoRegisters_5 21 rfl rfl)
theorem dX2_twoRegisters_150 : decode cX2_twoRegisters 150 = .ok (.iload 4, 2) := dk_21 4 (dk_at dksX2_twoRegisters_5 22 rfl rfl)
theorem dX2_twoRegisters_152 : decode cX2_twoRegisters 152 = .ok (.if_icmp .ne 7, 3) := dk_160 0 7 (dk_at dksX2_twoRegisters_6 0 rfl rfl)
theorem dX2_twoRegisters_155 : decode cX2_twoRegisters 155 = .ok (.iconst 1, 1) := dk_4 (dk_at dksX2_twoRegisters_6 3 rfl rfl)
theorem dX2_twoRegisters_156 : decode cX2_twoRegisters 156 = .ok (.goto 4, 3) := dk_167 0 4 (dk_at dksX2_twoRegisters_6 4 rfl rfl)
theorem dX2_twoRegisters_159 : decode cX2_twoRegisters 159 = .ok (.iconst 0, 1) := dk_3 (dk_at dksX2_twoRegisters_6 7 rfl rfl)
theorem dX2_twoRegisters_160 : decode cX2_twoRegisters 160 = .ok (.invokevirtual 249, 3) := dk_182 0 249 (dk_at dksX2_twoRegisters_6 8 rfl rfl)
theorem dX2_twoRegisters_163 : decode cX2_twoRegisters 163 = .ok (.ireturn, 1) := dk_172 (dk_at dksX2_twoRegisters_6 11 rfl rfl)
theorem dX2_twoRegisters_164 : decode cX2_twoRegisters 164 = .ok (.aload_n 0, 1) := dk_42 (dk_at dksX2_twoRegisters_6 12 rfl rfl)
theorem dX2_twoRegisters_165 : decode cX2_twoRegisters 165 = .ok (.iload_n 3, 1) := dk_29 (dk_at dksX2_twoRegisters_6 13 rfl rfl)
theorem dX2_twoRegisters_166 : decode cX2_twoRegisters 166 = .ok (.iload 4, 2) := dk_21 4 (dk_at dksX2_twoRegisters_6 14 rfl rfl)
theorem dX2_twoRegisters_168 : decode cX2_twoRegisters 168 = .ok (.iconst 0, 1) := dk_3 (dk_at dksX2_twoRegisters_6 16 rfl rfl)
theorem dX2_twoRegisters_169 : decode cX2_twoRegisters 169 = .ok (.invokevirtual 139, 3) := dk_182 0 139 (dk_at dksX2_twoRegisters_6 17 rfl rfl)
theorem dX2_twoRegisters_172 : decode cX2_twoRegisters 172 = .ok (.pop, 1) := dk_87 (dk_at dksX2_twoRegisters_6 20 rfl rfl)
theorem dX2_twoRegisters_173 : decode cX2_twoRegisters 173 = .ok (.goto 97, 3) := dk_167 0 97 (dk_at dksX2_twoRegisters_6 21 rfl rfl)
theorem dX2_twoRegisters_176 : decode cX2_twoRegisters 176 = .ok (.aload_n 0, 1) := dk_42 (dk_at dksX2_twoRegisters_7 0 rfl rfl)
theorem dX2_twoRegisters_177 : decode cX2_twoRegisters 177 = .ok (.getfield 9, 3) := dk_180 0 9 (dk_at dksX2_twoRegisters_7 1 rfl rfl)
theorem dX2_twoRegisters_180 : decode cX2_twoRegisters 180 = .ok (.iload_n 2, 1) := dk_28 (dk_at dksX2_twoRegisters_7 4 rfl rfl)
theorem dX2_twoRegisters_181 : decode cX2_twoRegisters 181 = .ok (.aload_n 0, 1) := dk_42 (dk_at dksX2_twoRegisters_7 5 rfl rfl)
theorem dX2_twoRegisters_182 : decode cX2_twoRegisters 182 = .ok (.iload_n 3, 1) := dk_29 (dk_at dksX2_twoRegisters_7 6 rfl rfl)
theorem dX2_twoRegisters_183 : decode cX2_twoRegisters 183 = .ok (.iload 4, 2) := dk_21 4 (dk_at dksX2_twoRegisters_7 7 rfl rfl)
theorem dX2_twoRegisters_185 : decode cX2_twoRegisters 185 = .ok (.iconst 0, 1) := dk_3 (dk_at dksX2_twoRegisters_7 9 rfl rfl)
theorem dX2_twoRegisters_186 : decode cX2_twoRegisters 186 = .ok (.invokevirtual 139, 3) := dk_182 0 139 (dk_at dksX2_twoRegisters_7 10 rfl rfl)
theorem dX2_twoRegisters_189 : decode cX2_twoRegisters 189 = .ok (.iastore, 1) := dk_79 (dk_at dksX2_twoRegisters_7 13 rfl rfl)
theorem dX2_twoRegisters_190 : decode cX2_twoRegisters 190 = .ok (.goto 80, 3) := dk_167 0 80 (dk_at dksX2_twoRegisters_7 14 rfl rfl)
theorem dX2_twoRegisters_193 : decode cX2_twoRegisters 193 = .ok (.aload_n 0, 1) := dk_42 (dk_at dksX2_twoRegisters_7 17 rfl rfl)
theorem dX2_twoRegisters_194 : decode cX2_twoRegisters 194 = .ok (.getfield 9, 3) := dk_180 0 9 (dk_at dksX2_twoRegisters_7 18 rfl rfl)
theorem dX2_twoRegisters_197 : decode cX2_twoRegisters 197 = .ok (.iload_n 2, 1) := dk_28 (dk_at dksX2_twoRegisters_7 21 rfl rfl)
theorem dX2_twoRegisters_198 : decode cX2_twoRegisters 198 = .ok (.aload_n 0, 1) := dk_42 (dk_at dksX2_twoRegisters_7 22 rfl rfl)
theorem dX2_twoRegisters_199 : decode cX2_twoRegisters 199 = .ok (.iload_n 3, 1) := dk_29 (dk_at dksX2_twoRegisters_7 23 rfl rfl)
theorem dX2_twoRegisters_200 : decode cX2_twoRegisters 200 = .ok (.iload 4, 2) := dk_21 4 (dk_at dksX2_twoRegisters_8 0 rfl rfl)
theorem dX2_twoRegisters_202 : decode cX2_twoRegisters 202 = .ok (.iload 5, 2) := dk_21 5 (dk_at dksX2_twoRegisters_8 2 rfl rfl)
theorem dX2_twoRegisters_204 : decode cX2_twoRegisters 204 = .ok (.invokevirtual 246, 3) := dk_182 0 246 (dk_at dksX2_twoRegisters_8 4 rfl rfl)
theorem dX2_twoRegisters_207 : decode cX2_twoRegisters 207 = .ok (.iastore, 1) := dk_79 (dk_at dksX2_twoRegisters_8 7 rfl rfl)
theorem dX2_twoRegisters_208 : decode cX2_twoRegisters 208 = .ok (.goto 62, 3) := dk_167 0 62 (dk_at dksX2_twoRegisters_8 8 rfl rfl)
theorem dX2_twoRegisters_211 : decode cX2_twoRegisters 211 = .ok (.aload_n 0, 1) := dk_42 (dk_at dksX2_twoRegisters_8 11 rfl rfl)
theorem dX2_twoRegisters_212 : decode cX2_twoRegisters 212 = .ok (.getfield 9, 3) := dk_180 0 9 (dk_at dksX2_twoRegisters_8 12 rfl rfl)
theorem dX2_twoRegisters_215 : decode cX2_twoRegisters 215 = .ok (.iload_n 2, 1) := dk_28 (dk_at dksX2_twoRegisters_8 15 rfl rfl)
theorem dX2_twoRegisters_216 : decode cX2_twoRegisters 216 = .ok (.aload_n 0, 1) := dk_42 (dk_at dksX2_twoRegisters_8 16 rfl rfl)
theorem dX2_twoRegisters_217 : decode cX2_twoRegisters 217 = .ok (.iload_n 3, 1) := dk_29 (dk_at dksX2_twoRegisters_8 17 rfl rfl)
theorem dX2_twoRegisters_218 : decode cX2_twoRegisters 218 = .ok (.iload 4, 2) := dk_21 4 (dk_at dksX2_twoRegisters_8 18 rfl rfl)
theorem dX2_twoRegisters_220 : decode cX2_twoRegisters 220 = .ok (.iand, 1) := dk_126 (dk_at dksX2_twoRegisters_8 20 rfl rfl)
theorem dX2_twoRegisters_221 : decode cX2_twoRegisters 221 = .ok (.invokevirtual 237, 3) := dk_182 0 237 (dk_at dksX2_twoRegisters_8 21 rfl rfl)
theorem dX2_twoRegisters_224 : decode cX2_twoRegisters 224 = .ok (.iastore, 1) := dk_79 (dk_at dksX2_twoRegisters_9 0 rfl rfl)
theorem dX2_twoRegisters_225 : decode cX2_twoRegisters 225 = .ok (.goto 45, 3) := dk_167 0 45 (dk_at dksX2_twoRegisters_9 1 rfl rfl)
theorem dX2_twoRegisters_228 : decode cX2_twoRegisters 228 = .ok (.aload_n 0, 1) := dk_42 (dk_at dksX2_twoRegisters_9 4 rfl rfl)
theorem dX2_twoRegisters_229 : decode cX2_twoRegisters 229 = .ok (.getfield 9, 3) := dk_180 0 9 (dk_at dksX2_twoRegisters_9 5 rfl rfl)
theorem dX2_twoRegisters_232 : decode cX2_twoRegisters 232 = .ok (.iload_n 2, 1) := dk_28 (dk_at dksX2_twoRegisters_9 8 rfl rfl)
theorem dX2_twoRegisters_233 : decode cX2_twoRegisters 233 = .ok (.aload_n 0, 1) := dk_42 (dk_at dksX2_twoRegisters_9 9 rfl rfl)
theorem dX2_twoRegisters_234 : decode cX2_twoRegisters 234 = .ok (.iload_n 3, 1) := dk_29 (dk_at dksX2_twoRegisters_9 10 rfl rfl)
theorem dX2_twoRegisters_235 : decode cX2_twoRegisters 235 = .ok (.iload 4, 2) := dk_21 4 (dk_at dksX2_twoRegisters_9 11 rfl rfl)
theorem dX2_twoRegisters_237 : decode cX2_twoRegisters 237 = .ok (.ixor, 1) := dk_130 (dk_at dksX2_twoRegisters_9 13 rfl rfl)
theorem dX2_twoRegisters_238 : decode cX2_twoRegisters 238 = .ok (.invokevirtual 237, 3) := dk_182 0 237 (dk_at dksX2_twoRegisters_9 14 rfl rfl)
theorem dX2_twoRegisters_241 : decode cX2_twoRegisters 241 = .ok (.iastore, 1) := dk_79 (dk_at dksX2_twoRegisters_9 17 rfl rfl)
theorem dX2_twoRegisters_242 : decode cX2_twoRegisters 242 = .ok (.goto 28, 3) := dk_167 0 28 (dk_at dksX2_twoRegisters_9 18 rfl rfl)
theorem dX2_twoRegisters_245 : decode cX2_twoRegisters 245 = .ok (.aload_n 0, 1) := dk_42 (dk_at dksX2_twoRegisters_9 21 rfl rfl)
theorem dX2_twoRegisters_246 : decode cX2_twoRegisters 246 = .ok (.getfield 9, 3) := dk_180 0 9 (dk_at dksX2_twoRegisters_10 0 rfl rfl)
theorem dX2_twoRegisters_249 : decode cX2_twoRegisters 249 = .ok (.iload_n 2, 1) := dk_28 (dk_at dksX2_twoRegisters_10 3 rfl rfl)
theorem dX2_twoRegisters_250 : decode cX2_twoRegisters 250 = .ok (.aload_n 0, 1) := dk_42 (dk_at dksX2_twoRegisters_10 4 rfl rfl)
theorem dX2_twoRegisters_251 : decode cX2_twoRegisters 251 = .ok (.iload_n 3, 1) := dk_29 (dk_at dksX2_twoRegisters_10 5 rfl rfl)
theorem dX2_twoRegisters_252 : decode cX2_twoRegisters 252 = .ok (.iload 4, 2) := dk_21 4 (dk_at dksX2_twoRegisters_10 6 rfl rfl)
theorem dX2_twoRegisters_254 : decode cX2_twoRegisters 254 = .ok (.ior, 1) := dk_128 (dk_at dksX2_twoRegisters_10 8 rfl rfl)
theorem dX2_twoRegisters_255 : decode cX2_twoRegisters 255 = .ok (.invokevirtual 237, 3) := dk_182 0 237 (dk_at dksX2_twoRegisters_10 9 rfl rfl)
theorem dX2_twoRegisters_258 : decode cX2_twoRegisters 258 = .ok (.iastore, 1) := dk_79 (dk_at dksX2_twoRegisters_10 12 rfl rfl)
theorem dX2_twoRegisters_259 : decode cX2_twoRegisters 259 = .ok (.goto 11, 3) := dk_167 0 11 (dk_at dksX2_twoRegisters_10 13 rfl rfl)
theorem dX2_twoRegisters_262 : decode cX2_twoRegisters 262 = .ok (.aload_n 0, 1) := dk_42 (dk_at dksX2_twoRegisters_10 16 rfl rfl)
theorem dX2_twoRegisters_263 : decode cX2_twoRegisters 263 = .ok (.getfield 9, 3) := dk_180 0 9 (dk_at dksX2_twoRegisters_10 17 rfl rfl)
theorem dX2_twoRegisters_266 : decode cX2_twoRegisters 266 = .ok (.iload_n 2, 1) := dk_28 (dk_at dksX2_twoRegisters_10 20 rfl rfl)
theorem dX2_twoRegisters_267 : decode cX2_twoRegisters 267 = .ok (.iload 4, 2) := dk_21 4 (dk_at dksX2_twoRegisters_10 21 rfl rfl)
theorem dX2_twoRegisters_269 : decode cX2_twoRegisters 269 = .ok (.iastore, 1) := dk_79 (dk_at dksX2_twoRegisters_10 23 rfl rfl)
theorem dX2_twoRegisters_270 : decode cX2_twoRegisters 270 = .ok (.iconst 1, 1) := dk_4 (dk_at dksX2_twoRegisters_11 0 rfl rfl)
theorem dX2_twoRegisters_271 : decode cX2_twoRegisters 271 = .ok (.ireturn, 1) := dk_172 (dk_at dksX2_twoRegisters_11 1 rfl rfl)
abbrev cX2_takenOn : ByteArray := prog_3_method_19_code
def yX2_takenOn : MethodName := ⟨RX2, "takenOn", "(II)I"⟩
def dkwX2_takenOn_2 : List UInt8 := [182, 0, 128, 21, 4, 172]
abbrev dktX2_takenOn_2 : List UInt8 := dkwX2_takenOn_2 ++ []
def dkwX2_takenOn_1 : List UInt8 := [182, 0, 139, 54, 4, 42, 5, 42, 5, 182, 0, 132, 153, 0, 11, 29, 153, 0, 7, 4, 167, 0, 4, 3]
abbrev dktX2_takenOn_1 : List UInt8 := dkwX2_takenOn_1 ++ dktX2_takenOn_2
def dkwX2_takenOn_0 : List UInt8 := [42, 5, 182, 0, 132, 62, 42, 27, 28, 42, 4, 182, 0, 132, 153, 0, 7, 4, 167, 0, 4, 3]
abbrev dktX2_takenOn_0 : List UInt8 := dkwX2_takenOn_0 ++ dktX2_takenOn_1
theorem dksX2_takenOn_0 : cX2_takenOn.data.toList.drop 0 = dktX2_takenOn_0 := by decide +kernel
theorem dksX2_takenOn_1 : cX2_takenOn.data.toList.drop 22 = dktX2_takenOn_1 := dk_seg dksX2_takenOn_0 22 rfl rfl
theorem dksX2_takenOn_2 : cX2_takenOn.data.toList.drop 46 = dktX2_takenOn_2 := dk_seg dksX2_takenOn_1 24 rfl rfl
theorem dX2_takenOn_0 : decode cX2_takenOn 0 = .ok (.aload_n 0, 1) := dk_42 (dk_at dksX2_takenOn_0 0 rfl rfl)
theorem dX2_takenOn_1 : decode cX2_takenOn 1 = .ok (.iconst 2, 1) := dk_5 (dk_at dksX2_takenOn_0 1 rfl rfl)
theorem dX2_takenOn_2 : decode cX2_takenOn 2 = .ok (.invokevirtual 132, 3) := dk_182 0 132 (dk_at dksX2_takenOn_0 2 rfl rfl)
theorem dX2_takenOn_5 : decode cX2_takenOn 5 = .ok (.istore_n 3, 1) := dk_62 (dk_at dksX2_takenOn_0 5 rfl rfl)
theorem dX2_takenOn_6 : decode cX2_takenOn 6 = .ok (.aload_n 0, 1) := dk_42 (dk_at dksX2_takenOn_0 6 rfl rfl)
theorem dX2_takenOn_7 : decode cX2_takenOn 7 = .ok (.iload_n 1, 1) := dk_27 (dk_at dksX2_takenOn_0 7 rfl rfl)
theorem dX2_takenOn_8 : decode cX2_takenOn 8 = .ok (.iload_n 2, 1) := dk_28 (dk_at dksX2_takenOn_0 8 rfl rfl)
theorem dX2_takenOn_9 : decode cX2_takenOn 9 = .ok (.aload_n 0, 1) := dk_42 (dk_at dksX2_takenOn_0 9 rfl rfl)
theorem dX2_takenOn_10 : decode cX2_takenOn 10 = .ok (.iconst 1, 1) := dk_4 (dk_at dksX2_takenOn_0 10 rfl rfl)
theorem dX2_takenOn_11 : decode cX2_takenOn 11 = .ok (.invokevirtual 132, 3) := dk_182 0 132 (dk_at dksX2_takenOn_0 11 rfl rfl)
theorem dX2_takenOn_14 : decode cX2_takenOn 14 = .ok (.ifCond .eq 7, 3) := dk_153 0 7 (dk_at dksX2_takenOn_0 14 rfl rfl)
theorem dX2_takenOn_17 : decode cX2_takenOn 17 = .ok (.iconst 1, 1) := dk_4 (dk_at dksX2_takenOn_0 17 rfl rfl)
theorem dX2_takenOn_18 : decode cX2_takenOn 18 = .ok (.goto 4, 3) := dk_167 0 4 (dk_at dksX2_takenOn_0 18 rfl rfl)
theorem dX2_takenOn_21 : decode cX2_takenOn 21 = .ok (.iconst 0, 1) := dk_3 (dk_at dksX2_takenOn_0 21 rfl rfl)
theorem dX2_takenOn_22 : decode cX2_takenOn 22 = .ok (.invokevirtual 139, 3) := dk_182 0 139 (dk_at dksX2_takenOn_1 0 rfl rfl)
theorem dX2_takenOn_25 : decode cX2_takenOn 25 = .ok (.istore 4, 2) := dk_54 4 (dk_at dksX2_takenOn_1 3 rfl rfl)
theorem dX2_takenOn_27 : decode cX2_takenOn 27 = .ok (.aload_n 0, 1) := dk_42 (dk_at dksX2_takenOn_1 5 rfl rfl)
theorem dX2_takenOn_28 : decode cX2_takenOn 28 = .ok (.iconst 2, 1) := dk_5 (dk_at dksX2_takenOn_1 6 rfl rfl)
theorem dX2_takenOn_29 : decode cX2_takenOn 29 = .ok (.aload_n 0, 1) := dk_42 (dk_at dksX2_takenOn_1 7 rfl rfl)
theorem dX2_takenOn_30 : decode cX2_takenOn 30 = .ok (.iconst 2, 1) := dk_5 (dk_at dksX2_takenOn_1 8 rfl rfl)
theorem dX2_takenOn_31 : decode cX2_takenOn 31 = .ok (.invokevirtual 132, 3) := dk_182 0 132 (dk_at dksX2_takenOn_1 9 rfl rfl)
theorem dX2_takenOn_34 : decode cX2_takenOn 34 = .ok (.ifCond .eq 11, 3) := dk_153 0 11 (dk_at dksX2_takenOn_1 12 rfl rfl)
theorem dX2_takenOn_37 : decode cX2_takenOn 37 = .ok (.iload_n 3, 1) := dk_29 (dk_at dksX2_takenOn_1 15 rfl rfl)
theorem dX2_takenOn_38 : decode cX2_takenOn 38 = .ok (.ifCond .eq 7, 3) := dk_153 0 7 (dk_at dksX2_takenOn_1 16 rfl rfl)
theorem dX2_takenOn_41 : decode cX2_takenOn 41 = .ok (.iconst 1, 1) := dk_4 (dk_at dksX2_takenOn_1 19 rfl rfl)
theorem dX2_takenOn_42 : decode cX2_takenOn 42 = .ok (.goto 4, 3) := dk_167 0 4 (dk_at dksX2_takenOn_1 20 rfl rfl)
theorem dX2_takenOn_45 : decode cX2_takenOn 45 = .ok (.iconst 0, 1) := dk_3 (dk_at dksX2_takenOn_1 23 rfl rfl)
theorem dX2_takenOn_46 : decode cX2_takenOn 46 = .ok (.invokevirtual 128, 3) := dk_182 0 128 (dk_at dksX2_takenOn_2 0 rfl rfl)
theorem dX2_takenOn_49 : decode cX2_takenOn 49 = .ok (.iload 4, 2) := dk_21 4 (dk_at dksX2_takenOn_2 3 rfl rfl)
theorem dX2_takenOn_51 : decode cX2_takenOn 51 = .ok (.ireturn, 1) := dk_172 (dk_at dksX2_takenOn_2 5 rfl rfl)
abbrev cX2_taken : ByteArray := prog_3_method_18_code
def yX2_taken : MethodName := ⟨RX2, "taken", "(III)I"⟩
def dkwX2_taken_3 : List UInt8 := [182, 0, 136, 21, 4, 17, 0, 255, 126, 172]
abbrev dktX2_taken_3 : List UInt8 := dkwX2_taken_3 ++ []
def dkwX2_taken_2 : List UInt8 := [21, 4, 27, 28, 130, 27, 21, 4, 130, 126, 17, 0, 128, 126, 153, 0, 7, 4, 167, 0, 4, 3]
abbrev dktX2_taken_2 : List UInt8 := dkwX2_taken_2 ++ dktX2_taken_3
def dkwX2_taken_1 : List UInt8 := [4, 167, 0, 4, 3, 182, 0, 128, 42, 4, 21, 4, 156, 0, 7, 4, 167, 0, 4, 3, 182, 0, 128, 42]
abbrev dktX2_taken_1 : List UInt8 := dkwX2_taken_1 ++ dktX2_taken_2
def dkwX2_taken_0 : List UInt8 := [27, 28, 100, 29, 100, 54, 4, 42, 16, 32, 27, 16, 15, 126, 28, 16, 15, 126, 100, 29, 100, 156, 0, 7]
abbrev dktX2_taken_0 : List UInt8 := dkwX2_taken_0 ++ dktX2_taken_1
theorem dksX2_taken_0 : cX2_taken.data.toList.drop 0 = dktX2_taken_0 := by decide +kernel
theorem dksX2_taken_1 : cX2_taken.data.toList.drop 24 = dktX2_taken_1 := dk_seg dksX2_taken_0 24 rfl rfl
theorem dksX2_taken_2 : cX2_taken.data.toList.drop 48 = dktX2_taken_2 := dk_seg dksX2_taken_1 24 rfl rfl
theorem dksX2_taken_3 : cX2_taken.data.toList.drop 70 = dktX2_taken_3 := dk_seg dksX2_taken_2 22 rfl rfl
theorem dX2_taken_0 : decode cX2_taken 0 = .ok (.iload_n 1, 1) := dk_27 (dk_at dksX2_taken_0 0 rfl rfl)
theorem dX2_taken_1 : decode cX2_taken 1 = .ok (.iload_n 2, 1) := dk_28 (dk_at dksX2_taken_0 1 rfl rfl)
theorem dX2_taken_2 : decode cX2_taken 2 = .ok (.isub, 1) := dk_100 (dk_at dksX2_taken_0 2 rfl rfl)
theorem dX2_taken_3 : decode cX2_taken 3 = .ok (.iload_n 3, 1) := dk_29 (dk_at dksX2_taken_0 3 rfl rfl)
theorem dX2_taken_4 : decode cX2_taken 4 = .ok (.isub, 1) := dk_100 (dk_at dksX2_taken_0 4 rfl rfl)
theorem dX2_taken_5 : decode cX2_taken 5 = .ok (.istore 4, 2) := dk_54 4 (dk_at dksX2_taken_0 5 rfl rfl)
theorem dX2_taken_7 : decode cX2_taken 7 = .ok (.aload_n 0, 1) := dk_42 (dk_at dksX2_taken_0 7 rfl rfl)
theorem dX2_taken_8 : decode cX2_taken 8 = .ok (.bipush 32, 2) := dk_16 32 (dk_at dksX2_taken_0 8 rfl rfl)
theorem dX2_taken_10 : decode cX2_taken 10 = .ok (.iload_n 1, 1) := dk_27 (dk_at dksX2_taken_0 10 rfl rfl)
theorem dX2_taken_11 : decode cX2_taken 11 = .ok (.bipush 15, 2) := dk_16 15 (dk_at dksX2_taken_0 11 rfl rfl)
theorem dX2_taken_13 : decode cX2_taken 13 = .ok (.iand, 1) := dk_126 (dk_at dksX2_taken_0 13 rfl rfl)
theorem dX2_taken_14 : decode cX2_taken 14 = .ok (.iload_n 2, 1) := dk_28 (dk_at dksX2_taken_0 14 rfl rfl)
theorem dX2_taken_15 : decode cX2_taken 15 = .ok (.bipush 15, 2) := dk_16 15 (dk_at dksX2_taken_0 15 rfl rfl)
theorem dX2_taken_17 : decode cX2_taken 17 = .ok (.iand, 1) := dk_126 (dk_at dksX2_taken_0 17 rfl rfl)
theorem dX2_taken_18 : decode cX2_taken 18 = .ok (.isub, 1) := dk_100 (dk_at dksX2_taken_0 18 rfl rfl)
theorem dX2_taken_19 : decode cX2_taken 19 = .ok (.iload_n 3, 1) := dk_29 (dk_at dksX2_taken_0 19 rfl rfl)
theorem dX2_taken_20 : decode cX2_taken 20 = .ok (.isub, 1) := dk_100 (dk_at dksX2_taken_0 20 rfl rfl)
theorem dX2_taken_21 : decode cX2_taken 21 = .ok (.ifCond .ge 7, 3) := dk_156 0 7 (dk_at dksX2_taken_0 21 rfl rfl)
theorem dX2_taken_24 : decode cX2_taken 24 = .ok (.iconst 1, 1) := dk_4 (dk_at dksX2_taken_1 0 rfl rfl)
theorem dX2_taken_25 : decode cX2_taken 25 = .ok (.goto 4, 3) := dk_167 0 4 (dk_at dksX2_taken_1 1 rfl rfl)
theorem dX2_taken_28 : decode cX2_taken 28 = .ok (.iconst 0, 1) := dk_3 (dk_at dksX2_taken_1 4 rfl rfl)
theorem dX2_taken_29 : decode cX2_taken 29 = .ok (.invokevirtual 128, 3) := dk_182 0 128 (dk_at dksX2_taken_1 5 rfl rfl)
theorem dX2_taken_32 : decode cX2_taken 32 = .ok (.aload_n 0, 1) := dk_42 (dk_at dksX2_taken_1 8 rfl rfl)
theorem dX2_taken_33 : decode cX2_taken 33 = .ok (.iconst 1, 1) := dk_4 (dk_at dksX2_taken_1 9 rfl rfl)
theorem dX2_taken_34 : decode cX2_taken 34 = .ok (.iload 4, 2) := dk_21 4 (dk_at dksX2_taken_1 10 rfl rfl)
theorem dX2_taken_36 : decode cX2_taken 36 = .ok (.ifCond .ge 7, 3) := dk_156 0 7 (dk_at dksX2_taken_1 12 rfl rfl)
theorem dX2_taken_39 : decode cX2_taken 39 = .ok (.iconst 1, 1) := dk_4 (dk_at dksX2_taken_1 15 rfl rfl)
theorem dX2_taken_40 : decode cX2_taken 40 = .ok (.goto 4, 3) := dk_167 0 4 (dk_at dksX2_taken_1 16 rfl rfl)
theorem dX2_taken_43 : decode cX2_taken 43 = .ok (.iconst 0, 1) := dk_3 (dk_at dksX2_taken_1 19 rfl rfl)
theorem dX2_taken_44 : decode cX2_taken 44 = .ok (.invokevirtual 128, 3) := dk_182 0 128 (dk_at dksX2_taken_1 20 rfl rfl)
theorem dX2_taken_47 : decode cX2_taken 47 = .ok (.aload_n 0, 1) := dk_42 (dk_at dksX2_taken_1 23 rfl rfl)
theorem dX2_taken_48 : decode cX2_taken 48 = .ok (.iload 4, 2) := dk_21 4 (dk_at dksX2_taken_2 0 rfl rfl)
theorem dX2_taken_50 : decode cX2_taken 50 = .ok (.iload_n 1, 1) := dk_27 (dk_at dksX2_taken_2 2 rfl rfl)
theorem dX2_taken_51 : decode cX2_taken 51 = .ok (.iload_n 2, 1) := dk_28 (dk_at dksX2_taken_2 3 rfl rfl)
theorem dX2_taken_52 : decode cX2_taken 52 = .ok (.ixor, 1) := dk_130 (dk_at dksX2_taken_2 4 rfl rfl)
theorem dX2_taken_53 : decode cX2_taken 53 = .ok (.iload_n 1, 1) := dk_27 (dk_at dksX2_taken_2 5 rfl rfl)
theorem dX2_taken_54 : decode cX2_taken 54 = .ok (.iload 4, 2) := dk_21 4 (dk_at dksX2_taken_2 6 rfl rfl)
theorem dX2_taken_56 : decode cX2_taken 56 = .ok (.ixor, 1) := dk_130 (dk_at dksX2_taken_2 8 rfl rfl)
theorem dX2_taken_57 : decode cX2_taken 57 = .ok (.iand, 1) := dk_126 (dk_at dksX2_taken_2 9 rfl rfl)
theorem dX2_taken_58 : decode cX2_taken 58 = .ok (.sipush 128, 3) := dk_17 0 128 (dk_at dksX2_taken_2 10 rfl rfl)
theorem dX2_taken_61 : decode cX2_taken 61 = .ok (.iand, 1) := dk_126 (dk_at dksX2_taken_2 13 rfl rfl)
theorem dX2_taken_62 : decode cX2_taken 62 = .ok (.ifCond .eq 7, 3) := dk_153 0 7 (dk_at dksX2_taken_2 14 rfl rfl)
theorem dX2_taken_65 : decode cX2_taken 65 = .ok (.iconst 1, 1) := dk_4 (dk_at dksX2_taken_2 17 rfl rfl)
theorem dX2_taken_66 : decode cX2_taken 66 = .ok (.goto 4, 3) := dk_167 0 4 (dk_at dksX2_taken_2 18 rfl rfl)
theorem dX2_taken_69 : decode cX2_taken 69 = .ok (.iconst 0, 1) := dk_3 (dk_at dksX2_taken_2 21 rfl rfl)
theorem dX2_taken_70 : decode cX2_taken 70 = .ok (.invokevirtual 136, 3) := dk_182 0 136 (dk_at dksX2_taken_3 0 rfl rfl)
theorem dX2_taken_73 : decode cX2_taken 73 = .ok (.iload 4, 2) := dk_21 4 (dk_at dksX2_taken_3 3 rfl rfl)
theorem dX2_taken_75 : decode cX2_taken 75 = .ok (.sipush 255, 3) := dk_17 0 255 (dk_at dksX2_taken_3 5 rfl rfl)
theorem dX2_taken_78 : decode cX2_taken 78 = .ok (.iand, 1) := dk_126 (dk_at dksX2_taken_3 8 rfl rfl)
theorem dX2_taken_79 : decode cX2_taken 79 = .ok (.ireturn, 1) := dk_172 (dk_at dksX2_taken_3 9 rfl rfl)
abbrev cX2_by : ByteArray := prog_3_method_16_code
def yX2_by : MethodName := ⟨RX2, "by", "(IZ)V"⟩
def dkwX2_by_2 : List UInt8 := [182, 0, 132, 28, 159, 0, 7, 4, 167, 0, 4, 3, 182, 0, 128, 177]
abbrev dktX2_by_2 : List UInt8 := dkwX2_by_2 ++ []
def dkwX2_by_1 : List UInt8 := [126, 154, 0, 7, 4, 167, 0, 4, 3, 182, 0, 128, 42, 16, 8, 28, 182, 0, 128, 42, 16, 16, 42, 7]
abbrev dktX2_by_1 : List UInt8 := dkwX2_by_1 ++ dktX2_by_2
def dkwX2_by_0 : List UInt8 := [42, 7, 27, 17, 0, 128, 126, 153, 0, 7, 4, 167, 0, 4, 3, 182, 0, 128, 42, 5, 27, 17, 0, 255]
abbrev dktX2_by_0 : List UInt8 := dkwX2_by_0 ++ dktX2_by_1
theorem dksX2_by_0 : cX2_by.data.toList.drop 0 = dktX2_by_0 := by decide +kernel
theorem dksX2_by_1 : cX2_by.data.toList.drop 24 = dktX2_by_1 := dk_seg dksX2_by_0 24 rfl rfl
theorem dksX2_by_2 : cX2_by.data.toList.drop 48 = dktX2_by_2 := dk_seg dksX2_by_1 24 rfl rfl
theorem dX2_by_0 : decode cX2_by 0 = .ok (.aload_n 0, 1) := dk_42 (dk_at dksX2_by_0 0 rfl rfl)
theorem dX2_by_1 : decode cX2_by 1 = .ok (.iconst 4, 1) := dk_7 (dk_at dksX2_by_0 1 rfl rfl)
theorem dX2_by_2 : decode cX2_by 2 = .ok (.iload_n 1, 1) := dk_27 (dk_at dksX2_by_0 2 rfl rfl)
theorem dX2_by_3 : decode cX2_by 3 = .ok (.sipush 128, 3) := dk_17 0 128 (dk_at dksX2_by_0 3 rfl rfl)
theorem dX2_by_6 : decode cX2_by 6 = .ok (.iand, 1) := dk_126 (dk_at dksX2_by_0 6 rfl rfl)
theorem dX2_by_7 : decode cX2_by 7 = .ok (.ifCond .eq 7, 3) := dk_153 0 7 (dk_at dksX2_by_0 7 rfl rfl)
theorem dX2_by_10 : decode cX2_by 10 = .ok (.iconst 1, 1) := dk_4 (dk_at dksX2_by_0 10 rfl rfl)
theorem dX2_by_11 : decode cX2_by 11 = .ok (.goto 4, 3) := dk_167 0 4 (dk_at dksX2_by_0 11 rfl rfl)
theorem dX2_by_14 : decode cX2_by 14 = .ok (.iconst 0, 1) := dk_3 (dk_at dksX2_by_0 14 rfl rfl)
theorem dX2_by_15 : decode cX2_by 15 = .ok (.invokevirtual 128, 3) := dk_182 0 128 (dk_at dksX2_by_0 15 rfl rfl)
theorem dX2_by_18 : decode cX2_by 18 = .ok (.aload_n 0, 1) := dk_42 (dk_at dksX2_by_0 18 rfl rfl)
theorem dX2_by_19 : decode cX2_by 19 = .ok (.iconst 2, 1) := dk_5 (dk_at dksX2_by_0 19 rfl rfl)
theorem dX2_by_20 : decode cX2_by 20 = .ok (.iload_n 1, 1) := dk_27 (dk_at dksX2_by_0 20 rfl rfl)
theorem dX2_by_21 : decode cX2_by 21 = .ok (.sipush 255, 3) := dk_17 0 255 (dk_at dksX2_by_0 21 rfl rfl)
theorem dX2_by_24 : decode cX2_by 24 = .ok (.iand, 1) := dk_126 (dk_at dksX2_by_1 0 rfl rfl)
theorem dX2_by_25 : decode cX2_by 25 = .ok (.ifCond .ne 7, 3) := dk_154 0 7 (dk_at dksX2_by_1 1 rfl rfl)
theorem dX2_by_28 : decode cX2_by 28 = .ok (.iconst 1, 1) := dk_4 (dk_at dksX2_by_1 4 rfl rfl)
theorem dX2_by_29 : decode cX2_by 29 = .ok (.goto 4, 3) := dk_167 0 4 (dk_at dksX2_by_1 5 rfl rfl)
theorem dX2_by_32 : decode cX2_by 32 = .ok (.iconst 0, 1) := dk_3 (dk_at dksX2_by_1 8 rfl rfl)
theorem dX2_by_33 : decode cX2_by 33 = .ok (.invokevirtual 128, 3) := dk_182 0 128 (dk_at dksX2_by_1 9 rfl rfl)
theorem dX2_by_36 : decode cX2_by 36 = .ok (.aload_n 0, 1) := dk_42 (dk_at dksX2_by_1 12 rfl rfl)
theorem dX2_by_37 : decode cX2_by 37 = .ok (.bipush 8, 2) := dk_16 8 (dk_at dksX2_by_1 13 rfl rfl)
theorem dX2_by_39 : decode cX2_by 39 = .ok (.iload_n 2, 1) := dk_28 (dk_at dksX2_by_1 15 rfl rfl)
theorem dX2_by_40 : decode cX2_by 40 = .ok (.invokevirtual 128, 3) := dk_182 0 128 (dk_at dksX2_by_1 16 rfl rfl)
theorem dX2_by_43 : decode cX2_by 43 = .ok (.aload_n 0, 1) := dk_42 (dk_at dksX2_by_1 19 rfl rfl)
theorem dX2_by_44 : decode cX2_by 44 = .ok (.bipush 16, 2) := dk_16 16 (dk_at dksX2_by_1 20 rfl rfl)
theorem dX2_by_46 : decode cX2_by 46 = .ok (.aload_n 0, 1) := dk_42 (dk_at dksX2_by_1 22 rfl rfl)
theorem dX2_by_47 : decode cX2_by 47 = .ok (.iconst 4, 1) := dk_7 (dk_at dksX2_by_1 23 rfl rfl)
theorem dX2_by_48 : decode cX2_by 48 = .ok (.invokevirtual 132, 3) := dk_182 0 132 (dk_at dksX2_by_2 0 rfl rfl)
theorem dX2_by_51 : decode cX2_by 51 = .ok (.iload_n 2, 1) := dk_28 (dk_at dksX2_by_2 3 rfl rfl)
theorem dX2_by_52 : decode cX2_by 52 = .ok (.if_icmp .eq 7, 3) := dk_159 0 7 (dk_at dksX2_by_2 4 rfl rfl)
theorem dX2_by_55 : decode cX2_by 55 = .ok (.iconst 1, 1) := dk_4 (dk_at dksX2_by_2 7 rfl rfl)
theorem dX2_by_56 : decode cX2_by 56 = .ok (.goto 4, 3) := dk_167 0 4 (dk_at dksX2_by_2 8 rfl rfl)
theorem dX2_by_59 : decode cX2_by 59 = .ok (.iconst 0, 1) := dk_3 (dk_at dksX2_by_2 11 rfl rfl)
theorem dX2_by_60 : decode cX2_by 60 = .ok (.invokevirtual 128, 3) := dk_182 0 128 (dk_at dksX2_by_2 12 rfl rfl)
theorem dX2_by_63 : decode cX2_by 63 = .ok (.return_, 1) := dk_177 (dk_at dksX2_by_2 15 rfl rfl)
abbrev cX2_added : ByteArray := prog_3_method_17_code
def yX2_added : MethodName := ⟨RX2, "added", "(III)I"⟩
def dkwX2_added_3 : List UInt8 := [153, 0, 7, 4, 167, 0, 4, 3, 182, 0, 136, 21, 4, 17, 0, 255, 126, 172]
abbrev dktX2_added_3 : List UInt8 := dkwX2_added_3 ++ []
def dkwX2_added_2 : List UInt8 := [167, 0, 4, 3, 182, 0, 128, 42, 21, 4, 27, 21, 4, 130, 28, 21, 4, 130, 126, 17, 0, 128, 126]
abbrev dktX2_added_2 : List UInt8 := dkwX2_added_2 ++ dktX2_added_3
def dkwX2_added_1 : List UInt8 := [164, 0, 7, 4, 167, 0, 4, 3, 182, 0, 128, 42, 4, 21, 4, 17, 0, 255, 164, 0, 7, 4]
abbrev dktX2_added_1 : List UInt8 := dkwX2_added_1 ++ dktX2_added_2
def dkwX2_added_0 : List UInt8 := [27, 28, 96, 29, 96, 54, 4, 42, 16, 32, 27, 16, 15, 126, 28, 16, 15, 126, 96, 29, 96, 16, 15]
abbrev dktX2_added_0 : List UInt8 := dkwX2_added_0 ++ dktX2_added_1
theorem dksX2_added_0 : cX2_added.data.toList.drop 0 = dktX2_added_0 := by decide +kernel
theorem dksX2_added_1 : cX2_added.data.toList.drop 23 = dktX2_added_1 := dk_seg dksX2_added_0 23 rfl rfl
theorem dksX2_added_2 : cX2_added.data.toList.drop 45 = dktX2_added_2 := dk_seg dksX2_added_1 22 rfl rfl
theorem dksX2_added_3 : cX2_added.data.toList.drop 68 = dktX2_added_3 := dk_seg dksX2_added_2 23 rfl rfl
theorem dX2_added_0 : decode cX2_added 0 = .ok (.iload_n 1, 1) := dk_27 (dk_at dksX2_added_0 0 rfl rfl)
theorem dX2_added_1 : decode cX2_added 1 = .ok (.iload_n 2, 1) := dk_28 (dk_at dksX2_added_0 1 rfl rfl)
theorem dX2_added_2 : decode cX2_added 2 = .ok (.iadd, 1) := dk_96 (dk_at dksX2_added_0 2 rfl rfl)
theorem dX2_added_3 : decode cX2_added 3 = .ok (.iload_n 3, 1) := dk_29 (dk_at dksX2_added_0 3 rfl rfl)
theorem dX2_added_4 : decode cX2_added 4 = .ok (.iadd, 1) := dk_96 (dk_at dksX2_added_0 4 rfl rfl)
theorem dX2_added_5 : decode cX2_added 5 = .ok (.istore 4, 2) := dk_54 4 (dk_at dksX2_added_0 5 rfl rfl)
theorem dX2_added_7 : decode cX2_added 7 = .ok (.aload_n 0, 1) := dk_42 (dk_at dksX2_added_0 7 rfl rfl)
theorem dX2_added_8 : decode cX2_added 8 = .ok (.bipush 32, 2) := dk_16 32 (dk_at dksX2_added_0 8 rfl rfl)
theorem dX2_added_10 : decode cX2_added 10 = .ok (.iload_n 1, 1) := dk_27 (dk_at dksX2_added_0 10 rfl rfl)
theorem dX2_added_11 : decode cX2_added 11 = .ok (.bipush 15, 2) := dk_16 15 (dk_at dksX2_added_0 11 rfl rfl)
theorem dX2_added_13 : decode cX2_added 13 = .ok (.iand, 1) := dk_126 (dk_at dksX2_added_0 13 rfl rfl)
theorem dX2_added_14 : decode cX2_added 14 = .ok (.iload_n 2, 1) := dk_28 (dk_at dksX2_added_0 14 rfl rfl)
theorem dX2_added_15 : decode cX2_added 15 = .ok (.bipush 15, 2) := dk_16 15 (dk_at dksX2_added_0 15 rfl rfl)
theorem dX2_added_17 : decode cX2_added 17 = .ok (.iand, 1) := dk_126 (dk_at dksX2_added_0 17 rfl rfl)
theorem dX2_added_18 : decode cX2_added 18 = .ok (.iadd, 1) := dk_96 (dk_at dksX2_added_0 18 rfl rfl)
theorem dX2_added_19 : decode cX2_added 19 = .ok (.iload_n 3, 1) := dk_29 (dk_at dksX2_added_0 19 rfl rfl)
theorem dX2_added_20 : decode cX2_added 20 = .ok (.iadd, 1) := dk_96 (dk_at dksX2_added_0 20 rfl rfl)
theorem dX2_added_21 : decode cX2_added 21 = .ok (.bipush 15, 2) := dk_16 15 (dk_at dksX2_added_0 21 rfl rfl)
theorem dX2_added_23 : decode cX2_added 23 = .ok (.if_icmp .le 7, 3) := dk_164 0 7 (dk_at dksX2_added_1 0 rfl rfl)
theorem dX2_added_26 : decode cX2_added 26 = .ok (.iconst 1, 1) := dk_4 (dk_at dksX2_added_1 3 rfl rfl)
theorem dX2_added_27 : decode cX2_added 27 = .ok (.goto 4, 3) := dk_167 0 4 (dk_at dksX2_added_1 4 rfl rfl)
theorem dX2_added_30 : decode cX2_added 30 = .ok (.iconst 0, 1) := dk_3 (dk_at dksX2_added_1 7 rfl rfl)
theorem dX2_added_31 : decode cX2_added 31 = .ok (.invokevirtual 128, 3) := dk_182 0 128 (dk_at dksX2_added_1 8 rfl rfl)
theorem dX2_added_34 : decode cX2_added 34 = .ok (.aload_n 0, 1) := dk_42 (dk_at dksX2_added_1 11 rfl rfl)
theorem dX2_added_35 : decode cX2_added 35 = .ok (.iconst 1, 1) := dk_4 (dk_at dksX2_added_1 12 rfl rfl)
theorem dX2_added_36 : decode cX2_added 36 = .ok (.iload 4, 2) := dk_21 4 (dk_at dksX2_added_1 13 rfl rfl)
theorem dX2_added_38 : decode cX2_added 38 = .ok (.sipush 255, 3) := dk_17 0 255 (dk_at dksX2_added_1 15 rfl rfl)
theorem dX2_added_41 : decode cX2_added 41 = .ok (.if_icmp .le 7, 3) := dk_164 0 7 (dk_at dksX2_added_1 18 rfl rfl)
theorem dX2_added_44 : decode cX2_added 44 = .ok (.iconst 1, 1) := dk_4 (dk_at dksX2_added_1 21 rfl rfl)
theorem dX2_added_45 : decode cX2_added 45 = .ok (.goto 4, 3) := dk_167 0 4 (dk_at dksX2_added_2 0 rfl rfl)
theorem dX2_added_48 : decode cX2_added 48 = .ok (.iconst 0, 1) := dk_3 (dk_at dksX2_added_2 3 rfl rfl)
theorem dX2_added_49 : decode cX2_added 49 = .ok (.invokevirtual 128, 3) := dk_182 0 128 (dk_at dksX2_added_2 4 rfl rfl)
theorem dX2_added_52 : decode cX2_added 52 = .ok (.aload_n 0, 1) := dk_42 (dk_at dksX2_added_2 7 rfl rfl)
theorem dX2_added_53 : decode cX2_added 53 = .ok (.iload 4, 2) := dk_21 4 (dk_at dksX2_added_2 8 rfl rfl)
theorem dX2_added_55 : decode cX2_added 55 = .ok (.iload_n 1, 1) := dk_27 (dk_at dksX2_added_2 10 rfl rfl)
theorem dX2_added_56 : decode cX2_added 56 = .ok (.iload 4, 2) := dk_21 4 (dk_at dksX2_added_2 11 rfl rfl)
theorem dX2_added_58 : decode cX2_added 58 = .ok (.ixor, 1) := dk_130 (dk_at dksX2_added_2 13 rfl rfl)
theorem dX2_added_59 : decode cX2_added 59 = .ok (.iload_n 2, 1) := dk_28 (dk_at dksX2_added_2 14 rfl rfl)
theorem dX2_added_60 : decode cX2_added 60 = .ok (.iload 4, 2) := dk_21 4 (dk_at dksX2_added_2 15 rfl rfl)
theorem dX2_added_62 : decode cX2_added 62 = .ok (.ixor, 1) := dk_130 (dk_at dksX2_added_2 17 rfl rfl)
theorem dX2_added_63 : decode cX2_added 63 = .ok (.iand, 1) := dk_126 (dk_at dksX2_added_2 18 rfl rfl)
theorem dX2_added_64 : decode cX2_added 64 = .ok (.sipush 128, 3) := dk_17 0 128 (dk_at dksX2_added_2 19 rfl rfl)
theorem dX2_added_67 : decode cX2_added 67 = .ok (.iand, 1) := dk_126 (dk_at dksX2_added_2 22 rfl rfl)
theorem dX2_added_68 : decode cX2_added 68 = .ok (.ifCond .eq 7, 3) := dk_153 0 7 (dk_at dksX2_added_3 0 rfl rfl)
theorem dX2_added_71 : decode cX2_added 71 = .ok (.iconst 1, 1) := dk_4 (dk_at dksX2_added_3 3 rfl rfl)
theorem dX2_added_72 : decode cX2_added 72 = .ok (.goto 4, 3) := dk_167 0 4 (dk_at dksX2_added_3 4 rfl rfl)
theorem dX2_added_75 : decode cX2_added 75 = .ok (.iconst 0, 1) := dk_3 (dk_at dksX2_added_3 7 rfl rfl)
theorem dX2_added_76 : decode cX2_added 76 = .ok (.invokevirtual 136, 3) := dk_182 0 136 (dk_at dksX2_added_3 8 rfl rfl)
theorem dX2_added_79 : decode cX2_added 79 = .ok (.iload 4, 2) := dk_21 4 (dk_at dksX2_added_3 11 rfl rfl)
theorem dX2_added_81 : decode cX2_added 81 = .ok (.sipush 255, 3) := dk_17 0 255 (dk_at dksX2_added_3 13 rfl rfl)
theorem dX2_added_84 : decode cX2_added 84 = .ok (.iand, 1) := dk_126 (dk_at dksX2_added_3 16 rfl rfl)
theorem dX2_added_85 : decode cX2_added 85 = .ok (.ireturn, 1) := dk_172 (dk_at dksX2_added_3 17 rfl rfl)
abbrev cX2_skip : ByteArray := prog_3_method_28_code
def yX2_skip : MethodName := ⟨RX2, "skip", "(Z)I"⟩
def dkwX2_skip_1 : List UInt8 := [87, 6, 172]
abbrev dktX2_skip_1 : List UInt8 := dkwX2_skip_1 ++ []
def dkwX2_skip_0 : List UInt8 := [27, 154, 0, 5, 4, 172, 42, 182, 0, 205, 61, 28, 184, 0, 208, 154, 0, 5, 5, 172, 42, 182, 0, 205]
abbrev dktX2_skip_0 : List UInt8 := dkwX2_skip_0 ++ dktX2_skip_1
theorem dksX2_skip_0 : cX2_skip.data.toList.drop 0 = dktX2_skip_0 := by decide +kernel
theorem dksX2_skip_1 : cX2_skip.data.toList.drop 24 = dktX2_skip_1 := dk_seg dksX2_skip_0 24 rfl rfl
theorem dX2_skip_0 : decode cX2_skip 0 = .ok (.iload_n 1, 1) := dk_27 (dk_at dksX2_skip_0 0 rfl rfl)
theorem dX2_skip_1 : decode cX2_skip 1 = .ok (.ifCond .ne 5, 3) := dk_154 0 5 (dk_at dksX2_skip_0 1 rfl rfl)
theorem dX2_skip_4 : decode cX2_skip 4 = .ok (.iconst 1, 1) := dk_4 (dk_at dksX2_skip_0 4 rfl rfl)
theorem dX2_skip_5 : decode cX2_skip 5 = .ok (.ireturn, 1) := dk_172 (dk_at dksX2_skip_0 5 rfl rfl)
theorem dX2_skip_6 : decode cX2_skip 6 = .ok (.aload_n 0, 1) := dk_42 (dk_at dksX2_skip_0 6 rfl rfl)
theorem dX2_skip_7 : decode cX2_skip 7 = .ok (.invokevirtual 205, 3) := dk_182 0 205 (dk_at dksX2_skip_0 7 rfl rfl)
theorem dX2_skip_10 : decode cX2_skip 10 = .ok (.istore_n 2, 1) := dk_61 (dk_at dksX2_skip_0 10 rfl rfl)
theorem dX2_skip_11 : decode cX2_skip 11 = .ok (.iload_n 2, 1) := dk_28 (dk_at dksX2_skip_0 11 rfl rfl)
theorem dX2_skip_12 : decode cX2_skip 12 = .ok (.invokestatic 208, 3) := dk_184 0 208 (dk_at dksX2_skip_0 12 rfl rfl)
theorem dX2_skip_15 : decode cX2_skip 15 = .ok (.ifCond .ne 5, 3) := dk_154 0 5 (dk_at dksX2_skip_0 15 rfl rfl)
theorem dX2_skip_18 : decode cX2_skip 18 = .ok (.iconst 2, 1) := dk_5 (dk_at dksX2_skip_0 18 rfl rfl)
theorem dX2_skip_19 : decode cX2_skip 19 = .ok (.ireturn, 1) := dk_172 (dk_at dksX2_skip_0 19 rfl rfl)
theorem dX2_skip_20 : decode cX2_skip 20 = .ok (.aload_n 0, 1) := dk_42 (dk_at dksX2_skip_0 20 rfl rfl)
theorem dX2_skip_21 : decode cX2_skip 21 = .ok (.invokevirtual 205, 3) := dk_182 0 205 (dk_at dksX2_skip_0 21 rfl rfl)
theorem dX2_skip_24 : decode cX2_skip 24 = .ok (.pop, 1) := dk_87 (dk_at dksX2_skip_1 0 rfl rfl)
theorem dX2_skip_25 : decode cX2_skip 25 = .ok (.iconst 3, 1) := dk_6 (dk_at dksX2_skip_1 1 rfl rfl)
theorem dX2_skip_26 : decode cX2_skip 26 = .ok (.ireturn, 1) := dk_172 (dk_at dksX2_skip_1 2 rfl rfl)
abbrev cX2_isLong : ByteArray := prog_3_method_27_code
def yX2_isLong : MethodName := ⟨RX2, "isLong", "(I)Z"⟩
def dkwX2_isLong_0 : List UInt8 := [26, 18, 201, 126, 18, 202, 159, 0, 12, 26, 18, 203, 126, 18, 204, 160, 0, 7, 4, 167, 0, 4, 3, 172]
abbrev dktX2_isLong_0 : List UInt8 := dkwX2_isLong_0 ++ []
theorem dksX2_isLong_0 : cX2_isLong.data.toList.drop 0 = dktX2_isLong_0 := by decide +kernel
theorem dX2_isLong_0 : decode cX2_isLong 0 = .ok (.iload_n 0, 1) := dk_26 (dk_at dksX2_isLong_0 0 rfl rfl)
theorem dX2_isLong_1 : decode cX2_isLong 1 = .ok (.ldc 201, 2) := dk_18 201 (dk_at dksX2_isLong_0 1 rfl rfl)
theorem dX2_isLong_3 : decode cX2_isLong 3 = .ok (.iand, 1) := dk_126 (dk_at dksX2_isLong_0 3 rfl rfl)
theorem dX2_isLong_4 : decode cX2_isLong 4 = .ok (.ldc 202, 2) := dk_18 202 (dk_at dksX2_isLong_0 4 rfl rfl)
theorem dX2_isLong_6 : decode cX2_isLong 6 = .ok (.if_icmp .eq 12, 3) := dk_159 0 12 (dk_at dksX2_isLong_0 6 rfl rfl)
theorem dX2_isLong_9 : decode cX2_isLong 9 = .ok (.iload_n 0, 1) := dk_26 (dk_at dksX2_isLong_0 9 rfl rfl)
theorem dX2_isLong_10 : decode cX2_isLong 10 = .ok (.ldc 203, 2) := dk_18 203 (dk_at dksX2_isLong_0 10 rfl rfl)
theorem dX2_isLong_12 : decode cX2_isLong 12 = .ok (.iand, 1) := dk_126 (dk_at dksX2_isLong_0 12 rfl rfl)
theorem dX2_isLong_13 : decode cX2_isLong 13 = .ok (.ldc 204, 2) := dk_18 204 (dk_at dksX2_isLong_0 13 rfl rfl)
theorem dX2_isLong_15 : decode cX2_isLong 15 = .ok (.if_icmp .ne 7, 3) := dk_160 0 7 (dk_at dksX2_isLong_0 15 rfl rfl)
theorem dX2_isLong_18 : decode cX2_isLong 18 = .ok (.iconst 1, 1) := dk_4 (dk_at dksX2_isLong_0 18 rfl rfl)
theorem dX2_isLong_19 : decode cX2_isLong 19 = .ok (.goto 4, 3) := dk_167 0 4 (dk_at dksX2_isLong_0 19 rfl rfl)
theorem dX2_isLong_22 : decode cX2_isLong 22 = .ok (.iconst 0, 1) := dk_3 (dk_at dksX2_isLong_0 22 rfl rfl)
theorem dX2_isLong_23 : decode cX2_isLong 23 = .ok (.ireturn, 1) := dk_172 (dk_at dksX2_isLong_0 23 rfl rfl)
abbrev cX2_logic : ByteArray := prog_3_method_20_code
def yX2_logic : MethodName := ⟨RX2, "logic", "(I)I"⟩
def dkwX2_logic_0 : List UInt8 := [42, 27, 3, 182, 0, 136, 27, 17, 0, 255, 126, 172]
abbrev dktX2_logic_0 : List UInt8 := dkwX2_logic_0 ++ []
theorem dksX2_logic_0 : cX2_logic.data.toList.drop 0 = dktX2_logic_0 := by decide +kernel
theorem dX2_logic_0 : decode cX2_logic 0 = .ok (.aload_n 0, 1) := dk_42 (dk_at dksX2_logic_0 0 rfl rfl)
theorem dX2_logic_1 : decode cX2_logic 1 = .ok (.iload_n 1, 1) := dk_27 (dk_at dksX2_logic_0 1 rfl rfl)
theorem dX2_logic_2 : decode cX2_logic 2 = .ok (.iconst 0, 1) := dk_3 (dk_at dksX2_logic_0 2 rfl rfl)
theorem dX2_logic_3 : decode cX2_logic 3 = .ok (.invokevirtual 136, 3) := dk_182 0 136 (dk_at dksX2_logic_0 3 rfl rfl)
theorem dX2_logic_6 : decode cX2_logic 6 = .ok (.iload_n 1, 1) := dk_27 (dk_at dksX2_logic_0 6 rfl rfl)
theorem dX2_logic_7 : decode cX2_logic 7 = .ok (.sipush 255, 3) := dk_17 0 255 (dk_at dksX2_logic_0 7 rfl rfl)
theorem dX2_logic_10 : decode cX2_logic 10 = .ok (.iand, 1) := dk_126 (dk_at dksX2_logic_0 10 rfl rfl)
theorem dX2_logic_11 : decode cX2_logic 11 = .ok (.ireturn, 1) := dk_172 (dk_at dksX2_logic_0 11 rfl rfl)
abbrev cX2_displaced : ByteArray := prog_3_method_33_code
def yX2_displaced : MethodName := ⟨RX2, "displaced", "(I)I"⟩
def dkwX2_displaced_2 : List UInt8 := [29, 182, 0, 253, 5, 172]
abbrev dktX2_displaced_2 : List UInt8 := dkwX2_displaced_2 ++ []
def dkwX2_displaced_1 : List UInt8 := [16, 8, 126, 153, 0, 8, 16, 28, 167, 0, 5, 16, 30, 182, 0, 240, 28, 96, 18, 147, 126, 62, 42, 27]
abbrev dktX2_displaced_1 : List UInt8 := dkwX2_displaced_1 ++ dktX2_displaced_2
def dkwX2_displaced_0 : List UInt8 := [27, 16, 7, 126, 27, 16, 7, 122, 16, 24, 126, 128, 27, 16, 8, 122, 16, 32, 126, 128, 61, 42, 27]
abbrev dktX2_displaced_0 : List UInt8 := dkwX2_displaced_0 ++ dktX2_displaced_1
theorem dksX2_displaced_0 : cX2_displaced.data.toList.drop 0 = dktX2_displaced_0 := by decide +kernel
theorem dksX2_displaced_1 : cX2_displaced.data.toList.drop 23 = dktX2_displaced_1 := dk_seg dksX2_displaced_0 23 rfl rfl
theorem dksX2_displaced_2 : cX2_displaced.data.toList.drop 47 = dktX2_displaced_2 := dk_seg dksX2_displaced_1 24 rfl rfl
theorem dX2_displaced_0 : decode cX2_displaced 0 = .ok (.iload_n 1, 1) := dk_27 (dk_at dksX2_displaced_0 0 rfl rfl)
theorem dX2_displaced_1 : decode cX2_displaced 1 = .ok (.bipush 7, 2) := dk_16 7 (dk_at dksX2_displaced_0 1 rfl rfl)
theorem dX2_displaced_3 : decode cX2_displaced 3 = .ok (.iand, 1) := dk_126 (dk_at dksX2_displaced_0 3 rfl rfl)
theorem dX2_displaced_4 : decode cX2_displaced 4 = .ok (.iload_n 1, 1) := dk_27 (dk_at dksX2_displaced_0 4 rfl rfl)
theorem dX2_displaced_5 : decode cX2_displaced 5 = .ok (.bipush 7, 2) := dk_16 7 (dk_at dksX2_displaced_0 5 rfl rfl)
theorem dX2_displaced_7 : decode cX2_displaced 7 = .ok (.ishr, 1) := dk_122 (dk_at dksX2_displaced_0 7 rfl rfl)
theorem dX2_displaced_8 : decode cX2_displaced 8 = .ok (.bipush 24, 2) := dk_16 24 (dk_at dksX2_displaced_0 8 rfl rfl)
theorem dX2_displaced_10 : decode cX2_displaced 10 = .ok (.iand, 1) := dk_126 (dk_at dksX2_displaced_0 10 rfl rfl)
theorem dX2_displaced_11 : decode cX2_displaced 11 = .ok (.ior, 1) := dk_128 (dk_at dksX2_displaced_0 11 rfl rfl)
theorem dX2_displaced_12 : decode cX2_displaced 12 = .ok (.iload_n 1, 1) := dk_27 (dk_at dksX2_displaced_0 12 rfl rfl)
theorem dX2_displaced_13 : decode cX2_displaced 13 = .ok (.bipush 8, 2) := dk_16 8 (dk_at dksX2_displaced_0 13 rfl rfl)
theorem dX2_displaced_15 : decode cX2_displaced 15 = .ok (.ishr, 1) := dk_122 (dk_at dksX2_displaced_0 15 rfl rfl)
theorem dX2_displaced_16 : decode cX2_displaced 16 = .ok (.bipush 32, 2) := dk_16 32 (dk_at dksX2_displaced_0 16 rfl rfl)
theorem dX2_displaced_18 : decode cX2_displaced 18 = .ok (.iand, 1) := dk_126 (dk_at dksX2_displaced_0 18 rfl rfl)
theorem dX2_displaced_19 : decode cX2_displaced 19 = .ok (.ior, 1) := dk_128 (dk_at dksX2_displaced_0 19 rfl rfl)
theorem dX2_displaced_20 : decode cX2_displaced 20 = .ok (.istore_n 2, 1) := dk_61 (dk_at dksX2_displaced_0 20 rfl rfl)
theorem dX2_displaced_21 : decode cX2_displaced 21 = .ok (.aload_n 0, 1) := dk_42 (dk_at dksX2_displaced_0 21 rfl rfl)
theorem dX2_displaced_22 : decode cX2_displaced 22 = .ok (.iload_n 1, 1) := dk_27 (dk_at dksX2_displaced_0 22 rfl rfl)
theorem dX2_displaced_23 : decode cX2_displaced 23 = .ok (.bipush 8, 2) := dk_16 8 (dk_at dksX2_displaced_1 0 rfl rfl)
theorem dX2_displaced_25 : decode cX2_displaced 25 = .ok (.iand, 1) := dk_126 (dk_at dksX2_displaced_1 2 rfl rfl)
theorem dX2_displaced_26 : decode cX2_displaced 26 = .ok (.ifCond .eq 8, 3) := dk_153 0 8 (dk_at dksX2_displaced_1 3 rfl rfl)
theorem dX2_displaced_29 : decode cX2_displaced 29 = .ok (.bipush 28, 2) := dk_16 28 (dk_at dksX2_displaced_1 6 rfl rfl)
theorem dX2_displaced_31 : decode cX2_displaced 31 = .ok (.goto 5, 3) := dk_167 0 5 (dk_at dksX2_displaced_1 8 rfl rfl)
theorem dX2_displaced_34 : decode cX2_displaced 34 = .ok (.bipush 30, 2) := dk_16 30 (dk_at dksX2_displaced_1 11 rfl rfl)
theorem dX2_displaced_36 : decode cX2_displaced 36 = .ok (.invokevirtual 240, 3) := dk_182 0 240 (dk_at dksX2_displaced_1 13 rfl rfl)
theorem dX2_displaced_39 : decode cX2_displaced 39 = .ok (.iload_n 2, 1) := dk_28 (dk_at dksX2_displaced_1 16 rfl rfl)
theorem dX2_displaced_40 : decode cX2_displaced 40 = .ok (.iadd, 1) := dk_96 (dk_at dksX2_displaced_1 17 rfl rfl)
theorem dX2_displaced_41 : decode cX2_displaced 41 = .ok (.ldc 147, 2) := dk_18 147 (dk_at dksX2_displaced_1 18 rfl rfl)
theorem dX2_displaced_43 : decode cX2_displaced 43 = .ok (.iand, 1) := dk_126 (dk_at dksX2_displaced_1 20 rfl rfl)
theorem dX2_displaced_44 : decode cX2_displaced 44 = .ok (.istore_n 3, 1) := dk_62 (dk_at dksX2_displaced_1 21 rfl rfl)
theorem dX2_displaced_45 : decode cX2_displaced 45 = .ok (.aload_n 0, 1) := dk_42 (dk_at dksX2_displaced_1 22 rfl rfl)
theorem dX2_displaced_46 : decode cX2_displaced 46 = .ok (.iload_n 1, 1) := dk_27 (dk_at dksX2_displaced_1 23 rfl rfl)
theorem dX2_displaced_47 : decode cX2_displaced 47 = .ok (.iload_n 3, 1) := dk_29 (dk_at dksX2_displaced_2 0 rfl rfl)
theorem dX2_displaced_48 : decode cX2_displaced 48 = .ok (.invokevirtual 253, 3) := dk_182 0 253 (dk_at dksX2_displaced_2 1 rfl rfl)
theorem dX2_displaced_51 : decode cX2_displaced 51 = .ok (.iconst 2, 1) := dk_5 (dk_at dksX2_displaced_2 4 rfl rfl)
theorem dX2_displaced_52 : decode cX2_displaced 52 = .ok (.ireturn, 1) := dk_172 (dk_at dksX2_displaced_2 5 rfl rfl)
abbrev cX2_move : ByteArray := prog_3_method_34_code
def yX2_move : MethodName := ⟨RX2, "move", "(II)V"⟩
def dkwX2_move_1 : List UInt8 := [182, 0, 114, 167, 0, 14, 42, 180, 0, 9, 29, 42, 28, 182, 0, 118, 79, 177]
abbrev dktX2_move_1 : List UInt8 := dkwX2_move_1 ++ []
def dkwX2_move_0 : List UInt8 := [27, 7, 122, 16, 31, 126, 62, 27, 17, 2, 0, 126, 153, 0, 17, 42, 28, 42, 180, 0, 9, 29, 46]
abbrev dktX2_move_0 : List UInt8 := dkwX2_move_0 ++ dktX2_move_1
theorem dksX2_move_0 : cX2_move.data.toList.drop 0 = dktX2_move_0 := by decide +kernel
theorem dksX2_move_1 : cX2_move.data.toList.drop 23 = dktX2_move_1 := dk_seg dksX2_move_0 23 rfl rfl
theorem dX2_move_0 : decode cX2_move 0 = .ok (.iload_n 1, 1) := dk_27 (dk_at dksX2_move_0 0 rfl rfl)
theorem dX2_move_1 : decode cX2_move 1 = .ok (.iconst 4, 1) := dk_7 (dk_at dksX2_move_0 1 rfl rfl)
theorem dX2_move_2 : decode cX2_move 2 = .ok (.ishr, 1) := dk_122 (dk_at dksX2_move_0 2 rfl rfl)
theorem dX2_move_3 : decode cX2_move 3 = .ok (.bipush 31, 2) := dk_16 31 (dk_at dksX2_move_0 3 rfl rfl)
theorem dX2_move_5 : decode cX2_move 5 = .ok (.iand, 1) := dk_126 (dk_at dksX2_move_0 5 rfl rfl)
theorem dX2_move_6 : decode cX2_move 6 = .ok (.istore_n 3, 1) := dk_62 (dk_at dksX2_move_0 6 rfl rfl)
theorem dX2_move_7 : decode cX2_move 7 = .ok (.iload_n 1, 1) := dk_27 (dk_at dksX2_move_0 7 rfl rfl)
theorem dX2_move_8 : decode cX2_move 8 = .ok (.sipush 512, 3) := dk_17 2 0 (dk_at dksX2_move_0 8 rfl rfl)
theorem dX2_move_11 : decode cX2_move 11 = .ok (.iand, 1) := dk_126 (dk_at dksX2_move_0 11 rfl rfl)
theorem dX2_move_12 : decode cX2_move 12 = .ok (.ifCond .eq 17, 3) := dk_153 0 17 (dk_at dksX2_move_0 12 rfl rfl)
theorem dX2_move_15 : decode cX2_move 15 = .ok (.aload_n 0, 1) := dk_42 (dk_at dksX2_move_0 15 rfl rfl)
theorem dX2_move_16 : decode cX2_move 16 = .ok (.iload_n 2, 1) := dk_28 (dk_at dksX2_move_0 16 rfl rfl)
theorem dX2_move_17 : decode cX2_move 17 = .ok (.aload_n 0, 1) := dk_42 (dk_at dksX2_move_0 17 rfl rfl)
theorem dX2_move_18 : decode cX2_move 18 = .ok (.getfield 9, 3) := dk_180 0 9 (dk_at dksX2_move_0 18 rfl rfl)
theorem dX2_move_21 : decode cX2_move 21 = .ok (.iload_n 3, 1) := dk_29 (dk_at dksX2_move_0 21 rfl rfl)
theorem dX2_move_22 : decode cX2_move 22 = .ok (.iaload, 1) := dk_46 (dk_at dksX2_move_0 22 rfl rfl)
theorem dX2_move_23 : decode cX2_move 23 = .ok (.invokevirtual 114, 3) := dk_182 0 114 (dk_at dksX2_move_1 0 rfl rfl)
theorem dX2_move_26 : decode cX2_move 26 = .ok (.goto 14, 3) := dk_167 0 14 (dk_at dksX2_move_1 3 rfl rfl)
theorem dX2_move_29 : decode cX2_move 29 = .ok (.aload_n 0, 1) := dk_42 (dk_at dksX2_move_1 6 rfl rfl)
theorem dX2_move_30 : decode cX2_move 30 = .ok (.getfield 9, 3) := dk_180 0 9 (dk_at dksX2_move_1 7 rfl rfl)
theorem dX2_move_33 : decode cX2_move 33 = .ok (.iload_n 3, 1) := dk_29 (dk_at dksX2_move_1 10 rfl rfl)
theorem dX2_move_34 : decode cX2_move 34 = .ok (.aload_n 0, 1) := dk_42 (dk_at dksX2_move_1 11 rfl rfl)
theorem dX2_move_35 : decode cX2_move 35 = .ok (.iload_n 2, 1) := dk_28 (dk_at dksX2_move_1 12 rfl rfl)
theorem dX2_move_36 : decode cX2_move 36 = .ok (.invokevirtual 118, 3) := dk_182 0 118 (dk_at dksX2_move_1 13 rfl rfl)
theorem dX2_move_39 : decode cX2_move 39 = .ok (.iastore, 1) := dk_79 (dk_at dksX2_move_1 16 rfl rfl)
theorem dX2_move_40 : decode cX2_move 40 = .ok (.return_, 1) := dk_177 (dk_at dksX2_move_1 17 rfl rfl)
abbrev cX2_load : ByteArray := prog_3_method_3_code
def yX2_load : MethodName := ⟨RX2, "load", "(I)I"⟩
def dkwX2_load_2 : List UInt8 := [180, 0, 9, 27, 46, 172, 44, 199, 0, 7, 3, 167, 0, 8, 44, 27, 182, 0, 102, 172]
abbrev dktX2_load_2 : List UInt8 := dkwX2_load_2 ++ []
def dkwX2_load_1 : List UInt8 := [27, 46, 167, 0, 4, 3, 172, 42, 180, 0, 17, 27, 50, 77, 27, 17, 0, 193, 160, 0, 10, 42]
abbrev dktX2_load_1 : List UInt8 := dkwX2_load_1 ++ dktX2_load_2
def dkwX2_load_0 : List UInt8 := [27, 16, 32, 161, 0, 10, 27, 17, 1, 0, 161, 0, 21, 27, 17, 5, 0, 162, 0, 12, 42, 180, 0, 9]
abbrev dktX2_load_0 : List UInt8 := dkwX2_load_0 ++ dktX2_load_1
theorem dksX2_load_0 : cX2_load.data.toList.drop 0 = dktX2_load_0 := by decide +kernel
theorem dksX2_load_1 : cX2_load.data.toList.drop 24 = dktX2_load_1 := dk_seg dksX2_load_0 24 rfl rfl
theorem dksX2_load_2 : cX2_load.data.toList.drop 46 = dktX2_load_2 := dk_seg dksX2_load_1 22 rfl rfl
theorem dX2_load_0 : decode cX2_load 0 = .ok (.iload_n 1, 1) := dk_27 (dk_at dksX2_load_0 0 rfl rfl)
theorem dX2_load_1 : decode cX2_load 1 = .ok (.bipush 32, 2) := dk_16 32 (dk_at dksX2_load_0 1 rfl rfl)
theorem dX2_load_3 : decode cX2_load 3 = .ok (.if_icmp .lt 10, 3) := dk_161 0 10 (dk_at dksX2_load_0 3 rfl rfl)
theorem dX2_load_6 : decode cX2_load 6 = .ok (.iload_n 1, 1) := dk_27 (dk_at dksX2_load_0 6 rfl rfl)
theorem dX2_load_7 : decode cX2_load 7 = .ok (.sipush 256, 3) := dk_17 1 0 (dk_at dksX2_load_0 7 rfl rfl)
theorem dX2_load_10 : decode cX2_load 10 = .ok (.if_icmp .lt 21, 3) := dk_161 0 21 (dk_at dksX2_load_0 10 rfl rfl)
theorem dX2_load_13 : decode cX2_load 13 = .ok (.iload_n 1, 1) := dk_27 (dk_at dksX2_load_0 13 rfl rfl)
theorem dX2_load_14 : decode cX2_load 14 = .ok (.sipush 1280, 3) := dk_17 5 0 (dk_at dksX2_load_0 14 rfl rfl)
theorem dX2_load_17 : decode cX2_load 17 = .ok (.if_icmp .ge 12, 3) := dk_162 0 12 (dk_at dksX2_load_0 17 rfl rfl)
theorem dX2_load_20 : decode cX2_load 20 = .ok (.aload_n 0, 1) := dk_42 (dk_at dksX2_load_0 20 rfl rfl)
theorem dX2_load_21 : decode cX2_load 21 = .ok (.getfield 9, 3) := dk_180 0 9 (dk_at dksX2_load_0 21 rfl rfl)
theorem dX2_load_24 : decode cX2_load 24 = .ok (.iload_n 1, 1) := dk_27 (dk_at dksX2_load_1 0 rfl rfl)
theorem dX2_load_25 : decode cX2_load 25 = .ok (.iaload, 1) := dk_46 (dk_at dksX2_load_1 1 rfl rfl)
theorem dX2_load_26 : decode cX2_load 26 = .ok (.goto 4, 3) := dk_167 0 4 (dk_at dksX2_load_1 2 rfl rfl)
theorem dX2_load_29 : decode cX2_load 29 = .ok (.iconst 0, 1) := dk_3 (dk_at dksX2_load_1 5 rfl rfl)
theorem dX2_load_30 : decode cX2_load 30 = .ok (.ireturn, 1) := dk_172 (dk_at dksX2_load_1 6 rfl rfl)
theorem dX2_load_31 : decode cX2_load 31 = .ok (.aload_n 0, 1) := dk_42 (dk_at dksX2_load_1 7 rfl rfl)
theorem dX2_load_32 : decode cX2_load 32 = .ok (.getfield 17, 3) := dk_180 0 17 (dk_at dksX2_load_1 8 rfl rfl)
theorem dX2_load_35 : decode cX2_load 35 = .ok (.iload_n 1, 1) := dk_27 (dk_at dksX2_load_1 11 rfl rfl)
theorem dX2_load_36 : decode cX2_load 36 = .ok (.aaload, 1) := dk_50 (dk_at dksX2_load_1 12 rfl rfl)
theorem dX2_load_37 : decode cX2_load 37 = .ok (.astore_n 2, 1) := dk_77 (dk_at dksX2_load_1 13 rfl rfl)
theorem dX2_load_38 : decode cX2_load 38 = .ok (.iload_n 1, 1) := dk_27 (dk_at dksX2_load_1 14 rfl rfl)
theorem dX2_load_39 : decode cX2_load 39 = .ok (.sipush 193, 3) := dk_17 0 193 (dk_at dksX2_load_1 15 rfl rfl)
theorem dX2_load_42 : decode cX2_load 42 = .ok (.if_icmp .ne 10, 3) := dk_160 0 10 (dk_at dksX2_load_1 18 rfl rfl)
theorem dX2_load_45 : decode cX2_load 45 = .ok (.aload_n 0, 1) := dk_42 (dk_at dksX2_load_1 21 rfl rfl)
theorem dX2_load_46 : decode cX2_load 46 = .ok (.getfield 9, 3) := dk_180 0 9 (dk_at dksX2_load_2 0 rfl rfl)
theorem dX2_load_49 : decode cX2_load 49 = .ok (.iload_n 1, 1) := dk_27 (dk_at dksX2_load_2 3 rfl rfl)
theorem dX2_load_50 : decode cX2_load 50 = .ok (.iaload, 1) := dk_46 (dk_at dksX2_load_2 4 rfl rfl)
theorem dX2_load_51 : decode cX2_load 51 = .ok (.ireturn, 1) := dk_172 (dk_at dksX2_load_2 5 rfl rfl)
theorem dX2_load_52 : decode cX2_load 52 = .ok (.aload_n 2, 1) := dk_44 (dk_at dksX2_load_2 6 rfl rfl)
theorem dX2_load_53 : decode cX2_load 53 = .ok (.ifnonnull 7, 3) := dk_199 0 7 (dk_at dksX2_load_2 7 rfl rfl)
theorem dX2_load_56 : decode cX2_load 56 = .ok (.iconst 0, 1) := dk_3 (dk_at dksX2_load_2 10 rfl rfl)
theorem dX2_load_57 : decode cX2_load 57 = .ok (.goto 8, 3) := dk_167 0 8 (dk_at dksX2_load_2 11 rfl rfl)
theorem dX2_load_60 : decode cX2_load 60 = .ok (.aload_n 2, 1) := dk_44 (dk_at dksX2_load_2 14 rfl rfl)
theorem dX2_load_61 : decode cX2_load 61 = .ok (.iload_n 1, 1) := dk_27 (dk_at dksX2_load_2 15 rfl rfl)
theorem dX2_load_62 : decode cX2_load 62 = .ok (.invokevirtual 102, 3) := dk_182 0 102 (dk_at dksX2_load_2 16 rfl rfl)
theorem dX2_load_65 : decode cX2_load 65 = .ok (.ireturn, 1) := dk_172 (dk_at dksX2_load_2 19 rfl rfl)
abbrev cX2_nine : ByteArray := prog_3_method_37_code
def yX2_nine : MethodName := ⟨RX2, "nine", "(IZ)I"⟩
def dkwX2_nine_4 : List UInt8 := [27, 8, 122, 16, 16, 126, 128, 46, 104, 3, 182, 0, 243, 5, 172]
abbrev dktX2_nine_4 : List UInt8 := dkwX2_nine_4 ++ []
def dkwX2_nine_3 : List UInt8 := [182, 1, 15, 172, 42, 42, 180, 0, 9, 27, 7, 122, 16, 31, 126, 46, 42, 180, 0, 9, 27, 16, 15, 126]
abbrev dktX2_nine_3 : List UInt8 := dkwX2_nine_3 ++ dktX2_nine_4
def dkwX2_nine_2 : List UInt8 := [42, 27, 28, 182, 1, 6, 172, 42, 27, 28, 182, 1, 9, 172, 42, 27, 182, 1, 12, 172, 42, 27]
abbrev dktX2_nine_2 : List UInt8 := dkwX2_nine_2 ++ dktX2_nine_3
def dkwX2_nine_1 : List UInt8 := [170, 0, 0, 0, 87, 0, 0, 0, 0, 0, 0, 0, 11, 0, 0, 0, 61, 0, 0, 0, 61, 0, 0, 0, 61, 0, 0, 0, 61, 0, 0, 0, 68, 0, 0, 0, 68, 0, 0, 0, 75, 0, 0, 0, 75, 0, 0, 0, 81, 0, 0, 0, 81, 0, 0, 0, 81, 0, 0, 0, 81]
abbrev dktX2_nine_1 : List UInt8 := dkwX2_nine_1 ++ dktX2_nine_2
def dkwX2_nine_0 : List UInt8 := [27, 16, 8, 122, 16, 15, 126]
abbrev dktX2_nine_0 : List UInt8 := dkwX2_nine_0 ++ dktX2_nine_1
theorem dksX2_nine_0 : cX2_nine.data.toList.drop 0 = dktX2_nine_0 := by decide +kernel
theorem dksX2_nine_1 : cX2_nine.data.toList.drop 7 = dktX2_nine_1 := dk_seg dksX2_nine_0 7 rfl rfl
theorem dksX2_nine_2 : cX2_nine.data.toList.drop 68 = dktX2_nine_2 := dk_seg dksX2_nine_1 61 rfl rfl
theorem dksX2_nine_3 : cX2_nine.data.toList.drop 90 = dktX2_nine_3 := dk_seg dksX2_nine_2 22 rfl rfl
theorem dksX2_nine_4 : cX2_nine.data.toList.drop 114 = dktX2_nine_4 := dk_seg dksX2_nine_3 24 rfl rfl
theorem dX2_nine_0 : decode cX2_nine 0 = .ok (.iload_n 1, 1) := dk_27 (dk_at dksX2_nine_0 0 rfl rfl)
theorem dX2_nine_1 : decode cX2_nine 1 = .ok (.bipush 8, 2) := dk_16 8 (dk_at dksX2_nine_0 1 rfl rfl)
theorem dX2_nine_3 : decode cX2_nine 3 = .ok (.ishr, 1) := dk_122 (dk_at dksX2_nine_0 3 rfl rfl)
theorem dX2_nine_4 : decode cX2_nine 4 = .ok (.bipush 15, 2) := dk_16 15 (dk_at dksX2_nine_0 4 rfl rfl)
theorem dX2_nine_6 : decode cX2_nine 6 = .ok (.iand, 1) := dk_126 (dk_at dksX2_nine_0 6 rfl rfl)
theorem dX2_nine_7 : decode cX2_nine 7 = .ok (.tableswitch 87 0 11 #[61, 61, 61, 61, 68, 68, 75, 75, 81, 81, 81, 81], 61) := by decide +kernel
theorem dX2_nine_68 : decode cX2_nine 68 = .ok (.aload_n 0, 1) := dk_42 (dk_at dksX2_nine_2 0 rfl rfl)
theorem dX2_nine_69 : decode cX2_nine 69 = .ok (.iload_n 1, 1) := dk_27 (dk_at dksX2_nine_2 1 rfl rfl)
theorem dX2_nine_70 : decode cX2_nine 70 = .ok (.iload_n 2, 1) := dk_28 (dk_at dksX2_nine_2 2 rfl rfl)
theorem dX2_nine_71 : decode cX2_nine 71 = .ok (.invokevirtual 262, 3) := dk_182 1 6 (dk_at dksX2_nine_2 3 rfl rfl)
theorem dX2_nine_74 : decode cX2_nine 74 = .ok (.ireturn, 1) := dk_172 (dk_at dksX2_nine_2 6 rfl rfl)
theorem dX2_nine_75 : decode cX2_nine 75 = .ok (.aload_n 0, 1) := dk_42 (dk_at dksX2_nine_2 7 rfl rfl)
theorem dX2_nine_76 : decode cX2_nine 76 = .ok (.iload_n 1, 1) := dk_27 (dk_at dksX2_nine_2 8 rfl rfl)
theorem dX2_nine_77 : decode cX2_nine 77 = .ok (.iload_n 2, 1) := dk_28 (dk_at dksX2_nine_2 9 rfl rfl)
theorem dX2_nine_78 : decode cX2_nine 78 = .ok (.invokevirtual 265, 3) := dk_182 1 9 (dk_at dksX2_nine_2 10 rfl rfl)
theorem dX2_nine_81 : decode cX2_nine 81 = .ok (.ireturn, 1) := dk_172 (dk_at dksX2_nine_2 13 rfl rfl)
theorem dX2_nine_82 : decode cX2_nine 82 = .ok (.aload_n 0, 1) := dk_42 (dk_at dksX2_nine_2 14 rfl rfl)
theorem dX2_nine_83 : decode cX2_nine 83 = .ok (.iload_n 1, 1) := dk_27 (dk_at dksX2_nine_2 15 rfl rfl)
theorem dX2_nine_84 : decode cX2_nine 84 = .ok (.invokevirtual 268, 3) := dk_182 1 12 (dk_at dksX2_nine_2 16 rfl rfl)
theorem dX2_nine_87 : decode cX2_nine 87 = .ok (.ireturn, 1) := dk_172 (dk_at dksX2_nine_2 19 rfl rfl)
theorem dX2_nine_88 : decode cX2_nine 88 = .ok (.aload_n 0, 1) := dk_42 (dk_at dksX2_nine_2 20 rfl rfl)
theorem dX2_nine_89 : decode cX2_nine 89 = .ok (.iload_n 1, 1) := dk_27 (dk_at dksX2_nine_2 21 rfl rfl)
theorem dX2_nine_90 : decode cX2_nine 90 = .ok (.invokevirtual 271, 3) := dk_182 1 15 (dk_at dksX2_nine_3 0 rfl rfl)
theorem dX2_nine_93 : decode cX2_nine 93 = .ok (.ireturn, 1) := dk_172 (dk_at dksX2_nine_3 3 rfl rfl)
theorem dX2_nine_94 : decode cX2_nine 94 = .ok (.aload_n 0, 1) := dk_42 (dk_at dksX2_nine_3 4 rfl rfl)
theorem dX2_nine_95 : decode cX2_nine 95 = .ok (.aload_n 0, 1) := dk_42 (dk_at dksX2_nine_3 5 rfl rfl)
theorem dX2_nine_96 : decode cX2_nine 96 = .ok (.getfield 9, 3) := dk_180 0 9 (dk_at dksX2_nine_3 6 rfl rfl)
theorem dX2_nine_99 : decode cX2_nine 99 = .ok (.iload_n 1, 1) := dk_27 (dk_at dksX2_nine_3 9 rfl rfl)
theorem dX2_nine_100 : decode cX2_nine 100 = .ok (.iconst 4, 1) := dk_7 (dk_at dksX2_nine_3 10 rfl rfl)
theorem dX2_nine_101 : decode cX2_nine 101 = .ok (.ishr, 1) := dk_122 (dk_at dksX2_nine_3 11 rfl rfl)
theorem dX2_nine_102 : decode cX2_nine 102 = .ok (.bipush 31, 2) := dk_16 31 (dk_at dksX2_nine_3 12 rfl rfl)
theorem dX2_nine_104 : decode cX2_nine 104 = .ok (.iand, 1) := dk_126 (dk_at dksX2_nine_3 14 rfl rfl)
theorem dX2_nine_105 : decode cX2_nine 105 = .ok (.iaload, 1) := dk_46 (dk_at dksX2_nine_3 15 rfl rfl)
theorem dX2_nine_106 : decode cX2_nine 106 = .ok (.aload_n 0, 1) := dk_42 (dk_at dksX2_nine_3 16 rfl rfl)
theorem dX2_nine_107 : decode cX2_nine 107 = .ok (.getfield 9, 3) := dk_180 0 9 (dk_at dksX2_nine_3 17 rfl rfl)
theorem dX2_nine_110 : decode cX2_nine 110 = .ok (.iload_n 1, 1) := dk_27 (dk_at dksX2_nine_3 20 rfl rfl)
theorem dX2_nine_111 : decode cX2_nine 111 = .ok (.bipush 15, 2) := dk_16 15 (dk_at dksX2_nine_3 21 rfl rfl)
theorem dX2_nine_113 : decode cX2_nine 113 = .ok (.iand, 1) := dk_126 (dk_at dksX2_nine_3 23 rfl rfl)
theorem dX2_nine_114 : decode cX2_nine 114 = .ok (.iload_n 1, 1) := dk_27 (dk_at dksX2_nine_4 0 rfl rfl)
theorem dX2_nine_115 : decode cX2_nine 115 = .ok (.iconst 5, 1) := dk_8 (dk_at dksX2_nine_4 1 rfl rfl)
theorem dX2_nine_116 : decode cX2_nine 116 = .ok (.ishr, 1) := dk_122 (dk_at dksX2_nine_4 2 rfl rfl)
theorem dX2_nine_117 : decode cX2_nine 117 = .ok (.bipush 16, 2) := dk_16 16 (dk_at dksX2_nine_4 3 rfl rfl)
theorem dX2_nine_119 : decode cX2_nine 119 = .ok (.iand, 1) := dk_126 (dk_at dksX2_nine_4 5 rfl rfl)
theorem dX2_nine_120 : decode cX2_nine 120 = .ok (.ior, 1) := dk_128 (dk_at dksX2_nine_4 6 rfl rfl)
theorem dX2_nine_121 : decode cX2_nine 121 = .ok (.iaload, 1) := dk_46 (dk_at dksX2_nine_4 7 rfl rfl)
theorem dX2_nine_122 : decode cX2_nine 122 = .ok (.imul, 1) := dk_104 (dk_at dksX2_nine_4 8 rfl rfl)
theorem dX2_nine_123 : decode cX2_nine 123 = .ok (.iconst 0, 1) := dk_3 (dk_at dksX2_nine_4 9 rfl rfl)
theorem dX2_nine_124 : decode cX2_nine 124 = .ok (.invokevirtual 243, 3) := dk_182 0 243 (dk_at dksX2_nine_4 10 rfl rfl)
theorem dX2_nine_127 : decode cX2_nine 127 = .ok (.iconst 2, 1) := dk_5 (dk_at dksX2_nine_4 13 rfl rfl)
theorem dX2_nine_128 : decode cX2_nine 128 = .ok (.ireturn, 1) := dk_172 (dk_at dksX2_nine_4 14 rfl rfl)
abbrev cX2_moved : ByteArray := prog_3_method_36_code
def yX2_moved : MethodName := ⟨RX2, "moved", "(IZ)I"⟩
def dkwX2_moved_11 : List UInt8 := [46, 182, 0, 119, 167, 0, 14, 42, 180, 0, 9, 21, 4, 42, 182, 0, 122, 79, 5, 172, 4, 172]
abbrev dktX2_moved_11 : List UInt8 := dkwX2_moved_11 ++ []
def dkwX2_moved_10 : List UInt8 := [180, 0, 68, 21, 10, 28, 182, 1, 3, 79, 6, 172, 21, 5, 153, 0, 17, 42, 42, 180, 0, 9, 21, 4]
abbrev dktX2_moved_10 : List UInt8 := dkwX2_moved_10 ++ dktX2_moved_11
def dkwX2_moved_9 : List UInt8 := [54, 10, 29, 8, 160, 0, 13, 42, 16, 30, 21, 10, 4, 96, 182, 0, 144, 42, 180, 0, 9, 21, 4, 42]
abbrev dktX2_moved_9 : List UInt8 := dkwX2_moved_9 ++ dktX2_moved_10
def dkwX2_moved_8 : List UInt8 := [21, 4, 42, 21, 8, 182, 0, 118, 79, 5, 172, 21, 5, 153, 0, 5, 4, 172, 42, 16, 30, 182, 0, 240]
abbrev dktX2_moved_8 : List UInt8 := dkwX2_moved_8 ++ dktX2_moved_9
def dkwX2_moved_7 : List UInt8 := [182, 0, 144, 21, 5, 153, 0, 14, 42, 21, 8, 21, 7, 182, 0, 114, 167, 0, 16, 42, 180, 0, 9]
abbrev dktX2_moved_7 : List UInt8 := dkwX2_moved_7 ++ dktX2_moved_8
def dkwX2_moved_6 : List UInt8 := [29, 16, 12, 159, 0, 23, 42, 21, 6, 21, 9, 153, 0, 8, 21, 8, 167, 0, 7, 21, 8, 4, 96]
abbrev dktX2_moved_6 : List UInt8 := dkwX2_moved_6 ++ dktX2_moved_7
def dkwX2_moved_5 : List UInt8 := [160, 0, 7, 4, 167, 0, 4, 3, 54, 9, 21, 9, 153, 0, 12, 21, 8, 4, 100, 18, 147, 126, 54, 8]
abbrev dktX2_moved_5 : List UInt8 := dkwX2_moved_5 ++ dktX2_moved_6
def dkwX2_moved_4 : List UInt8 := [54, 7, 42, 21, 6, 182, 0, 240, 54, 8, 29, 5, 159, 0, 15, 29, 16, 10, 159, 0, 9, 29, 16, 14]
abbrev dktX2_moved_4 : List UInt8 := dkwX2_moved_4 ++ dktX2_moved_5
def dkwX2_moved_3 : List UInt8 := [42, 27, 42, 182, 0, 205, 182, 0, 253, 5, 172, 29, 184, 1, 0, 54, 6, 42, 180, 0, 9, 21, 4, 46]
abbrev dktX2_moved_3 : List UInt8 := dkwX2_moved_3 ++ dktX2_moved_4
def dkwX2_moved_2 : List UInt8 := [170, 0, 0, 0, 0, 1, 33, 0, 0, 0, 0, 0, 0, 0, 15, 0, 0, 0, 79, 0, 0, 0, 90, 0, 0, 0, 90, 0, 0, 1, 33, 0, 0, 0, 208, 0, 0, 0, 208, 0, 0, 1, 33, 0, 0, 1, 33, 0, 0, 1, 33, 0, 0, 0, 90, 0, 0, 0, 90, 0, 0, 1, 33, 0, 0, 0, 90, 0, 0, 0, 90, 0, 0, 0, 90, 0, 0, 1, 1]
abbrev dktX2_moved_2 : List UInt8 := dkwX2_moved_2 ++ dktX2_moved_3
def dkwX2_moved_1 : List UInt8 := [167, 0, 4, 3, 54, 5, 29]
abbrev dktX2_moved_1 : List UInt8 := dkwX2_moved_1 ++ dktX2_moved_2
def dkwX2_moved_0 : List UInt8 := [27, 16, 15, 126, 62, 27, 7, 122, 16, 31, 126, 54, 4, 27, 17, 2, 0, 126, 153, 0, 7, 4]
abbrev dktX2_moved_0 : List UInt8 := dkwX2_moved_0 ++ dktX2_moved_1
theorem dksX2_moved_0 : cX2_moved.data.toList.drop 0 = dktX2_moved_0 := by decide +kernel
theorem dksX2_moved_1 : cX2_moved.data.toList.drop 22 = dktX2_moved_1 := dk_seg dksX2_moved_0 22 rfl rfl
theorem dksX2_moved_2 : cX2_moved.data.toList.drop 29 = dktX2_moved_2 := dk_seg dksX2_moved_1 7 rfl rfl
theorem dksX2_moved_3 : cX2_moved.data.toList.drop 108 = dktX2_moved_3 := dk_seg dksX2_moved_2 79 rfl rfl
theorem dksX2_moved_4 : cX2_moved.data.toList.drop 132 = dktX2_moved_4 := dk_seg dksX2_moved_3 24 rfl rfl
theorem dksX2_moved_5 : cX2_moved.data.toList.drop 156 = dktX2_moved_5 := dk_seg dksX2_moved_4 24 rfl rfl
theorem dksX2_moved_6 : cX2_moved.data.toList.drop 180 = dktX2_moved_6 := dk_seg dksX2_moved_5 24 rfl rfl
theorem dksX2_moved_7 : cX2_moved.data.toList.drop 203 = dktX2_moved_7 := dk_seg dksX2_moved_6 23 rfl rfl
theorem dksX2_moved_8 : cX2_moved.data.toList.drop 226 = dktX2_moved_8 := dk_seg dksX2_moved_7 23 rfl rfl
theorem dksX2_moved_9 : cX2_moved.data.toList.drop 250 = dktX2_moved_9 := dk_seg dksX2_moved_8 24 rfl rfl
theorem dksX2_moved_10 : cX2_moved.data.toList.drop 274 = dktX2_moved_10 := dk_seg dksX2_moved_9 24 rfl rfl
theorem dksX2_moved_11 : cX2_moved.data.toList.drop 298 = dktX2_moved_11 := dk_seg dksX2_moved_10 24 rfl rfl
theorem dX2_moved_0 : decode cX2_moved 0 = .ok (.iload_n 1, 1) := dk_27 (dk_at dksX2_moved_0 0 rfl rfl)
theorem dX2_moved_1 : decode cX2_moved 1 = .ok (.bipush 15, 2) := dk_16 15 (dk_at dksX2_moved_0 1 rfl rfl)
theorem dX2_moved_3 : decode cX2_moved 3 = .ok (.iand, 1) := dk_126 (dk_at dksX2_moved_0 3 rfl rfl)
theorem dX2_moved_4 : decode cX2_moved 4 = .ok (.istore_n 3, 1) := dk_62 (dk_at dksX2_moved_0 4 rfl rfl)
theorem dX2_moved_5 : decode cX2_moved 5 = .ok (.iload_n 1, 1) := dk_27 (dk_at dksX2_moved_0 5 rfl rfl)
theorem dX2_moved_6 : decode cX2_moved 6 = .ok (.iconst 4, 1) := dk_7 (dk_at dksX2_moved_0 6 rfl rfl)
theorem dX2_moved_7 : decode cX2_moved 7 = .ok (.ishr, 1) := dk_122 (dk_at dksX2_moved_0 7 rfl rfl)
theorem dX2_moved_8 : decode cX2_moved 8 = .ok (.bipush 31, 2) := dk_16 31 (dk_at dksX2_moved_0 8 rfl rfl)
theorem dX2_moved_10 : decode cX2_moved 10 = .ok (.iand, 1) := dk_126 (dk_at dksX2_moved_0 10 rfl rfl)
theorem dX2_moved_11 : decode cX2_moved 11 = .ok (.istore 4, 2) := dk_54 4 (dk_at dksX2_moved_0 11 rfl rfl)
theorem dX2_moved_13 : decode cX2_moved 13 = .ok (.iload_n 1, 1) := dk_27 (dk_at dksX2_moved_0 13 rfl rfl)
theorem dX2_moved_14 : decode cX2_moved 14 = .ok (.sipush 512, 3) := dk_17 2 0 (dk_at dksX2_moved_0 14 rfl rfl)
theorem dX2_moved_17 : decode cX2_moved 17 = .ok (.iand, 1) := dk_126 (dk_at dksX2_moved_0 17 rfl rfl)
theorem dX2_moved_18 : decode cX2_moved 18 = .ok (.ifCond .eq 7, 3) := dk_153 0 7 (dk_at dksX2_moved_0 18 rfl rfl)
theorem dX2_moved_21 : decode cX2_moved 21 = .ok (.iconst 1, 1) := dk_4 (dk_at dksX2_moved_0 21 rfl rfl)
theorem dX2_moved_22 : decode cX2_moved 22 = .ok (.goto 4, 3) := dk_167 0 4 (dk_at dksX2_moved_1 0 rfl rfl)
theorem dX2_moved_25 : decode cX2_moved 25 = .ok (.iconst 0, 1) := dk_3 (dk_at dksX2_moved_1 3 rfl rfl)
theorem dX2_moved_26 : decode cX2_moved 26 = .ok (.istore 5, 2) := dk_54 5 (dk_at dksX2_moved_1 4 rfl rfl)
theorem dX2_moved_28 : decode cX2_moved 28 = .ok (.iload_n 3, 1) := dk_29 (dk_at dksX2_moved_1 6 rfl rfl)
theorem dX2_moved_29 : decode cX2_moved 29 = .ok (.tableswitch 289 0 15 #[79, 90, 90, 289, 208, 208, 289, 289, 289, 90, 90, 289, 90, 90, 90, 257], 79) := by decide +kernel
theorem dX2_moved_108 : decode cX2_moved 108 = .ok (.aload_n 0, 1) := dk_42 (dk_at dksX2_moved_3 0 rfl rfl)
theorem dX2_moved_109 : decode cX2_moved 109 = .ok (.iload_n 1, 1) := dk_27 (dk_at dksX2_moved_3 1 rfl rfl)
theorem dX2_moved_110 : decode cX2_moved 110 = .ok (.aload_n 0, 1) := dk_42 (dk_at dksX2_moved_3 2 rfl rfl)
theorem dX2_moved_111 : decode cX2_moved 111 = .ok (.invokevirtual 205, 3) := dk_182 0 205 (dk_at dksX2_moved_3 3 rfl rfl)
theorem dX2_moved_114 : decode cX2_moved 114 = .ok (.invokevirtual 253, 3) := dk_182 0 253 (dk_at dksX2_moved_3 6 rfl rfl)
theorem dX2_moved_117 : decode cX2_moved 117 = .ok (.iconst 2, 1) := dk_5 (dk_at dksX2_moved_3 9 rfl rfl)
theorem dX2_moved_118 : decode cX2_moved 118 = .ok (.ireturn, 1) := dk_172 (dk_at dksX2_moved_3 10 rfl rfl)
theorem dX2_moved_119 : decode cX2_moved 119 = .ok (.iload_n 3, 1) := dk_29 (dk_at dksX2_moved_3 11 rfl rfl)
theorem dX2_moved_120 : decode cX2_moved 120 = .ok (.invokestatic 256, 3) := dk_184 1 0 (dk_at dksX2_moved_3 12 rfl rfl)
theorem dX2_moved_123 : decode cX2_moved 123 = .ok (.istore 6, 2) := dk_54 6 (dk_at dksX2_moved_3 15 rfl rfl)
theorem dX2_moved_125 : decode cX2_moved 125 = .ok (.aload_n 0, 1) := dk_42 (dk_at dksX2_moved_3 17 rfl rfl)
theorem dX2_moved_126 : decode cX2_moved 126 = .ok (.getfield 9, 3) := dk_180 0 9 (dk_at dksX2_moved_3 18 rfl rfl)
theorem dX2_moved_129 : decode cX2_moved 129 = .ok (.iload 4, 2) := dk_21 4 (dk_at dksX2_moved_3 21 rfl rfl)
theorem dX2_moved_131 : decode cX2_moved 131 = .ok (.iaload, 1) := dk_46 (dk_at dksX2_moved_3 23 rfl rfl)
theorem dX2_moved_132 : decode cX2_moved 132 = .ok (.istore 7, 2) := dk_54 7 (dk_at dksX2_moved_4 0 rfl rfl)
theorem dX2_moved_134 : decode cX2_moved 134 = .ok (.aload_n 0, 1) := dk_42 (dk_at dksX2_moved_4 2 rfl rfl)
theorem dX2_moved_135 : decode cX2_moved 135 = .ok (.iload 6, 2) := dk_21 6 (dk_at dksX2_moved_4 3 rfl rfl)
theorem dX2_moved_137 : decode cX2_moved 137 = .ok (.invokevirtual 240, 3) := dk_182 0 240 (dk_at dksX2_moved_4 5 rfl rfl)
theorem dX2_moved_140 : decode cX2_moved 140 = .ok (.istore 8, 2) := dk_54 8 (dk_at dksX2_moved_4 8 rfl rfl)
theorem dX2_moved_142 : decode cX2_moved 142 = .ok (.iload_n 3, 1) := dk_29 (dk_at dksX2_moved_4 10 rfl rfl)
theorem dX2_moved_143 : decode cX2_moved 143 = .ok (.iconst 2, 1) := dk_5 (dk_at dksX2_moved_4 11 rfl rfl)
theorem dX2_moved_144 : decode cX2_moved 144 = .ok (.if_icmp .eq 15, 3) := dk_159 0 15 (dk_at dksX2_moved_4 12 rfl rfl)
theorem dX2_moved_147 : decode cX2_moved 147 = .ok (.iload_n 3, 1) := dk_29 (dk_at dksX2_moved_4 15 rfl rfl)
theorem dX2_moved_148 : decode cX2_moved 148 = .ok (.bipush 10, 2) := dk_16 10 (dk_at dksX2_moved_4 16 rfl rfl)
theorem dX2_moved_150 : decode cX2_moved 150 = .ok (.if_icmp .eq 9, 3) := dk_159 0 9 (dk_at dksX2_moved_4 18 rfl rfl)
theorem dX2_moved_153 : decode cX2_moved 153 = .ok (.iload_n 3, 1) := dk_29 (dk_at dksX2_moved_4 21 rfl rfl)
theorem dX2_moved_154 : decode cX2_moved 154 = .ok (.bipush 14, 2) := dk_16 14 (dk_at dksX2_moved_4 22 rfl rfl)
theorem dX2_moved_156 : decode cX2_moved 156 = .ok (.if_icmp .ne 7, 3) := dk_160 0 7 (dk_at dksX2_moved_5 0 rfl rfl)
theorem dX2_moved_159 : decode cX2_moved 159 = .ok (.iconst 1, 1) := dk_4 (dk_at dksX2_moved_5 3 rfl rfl)
theorem dX2_moved_160 : decode cX2_moved 160 = .ok (.goto 4, 3) := dk_167 0 4 (dk_at dksX2_moved_5 4 rfl rfl)
theorem dX2_moved_163 : decode cX2_moved 163 = .ok (.iconst 0, 1) := dk_3 (dk_at dksX2_moved_5 7 rfl rfl)
theorem dX2_moved_164 : decode cX2_moved 164 = .ok (.istore 9, 2) := dk_54 9 (dk_at dksX2_moved_5 8 rfl rfl)
theorem dX2_moved_166 : decode cX2_moved 166 = .ok (.iload 9, 2) := dk_21 9 (dk_at dksX2_moved_5 10 rfl rfl)
theorem dX2_moved_168 : decode cX2_moved 168 = .ok (.ifCond .eq 12, 3) := dk_153 0 12 (dk_at dksX2_moved_5 12 rfl rfl)
theorem dX2_moved_171 : decode cX2_moved 171 = .ok (.iload 8, 2) := dk_21 8 (dk_at dksX2_moved_5 15 rfl rfl)
theorem dX2_moved_173 : decode cX2_moved 173 = .ok (.iconst 1, 1) := dk_4 (dk_at dksX2_moved_5 17 rfl rfl)
theorem dX2_moved_174 : decode cX2_moved 174 = .ok (.isub, 1) := dk_100 (dk_at dksX2_moved_5 18 rfl rfl)
theorem dX2_moved_175 : decode cX2_moved 175 = .ok (.ldc 147, 2) := dk_18 147 (dk_at dksX2_moved_5 19 rfl rfl)
theorem dX2_moved_177 : decode cX2_moved 177 = .ok (.iand, 1) := dk_126 (dk_at dksX2_moved_5 21 rfl rfl)
theorem dX2_moved_178 : decode cX2_moved 178 = .ok (.istore 8, 2) := dk_54 8 (dk_at dksX2_moved_5 22 rfl rfl)
theorem dX2_moved_180 : decode cX2_moved 180 = .ok (.iload_n 3, 1) := dk_29 (dk_at dksX2_moved_6 0 rfl rfl)
theorem dX2_moved_181 : decode cX2_moved 181 = .ok (.bipush 12, 2) := dk_16 12 (dk_at dksX2_moved_6 1 rfl rfl)
theorem dX2_moved_183 : decode cX2_moved 183 = .ok (.if_icmp .eq 23, 3) := dk_159 0 23 (dk_at dksX2_moved_6 3 rfl rfl)
theorem dX2_moved_186 : decode cX2_moved 186 = .ok (.aload_n 0, 1) := dk_42 (dk_at dksX2_moved_6 6 rfl rfl)
theorem dX2_moved_187 : decode cX2_moved 187 = .ok (.iload 6, 2) := dk_21 6 (dk_at dksX2_moved_6 7 rfl rfl)
theorem dX2_moved_189 : decode cX2_moved 189 = .ok (.iload 9, 2) := dk_21 9 (dk_at dksX2_moved_6 9 rfl rfl)
theorem dX2_moved_191 : decode cX2_moved 191 = .ok (.ifCond .eq 8, 3) := dk_153 0 8 (dk_at dksX2_moved_6 11 rfl rfl)
theorem dX2_moved_194 : decode cX2_moved 194 = .ok (.iload 8, 2) := dk_21 8 (dk_at dksX2_moved_6 14 rfl rfl)
theorem dX2_moved_196 : decode cX2_moved 196 = .ok (.goto 7, 3) := dk_167 0 7 (dk_at dksX2_moved_6 16 rfl rfl)
theorem dX2_moved_199 : decode cX2_moved 199 = .ok (.iload 8, 2) := dk_21 8 (dk_at dksX2_moved_6 19 rfl rfl)
theorem dX2_moved_201 : decode cX2_moved 201 = .ok (.iconst 1, 1) := dk_4 (dk_at dksX2_moved_6 21 rfl rfl)
theorem dX2_moved_202 : decode cX2_moved 202 = .ok (.iadd, 1) := dk_96 (dk_at dksX2_moved_6 22 rfl rfl)
theorem dX2_moved_203 : decode cX2_moved 203 = .ok (.invokevirtual 144, 3) := dk_182 0 144 (dk_at dksX2_moved_7 0 rfl rfl)
theorem dX2_moved_206 : decode cX2_moved 206 = .ok (.iload 5, 2) := dk_21 5 (dk_at dksX2_moved_7 3 rfl rfl)
theorem dX2_moved_208 : decode cX2_moved 208 = .ok (.ifCond .eq 14, 3) := dk_153 0 14 (dk_at dksX2_moved_7 5 rfl rfl)
theorem dX2_moved_211 : decode cX2_moved 211 = .ok (.aload_n 0, 1) := dk_42 (dk_at dksX2_moved_7 8 rfl rfl)
theorem dX2_moved_212 : decode cX2_moved 212 = .ok (.iload 8, 2) := dk_21 8 (dk_at dksX2_moved_7 9 rfl rfl)
theorem dX2_moved_214 : decode cX2_moved 214 = .ok (.iload 7, 2) := dk_21 7 (dk_at dksX2_moved_7 11 rfl rfl)
theorem dX2_moved_216 : decode cX2_moved 216 = .ok (.invokevirtual 114, 3) := dk_182 0 114 (dk_at dksX2_moved_7 13 rfl rfl)
theorem dX2_moved_219 : decode cX2_moved 219 = .ok (.goto 16, 3) := dk_167 0 16 (dk_at dksX2_moved_7 16 rfl rfl)
theorem dX2_moved_222 : decode cX2_moved 222 = .ok (.aload_n 0, 1) := dk_42 (dk_at dksX2_moved_7 19 rfl rfl)
theorem dX2_moved_223 : decode cX2_moved 223 = .ok (.getfield 9, 3) := dk_180 0 9 (dk_at dksX2_moved_7 20 rfl rfl)
theorem dX2_moved_226 : decode cX2_moved 226 = .ok (.iload 4, 2) := dk_21 4 (dk_at dksX2_moved_8 0 rfl rfl)
theorem dX2_moved_228 : decode cX2_moved 228 = .ok (.aload_n 0, 1) := dk_42 (dk_at dksX2_moved_8 2 rfl rfl)
theorem dX2_moved_229 : decode cX2_moved 229 = .ok (.iload 8, 2) := dk_21 8 (dk_at dksX2_moved_8 3 rfl rfl)
theorem dX2_moved_231 : decode cX2_moved 231 = .ok (.invokevirtual 118, 3) := dk_182 0 118 (dk_at dksX2_moved_8 5 rfl rfl)
theorem dX2_moved_234 : decode cX2_moved 234 = .ok (.iastore, 1) := dk_79 (dk_at dksX2_moved_8 8 rfl rfl)
theorem dX2_moved_235 : decode cX2_moved 235 = .ok (.iconst 2, 1) := dk_5 (dk_at dksX2_moved_8 9 rfl rfl)
theorem dX2_moved_236 : decode cX2_moved 236 = .ok (.ireturn, 1) := dk_172 (dk_at dksX2_moved_8 10 rfl rfl)
theorem dX2_moved_237 : decode cX2_moved 237 = .ok (.iload 5, 2) := dk_21 5 (dk_at dksX2_moved_8 11 rfl rfl)
theorem dX2_moved_239 : decode cX2_moved 239 = .ok (.ifCond .eq 5, 3) := dk_153 0 5 (dk_at dksX2_moved_8 13 rfl rfl)
theorem dX2_moved_242 : decode cX2_moved 242 = .ok (.iconst 1, 1) := dk_4 (dk_at dksX2_moved_8 16 rfl rfl)
theorem dX2_moved_243 : decode cX2_moved 243 = .ok (.ireturn, 1) := dk_172 (dk_at dksX2_moved_8 17 rfl rfl)
theorem dX2_moved_244 : decode cX2_moved 244 = .ok (.aload_n 0, 1) := dk_42 (dk_at dksX2_moved_8 18 rfl rfl)
theorem dX2_moved_245 : decode cX2_moved 245 = .ok (.bipush 30, 2) := dk_16 30 (dk_at dksX2_moved_8 19 rfl rfl)
theorem dX2_moved_247 : decode cX2_moved 247 = .ok (.invokevirtual 240, 3) := dk_182 0 240 (dk_at dksX2_moved_8 21 rfl rfl)
theorem dX2_moved_250 : decode cX2_moved 250 = .ok (.istore 10, 2) := dk_54 10 (dk_at dksX2_moved_9 0 rfl rfl)
theorem dX2_moved_252 : decode cX2_moved 252 = .ok (.iload_n 3, 1) := dk_29 (dk_at dksX2_moved_9 2 rfl rfl)
theorem dX2_moved_253 : decode cX2_moved 253 = .ok (.iconst 5, 1) := dk_8 (dk_at dksX2_moved_9 3 rfl rfl)
theorem dX2_moved_254 : decode cX2_moved 254 = .ok (.if_icmp .ne 13, 3) := dk_160 0 13 (dk_at dksX2_moved_9 4 rfl rfl)
theorem dX2_moved_257 : decode cX2_moved 257 = .ok (.aload_n 0, 1) := dk_42 (dk_at dksX2_moved_9 7 rfl rfl)
theorem dX2_moved_258 : decode cX2_moved 258 = .ok (.bipush 30, 2) := dk_16 30 (dk_at dksX2_moved_9 8 rfl rfl)
theorem dX2_moved_260 : decode cX2_moved 260 = .ok (.iload 10, 2) := dk_21 10 (dk_at dksX2_moved_9 10 rfl rfl)
theorem dX2_moved_262 : decode cX2_moved 262 = .ok (.iconst 1, 1) := dk_4 (dk_at dksX2_moved_9 12 rfl rfl)
theorem dX2_moved_263 : decode cX2_moved 263 = .ok (.iadd, 1) := dk_96 (dk_at dksX2_moved_9 13 rfl rfl)
theorem dX2_moved_264 : decode cX2_moved 264 = .ok (.invokevirtual 144, 3) := dk_182 0 144 (dk_at dksX2_moved_9 14 rfl rfl)
theorem dX2_moved_267 : decode cX2_moved 267 = .ok (.aload_n 0, 1) := dk_42 (dk_at dksX2_moved_9 17 rfl rfl)
theorem dX2_moved_268 : decode cX2_moved 268 = .ok (.getfield 9, 3) := dk_180 0 9 (dk_at dksX2_moved_9 18 rfl rfl)
theorem dX2_moved_271 : decode cX2_moved 271 = .ok (.iload 4, 2) := dk_21 4 (dk_at dksX2_moved_9 21 rfl rfl)
theorem dX2_moved_273 : decode cX2_moved 273 = .ok (.aload_n 0, 1) := dk_42 (dk_at dksX2_moved_9 23 rfl rfl)
theorem dX2_moved_274 : decode cX2_moved 274 = .ok (.getfield 68, 3) := dk_180 0 68 (dk_at dksX2_moved_10 0 rfl rfl)
theorem dX2_moved_277 : decode cX2_moved 277 = .ok (.iload 10, 2) := dk_21 10 (dk_at dksX2_moved_10 3 rfl rfl)
theorem dX2_moved_279 : decode cX2_moved 279 = .ok (.iload_n 2, 1) := dk_28 (dk_at dksX2_moved_10 5 rfl rfl)
theorem dX2_moved_280 : decode cX2_moved 280 = .ok (.invokevirtual 259, 3) := dk_182 1 3 (dk_at dksX2_moved_10 6 rfl rfl)
theorem dX2_moved_283 : decode cX2_moved 283 = .ok (.iastore, 1) := dk_79 (dk_at dksX2_moved_10 9 rfl rfl)
theorem dX2_moved_284 : decode cX2_moved 284 = .ok (.iconst 3, 1) := dk_6 (dk_at dksX2_moved_10 10 rfl rfl)
theorem dX2_moved_285 : decode cX2_moved 285 = .ok (.ireturn, 1) := dk_172 (dk_at dksX2_moved_10 11 rfl rfl)
theorem dX2_moved_286 : decode cX2_moved 286 = .ok (.iload 5, 2) := dk_21 5 (dk_at dksX2_moved_10 12 rfl rfl)
theorem dX2_moved_288 : decode cX2_moved 288 = .ok (.ifCond .eq 17, 3) := dk_153 0 17 (dk_at dksX2_moved_10 14 rfl rfl)
theorem dX2_moved_291 : decode cX2_moved 291 = .ok (.aload_n 0, 1) := dk_42 (dk_at dksX2_moved_10 17 rfl rfl)
theorem dX2_moved_292 : decode cX2_moved 292 = .ok (.aload_n 0, 1) := dk_42 (dk_at dksX2_moved_10 18 rfl rfl)
theorem dX2_moved_293 : decode cX2_moved 293 = .ok (.getfield 9, 3) := dk_180 0 9 (dk_at dksX2_moved_10 19 rfl rfl)
theorem dX2_moved_296 : decode cX2_moved 296 = .ok (.iload 4, 2) := dk_21 4 (dk_at dksX2_moved_10 22 rfl rfl)
theorem dX2_moved_298 : decode cX2_moved 298 = .ok (.iaload, 1) := dk_46 (dk_at dksX2_moved_11 0 rfl rfl)
theorem dX2_moved_299 : decode cX2_moved 299 = .ok (.invokevirtual 119, 3) := dk_182 0 119 (dk_at dksX2_moved_11 1 rfl rfl)
theorem dX2_moved_302 : decode cX2_moved 302 = .ok (.goto 14, 3) := dk_167 0 14 (dk_at dksX2_moved_11 4 rfl rfl)
theorem dX2_moved_305 : decode cX2_moved 305 = .ok (.aload_n 0, 1) := dk_42 (dk_at dksX2_moved_11 7 rfl rfl)
theorem dX2_moved_306 : decode cX2_moved 306 = .ok (.getfield 9, 3) := dk_180 0 9 (dk_at dksX2_moved_11 8 rfl rfl)
theorem dX2_moved_309 : decode cX2_moved 309 = .ok (.iload 4, 2) := dk_21 4 (dk_at dksX2_moved_11 11 rfl rfl)
theorem dX2_moved_311 : decode cX2_moved 311 = .ok (.aload_n 0, 1) := dk_42 (dk_at dksX2_moved_11 13 rfl rfl)
theorem dX2_moved_312 : decode cX2_moved 312 = .ok (.invokevirtual 122, 3) := dk_182 0 122 (dk_at dksX2_moved_11 14 rfl rfl)
theorem dX2_moved_315 : decode cX2_moved 315 = .ok (.iastore, 1) := dk_79 (dk_at dksX2_moved_11 17 rfl rfl)
theorem dX2_moved_316 : decode cX2_moved 316 = .ok (.iconst 2, 1) := dk_5 (dk_at dksX2_moved_11 18 rfl rfl)
theorem dX2_moved_317 : decode cX2_moved 317 = .ok (.ireturn, 1) := dk_172 (dk_at dksX2_moved_11 19 rfl rfl)
theorem dX2_moved_318 : decode cX2_moved 318 = .ok (.iconst 1, 1) := dk_4 (dk_at dksX2_moved_11 20 rfl rfl)
theorem dX2_moved_319 : decode cX2_moved 319 = .ok (.ireturn, 1) := dk_172 (dk_at dksX2_moved_11 21 rfl rfl)
abbrev cX2_pointer : ByteArray := prog_3_method_35_code
def yX2_pointer : MethodName := ⟨RX2, "pointer", "(I)I"⟩
def dkwX2_pointer_0 : List UInt8 := [26, 7, 162, 0, 8, 16, 30, 167, 0, 16, 26, 16, 12, 162, 0, 8, 16, 28, 167, 0, 5, 16, 26, 172]
abbrev dktX2_pointer_0 : List UInt8 := dkwX2_pointer_0 ++ []
theorem dksX2_pointer_0 : cX2_pointer.data.toList.drop 0 = dktX2_pointer_0 := by decide +kernel
theorem dX2_pointer_0 : decode cX2_pointer 0 = .ok (.iload_n 0, 1) := dk_26 (dk_at dksX2_pointer_0 0 rfl rfl)
theorem dX2_pointer_1 : decode cX2_pointer 1 = .ok (.iconst 4, 1) := dk_7 (dk_at dksX2_pointer_0 1 rfl rfl)
theorem dX2_pointer_2 : decode cX2_pointer 2 = .ok (.if_icmp .ge 8, 3) := dk_162 0 8 (dk_at dksX2_pointer_0 2 rfl rfl)
theorem dX2_pointer_5 : decode cX2_pointer 5 = .ok (.bipush 30, 2) := dk_16 30 (dk_at dksX2_pointer_0 5 rfl rfl)
theorem dX2_pointer_7 : decode cX2_pointer 7 = .ok (.goto 16, 3) := dk_167 0 16 (dk_at dksX2_pointer_0 7 rfl rfl)
theorem dX2_pointer_10 : decode cX2_pointer 10 = .ok (.iload_n 0, 1) := dk_26 (dk_at dksX2_pointer_0 10 rfl rfl)
theorem dX2_pointer_11 : decode cX2_pointer 11 = .ok (.bipush 12, 2) := dk_16 12 (dk_at dksX2_pointer_0 11 rfl rfl)
theorem dX2_pointer_13 : decode cX2_pointer 13 = .ok (.if_icmp .ge 8, 3) := dk_162 0 8 (dk_at dksX2_pointer_0 13 rfl rfl)
theorem dX2_pointer_16 : decode cX2_pointer 16 = .ok (.bipush 28, 2) := dk_16 28 (dk_at dksX2_pointer_0 16 rfl rfl)
theorem dX2_pointer_18 : decode cX2_pointer 18 = .ok (.goto 5, 3) := dk_167 0 5 (dk_at dksX2_pointer_0 18 rfl rfl)
theorem dX2_pointer_21 : decode cX2_pointer 21 = .ok (.bipush 26, 2) := dk_16 26 (dk_at dksX2_pointer_0 21 rfl rfl)
theorem dX2_pointer_23 : decode cX2_pointer 23 = .ok (.ireturn, 1) := dk_172 (dk_at dksX2_pointer_0 23 rfl rfl)
abbrev cX2_pop : ByteArray := prog_3_method_10_code
def yX2_pop : MethodName := ⟨RX2, "pop", "()I"⟩
def dkwX2_pop_0 : List UInt8 := [42, 42, 182, 0, 110, 4, 96, 182, 0, 115, 42, 42, 182, 0, 110, 182, 0, 118, 172]
abbrev dktX2_pop_0 : List UInt8 := dkwX2_pop_0 ++ []
theorem dksX2_pop_0 : cX2_pop.data.toList.drop 0 = dktX2_pop_0 := by decide +kernel
theorem dX2_pop_0 : decode cX2_pop 0 = .ok (.aload_n 0, 1) := dk_42 (dk_at dksX2_pop_0 0 rfl rfl)
theorem dX2_pop_1 : decode cX2_pop 1 = .ok (.aload_n 0, 1) := dk_42 (dk_at dksX2_pop_0 1 rfl rfl)
theorem dX2_pop_2 : decode cX2_pop 2 = .ok (.invokevirtual 110, 3) := dk_182 0 110 (dk_at dksX2_pop_0 2 rfl rfl)
theorem dX2_pop_5 : decode cX2_pop 5 = .ok (.iconst 1, 1) := dk_4 (dk_at dksX2_pop_0 5 rfl rfl)
theorem dX2_pop_6 : decode cX2_pop 6 = .ok (.iadd, 1) := dk_96 (dk_at dksX2_pop_0 6 rfl rfl)
theorem dX2_pop_7 : decode cX2_pop 7 = .ok (.invokevirtual 115, 3) := dk_182 0 115 (dk_at dksX2_pop_0 7 rfl rfl)
theorem dX2_pop_10 : decode cX2_pop 10 = .ok (.aload_n 0, 1) := dk_42 (dk_at dksX2_pop_0 10 rfl rfl)
theorem dX2_pop_11 : decode cX2_pop 11 = .ok (.aload_n 0, 1) := dk_42 (dk_at dksX2_pop_0 11 rfl rfl)
theorem dX2_pop_12 : decode cX2_pop 12 = .ok (.invokevirtual 110, 3) := dk_182 0 110 (dk_at dksX2_pop_0 12 rfl rfl)
theorem dX2_pop_15 : decode cX2_pop 15 = .ok (.invokevirtual 118, 3) := dk_182 0 118 (dk_at dksX2_pop_0 15 rfl rfl)
theorem dX2_pop_18 : decode cX2_pop 18 = .ok (.ireturn, 1) := dk_172 (dk_at dksX2_pop_0 18 rfl rfl)
abbrev cX2_one : ByteArray := prog_3_method_41_code
def yX2_one : MethodName := ⟨RX2, "one", "(IZ)I"⟩
def dkwX2_one_10 : List UInt8 := [167, 0, 4, 6, 172, 4, 172]
abbrev dktX2_one_10 : List UInt8 := dkwX2_one_10 ++ []
def dkwX2_one_9 : List UInt8 := [27, 5, 126, 153, 0, 7, 42, 182, 0, 154, 42, 21, 5, 182, 0, 125, 27, 5, 126, 153, 0, 7, 7]
abbrev dktX2_one_9 : List UInt8 := dkwX2_one_9 ++ dktX2_one_10
def dkwX2_one_8 : List UInt8 := [182, 1, 18, 4, 172, 42, 27, 28, 182, 1, 21, 172, 42, 27, 182, 1, 24, 172, 42, 182, 0, 205, 54, 5]
abbrev dktX2_one_8 : List UInt8 := dkwX2_one_8 ++ dktX2_one_9
def dkwX2_one_7 : List UInt8 := [42, 180, 0, 9, 29, 21, 4, 4, 100, 17, 0, 255, 126, 79, 4, 172, 42, 29, 27, 16, 15, 126]
abbrev dktX2_one_7 : List UInt8 := dkwX2_one_7 ++ dktX2_one_8
def dkwX2_one_6 : List UInt8 := [79, 4, 172, 42, 21, 4, 4, 100, 21, 4, 17, 0, 128, 160, 0, 7, 4, 167, 0, 4, 3, 182, 0, 136]
abbrev dktX2_one_6 : List UInt8 := dkwX2_one_6 ++ dktX2_one_7
def dkwX2_one_5 : List UInt8 := [160, 0, 7, 4, 167, 0, 4, 3, 182, 0, 136, 42, 180, 0, 9, 29, 21, 4, 4, 96, 17, 0, 255, 126]
abbrev dktX2_one_5 : List UInt8 := dkwX2_one_5 ++ dktX2_one_6
def dkwX2_one_4 : List UInt8 := [120, 17, 0, 240, 126, 21, 4, 7, 122, 128, 79, 4, 172, 42, 21, 4, 4, 96, 21, 4, 16, 127]
abbrev dktX2_one_4 : List UInt8 := dkwX2_one_4 ++ dktX2_one_5
def dkwX2_one_3 : List UInt8 := [42, 180, 0, 9, 29, 42, 3, 21, 4, 3, 182, 0, 139, 79, 4, 172, 42, 180, 0, 9, 29, 21, 4, 7]
abbrev dktX2_one_3 : List UInt8 := dkwX2_one_3 ++ dktX2_one_4
def dkwX2_one_2 : List UInt8 := [42, 180, 0, 9, 29, 42, 17, 0, 255, 21, 4, 100, 182, 0, 237, 79, 42, 4, 4, 182, 0, 128, 4, 172]
abbrev dktX2_one_2 : List UInt8 := dkwX2_one_2 ++ dktX2_one_3
def dkwX2_one_1 : List UInt8 := [170, 0, 0, 1, 13, 0, 0, 0, 0, 0, 0, 0, 15, 0, 0, 0, 77, 0, 0, 0, 101, 0, 0, 0, 117, 0, 0, 0, 138, 0, 0, 1, 13, 0, 0, 0, 211, 0, 0, 0, 211, 0, 0, 0, 211, 0, 0, 0, 222, 0, 0, 0, 229, 0, 0, 0, 174, 0, 0, 1, 13, 0, 0, 0, 235, 0, 0, 0, 235, 0, 0, 0, 235, 0, 0, 0, 235]
abbrev dktX2_one_1 : List UInt8 := dkwX2_one_1 ++ dktX2_one_2
def dkwX2_one_0 : List UInt8 := [27, 7, 122, 16, 31, 126, 62, 42, 180, 0, 9, 29, 46, 54, 4, 27, 16, 15, 126]
abbrev dktX2_one_0 : List UInt8 := dkwX2_one_0 ++ dktX2_one_1
theorem dksX2_one_0 : cX2_one.data.toList.drop 0 = dktX2_one_0 := by decide +kernel
theorem dksX2_one_1 : cX2_one.data.toList.drop 19 = dktX2_one_1 := dk_seg dksX2_one_0 19 rfl rfl
theorem dksX2_one_2 : cX2_one.data.toList.drop 96 = dktX2_one_2 := dk_seg dksX2_one_1 77 rfl rfl
theorem dksX2_one_3 : cX2_one.data.toList.drop 120 = dktX2_one_3 := dk_seg dksX2_one_2 24 rfl rfl
theorem dksX2_one_4 : cX2_one.data.toList.drop 144 = dktX2_one_4 := dk_seg dksX2_one_3 24 rfl rfl
theorem dksX2_one_5 : cX2_one.data.toList.drop 166 = dktX2_one_5 := dk_seg dksX2_one_4 22 rfl rfl
theorem dksX2_one_6 : cX2_one.data.toList.drop 190 = dktX2_one_6 := dk_seg dksX2_one_5 24 rfl rfl
theorem dksX2_one_7 : cX2_one.data.toList.drop 214 = dktX2_one_7 := dk_seg dksX2_one_6 24 rfl rfl
theorem dksX2_one_8 : cX2_one.data.toList.drop 236 = dktX2_one_8 := dk_seg dksX2_one_7 22 rfl rfl
theorem dksX2_one_9 : cX2_one.data.toList.drop 260 = dktX2_one_9 := dk_seg dksX2_one_8 24 rfl rfl
theorem dksX2_one_10 : cX2_one.data.toList.drop 283 = dktX2_one_10 := dk_seg dksX2_one_9 23 rfl rfl
theorem dX2_one_0 : decode cX2_one 0 = .ok (.iload_n 1, 1) := dk_27 (dk_at dksX2_one_0 0 rfl rfl)
theorem dX2_one_1 : decode cX2_one 1 = .ok (.iconst 4, 1) := dk_7 (dk_at dksX2_one_0 1 rfl rfl)
theorem dX2_one_2 : decode cX2_one 2 = .ok (.ishr, 1) := dk_122 (dk_at dksX2_one_0 2 rfl rfl)
theorem dX2_one_3 : decode cX2_one 3 = .ok (.bipush 31, 2) := dk_16 31 (dk_at dksX2_one_0 3 rfl rfl)
theorem dX2_one_5 : decode cX2_one 5 = .ok (.iand, 1) := dk_126 (dk_at dksX2_one_0 5 rfl rfl)
theorem dX2_one_6 : decode cX2_one 6 = .ok (.istore_n 3, 1) := dk_62 (dk_at dksX2_one_0 6 rfl rfl)
theorem dX2_one_7 : decode cX2_one 7 = .ok (.aload_n 0, 1) := dk_42 (dk_at dksX2_one_0 7 rfl rfl)
theorem dX2_one_8 : decode cX2_one 8 = .ok (.getfield 9, 3) := dk_180 0 9 (dk_at dksX2_one_0 8 rfl rfl)
theorem dX2_one_11 : decode cX2_one 11 = .ok (.iload_n 3, 1) := dk_29 (dk_at dksX2_one_0 11 rfl rfl)
theorem dX2_one_12 : decode cX2_one 12 = .ok (.iaload, 1) := dk_46 (dk_at dksX2_one_0 12 rfl rfl)
theorem dX2_one_13 : decode cX2_one 13 = .ok (.istore 4, 2) := dk_54 4 (dk_at dksX2_one_0 13 rfl rfl)
theorem dX2_one_15 : decode cX2_one 15 = .ok (.iload_n 1, 1) := dk_27 (dk_at dksX2_one_0 15 rfl rfl)
theorem dX2_one_16 : decode cX2_one 16 = .ok (.bipush 15, 2) := dk_16 15 (dk_at dksX2_one_0 16 rfl rfl)
theorem dX2_one_18 : decode cX2_one 18 = .ok (.iand, 1) := dk_126 (dk_at dksX2_one_0 18 rfl rfl)
theorem dX2_one_19 : decode cX2_one 19 = .ok (.tableswitch 269 0 15 #[77, 101, 117, 138, 269, 211, 211, 211, 222, 229, 174, 269, 235, 235, 235, 235], 77) := by decide +kernel
theorem dX2_one_96 : decode cX2_one 96 = .ok (.aload_n 0, 1) := dk_42 (dk_at dksX2_one_2 0 rfl rfl)
theorem dX2_one_97 : decode cX2_one 97 = .ok (.getfield 9, 3) := dk_180 0 9 (dk_at dksX2_one_2 1 rfl rfl)
theorem dX2_one_100 : decode cX2_one 100 = .ok (.iload_n 3, 1) := dk_29 (dk_at dksX2_one_2 4 rfl rfl)
theorem dX2_one_101 : decode cX2_one 101 = .ok (.aload_n 0, 1) := dk_42 (dk_at dksX2_one_2 5 rfl rfl)
theorem dX2_one_102 : decode cX2_one 102 = .ok (.sipush 255, 3) := dk_17 0 255 (dk_at dksX2_one_2 6 rfl rfl)
theorem dX2_one_105 : decode cX2_one 105 = .ok (.iload 4, 2) := dk_21 4 (dk_at dksX2_one_2 9 rfl rfl)
theorem dX2_one_107 : decode cX2_one 107 = .ok (.isub, 1) := dk_100 (dk_at dksX2_one_2 11 rfl rfl)
theorem dX2_one_108 : decode cX2_one 108 = .ok (.invokevirtual 237, 3) := dk_182 0 237 (dk_at dksX2_one_2 12 rfl rfl)
theorem dX2_one_111 : decode cX2_one 111 = .ok (.iastore, 1) := dk_79 (dk_at dksX2_one_2 15 rfl rfl)
theorem dX2_one_112 : decode cX2_one 112 = .ok (.aload_n 0, 1) := dk_42 (dk_at dksX2_one_2 16 rfl rfl)
theorem dX2_one_113 : decode cX2_one 113 = .ok (.iconst 1, 1) := dk_4 (dk_at dksX2_one_2 17 rfl rfl)
theorem dX2_one_114 : decode cX2_one 114 = .ok (.iconst 1, 1) := dk_4 (dk_at dksX2_one_2 18 rfl rfl)
theorem dX2_one_115 : decode cX2_one 115 = .ok (.invokevirtual 128, 3) := dk_182 0 128 (dk_at dksX2_one_2 19 rfl rfl)
theorem dX2_one_118 : decode cX2_one 118 = .ok (.iconst 1, 1) := dk_4 (dk_at dksX2_one_2 22 rfl rfl)
theorem dX2_one_119 : decode cX2_one 119 = .ok (.ireturn, 1) := dk_172 (dk_at dksX2_one_2 23 rfl rfl)
theorem dX2_one_120 : decode cX2_one 120 = .ok (.aload_n 0, 1) := dk_42 (dk_at dksX2_one_3 0 rfl rfl)
theorem dX2_one_121 : decode cX2_one 121 = .ok (.getfield 9, 3) := dk_180 0 9 (dk_at dksX2_one_3 1 rfl rfl)
theorem dX2_one_124 : decode cX2_one 124 = .ok (.iload_n 3, 1) := dk_29 (dk_at dksX2_one_3 4 rfl rfl)
theorem dX2_one_125 : decode cX2_one 125 = .ok (.aload_n 0, 1) := dk_42 (dk_at dksX2_one_3 5 rfl rfl)
theorem dX2_one_126 : decode cX2_one 126 = .ok (.iconst 0, 1) := dk_3 (dk_at dksX2_one_3 6 rfl rfl)
theorem dX2_one_127 : decode cX2_one 127 = .ok (.iload 4, 2) := dk_21 4 (dk_at dksX2_one_3 7 rfl rfl)
theorem dX2_one_129 : decode cX2_one 129 = .ok (.iconst 0, 1) := dk_3 (dk_at dksX2_one_3 9 rfl rfl)
theorem dX2_one_130 : decode cX2_one 130 = .ok (.invokevirtual 139, 3) := dk_182 0 139 (dk_at dksX2_one_3 10 rfl rfl)
theorem dX2_one_133 : decode cX2_one 133 = .ok (.iastore, 1) := dk_79 (dk_at dksX2_one_3 13 rfl rfl)
theorem dX2_one_134 : decode cX2_one 134 = .ok (.iconst 1, 1) := dk_4 (dk_at dksX2_one_3 14 rfl rfl)
theorem dX2_one_135 : decode cX2_one 135 = .ok (.ireturn, 1) := dk_172 (dk_at dksX2_one_3 15 rfl rfl)
theorem dX2_one_136 : decode cX2_one 136 = .ok (.aload_n 0, 1) := dk_42 (dk_at dksX2_one_3 16 rfl rfl)
theorem dX2_one_137 : decode cX2_one 137 = .ok (.getfield 9, 3) := dk_180 0 9 (dk_at dksX2_one_3 17 rfl rfl)
theorem dX2_one_140 : decode cX2_one 140 = .ok (.iload_n 3, 1) := dk_29 (dk_at dksX2_one_3 20 rfl rfl)
theorem dX2_one_141 : decode cX2_one 141 = .ok (.iload 4, 2) := dk_21 4 (dk_at dksX2_one_3 21 rfl rfl)
theorem dX2_one_143 : decode cX2_one 143 = .ok (.iconst 4, 1) := dk_7 (dk_at dksX2_one_3 23 rfl rfl)
theorem dX2_one_144 : decode cX2_one 144 = .ok (.ishl, 1) := dk_120 (dk_at dksX2_one_4 0 rfl rfl)
theorem dX2_one_145 : decode cX2_one 145 = .ok (.sipush 240, 3) := dk_17 0 240 (dk_at dksX2_one_4 1 rfl rfl)
theorem dX2_one_148 : decode cX2_one 148 = .ok (.iand, 1) := dk_126 (dk_at dksX2_one_4 4 rfl rfl)
theorem dX2_one_149 : decode cX2_one 149 = .ok (.iload 4, 2) := dk_21 4 (dk_at dksX2_one_4 5 rfl rfl)
theorem dX2_one_151 : decode cX2_one 151 = .ok (.iconst 4, 1) := dk_7 (dk_at dksX2_one_4 7 rfl rfl)
theorem dX2_one_152 : decode cX2_one 152 = .ok (.ishr, 1) := dk_122 (dk_at dksX2_one_4 8 rfl rfl)
theorem dX2_one_153 : decode cX2_one 153 = .ok (.ior, 1) := dk_128 (dk_at dksX2_one_4 9 rfl rfl)
theorem dX2_one_154 : decode cX2_one 154 = .ok (.iastore, 1) := dk_79 (dk_at dksX2_one_4 10 rfl rfl)
theorem dX2_one_155 : decode cX2_one 155 = .ok (.iconst 1, 1) := dk_4 (dk_at dksX2_one_4 11 rfl rfl)
theorem dX2_one_156 : decode cX2_one 156 = .ok (.ireturn, 1) := dk_172 (dk_at dksX2_one_4 12 rfl rfl)
theorem dX2_one_157 : decode cX2_one 157 = .ok (.aload_n 0, 1) := dk_42 (dk_at dksX2_one_4 13 rfl rfl)
theorem dX2_one_158 : decode cX2_one 158 = .ok (.iload 4, 2) := dk_21 4 (dk_at dksX2_one_4 14 rfl rfl)
theorem dX2_one_160 : decode cX2_one 160 = .ok (.iconst 1, 1) := dk_4 (dk_at dksX2_one_4 16 rfl rfl)
theorem dX2_one_161 : decode cX2_one 161 = .ok (.iadd, 1) := dk_96 (dk_at dksX2_one_4 17 rfl rfl)
theorem dX2_one_162 : decode cX2_one 162 = .ok (.iload 4, 2) := dk_21 4 (dk_at dksX2_one_4 18 rfl rfl)
theorem dX2_one_164 : decode cX2_one 164 = .ok (.bipush 127, 2) := dk_16 127 (dk_at dksX2_one_4 20 rfl rfl)
theorem dX2_one_166 : decode cX2_one 166 = .ok (.if_icmp .ne 7, 3) := dk_160 0 7 (dk_at dksX2_one_5 0 rfl rfl)
theorem dX2_one_169 : decode cX2_one 169 = .ok (.iconst 1, 1) := dk_4 (dk_at dksX2_one_5 3 rfl rfl)
theorem dX2_one_170 : decode cX2_one 170 = .ok (.goto 4, 3) := dk_167 0 4 (dk_at dksX2_one_5 4 rfl rfl)
theorem dX2_one_173 : decode cX2_one 173 = .ok (.iconst 0, 1) := dk_3 (dk_at dksX2_one_5 7 rfl rfl)
theorem dX2_one_174 : decode cX2_one 174 = .ok (.invokevirtual 136, 3) := dk_182 0 136 (dk_at dksX2_one_5 8 rfl rfl)
theorem dX2_one_177 : decode cX2_one 177 = .ok (.aload_n 0, 1) := dk_42 (dk_at dksX2_one_5 11 rfl rfl)
theorem dX2_one_178 : decode cX2_one 178 = .ok (.getfield 9, 3) := dk_180 0 9 (dk_at dksX2_one_5 12 rfl rfl)
theorem dX2_one_181 : decode cX2_one 181 = .ok (.iload_n 3, 1) := dk_29 (dk_at dksX2_one_5 15 rfl rfl)
theorem dX2_one_182 : decode cX2_one 182 = .ok (.iload 4, 2) := dk_21 4 (dk_at dksX2_one_5 16 rfl rfl)
theorem dX2_one_184 : decode cX2_one 184 = .ok (.iconst 1, 1) := dk_4 (dk_at dksX2_one_5 18 rfl rfl)
theorem dX2_one_185 : decode cX2_one 185 = .ok (.iadd, 1) := dk_96 (dk_at dksX2_one_5 19 rfl rfl)
theorem dX2_one_186 : decode cX2_one 186 = .ok (.sipush 255, 3) := dk_17 0 255 (dk_at dksX2_one_5 20 rfl rfl)
theorem dX2_one_189 : decode cX2_one 189 = .ok (.iand, 1) := dk_126 (dk_at dksX2_one_5 23 rfl rfl)
theorem dX2_one_190 : decode cX2_one 190 = .ok (.iastore, 1) := dk_79 (dk_at dksX2_one_6 0 rfl rfl)
theorem dX2_one_191 : decode cX2_one 191 = .ok (.iconst 1, 1) := dk_4 (dk_at dksX2_one_6 1 rfl rfl)
theorem dX2_one_192 : decode cX2_one 192 = .ok (.ireturn, 1) := dk_172 (dk_at dksX2_one_6 2 rfl rfl)
theorem dX2_one_193 : decode cX2_one 193 = .ok (.aload_n 0, 1) := dk_42 (dk_at dksX2_one_6 3 rfl rfl)
theorem dX2_one_194 : decode cX2_one 194 = .ok (.iload 4, 2) := dk_21 4 (dk_at dksX2_one_6 4 rfl rfl)
theorem dX2_one_196 : decode cX2_one 196 = .ok (.iconst 1, 1) := dk_4 (dk_at dksX2_one_6 6 rfl rfl)
theorem dX2_one_197 : decode cX2_one 197 = .ok (.isub, 1) := dk_100 (dk_at dksX2_one_6 7 rfl rfl)
theorem dX2_one_198 : decode cX2_one 198 = .ok (.iload 4, 2) := dk_21 4 (dk_at dksX2_one_6 8 rfl rfl)
theorem dX2_one_200 : decode cX2_one 200 = .ok (.sipush 128, 3) := dk_17 0 128 (dk_at dksX2_one_6 10 rfl rfl)
theorem dX2_one_203 : decode cX2_one 203 = .ok (.if_icmp .ne 7, 3) := dk_160 0 7 (dk_at dksX2_one_6 13 rfl rfl)
theorem dX2_one_206 : decode cX2_one 206 = .ok (.iconst 1, 1) := dk_4 (dk_at dksX2_one_6 16 rfl rfl)
theorem dX2_one_207 : decode cX2_one 207 = .ok (.goto 4, 3) := dk_167 0 4 (dk_at dksX2_one_6 17 rfl rfl)
theorem dX2_one_210 : decode cX2_one 210 = .ok (.iconst 0, 1) := dk_3 (dk_at dksX2_one_6 20 rfl rfl)
theorem dX2_one_211 : decode cX2_one 211 = .ok (.invokevirtual 136, 3) := dk_182 0 136 (dk_at dksX2_one_6 21 rfl rfl)
theorem dX2_one_214 : decode cX2_one 214 = .ok (.aload_n 0, 1) := dk_42 (dk_at dksX2_one_7 0 rfl rfl)
theorem dX2_one_215 : decode cX2_one 215 = .ok (.getfield 9, 3) := dk_180 0 9 (dk_at dksX2_one_7 1 rfl rfl)
theorem dX2_one_218 : decode cX2_one 218 = .ok (.iload_n 3, 1) := dk_29 (dk_at dksX2_one_7 4 rfl rfl)
theorem dX2_one_219 : decode cX2_one 219 = .ok (.iload 4, 2) := dk_21 4 (dk_at dksX2_one_7 5 rfl rfl)
theorem dX2_one_221 : decode cX2_one 221 = .ok (.iconst 1, 1) := dk_4 (dk_at dksX2_one_7 7 rfl rfl)
theorem dX2_one_222 : decode cX2_one 222 = .ok (.isub, 1) := dk_100 (dk_at dksX2_one_7 8 rfl rfl)
theorem dX2_one_223 : decode cX2_one 223 = .ok (.sipush 255, 3) := dk_17 0 255 (dk_at dksX2_one_7 9 rfl rfl)
theorem dX2_one_226 : decode cX2_one 226 = .ok (.iand, 1) := dk_126 (dk_at dksX2_one_7 12 rfl rfl)
theorem dX2_one_227 : decode cX2_one 227 = .ok (.iastore, 1) := dk_79 (dk_at dksX2_one_7 13 rfl rfl)
theorem dX2_one_228 : decode cX2_one 228 = .ok (.iconst 1, 1) := dk_4 (dk_at dksX2_one_7 14 rfl rfl)
theorem dX2_one_229 : decode cX2_one 229 = .ok (.ireturn, 1) := dk_172 (dk_at dksX2_one_7 15 rfl rfl)
theorem dX2_one_230 : decode cX2_one 230 = .ok (.aload_n 0, 1) := dk_42 (dk_at dksX2_one_7 16 rfl rfl)
theorem dX2_one_231 : decode cX2_one 231 = .ok (.iload_n 3, 1) := dk_29 (dk_at dksX2_one_7 17 rfl rfl)
theorem dX2_one_232 : decode cX2_one 232 = .ok (.iload_n 1, 1) := dk_27 (dk_at dksX2_one_7 18 rfl rfl)
theorem dX2_one_233 : decode cX2_one 233 = .ok (.bipush 15, 2) := dk_16 15 (dk_at dksX2_one_7 19 rfl rfl)
theorem dX2_one_235 : decode cX2_one 235 = .ok (.iand, 1) := dk_126 (dk_at dksX2_one_7 21 rfl rfl)
theorem dX2_one_236 : decode cX2_one 236 = .ok (.invokevirtual 274, 3) := dk_182 1 18 (dk_at dksX2_one_8 0 rfl rfl)
theorem dX2_one_239 : decode cX2_one 239 = .ok (.iconst 1, 1) := dk_4 (dk_at dksX2_one_8 3 rfl rfl)
theorem dX2_one_240 : decode cX2_one 240 = .ok (.ireturn, 1) := dk_172 (dk_at dksX2_one_8 4 rfl rfl)
theorem dX2_one_241 : decode cX2_one 241 = .ok (.aload_n 0, 1) := dk_42 (dk_at dksX2_one_8 5 rfl rfl)
theorem dX2_one_242 : decode cX2_one 242 = .ok (.iload_n 1, 1) := dk_27 (dk_at dksX2_one_8 6 rfl rfl)
theorem dX2_one_243 : decode cX2_one 243 = .ok (.iload_n 2, 1) := dk_28 (dk_at dksX2_one_8 7 rfl rfl)
theorem dX2_one_244 : decode cX2_one 244 = .ok (.invokevirtual 277, 3) := dk_182 1 21 (dk_at dksX2_one_8 8 rfl rfl)
theorem dX2_one_247 : decode cX2_one 247 = .ok (.ireturn, 1) := dk_172 (dk_at dksX2_one_8 11 rfl rfl)
theorem dX2_one_248 : decode cX2_one 248 = .ok (.aload_n 0, 1) := dk_42 (dk_at dksX2_one_8 12 rfl rfl)
theorem dX2_one_249 : decode cX2_one 249 = .ok (.iload_n 1, 1) := dk_27 (dk_at dksX2_one_8 13 rfl rfl)
theorem dX2_one_250 : decode cX2_one 250 = .ok (.invokevirtual 280, 3) := dk_182 1 24 (dk_at dksX2_one_8 14 rfl rfl)
theorem dX2_one_253 : decode cX2_one 253 = .ok (.ireturn, 1) := dk_172 (dk_at dksX2_one_8 17 rfl rfl)
theorem dX2_one_254 : decode cX2_one 254 = .ok (.aload_n 0, 1) := dk_42 (dk_at dksX2_one_8 18 rfl rfl)
theorem dX2_one_255 : decode cX2_one 255 = .ok (.invokevirtual 205, 3) := dk_182 0 205 (dk_at dksX2_one_8 19 rfl rfl)
theorem dX2_one_258 : decode cX2_one 258 = .ok (.istore 5, 2) := dk_54 5 (dk_at dksX2_one_8 22 rfl rfl)
theorem dX2_one_260 : decode cX2_one 260 = .ok (.iload_n 1, 1) := dk_27 (dk_at dksX2_one_9 0 rfl rfl)
theorem dX2_one_261 : decode cX2_one 261 = .ok (.iconst 2, 1) := dk_5 (dk_at dksX2_one_9 1 rfl rfl)
theorem dX2_one_262 : decode cX2_one 262 = .ok (.iand, 1) := dk_126 (dk_at dksX2_one_9 2 rfl rfl)
theorem dX2_one_263 : decode cX2_one 263 = .ok (.ifCond .eq 7, 3) := dk_153 0 7 (dk_at dksX2_one_9 3 rfl rfl)
theorem dX2_one_266 : decode cX2_one 266 = .ok (.aload_n 0, 1) := dk_42 (dk_at dksX2_one_9 6 rfl rfl)
theorem dX2_one_267 : decode cX2_one 267 = .ok (.invokevirtual 154, 3) := dk_182 0 154 (dk_at dksX2_one_9 7 rfl rfl)
theorem dX2_one_270 : decode cX2_one 270 = .ok (.aload_n 0, 1) := dk_42 (dk_at dksX2_one_9 10 rfl rfl)
theorem dX2_one_271 : decode cX2_one 271 = .ok (.iload 5, 2) := dk_21 5 (dk_at dksX2_one_9 11 rfl rfl)
theorem dX2_one_273 : decode cX2_one 273 = .ok (.invokevirtual 125, 3) := dk_182 0 125 (dk_at dksX2_one_9 13 rfl rfl)
theorem dX2_one_276 : decode cX2_one 276 = .ok (.iload_n 1, 1) := dk_27 (dk_at dksX2_one_9 16 rfl rfl)
theorem dX2_one_277 : decode cX2_one 277 = .ok (.iconst 2, 1) := dk_5 (dk_at dksX2_one_9 17 rfl rfl)
theorem dX2_one_278 : decode cX2_one 278 = .ok (.iand, 1) := dk_126 (dk_at dksX2_one_9 18 rfl rfl)
theorem dX2_one_279 : decode cX2_one 279 = .ok (.ifCond .eq 7, 3) := dk_153 0 7 (dk_at dksX2_one_9 19 rfl rfl)
theorem dX2_one_282 : decode cX2_one 282 = .ok (.iconst 4, 1) := dk_7 (dk_at dksX2_one_9 22 rfl rfl)
theorem dX2_one_283 : decode cX2_one 283 = .ok (.goto 4, 3) := dk_167 0 4 (dk_at dksX2_one_10 0 rfl rfl)
theorem dX2_one_286 : decode cX2_one 286 = .ok (.iconst 3, 1) := dk_6 (dk_at dksX2_one_10 3 rfl rfl)
theorem dX2_one_287 : decode cX2_one 287 = .ok (.ireturn, 1) := dk_172 (dk_at dksX2_one_10 4 rfl rfl)
theorem dX2_one_288 : decode cX2_one 288 = .ok (.iconst 1, 1) := dk_4 (dk_at dksX2_one_10 5 rfl rfl)
theorem dX2_one_289 : decode cX2_one 289 = .ok (.ireturn, 1) := dk_172 (dk_at dksX2_one_10 6 rfl rfl)
abbrev cX2_shifted : ByteArray := prog_3_method_42_code
def yX2_shifted : MethodName := ⟨RX2, "shifted", "(II)V"⟩
def dkwX2_shifted_4 : List UInt8 := [3, 159, 0, 7, 4, 167, 0, 4, 3, 182, 0, 136, 42, 180, 0, 9, 27, 21, 5, 79, 177]
abbrev dktX2_shifted_4 : List UInt8 := dkwX2_shifted_4 ++ []
def dkwX2_shifted_3 : List UInt8 := [21, 5, 17, 0, 128, 126, 153, 0, 7, 4, 167, 0, 4, 3, 29, 4, 126, 153, 0, 7, 4, 167, 0, 4]
abbrev dktX2_shifted_3 : List UInt8 := dkwX2_shifted_3 ++ dktX2_shifted_4
def dkwX2_shifted_2 : List UInt8 := [122, 128, 54, 5, 42, 4, 29, 4, 126, 153, 0, 7, 4, 167, 0, 4, 3, 182, 0, 128, 42, 21, 5]
abbrev dktX2_shifted_2 : List UInt8 := dkwX2_shifted_2 ++ dktX2_shifted_3
def dkwX2_shifted_1 : List UInt8 := [160, 0, 17, 42, 4, 182, 0, 132, 153, 0, 9, 17, 0, 128, 167, 0, 4, 3, 54, 4, 21, 4, 29, 4]
abbrev dktX2_shifted_1 : List UInt8 := dkwX2_shifted_1 ++ dktX2_shifted_2
def dkwX2_shifted_0 : List UInt8 := [42, 180, 0, 9, 27, 46, 62, 28, 8, 160, 0, 11, 29, 17, 0, 128, 126, 167, 0, 24, 28, 16, 7]
abbrev dktX2_shifted_0 : List UInt8 := dkwX2_shifted_0 ++ dktX2_shifted_1
theorem dksX2_shifted_0 : cX2_shifted.data.toList.drop 0 = dktX2_shifted_0 := by decide +kernel
theorem dksX2_shifted_1 : cX2_shifted.data.toList.drop 23 = dktX2_shifted_1 := dk_seg dksX2_shifted_0 23 rfl rfl
theorem dksX2_shifted_2 : cX2_shifted.data.toList.drop 47 = dktX2_shifted_2 := dk_seg dksX2_shifted_1 24 rfl rfl
theorem dksX2_shifted_3 : cX2_shifted.data.toList.drop 70 = dktX2_shifted_3 := dk_seg dksX2_shifted_2 23 rfl rfl
theorem dksX2_shifted_4 : cX2_shifted.data.toList.drop 94 = dktX2_shifted_4 := dk_seg dksX2_shifted_3 24 rfl rfl
theorem dX2_shifted_0 : decode cX2_shifted 0 = .ok (.aload_n 0, 1) := dk_42 (dk_at dksX2_shifted_0 0 rfl rfl)
theorem dX2_shifted_1 : decode cX2_shifted 1 = .ok (.getfield 9, 3) := dk_180 0 9 (dk_at dksX2_shifted_0 1 rfl rfl)
theorem dX2_shifted_4 : decode cX2_shifted 4 = .ok (.iload_n 1, 1) := dk_27 (dk_at dksX2_shifted_0 4 rfl rfl)
theorem dX2_shifted_5 : decode cX2_shifted 5 = .ok (.iaload, 1) := dk_46 (dk_at dksX2_shifted_0 5 rfl rfl)
theorem dX2_shifted_6 : decode cX2_shifted 6 = .ok (.istore_n 3, 1) := dk_62 (dk_at dksX2_shifted_0 6 rfl rfl)
theorem dX2_shifted_7 : decode cX2_shifted 7 = .ok (.iload_n 2, 1) := dk_28 (dk_at dksX2_shifted_0 7 rfl rfl)
theorem dX2_shifted_8 : decode cX2_shifted 8 = .ok (.iconst 5, 1) := dk_8 (dk_at dksX2_shifted_0 8 rfl rfl)
theorem dX2_shifted_9 : decode cX2_shifted 9 = .ok (.if_icmp .ne 11, 3) := dk_160 0 11 (dk_at dksX2_shifted_0 9 rfl rfl)
theorem dX2_shifted_12 : decode cX2_shifted 12 = .ok (.iload_n 3, 1) := dk_29 (dk_at dksX2_shifted_0 12 rfl rfl)
theorem dX2_shifted_13 : decode cX2_shifted 13 = .ok (.sipush 128, 3) := dk_17 0 128 (dk_at dksX2_shifted_0 13 rfl rfl)
theorem dX2_shifted_16 : decode cX2_shifted 16 = .ok (.iand, 1) := dk_126 (dk_at dksX2_shifted_0 16 rfl rfl)
theorem dX2_shifted_17 : decode cX2_shifted 17 = .ok (.goto 24, 3) := dk_167 0 24 (dk_at dksX2_shifted_0 17 rfl rfl)
theorem dX2_shifted_20 : decode cX2_shifted 20 = .ok (.iload_n 2, 1) := dk_28 (dk_at dksX2_shifted_0 20 rfl rfl)
theorem dX2_shifted_21 : decode cX2_shifted 21 = .ok (.bipush 7, 2) := dk_16 7 (dk_at dksX2_shifted_0 21 rfl rfl)
theorem dX2_shifted_23 : decode cX2_shifted 23 = .ok (.if_icmp .ne 17, 3) := dk_160 0 17 (dk_at dksX2_shifted_1 0 rfl rfl)
theorem dX2_shifted_26 : decode cX2_shifted 26 = .ok (.aload_n 0, 1) := dk_42 (dk_at dksX2_shifted_1 3 rfl rfl)
theorem dX2_shifted_27 : decode cX2_shifted 27 = .ok (.iconst 1, 1) := dk_4 (dk_at dksX2_shifted_1 4 rfl rfl)
theorem dX2_shifted_28 : decode cX2_shifted 28 = .ok (.invokevirtual 132, 3) := dk_182 0 132 (dk_at dksX2_shifted_1 5 rfl rfl)
theorem dX2_shifted_31 : decode cX2_shifted 31 = .ok (.ifCond .eq 9, 3) := dk_153 0 9 (dk_at dksX2_shifted_1 8 rfl rfl)
theorem dX2_shifted_34 : decode cX2_shifted 34 = .ok (.sipush 128, 3) := dk_17 0 128 (dk_at dksX2_shifted_1 11 rfl rfl)
theorem dX2_shifted_37 : decode cX2_shifted 37 = .ok (.goto 4, 3) := dk_167 0 4 (dk_at dksX2_shifted_1 14 rfl rfl)
theorem dX2_shifted_40 : decode cX2_shifted 40 = .ok (.iconst 0, 1) := dk_3 (dk_at dksX2_shifted_1 17 rfl rfl)
theorem dX2_shifted_41 : decode cX2_shifted 41 = .ok (.istore 4, 2) := dk_54 4 (dk_at dksX2_shifted_1 18 rfl rfl)
theorem dX2_shifted_43 : decode cX2_shifted 43 = .ok (.iload 4, 2) := dk_21 4 (dk_at dksX2_shifted_1 20 rfl rfl)
theorem dX2_shifted_45 : decode cX2_shifted 45 = .ok (.iload_n 3, 1) := dk_29 (dk_at dksX2_shifted_1 22 rfl rfl)
theorem dX2_shifted_46 : decode cX2_shifted 46 = .ok (.iconst 1, 1) := dk_4 (dk_at dksX2_shifted_1 23 rfl rfl)
theorem dX2_shifted_47 : decode cX2_shifted 47 = .ok (.ishr, 1) := dk_122 (dk_at dksX2_shifted_2 0 rfl rfl)
theorem dX2_shifted_48 : decode cX2_shifted 48 = .ok (.ior, 1) := dk_128 (dk_at dksX2_shifted_2 1 rfl rfl)
theorem dX2_shifted_49 : decode cX2_shifted 49 = .ok (.istore 5, 2) := dk_54 5 (dk_at dksX2_shifted_2 2 rfl rfl)
theorem dX2_shifted_51 : decode cX2_shifted 51 = .ok (.aload_n 0, 1) := dk_42 (dk_at dksX2_shifted_2 4 rfl rfl)
theorem dX2_shifted_52 : decode cX2_shifted 52 = .ok (.iconst 1, 1) := dk_4 (dk_at dksX2_shifted_2 5 rfl rfl)
theorem dX2_shifted_53 : decode cX2_shifted 53 = .ok (.iload_n 3, 1) := dk_29 (dk_at dksX2_shifted_2 6 rfl rfl)
theorem dX2_shifted_54 : decode cX2_shifted 54 = .ok (.iconst 1, 1) := dk_4 (dk_at dksX2_shifted_2 7 rfl rfl)
theorem dX2_shifted_55 : decode cX2_shifted 55 = .ok (.iand, 1) := dk_126 (dk_at dksX2_shifted_2 8 rfl rfl)
theorem dX2_shifted_56 : decode cX2_shifted 56 = .ok (.ifCond .eq 7, 3) := dk_153 0 7 (dk_at dksX2_shifted_2 9 rfl rfl)
theorem dX2_shifted_59 : decode cX2_shifted 59 = .ok (.iconst 1, 1) := dk_4 (dk_at dksX2_shifted_2 12 rfl rfl)
theorem dX2_shifted_60 : decode cX2_shifted 60 = .ok (.goto 4, 3) := dk_167 0 4 (dk_at dksX2_shifted_2 13 rfl rfl)
theorem dX2_shifted_63 : decode cX2_shifted 63 = .ok (.iconst 0, 1) := dk_3 (dk_at dksX2_shifted_2 16 rfl rfl)
theorem dX2_shifted_64 : decode cX2_shifted 64 = .ok (.invokevirtual 128, 3) := dk_182 0 128 (dk_at dksX2_shifted_2 17 rfl rfl)
theorem dX2_shifted_67 : decode cX2_shifted 67 = .ok (.aload_n 0, 1) := dk_42 (dk_at dksX2_shifted_2 20 rfl rfl)
theorem dX2_shifted_68 : decode cX2_shifted 68 = .ok (.iload 5, 2) := dk_21 5 (dk_at dksX2_shifted_2 21 rfl rfl)
theorem dX2_shifted_70 : decode cX2_shifted 70 = .ok (.iload 5, 2) := dk_21 5 (dk_at dksX2_shifted_3 0 rfl rfl)
theorem dX2_shifted_72 : decode cX2_shifted 72 = .ok (.sipush 128, 3) := dk_17 0 128 (dk_at dksX2_shifted_3 2 rfl rfl)
theorem dX2_shifted_75 : decode cX2_shifted 75 = .ok (.iand, 1) := dk_126 (dk_at dksX2_shifted_3 5 rfl rfl)
theorem dX2_shifted_76 : decode cX2_shifted 76 = .ok (.ifCond .eq 7, 3) := dk_153 0 7 (dk_at dksX2_shifted_3 6 rfl rfl)
theorem dX2_shifted_79 : decode cX2_shifted 79 = .ok (.iconst 1, 1) := dk_4 (dk_at dksX2_shifted_3 9 rfl rfl)
theorem dX2_shifted_80 : decode cX2_shifted 80 = .ok (.goto 4, 3) := dk_167 0 4 (dk_at dksX2_shifted_3 10 rfl rfl)
theorem dX2_shifted_83 : decode cX2_shifted 83 = .ok (.iconst 0, 1) := dk_3 (dk_at dksX2_shifted_3 13 rfl rfl)
theorem dX2_shifted_84 : decode cX2_shifted 84 = .ok (.iload_n 3, 1) := dk_29 (dk_at dksX2_shifted_3 14 rfl rfl)
theorem dX2_shifted_85 : decode cX2_shifted 85 = .ok (.iconst 1, 1) := dk_4 (dk_at dksX2_shifted_3 15 rfl rfl)
theorem dX2_shifted_86 : decode cX2_shifted 86 = .ok (.iand, 1) := dk_126 (dk_at dksX2_shifted_3 16 rfl rfl)
theorem dX2_shifted_87 : decode cX2_shifted 87 = .ok (.ifCond .eq 7, 3) := dk_153 0 7 (dk_at dksX2_shifted_3 17 rfl rfl)
theorem dX2_shifted_90 : decode cX2_shifted 90 = .ok (.iconst 1, 1) := dk_4 (dk_at dksX2_shifted_3 20 rfl rfl)
theorem dX2_shifted_91 : decode cX2_shifted 91 = .ok (.goto 4, 3) := dk_167 0 4 (dk_at dksX2_shifted_3 21 rfl rfl)
theorem dX2_shifted_94 : decode cX2_shifted 94 = .ok (.iconst 0, 1) := dk_3 (dk_at dksX2_shifted_4 0 rfl rfl)
theorem dX2_shifted_95 : decode cX2_shifted 95 = .ok (.if_icmp .eq 7, 3) := dk_159 0 7 (dk_at dksX2_shifted_4 1 rfl rfl)
theorem dX2_shifted_98 : decode cX2_shifted 98 = .ok (.iconst 1, 1) := dk_4 (dk_at dksX2_shifted_4 4 rfl rfl)
theorem dX2_shifted_99 : decode cX2_shifted 99 = .ok (.goto 4, 3) := dk_167 0 4 (dk_at dksX2_shifted_4 5 rfl rfl)
theorem dX2_shifted_102 : decode cX2_shifted 102 = .ok (.iconst 0, 1) := dk_3 (dk_at dksX2_shifted_4 8 rfl rfl)
theorem dX2_shifted_103 : decode cX2_shifted 103 = .ok (.invokevirtual 136, 3) := dk_182 0 136 (dk_at dksX2_shifted_4 9 rfl rfl)
theorem dX2_shifted_106 : decode cX2_shifted 106 = .ok (.aload_n 0, 1) := dk_42 (dk_at dksX2_shifted_4 12 rfl rfl)
theorem dX2_shifted_107 : decode cX2_shifted 107 = .ok (.getfield 9, 3) := dk_180 0 9 (dk_at dksX2_shifted_4 13 rfl rfl)
theorem dX2_shifted_110 : decode cX2_shifted 110 = .ok (.iload_n 1, 1) := dk_27 (dk_at dksX2_shifted_4 16 rfl rfl)
theorem dX2_shifted_111 : decode cX2_shifted 111 = .ok (.iload 5, 2) := dk_21 5 (dk_at dksX2_shifted_4 17 rfl rfl)
theorem dX2_shifted_113 : decode cX2_shifted 113 = .ok (.iastore, 1) := dk_79 (dk_at dksX2_shifted_4 19 rfl rfl)
theorem dX2_shifted_114 : decode cX2_shifted 114 = .ok (.return_, 1) := dk_177 (dk_at dksX2_shifted_4 20 rfl rfl)
abbrev cX2_alone : ByteArray := prog_3_method_44_code
def yX2_alone : MethodName := ⟨RX2, "alone", "(IZ)I"⟩
def dkwX2_alone_7 : List UInt8 := [182, 0, 240, 28, 182, 1, 37, 4, 172, 4, 172]
abbrev dktX2_alone_7 : List UInt8 := dkwX2_alone_7 ++ []
def dkwX2_alone_6 : List UInt8 := [180, 0, 68, 42, 16, 30, 182, 0, 240, 28, 182, 1, 3, 79, 6, 172, 42, 180, 0, 68, 42, 16, 30]
abbrev dktX2_alone_6 : List UInt8 := dkwX2_alone_6 ++ dktX2_alone_7
def dkwX2_alone_5 : List UInt8 := [172, 42, 4, 181, 0, 93, 4, 172, 42, 180, 0, 54, 3, 181, 1, 34, 4, 172, 42, 180, 0, 9, 3, 42]
abbrev dktX2_alone_5 : List UInt8 := dkwX2_alone_5 ++ dktX2_alone_6
def dkwX2_alone_4 : List UInt8 := [42, 182, 1, 31, 7, 172, 42, 182, 1, 31, 42, 17, 0, 128, 4, 182, 0, 128, 42, 4, 181, 0, 96, 7]
abbrev dktX2_alone_4 : List UInt8 := dkwX2_alone_4 ++ dktX2_alone_5
def dkwX2_alone_3 : List UInt8 := [170, 0, 0, 0, 0, 0, 0, 156, 0, 0, 0, 0, 0, 0, 0, 14, 0, 0, 0, 76, 0, 0, 0, 82, 0, 0, 0, 156, 0, 0, 0, 156, 0, 0, 0, 156, 0, 0, 0, 156, 0, 0, 0, 156, 0, 0, 0, 156, 0, 0, 0, 101, 0, 0, 0, 156, 0, 0, 0, 108, 0, 0, 0, 156, 0, 0, 0, 118, 0, 0, 0, 156, 0, 0, 0, 140]
abbrev dktX2_alone_3 : List UInt8 := dkwX2_alone_3 ++ dktX2_alone_4
def dkwX2_alone_2 : List UInt8 := [4, 172, 27, 7, 122, 16, 15, 126]
abbrev dktX2_alone_2 : List UInt8 := dkwX2_alone_2 ++ dktX2_alone_3
def dkwX2_alone_1 : List UInt8 := [4, 167, 0, 4, 3, 182, 0, 128, 42, 27, 19, 1, 30, 160, 0, 7, 4, 167, 0, 4, 3, 181, 0, 96]
abbrev dktX2_alone_1 : List UInt8 := dkwX2_alone_1 ++ dktX2_alone_2
def dkwX2_alone_0 : List UInt8 := [27, 19, 1, 29, 162, 0, 46, 42, 4, 27, 7, 122, 16, 7, 126, 120, 27, 17, 0, 128, 126, 154, 0, 7]
abbrev dktX2_alone_0 : List UInt8 := dkwX2_alone_0 ++ dktX2_alone_1
theorem dksX2_alone_0 : cX2_alone.data.toList.drop 0 = dktX2_alone_0 := by decide +kernel
theorem dksX2_alone_1 : cX2_alone.data.toList.drop 24 = dktX2_alone_1 := dk_seg dksX2_alone_0 24 rfl rfl
theorem dksX2_alone_2 : cX2_alone.data.toList.drop 48 = dktX2_alone_2 := dk_seg dksX2_alone_1 24 rfl rfl
theorem dksX2_alone_3 : cX2_alone.data.toList.drop 56 = dktX2_alone_3 := dk_seg dksX2_alone_2 8 rfl rfl
theorem dksX2_alone_4 : cX2_alone.data.toList.drop 132 = dktX2_alone_4 := dk_seg dksX2_alone_3 76 rfl rfl
theorem dksX2_alone_5 : cX2_alone.data.toList.drop 156 = dktX2_alone_5 := dk_seg dksX2_alone_4 24 rfl rfl
theorem dksX2_alone_6 : cX2_alone.data.toList.drop 180 = dktX2_alone_6 := dk_seg dksX2_alone_5 24 rfl rfl
theorem dksX2_alone_7 : cX2_alone.data.toList.drop 203 = dktX2_alone_7 := dk_seg dksX2_alone_6 23 rfl rfl
theorem dX2_alone_0 : decode cX2_alone 0 = .ok (.iload_n 1, 1) := dk_27 (dk_at dksX2_alone_0 0 rfl rfl)
theorem dX2_alone_1 : decode cX2_alone 1 = .ok (.ldc_w 285, 3) := dk_19 1 29 (dk_at dksX2_alone_0 1 rfl rfl)
theorem dX2_alone_4 : decode cX2_alone 4 = .ok (.if_icmp .ge 46, 3) := dk_162 0 46 (dk_at dksX2_alone_0 4 rfl rfl)
theorem dX2_alone_7 : decode cX2_alone 7 = .ok (.aload_n 0, 1) := dk_42 (dk_at dksX2_alone_0 7 rfl rfl)
theorem dX2_alone_8 : decode cX2_alone 8 = .ok (.iconst 1, 1) := dk_4 (dk_at dksX2_alone_0 8 rfl rfl)
theorem dX2_alone_9 : decode cX2_alone 9 = .ok (.iload_n 1, 1) := dk_27 (dk_at dksX2_alone_0 9 rfl rfl)
theorem dX2_alone_10 : decode cX2_alone 10 = .ok (.iconst 4, 1) := dk_7 (dk_at dksX2_alone_0 10 rfl rfl)
theorem dX2_alone_11 : decode cX2_alone 11 = .ok (.ishr, 1) := dk_122 (dk_at dksX2_alone_0 11 rfl rfl)
theorem dX2_alone_12 : decode cX2_alone 12 = .ok (.bipush 7, 2) := dk_16 7 (dk_at dksX2_alone_0 12 rfl rfl)
theorem dX2_alone_14 : decode cX2_alone 14 = .ok (.iand, 1) := dk_126 (dk_at dksX2_alone_0 14 rfl rfl)
theorem dX2_alone_15 : decode cX2_alone 15 = .ok (.ishl, 1) := dk_120 (dk_at dksX2_alone_0 15 rfl rfl)
theorem dX2_alone_16 : decode cX2_alone 16 = .ok (.iload_n 1, 1) := dk_27 (dk_at dksX2_alone_0 16 rfl rfl)
theorem dX2_alone_17 : decode cX2_alone 17 = .ok (.sipush 128, 3) := dk_17 0 128 (dk_at dksX2_alone_0 17 rfl rfl)
theorem dX2_alone_20 : decode cX2_alone 20 = .ok (.iand, 1) := dk_126 (dk_at dksX2_alone_0 20 rfl rfl)
theorem dX2_alone_21 : decode cX2_alone 21 = .ok (.ifCond .ne 7, 3) := dk_154 0 7 (dk_at dksX2_alone_0 21 rfl rfl)
theorem dX2_alone_24 : decode cX2_alone 24 = .ok (.iconst 1, 1) := dk_4 (dk_at dksX2_alone_1 0 rfl rfl)
theorem dX2_alone_25 : decode cX2_alone 25 = .ok (.goto 4, 3) := dk_167 0 4 (dk_at dksX2_alone_1 1 rfl rfl)
theorem dX2_alone_28 : decode cX2_alone 28 = .ok (.iconst 0, 1) := dk_3 (dk_at dksX2_alone_1 4 rfl rfl)
theorem dX2_alone_29 : decode cX2_alone 29 = .ok (.invokevirtual 128, 3) := dk_182 0 128 (dk_at dksX2_alone_1 5 rfl rfl)
theorem dX2_alone_32 : decode cX2_alone 32 = .ok (.aload_n 0, 1) := dk_42 (dk_at dksX2_alone_1 8 rfl rfl)
theorem dX2_alone_33 : decode cX2_alone 33 = .ok (.iload_n 1, 1) := dk_27 (dk_at dksX2_alone_1 9 rfl rfl)
theorem dX2_alone_34 : decode cX2_alone 34 = .ok (.ldc_w 286, 3) := dk_19 1 30 (dk_at dksX2_alone_1 10 rfl rfl)
theorem dX2_alone_37 : decode cX2_alone 37 = .ok (.if_icmp .ne 7, 3) := dk_160 0 7 (dk_at dksX2_alone_1 13 rfl rfl)
theorem dX2_alone_40 : decode cX2_alone 40 = .ok (.iconst 1, 1) := dk_4 (dk_at dksX2_alone_1 16 rfl rfl)
theorem dX2_alone_41 : decode cX2_alone 41 = .ok (.goto 4, 3) := dk_167 0 4 (dk_at dksX2_alone_1 17 rfl rfl)
theorem dX2_alone_44 : decode cX2_alone 44 = .ok (.iconst 0, 1) := dk_3 (dk_at dksX2_alone_1 20 rfl rfl)
theorem dX2_alone_45 : decode cX2_alone 45 = .ok (.putfield 96, 3) := dk_181 0 96 (dk_at dksX2_alone_1 21 rfl rfl)
theorem dX2_alone_48 : decode cX2_alone 48 = .ok (.iconst 1, 1) := dk_4 (dk_at dksX2_alone_2 0 rfl rfl)
theorem dX2_alone_49 : decode cX2_alone 49 = .ok (.ireturn, 1) := dk_172 (dk_at dksX2_alone_2 1 rfl rfl)
theorem dX2_alone_50 : decode cX2_alone 50 = .ok (.iload_n 1, 1) := dk_27 (dk_at dksX2_alone_2 2 rfl rfl)
theorem dX2_alone_51 : decode cX2_alone 51 = .ok (.iconst 4, 1) := dk_7 (dk_at dksX2_alone_2 3 rfl rfl)
theorem dX2_alone_52 : decode cX2_alone 52 = .ok (.ishr, 1) := dk_122 (dk_at dksX2_alone_2 4 rfl rfl)
theorem dX2_alone_53 : decode cX2_alone 53 = .ok (.bipush 15, 2) := dk_16 15 (dk_at dksX2_alone_2 5 rfl rfl)
theorem dX2_alone_55 : decode cX2_alone 55 = .ok (.iand, 1) := dk_126 (dk_at dksX2_alone_2 7 rfl rfl)
theorem dX2_alone_56 : decode cX2_alone 56 = .ok (.tableswitch 156 0 14 #[76, 82, 156, 156, 156, 156, 156, 156, 101, 156, 108, 156, 118, 156, 140], 76) := by decide +kernel
theorem dX2_alone_132 : decode cX2_alone 132 = .ok (.aload_n 0, 1) := dk_42 (dk_at dksX2_alone_4 0 rfl rfl)
theorem dX2_alone_133 : decode cX2_alone 133 = .ok (.invokevirtual 287, 3) := dk_182 1 31 (dk_at dksX2_alone_4 1 rfl rfl)
theorem dX2_alone_136 : decode cX2_alone 136 = .ok (.iconst 4, 1) := dk_7 (dk_at dksX2_alone_4 4 rfl rfl)
theorem dX2_alone_137 : decode cX2_alone 137 = .ok (.ireturn, 1) := dk_172 (dk_at dksX2_alone_4 5 rfl rfl)
theorem dX2_alone_138 : decode cX2_alone 138 = .ok (.aload_n 0, 1) := dk_42 (dk_at dksX2_alone_4 6 rfl rfl)
theorem dX2_alone_139 : decode cX2_alone 139 = .ok (.invokevirtual 287, 3) := dk_182 1 31 (dk_at dksX2_alone_4 7 rfl rfl)
theorem dX2_alone_142 : decode cX2_alone 142 = .ok (.aload_n 0, 1) := dk_42 (dk_at dksX2_alone_4 10 rfl rfl)
theorem dX2_alone_143 : decode cX2_alone 143 = .ok (.sipush 128, 3) := dk_17 0 128 (dk_at dksX2_alone_4 11 rfl rfl)
theorem dX2_alone_146 : decode cX2_alone 146 = .ok (.iconst 1, 1) := dk_4 (dk_at dksX2_alone_4 14 rfl rfl)
theorem dX2_alone_147 : decode cX2_alone 147 = .ok (.invokevirtual 128, 3) := dk_182 0 128 (dk_at dksX2_alone_4 15 rfl rfl)
theorem dX2_alone_150 : decode cX2_alone 150 = .ok (.aload_n 0, 1) := dk_42 (dk_at dksX2_alone_4 18 rfl rfl)
theorem dX2_alone_151 : decode cX2_alone 151 = .ok (.iconst 1, 1) := dk_4 (dk_at dksX2_alone_4 19 rfl rfl)
theorem dX2_alone_152 : decode cX2_alone 152 = .ok (.putfield 96, 3) := dk_181 0 96 (dk_at dksX2_alone_4 20 rfl rfl)
theorem dX2_alone_155 : decode cX2_alone 155 = .ok (.iconst 4, 1) := dk_7 (dk_at dksX2_alone_4 23 rfl rfl)
theorem dX2_alone_156 : decode cX2_alone 156 = .ok (.ireturn, 1) := dk_172 (dk_at dksX2_alone_5 0 rfl rfl)
theorem dX2_alone_157 : decode cX2_alone 157 = .ok (.aload_n 0, 1) := dk_42 (dk_at dksX2_alone_5 1 rfl rfl)
theorem dX2_alone_158 : decode cX2_alone 158 = .ok (.iconst 1, 1) := dk_4 (dk_at dksX2_alone_5 2 rfl rfl)
theorem dX2_alone_159 : decode cX2_alone 159 = .ok (.putfield 93, 3) := dk_181 0 93 (dk_at dksX2_alone_5 3 rfl rfl)
theorem dX2_alone_162 : decode cX2_alone 162 = .ok (.iconst 1, 1) := dk_4 (dk_at dksX2_alone_5 6 rfl rfl)
theorem dX2_alone_163 : decode cX2_alone 163 = .ok (.ireturn, 1) := dk_172 (dk_at dksX2_alone_5 7 rfl rfl)
theorem dX2_alone_164 : decode cX2_alone 164 = .ok (.aload_n 0, 1) := dk_42 (dk_at dksX2_alone_5 8 rfl rfl)
theorem dX2_alone_165 : decode cX2_alone 165 = .ok (.getfield 54, 3) := dk_180 0 54 (dk_at dksX2_alone_5 9 rfl rfl)
theorem dX2_alone_168 : decode cX2_alone 168 = .ok (.iconst 0, 1) := dk_3 (dk_at dksX2_alone_5 12 rfl rfl)
theorem dX2_alone_169 : decode cX2_alone 169 = .ok (.putfield 290, 3) := dk_181 1 34 (dk_at dksX2_alone_5 13 rfl rfl)
theorem dX2_alone_172 : decode cX2_alone 172 = .ok (.iconst 1, 1) := dk_4 (dk_at dksX2_alone_5 16 rfl rfl)
theorem dX2_alone_173 : decode cX2_alone 173 = .ok (.ireturn, 1) := dk_172 (dk_at dksX2_alone_5 17 rfl rfl)
theorem dX2_alone_174 : decode cX2_alone 174 = .ok (.aload_n 0, 1) := dk_42 (dk_at dksX2_alone_5 18 rfl rfl)
theorem dX2_alone_175 : decode cX2_alone 175 = .ok (.getfield 9, 3) := dk_180 0 9 (dk_at dksX2_alone_5 19 rfl rfl)
theorem dX2_alone_178 : decode cX2_alone 178 = .ok (.iconst 0, 1) := dk_3 (dk_at dksX2_alone_5 22 rfl rfl)
theorem dX2_alone_179 : decode cX2_alone 179 = .ok (.aload_n 0, 1) := dk_42 (dk_at dksX2_alone_5 23 rfl rfl)
theorem dX2_alone_180 : decode cX2_alone 180 = .ok (.getfield 68, 3) := dk_180 0 68 (dk_at dksX2_alone_6 0 rfl rfl)
theorem dX2_alone_183 : decode cX2_alone 183 = .ok (.aload_n 0, 1) := dk_42 (dk_at dksX2_alone_6 3 rfl rfl)
theorem dX2_alone_184 : decode cX2_alone 184 = .ok (.bipush 30, 2) := dk_16 30 (dk_at dksX2_alone_6 4 rfl rfl)
theorem dX2_alone_186 : decode cX2_alone 186 = .ok (.invokevirtual 240, 3) := dk_182 0 240 (dk_at dksX2_alone_6 6 rfl rfl)
theorem dX2_alone_189 : decode cX2_alone 189 = .ok (.iload_n 2, 1) := dk_28 (dk_at dksX2_alone_6 9 rfl rfl)
theorem dX2_alone_190 : decode cX2_alone 190 = .ok (.invokevirtual 259, 3) := dk_182 1 3 (dk_at dksX2_alone_6 10 rfl rfl)
theorem dX2_alone_193 : decode cX2_alone 193 = .ok (.iastore, 1) := dk_79 (dk_at dksX2_alone_6 13 rfl rfl)
theorem dX2_alone_194 : decode cX2_alone 194 = .ok (.iconst 3, 1) := dk_6 (dk_at dksX2_alone_6 14 rfl rfl)
theorem dX2_alone_195 : decode cX2_alone 195 = .ok (.ireturn, 1) := dk_172 (dk_at dksX2_alone_6 15 rfl rfl)
theorem dX2_alone_196 : decode cX2_alone 196 = .ok (.aload_n 0, 1) := dk_42 (dk_at dksX2_alone_6 16 rfl rfl)
theorem dX2_alone_197 : decode cX2_alone 197 = .ok (.getfield 68, 3) := dk_180 0 68 (dk_at dksX2_alone_6 17 rfl rfl)
theorem dX2_alone_200 : decode cX2_alone 200 = .ok (.aload_n 0, 1) := dk_42 (dk_at dksX2_alone_6 20 rfl rfl)
theorem dX2_alone_201 : decode cX2_alone 201 = .ok (.bipush 30, 2) := dk_16 30 (dk_at dksX2_alone_6 21 rfl rfl)
theorem dX2_alone_203 : decode cX2_alone 203 = .ok (.invokevirtual 240, 3) := dk_182 0 240 (dk_at dksX2_alone_7 0 rfl rfl)
theorem dX2_alone_206 : decode cX2_alone 206 = .ok (.iload_n 2, 1) := dk_28 (dk_at dksX2_alone_7 3 rfl rfl)
theorem dX2_alone_207 : decode cX2_alone 207 = .ok (.invokevirtual 293, 3) := dk_182 1 37 (dk_at dksX2_alone_7 4 rfl rfl)
theorem dX2_alone_210 : decode cX2_alone 210 = .ok (.iconst 1, 1) := dk_4 (dk_at dksX2_alone_7 7 rfl rfl)
theorem dX2_alone_211 : decode cX2_alone 211 = .ok (.ireturn, 1) := dk_172 (dk_at dksX2_alone_7 8 rfl rfl)
theorem dX2_alone_212 : decode cX2_alone 212 = .ok (.iconst 1, 1) := dk_4 (dk_at dksX2_alone_7 9 rfl rfl)
theorem dX2_alone_213 : decode cX2_alone 213 = .ok (.ireturn, 1) := dk_172 (dk_at dksX2_alone_7 10 rfl rfl)
abbrev cX2_popPlace : ByteArray := prog_3_method_12_code
def yX2_popPlace : MethodName := ⟨RX2, "popPlace", "()V"⟩
def dkwX2_popPlace_0 : List UInt8 := [42, 182, 0, 122, 60, 42, 27, 16, 8, 120, 42, 182, 0, 122, 128, 182, 0, 125, 177]
abbrev dktX2_popPlace_0 : List UInt8 := dkwX2_popPlace_0 ++ []
theorem dksX2_popPlace_0 : cX2_popPlace.data.toList.drop 0 = dktX2_popPlace_0 := by decide +kernel
theorem dX2_popPlace_0 : decode cX2_popPlace 0 = .ok (.aload_n 0, 1) := dk_42 (dk_at dksX2_popPlace_0 0 rfl rfl)
theorem dX2_popPlace_1 : decode cX2_popPlace 1 = .ok (.invokevirtual 122, 3) := dk_182 0 122 (dk_at dksX2_popPlace_0 1 rfl rfl)
theorem dX2_popPlace_4 : decode cX2_popPlace 4 = .ok (.istore_n 1, 1) := dk_60 (dk_at dksX2_popPlace_0 4 rfl rfl)
theorem dX2_popPlace_5 : decode cX2_popPlace 5 = .ok (.aload_n 0, 1) := dk_42 (dk_at dksX2_popPlace_0 5 rfl rfl)
theorem dX2_popPlace_6 : decode cX2_popPlace 6 = .ok (.iload_n 1, 1) := dk_27 (dk_at dksX2_popPlace_0 6 rfl rfl)
theorem dX2_popPlace_7 : decode cX2_popPlace 7 = .ok (.bipush 8, 2) := dk_16 8 (dk_at dksX2_popPlace_0 7 rfl rfl)
theorem dX2_popPlace_9 : decode cX2_popPlace 9 = .ok (.ishl, 1) := dk_120 (dk_at dksX2_popPlace_0 9 rfl rfl)
theorem dX2_popPlace_10 : decode cX2_popPlace 10 = .ok (.aload_n 0, 1) := dk_42 (dk_at dksX2_popPlace_0 10 rfl rfl)
theorem dX2_popPlace_11 : decode cX2_popPlace 11 = .ok (.invokevirtual 122, 3) := dk_182 0 122 (dk_at dksX2_popPlace_0 11 rfl rfl)
theorem dX2_popPlace_14 : decode cX2_popPlace 14 = .ok (.ior, 1) := dk_128 (dk_at dksX2_popPlace_0 14 rfl rfl)
theorem dX2_popPlace_15 : decode cX2_popPlace 15 = .ok (.invokevirtual 125, 3) := dk_182 0 125 (dk_at dksX2_popPlace_0 15 rfl rfl)
theorem dX2_popPlace_18 : decode cX2_popPlace 18 = .ok (.return_, 1) := dk_177 (dk_at dksX2_popPlace_0 18 rfl rfl)
abbrev cX2_indirect : ByteArray := prog_3_method_43_code
def yX2_indirect : MethodName := ⟨RX2, "indirect", "(I)I"⟩
def dkwX2_indirect_2 : List UInt8 := [5, 172]
abbrev dktX2_indirect_2 : List UInt8 := dkwX2_indirect_2 ++ []
def dkwX2_indirect_1 : List UInt8 := [182, 0, 154, 42, 42, 16, 30, 182, 0, 240, 182, 0, 125, 27, 19, 1, 28, 160, 0, 7, 6, 167, 0, 4]
abbrev dktX2_indirect_1 : List UInt8 := dkwX2_indirect_1 ++ dktX2_indirect_2
def dkwX2_indirect_0 : List UInt8 := [27, 19, 1, 27, 159, 0, 12, 27, 19, 1, 28, 159, 0, 5, 4, 172, 27, 19, 1, 28, 160, 0, 7, 42]
abbrev dktX2_indirect_0 : List UInt8 := dkwX2_indirect_0 ++ dktX2_indirect_1
theorem dksX2_indirect_0 : cX2_indirect.data.toList.drop 0 = dktX2_indirect_0 := by decide +kernel
theorem dksX2_indirect_1 : cX2_indirect.data.toList.drop 24 = dktX2_indirect_1 := dk_seg dksX2_indirect_0 24 rfl rfl
theorem dksX2_indirect_2 : cX2_indirect.data.toList.drop 48 = dktX2_indirect_2 := dk_seg dksX2_indirect_1 24 rfl rfl
theorem dX2_indirect_0 : decode cX2_indirect 0 = .ok (.iload_n 1, 1) := dk_27 (dk_at dksX2_indirect_0 0 rfl rfl)
theorem dX2_indirect_1 : decode cX2_indirect 1 = .ok (.ldc_w 283, 3) := dk_19 1 27 (dk_at dksX2_indirect_0 1 rfl rfl)
theorem dX2_indirect_4 : decode cX2_indirect 4 = .ok (.if_icmp .eq 12, 3) := dk_159 0 12 (dk_at dksX2_indirect_0 4 rfl rfl)
theorem dX2_indirect_7 : decode cX2_indirect 7 = .ok (.iload_n 1, 1) := dk_27 (dk_at dksX2_indirect_0 7 rfl rfl)
theorem dX2_indirect_8 : decode cX2_indirect 8 = .ok (.ldc_w 284, 3) := dk_19 1 28 (dk_at dksX2_indirect_0 8 rfl rfl)
theorem dX2_indirect_11 : decode cX2_indirect 11 = .ok (.if_icmp .eq 5, 3) := dk_159 0 5 (dk_at dksX2_indirect_0 11 rfl rfl)
theorem dX2_indirect_14 : decode cX2_indirect 14 = .ok (.iconst 1, 1) := dk_4 (dk_at dksX2_indirect_0 14 rfl rfl)
theorem dX2_indirect_15 : decode cX2_indirect 15 = .ok (.ireturn, 1) := dk_172 (dk_at dksX2_indirect_0 15 rfl rfl)
theorem dX2_indirect_16 : decode cX2_indirect 16 = .ok (.iload_n 1, 1) := dk_27 (dk_at dksX2_indirect_0 16 rfl rfl)
theorem dX2_indirect_17 : decode cX2_indirect 17 = .ok (.ldc_w 284, 3) := dk_19 1 28 (dk_at dksX2_indirect_0 17 rfl rfl)
theorem dX2_indirect_20 : decode cX2_indirect 20 = .ok (.if_icmp .ne 7, 3) := dk_160 0 7 (dk_at dksX2_indirect_0 20 rfl rfl)
theorem dX2_indirect_23 : decode cX2_indirect 23 = .ok (.aload_n 0, 1) := dk_42 (dk_at dksX2_indirect_0 23 rfl rfl)
theorem dX2_indirect_24 : decode cX2_indirect 24 = .ok (.invokevirtual 154, 3) := dk_182 0 154 (dk_at dksX2_indirect_1 0 rfl rfl)
theorem dX2_indirect_27 : decode cX2_indirect 27 = .ok (.aload_n 0, 1) := dk_42 (dk_at dksX2_indirect_1 3 rfl rfl)
theorem dX2_indirect_28 : decode cX2_indirect 28 = .ok (.aload_n 0, 1) := dk_42 (dk_at dksX2_indirect_1 4 rfl rfl)
theorem dX2_indirect_29 : decode cX2_indirect 29 = .ok (.bipush 30, 2) := dk_16 30 (dk_at dksX2_indirect_1 5 rfl rfl)
theorem dX2_indirect_31 : decode cX2_indirect 31 = .ok (.invokevirtual 240, 3) := dk_182 0 240 (dk_at dksX2_indirect_1 7 rfl rfl)
theorem dX2_indirect_34 : decode cX2_indirect 34 = .ok (.invokevirtual 125, 3) := dk_182 0 125 (dk_at dksX2_indirect_1 10 rfl rfl)
theorem dX2_indirect_37 : decode cX2_indirect 37 = .ok (.iload_n 1, 1) := dk_27 (dk_at dksX2_indirect_1 13 rfl rfl)
theorem dX2_indirect_38 : decode cX2_indirect 38 = .ok (.ldc_w 284, 3) := dk_19 1 28 (dk_at dksX2_indirect_1 14 rfl rfl)
theorem dX2_indirect_41 : decode cX2_indirect 41 = .ok (.if_icmp .ne 7, 3) := dk_160 0 7 (dk_at dksX2_indirect_1 17 rfl rfl)
theorem dX2_indirect_44 : decode cX2_indirect 44 = .ok (.iconst 3, 1) := dk_6 (dk_at dksX2_indirect_1 20 rfl rfl)
theorem dX2_indirect_45 : decode cX2_indirect 45 = .ok (.goto 4, 3) := dk_167 0 4 (dk_at dksX2_indirect_1 21 rfl rfl)
theorem dX2_indirect_48 : decode cX2_indirect 48 = .ok (.iconst 2, 1) := dk_5 (dk_at dksX2_indirect_2 0 rfl rfl)
theorem dX2_indirect_49 : decode cX2_indirect 49 = .ok (.ireturn, 1) := dk_172 (dk_at dksX2_indirect_2 1 rfl rfl)
abbrev cX2_words : ByteArray := prog_3_method_38_code
def yX2_words : MethodName := ⟨RX2, "words", "(I)I"⟩
def dkwX2_words_8 : List UInt8 := [3, 182, 0, 128, 5, 172]
abbrev dktX2_words_8 : List UInt8 := dkwX2_words_8 ++ []
def dkwX2_words_7 : List UInt8 := [182, 0, 128, 42, 16, 16, 42, 7, 182, 0, 132, 42, 16, 8, 182, 0, 132, 159, 0, 7, 4, 167, 0, 4]
abbrev dktX2_words_7 : List UInt8 := dkwX2_words_7 ++ dktX2_words_8
def dkwX2_words_6 : List UInt8 := [130, 126, 167, 0, 10, 21, 4, 2, 130, 21, 6, 126, 18, 143, 126, 153, 0, 7, 4, 167, 0, 4, 3]
abbrev dktX2_words_6 : List UInt8 := dkwX2_words_6 ++ dktX2_words_7
def dkwX2_words_5 : List UInt8 := [154, 0, 7, 4, 167, 0, 4, 3, 182, 0, 128, 42, 16, 8, 21, 5, 153, 0, 13, 21, 4, 21, 6, 2]
abbrev dktX2_words_5 : List UInt8 := dkwX2_words_5 ++ dktX2_words_6
def dkwX2_words_4 : List UInt8 := [21, 6, 18, 143, 126, 153, 0, 7, 4, 167, 0, 4, 3, 182, 0, 128, 42, 5, 21, 6, 18, 147, 126]
abbrev dktX2_words_4 : List UInt8 := dkwX2_words_4 ++ dktX2_words_5
def dkwX2_words_3 : List UInt8 := [4, 21, 6, 155, 0, 10, 21, 6, 18, 147, 164, 0, 7, 4, 167, 0, 4, 3, 182, 0, 128, 42, 7]
abbrev dktX2_words_3 : List UInt8 := dkwX2_words_3 ++ dktX2_words_4
def dkwX2_words_2 : List UInt8 := [153, 0, 10, 21, 4, 29, 100, 167, 0, 7, 21, 4, 29, 96, 54, 6, 42, 28, 21, 6, 182, 0, 144, 42]
abbrev dktX2_words_2 : List UInt8 := dkwX2_words_2 ++ dktX2_words_3
def dkwX2_words_1 : List UInt8 := [182, 0, 240, 54, 4, 27, 17, 1, 0, 126, 153, 0, 7, 4, 167, 0, 4, 3, 54, 5, 21, 5]
abbrev dktX2_words_1 : List UInt8 := dkwX2_words_1 ++ dktX2_words_2
def dkwX2_words_0 : List UInt8 := [16, 24, 27, 6, 122, 16, 6, 126, 96, 61, 27, 5, 122, 16, 48, 126, 27, 16, 15, 126, 128, 62, 42, 28]
abbrev dktX2_words_0 : List UInt8 := dkwX2_words_0 ++ dktX2_words_1
theorem dksX2_words_0 : cX2_words.data.toList.drop 0 = dktX2_words_0 := by decide +kernel
theorem dksX2_words_1 : cX2_words.data.toList.drop 24 = dktX2_words_1 := dk_seg dksX2_words_0 24 rfl rfl
theorem dksX2_words_2 : cX2_words.data.toList.drop 46 = dktX2_words_2 := dk_seg dksX2_words_1 22 rfl rfl
theorem dksX2_words_3 : cX2_words.data.toList.drop 70 = dktX2_words_3 := dk_seg dksX2_words_2 24 rfl rfl
theorem dksX2_words_4 : cX2_words.data.toList.drop 93 = dktX2_words_4 := dk_seg dksX2_words_3 23 rfl rfl
theorem dksX2_words_5 : cX2_words.data.toList.drop 116 = dktX2_words_5 := dk_seg dksX2_words_4 23 rfl rfl
theorem dksX2_words_6 : cX2_words.data.toList.drop 140 = dktX2_words_6 := dk_seg dksX2_words_5 24 rfl rfl
theorem dksX2_words_7 : cX2_words.data.toList.drop 163 = dktX2_words_7 := dk_seg dksX2_words_6 23 rfl rfl
theorem dksX2_words_8 : cX2_words.data.toList.drop 187 = dktX2_words_8 := dk_seg dksX2_words_7 24 rfl rfl
theorem dX2_words_0 : decode cX2_words 0 = .ok (.bipush 24, 2) := dk_16 24 (dk_at dksX2_words_0 0 rfl rfl)
theorem dX2_words_2 : decode cX2_words 2 = .ok (.iload_n 1, 1) := dk_27 (dk_at dksX2_words_0 2 rfl rfl)
theorem dX2_words_3 : decode cX2_words 3 = .ok (.iconst 3, 1) := dk_6 (dk_at dksX2_words_0 3 rfl rfl)
theorem dX2_words_4 : decode cX2_words 4 = .ok (.ishr, 1) := dk_122 (dk_at dksX2_words_0 4 rfl rfl)
theorem dX2_words_5 : decode cX2_words 5 = .ok (.bipush 6, 2) := dk_16 6 (dk_at dksX2_words_0 5 rfl rfl)
theorem dX2_words_7 : decode cX2_words 7 = .ok (.iand, 1) := dk_126 (dk_at dksX2_words_0 7 rfl rfl)
theorem dX2_words_8 : decode cX2_words 8 = .ok (.iadd, 1) := dk_96 (dk_at dksX2_words_0 8 rfl rfl)
theorem dX2_words_9 : decode cX2_words 9 = .ok (.istore_n 2, 1) := dk_61 (dk_at dksX2_words_0 9 rfl rfl)
theorem dX2_words_10 : decode cX2_words 10 = .ok (.iload_n 1, 1) := dk_27 (dk_at dksX2_words_0 10 rfl rfl)
theorem dX2_words_11 : decode cX2_words 11 = .ok (.iconst 2, 1) := dk_5 (dk_at dksX2_words_0 11 rfl rfl)
theorem dX2_words_12 : decode cX2_words 12 = .ok (.ishr, 1) := dk_122 (dk_at dksX2_words_0 12 rfl rfl)
theorem dX2_words_13 : decode cX2_words 13 = .ok (.bipush 48, 2) := dk_16 48 (dk_at dksX2_words_0 13 rfl rfl)
theorem dX2_words_15 : decode cX2_words 15 = .ok (.iand, 1) := dk_126 (dk_at dksX2_words_0 15 rfl rfl)
theorem dX2_words_16 : decode cX2_words 16 = .ok (.iload_n 1, 1) := dk_27 (dk_at dksX2_words_0 16 rfl rfl)
theorem dX2_words_17 : decode cX2_words 17 = .ok (.bipush 15, 2) := dk_16 15 (dk_at dksX2_words_0 17 rfl rfl)
theorem dX2_words_19 : decode cX2_words 19 = .ok (.iand, 1) := dk_126 (dk_at dksX2_words_0 19 rfl rfl)
theorem dX2_words_20 : decode cX2_words 20 = .ok (.ior, 1) := dk_128 (dk_at dksX2_words_0 20 rfl rfl)
theorem dX2_words_21 : decode cX2_words 21 = .ok (.istore_n 3, 1) := dk_62 (dk_at dksX2_words_0 21 rfl rfl)
theorem dX2_words_22 : decode cX2_words 22 = .ok (.aload_n 0, 1) := dk_42 (dk_at dksX2_words_0 22 rfl rfl)
theorem dX2_words_23 : decode cX2_words 23 = .ok (.iload_n 2, 1) := dk_28 (dk_at dksX2_words_0 23 rfl rfl)
theorem dX2_words_24 : decode cX2_words 24 = .ok (.invokevirtual 240, 3) := dk_182 0 240 (dk_at dksX2_words_1 0 rfl rfl)
theorem dX2_words_27 : decode cX2_words 27 = .ok (.istore 4, 2) := dk_54 4 (dk_at dksX2_words_1 3 rfl rfl)
theorem dX2_words_29 : decode cX2_words 29 = .ok (.iload_n 1, 1) := dk_27 (dk_at dksX2_words_1 5 rfl rfl)
theorem dX2_words_30 : decode cX2_words 30 = .ok (.sipush 256, 3) := dk_17 1 0 (dk_at dksX2_words_1 6 rfl rfl)
theorem dX2_words_33 : decode cX2_words 33 = .ok (.iand, 1) := dk_126 (dk_at dksX2_words_1 9 rfl rfl)
theorem dX2_words_34 : decode cX2_words 34 = .ok (.ifCond .eq 7, 3) := dk_153 0 7 (dk_at dksX2_words_1 10 rfl rfl)
theorem dX2_words_37 : decode cX2_words 37 = .ok (.iconst 1, 1) := dk_4 (dk_at dksX2_words_1 13 rfl rfl)
theorem dX2_words_38 : decode cX2_words 38 = .ok (.goto 4, 3) := dk_167 0 4 (dk_at dksX2_words_1 14 rfl rfl)
theorem dX2_words_41 : decode cX2_words 41 = .ok (.iconst 0, 1) := dk_3 (dk_at dksX2_words_1 17 rfl rfl)
theorem dX2_words_42 : decode cX2_words 42 = .ok (.istore 5, 2) := dk_54 5 (dk_at dksX2_words_1 18 rfl rfl)
theorem dX2_words_44 : decode cX2_words 44 = .ok (.iload 5, 2) := dk_21 5 (dk_at dksX2_words_1 20 rfl rfl)
theorem dX2_words_46 : decode cX2_words 46 = .ok (.ifCond .eq 10, 3) := dk_153 0 10 (dk_at dksX2_words_2 0 rfl rfl)
theorem dX2_words_49 : decode cX2_words 49 = .ok (.iload 4, 2) := dk_21 4 (dk_at dksX2_words_2 3 rfl rfl)
theorem dX2_words_51 : decode cX2_words 51 = .ok (.iload_n 3, 1) := dk_29 (dk_at dksX2_words_2 5 rfl rfl)
theorem dX2_words_52 : decode cX2_words 52 = .ok (.isub, 1) := dk_100 (dk_at dksX2_words_2 6 rfl rfl)
theorem dX2_words_53 : decode cX2_words 53 = .ok (.goto 7, 3) := dk_167 0 7 (dk_at dksX2_words_2 7 rfl rfl)
theorem dX2_words_56 : decode cX2_words 56 = .ok (.iload 4, 2) := dk_21 4 (dk_at dksX2_words_2 10 rfl rfl)
theorem dX2_words_58 : decode cX2_words 58 = .ok (.iload_n 3, 1) := dk_29 (dk_at dksX2_words_2 12 rfl rfl)
theorem dX2_words_59 : decode cX2_words 59 = .ok (.iadd, 1) := dk_96 (dk_at dksX2_words_2 13 rfl rfl)
theorem dX2_words_60 : decode cX2_words 60 = .ok (.istore 6, 2) := dk_54 6 (dk_at dksX2_words_2 14 rfl rfl)
theorem dX2_words_62 : decode cX2_words 62 = .ok (.aload_n 0, 1) := dk_42 (dk_at dksX2_words_2 16 rfl rfl)
theorem dX2_words_63 : decode cX2_words 63 = .ok (.iload_n 2, 1) := dk_28 (dk_at dksX2_words_2 17 rfl rfl)
theorem dX2_words_64 : decode cX2_words 64 = .ok (.iload 6, 2) := dk_21 6 (dk_at dksX2_words_2 18 rfl rfl)
theorem dX2_words_66 : decode cX2_words 66 = .ok (.invokevirtual 144, 3) := dk_182 0 144 (dk_at dksX2_words_2 20 rfl rfl)
theorem dX2_words_69 : decode cX2_words 69 = .ok (.aload_n 0, 1) := dk_42 (dk_at dksX2_words_2 23 rfl rfl)
theorem dX2_words_70 : decode cX2_words 70 = .ok (.iconst 1, 1) := dk_4 (dk_at dksX2_words_3 0 rfl rfl)
theorem dX2_words_71 : decode cX2_words 71 = .ok (.iload 6, 2) := dk_21 6 (dk_at dksX2_words_3 1 rfl rfl)
theorem dX2_words_73 : decode cX2_words 73 = .ok (.ifCond .lt 10, 3) := dk_155 0 10 (dk_at dksX2_words_3 3 rfl rfl)
theorem dX2_words_76 : decode cX2_words 76 = .ok (.iload 6, 2) := dk_21 6 (dk_at dksX2_words_3 6 rfl rfl)
theorem dX2_words_78 : decode cX2_words 78 = .ok (.ldc 147, 2) := dk_18 147 (dk_at dksX2_words_3 8 rfl rfl)
theorem dX2_words_80 : decode cX2_words 80 = .ok (.if_icmp .le 7, 3) := dk_164 0 7 (dk_at dksX2_words_3 10 rfl rfl)
theorem dX2_words_83 : decode cX2_words 83 = .ok (.iconst 1, 1) := dk_4 (dk_at dksX2_words_3 13 rfl rfl)
theorem dX2_words_84 : decode cX2_words 84 = .ok (.goto 4, 3) := dk_167 0 4 (dk_at dksX2_words_3 14 rfl rfl)
theorem dX2_words_87 : decode cX2_words 87 = .ok (.iconst 0, 1) := dk_3 (dk_at dksX2_words_3 17 rfl rfl)
theorem dX2_words_88 : decode cX2_words 88 = .ok (.invokevirtual 128, 3) := dk_182 0 128 (dk_at dksX2_words_3 18 rfl rfl)
theorem dX2_words_91 : decode cX2_words 91 = .ok (.aload_n 0, 1) := dk_42 (dk_at dksX2_words_3 21 rfl rfl)
theorem dX2_words_92 : decode cX2_words 92 = .ok (.iconst 4, 1) := dk_7 (dk_at dksX2_words_3 22 rfl rfl)
theorem dX2_words_93 : decode cX2_words 93 = .ok (.iload 6, 2) := dk_21 6 (dk_at dksX2_words_4 0 rfl rfl)
theorem dX2_words_95 : decode cX2_words 95 = .ok (.ldc 143, 2) := dk_18 143 (dk_at dksX2_words_4 2 rfl rfl)
theorem dX2_words_97 : decode cX2_words 97 = .ok (.iand, 1) := dk_126 (dk_at dksX2_words_4 4 rfl rfl)
theorem dX2_words_98 : decode cX2_words 98 = .ok (.ifCond .eq 7, 3) := dk_153 0 7 (dk_at dksX2_words_4 5 rfl rfl)
theorem dX2_words_101 : decode cX2_words 101 = .ok (.iconst 1, 1) := dk_4 (dk_at dksX2_words_4 8 rfl rfl)
theorem dX2_words_102 : decode cX2_words 102 = .ok (.goto 4, 3) := dk_167 0 4 (dk_at dksX2_words_4 9 rfl rfl)
theorem dX2_words_105 : decode cX2_words 105 = .ok (.iconst 0, 1) := dk_3 (dk_at dksX2_words_4 12 rfl rfl)
theorem dX2_words_106 : decode cX2_words 106 = .ok (.invokevirtual 128, 3) := dk_182 0 128 (dk_at dksX2_words_4 13 rfl rfl)
theorem dX2_words_109 : decode cX2_words 109 = .ok (.aload_n 0, 1) := dk_42 (dk_at dksX2_words_4 16 rfl rfl)
theorem dX2_words_110 : decode cX2_words 110 = .ok (.iconst 2, 1) := dk_5 (dk_at dksX2_words_4 17 rfl rfl)
theorem dX2_words_111 : decode cX2_words 111 = .ok (.iload 6, 2) := dk_21 6 (dk_at dksX2_words_4 18 rfl rfl)
theorem dX2_words_113 : decode cX2_words 113 = .ok (.ldc 147, 2) := dk_18 147 (dk_at dksX2_words_4 20 rfl rfl)
theorem dX2_words_115 : decode cX2_words 115 = .ok (.iand, 1) := dk_126 (dk_at dksX2_words_4 22 rfl rfl)
theorem dX2_words_116 : decode cX2_words 116 = .ok (.ifCond .ne 7, 3) := dk_154 0 7 (dk_at dksX2_words_5 0 rfl rfl)
theorem dX2_words_119 : decode cX2_words 119 = .ok (.iconst 1, 1) := dk_4 (dk_at dksX2_words_5 3 rfl rfl)
theorem dX2_words_120 : decode cX2_words 120 = .ok (.goto 4, 3) := dk_167 0 4 (dk_at dksX2_words_5 4 rfl rfl)
theorem dX2_words_123 : decode cX2_words 123 = .ok (.iconst 0, 1) := dk_3 (dk_at dksX2_words_5 7 rfl rfl)
theorem dX2_words_124 : decode cX2_words 124 = .ok (.invokevirtual 128, 3) := dk_182 0 128 (dk_at dksX2_words_5 8 rfl rfl)
theorem dX2_words_127 : decode cX2_words 127 = .ok (.aload_n 0, 1) := dk_42 (dk_at dksX2_words_5 11 rfl rfl)
theorem dX2_words_128 : decode cX2_words 128 = .ok (.bipush 8, 2) := dk_16 8 (dk_at dksX2_words_5 12 rfl rfl)
theorem dX2_words_130 : decode cX2_words 130 = .ok (.iload 5, 2) := dk_21 5 (dk_at dksX2_words_5 14 rfl rfl)
theorem dX2_words_132 : decode cX2_words 132 = .ok (.ifCond .eq 13, 3) := dk_153 0 13 (dk_at dksX2_words_5 16 rfl rfl)
theorem dX2_words_135 : decode cX2_words 135 = .ok (.iload 4, 2) := dk_21 4 (dk_at dksX2_words_5 19 rfl rfl)
theorem dX2_words_137 : decode cX2_words 137 = .ok (.iload 6, 2) := dk_21 6 (dk_at dksX2_words_5 21 rfl rfl)
theorem dX2_words_139 : decode cX2_words 139 = .ok (.iconst (-1), 1) := dk_2 (dk_at dksX2_words_5 23 rfl rfl)
theorem dX2_words_140 : decode cX2_words 140 = .ok (.ixor, 1) := dk_130 (dk_at dksX2_words_6 0 rfl rfl)
theorem dX2_words_141 : decode cX2_words 141 = .ok (.iand, 1) := dk_126 (dk_at dksX2_words_6 1 rfl rfl)
theorem dX2_words_142 : decode cX2_words 142 = .ok (.goto 10, 3) := dk_167 0 10 (dk_at dksX2_words_6 2 rfl rfl)
theorem dX2_words_145 : decode cX2_words 145 = .ok (.iload 4, 2) := dk_21 4 (dk_at dksX2_words_6 5 rfl rfl)
theorem dX2_words_147 : decode cX2_words 147 = .ok (.iconst (-1), 1) := dk_2 (dk_at dksX2_words_6 7 rfl rfl)
theorem dX2_words_148 : decode cX2_words 148 = .ok (.ixor, 1) := dk_130 (dk_at dksX2_words_6 8 rfl rfl)
theorem dX2_words_149 : decode cX2_words 149 = .ok (.iload 6, 2) := dk_21 6 (dk_at dksX2_words_6 9 rfl rfl)
theorem dX2_words_151 : decode cX2_words 151 = .ok (.iand, 1) := dk_126 (dk_at dksX2_words_6 11 rfl rfl)
theorem dX2_words_152 : decode cX2_words 152 = .ok (.ldc 143, 2) := dk_18 143 (dk_at dksX2_words_6 12 rfl rfl)
theorem dX2_words_154 : decode cX2_words 154 = .ok (.iand, 1) := dk_126 (dk_at dksX2_words_6 14 rfl rfl)
theorem dX2_words_155 : decode cX2_words 155 = .ok (.ifCond .eq 7, 3) := dk_153 0 7 (dk_at dksX2_words_6 15 rfl rfl)
theorem dX2_words_158 : decode cX2_words 158 = .ok (.iconst 1, 1) := dk_4 (dk_at dksX2_words_6 18 rfl rfl)
theorem dX2_words_159 : decode cX2_words 159 = .ok (.goto 4, 3) := dk_167 0 4 (dk_at dksX2_words_6 19 rfl rfl)
theorem dX2_words_162 : decode cX2_words 162 = .ok (.iconst 0, 1) := dk_3 (dk_at dksX2_words_6 22 rfl rfl)
theorem dX2_words_163 : decode cX2_words 163 = .ok (.invokevirtual 128, 3) := dk_182 0 128 (dk_at dksX2_words_7 0 rfl rfl)
theorem dX2_words_166 : decode cX2_words 166 = .ok (.aload_n 0, 1) := dk_42 (dk_at dksX2_words_7 3 rfl rfl)
theorem dX2_words_167 : decode cX2_words 167 = .ok (.bipush 16, 2) := dk_16 16 (dk_at dksX2_words_7 4 rfl rfl)
theorem dX2_words_169 : decode cX2_words 169 = .ok (.aload_n 0, 1) := dk_42 (dk_at dksX2_words_7 6 rfl rfl)
theorem dX2_words_170 : decode cX2_words 170 = .ok (.iconst 4, 1) := dk_7 (dk_at dksX2_words_7 7 rfl rfl)
theorem dX2_words_171 : decode cX2_words 171 = .ok (.invokevirtual 132, 3) := dk_182 0 132 (dk_at dksX2_words_7 8 rfl rfl)
theorem dX2_words_174 : decode cX2_words 174 = .ok (.aload_n 0, 1) := dk_42 (dk_at dksX2_words_7 11 rfl rfl)
theorem dX2_words_175 : decode cX2_words 175 = .ok (.bipush 8, 2) := dk_16 8 (dk_at dksX2_words_7 12 rfl rfl)
theorem dX2_words_177 : decode cX2_words 177 = .ok (.invokevirtual 132, 3) := dk_182 0 132 (dk_at dksX2_words_7 14 rfl rfl)
theorem dX2_words_180 : decode cX2_words 180 = .ok (.if_icmp .eq 7, 3) := dk_159 0 7 (dk_at dksX2_words_7 17 rfl rfl)
theorem dX2_words_183 : decode cX2_words 183 = .ok (.iconst 1, 1) := dk_4 (dk_at dksX2_words_7 20 rfl rfl)
theorem dX2_words_184 : decode cX2_words 184 = .ok (.goto 4, 3) := dk_167 0 4 (dk_at dksX2_words_7 21 rfl rfl)
theorem dX2_words_187 : decode cX2_words 187 = .ok (.iconst 0, 1) := dk_3 (dk_at dksX2_words_8 0 rfl rfl)
theorem dX2_words_188 : decode cX2_words 188 = .ok (.invokevirtual 128, 3) := dk_182 0 128 (dk_at dksX2_words_8 1 rfl rfl)
theorem dX2_words_191 : decode cX2_words 191 = .ok (.iconst 2, 1) := dk_5 (dk_at dksX2_words_8 4 rfl rfl)
theorem dX2_words_192 : decode cX2_words 192 = .ok (.ireturn, 1) := dk_172 (dk_at dksX2_words_8 5 rfl rfl)
abbrev cX2_portBits : ByteArray := prog_3_method_39_code
def yX2_portBits : MethodName := ⟨RX2, "portBits", "(I)I"⟩
def dkwX2_portBits_5 : List UInt8 := [21, 4, 5, 160, 0, 10, 21, 6, 29, 128, 167, 0, 9, 21, 6, 29, 2, 130, 126, 182, 0, 114, 5, 172]
abbrev dktX2_portBits_5 : List UInt8 := dkwX2_portBits_5 ++ []
def dkwX2_portBits_4 : List UInt8 := [21, 4, 5, 160, 0, 43, 42, 28, 29, 182, 0, 114, 167, 0, 34, 42, 28, 182, 0, 118, 54, 6, 42, 28]
abbrev dktX2_portBits_4 : List UInt8 := dkwX2_portBits_4 ++ dktX2_portBits_5
def dkwX2_portBits_3 : List UInt8 := [28, 16, 35, 159, 0, 9, 28, 16, 53, 160, 0, 7, 4, 167, 0, 4, 3, 54, 5, 21, 5, 153, 0, 18]
abbrev dktX2_portBits_3 : List UInt8 := dkwX2_portBits_3 ++ dktX2_portBits_4
def dkwX2_portBits_2 : List UInt8 := [3, 21, 4, 6, 160, 0, 7, 4, 167, 0, 4, 3, 160, 0, 7, 4, 167, 0, 4, 3, 182, 0, 249, 172]
abbrev dktX2_portBits_2 : List UInt8 := dkwX2_portBits_2 ++ dktX2_portBits_3
def dkwX2_portBits_1 : List UInt8 := [54, 4, 21, 4, 4, 126, 153, 0, 42, 42, 42, 28, 182, 0, 118, 29, 126, 153, 0, 7, 4, 167, 0, 4]
abbrev dktX2_portBits_1 : List UInt8 := dkwX2_portBits_1 ++ dktX2_portBits_2
def dkwX2_portBits_0 : List UInt8 := [16, 32, 27, 6, 122, 16, 31, 126, 96, 61, 4, 27, 16, 7, 126, 120, 62, 27, 16, 8, 122, 6, 126]
abbrev dktX2_portBits_0 : List UInt8 := dkwX2_portBits_0 ++ dktX2_portBits_1
theorem dksX2_portBits_0 : cX2_portBits.data.toList.drop 0 = dktX2_portBits_0 := by decide +kernel
theorem dksX2_portBits_1 : cX2_portBits.data.toList.drop 23 = dktX2_portBits_1 := dk_seg dksX2_portBits_0 23 rfl rfl
theorem dksX2_portBits_2 : cX2_portBits.data.toList.drop 47 = dktX2_portBits_2 := dk_seg dksX2_portBits_1 24 rfl rfl
theorem dksX2_portBits_3 : cX2_portBits.data.toList.drop 71 = dktX2_portBits_3 := dk_seg dksX2_portBits_2 24 rfl rfl
theorem dksX2_portBits_4 : cX2_portBits.data.toList.drop 95 = dktX2_portBits_4 := dk_seg dksX2_portBits_3 24 rfl rfl
theorem dksX2_portBits_5 : cX2_portBits.data.toList.drop 119 = dktX2_portBits_5 := dk_seg dksX2_portBits_4 24 rfl rfl
theorem dX2_portBits_0 : decode cX2_portBits 0 = .ok (.bipush 32, 2) := dk_16 32 (dk_at dksX2_portBits_0 0 rfl rfl)
theorem dX2_portBits_2 : decode cX2_portBits 2 = .ok (.iload_n 1, 1) := dk_27 (dk_at dksX2_portBits_0 2 rfl rfl)
theorem dX2_portBits_3 : decode cX2_portBits 3 = .ok (.iconst 3, 1) := dk_6 (dk_at dksX2_portBits_0 3 rfl rfl)
theorem dX2_portBits_4 : decode cX2_portBits 4 = .ok (.ishr, 1) := dk_122 (dk_at dksX2_portBits_0 4 rfl rfl)
theorem dX2_portBits_5 : decode cX2_portBits 5 = .ok (.bipush 31, 2) := dk_16 31 (dk_at dksX2_portBits_0 5 rfl rfl)
theorem dX2_portBits_7 : decode cX2_portBits 7 = .ok (.iand, 1) := dk_126 (dk_at dksX2_portBits_0 7 rfl rfl)
theorem dX2_portBits_8 : decode cX2_portBits 8 = .ok (.iadd, 1) := dk_96 (dk_at dksX2_portBits_0 8 rfl rfl)
theorem dX2_portBits_9 : decode cX2_portBits 9 = .ok (.istore_n 2, 1) := dk_61 (dk_at dksX2_portBits_0 9 rfl rfl)
theorem dX2_portBits_10 : decode cX2_portBits 10 = .ok (.iconst 1, 1) := dk_4 (dk_at dksX2_portBits_0 10 rfl rfl)
theorem dX2_portBits_11 : decode cX2_portBits 11 = .ok (.iload_n 1, 1) := dk_27 (dk_at dksX2_portBits_0 11 rfl rfl)
theorem dX2_portBits_12 : decode cX2_portBits 12 = .ok (.bipush 7, 2) := dk_16 7 (dk_at dksX2_portBits_0 12 rfl rfl)
theorem dX2_portBits_14 : decode cX2_portBits 14 = .ok (.iand, 1) := dk_126 (dk_at dksX2_portBits_0 14 rfl rfl)
theorem dX2_portBits_15 : decode cX2_portBits 15 = .ok (.ishl, 1) := dk_120 (dk_at dksX2_portBits_0 15 rfl rfl)
theorem dX2_portBits_16 : decode cX2_portBits 16 = .ok (.istore_n 3, 1) := dk_62 (dk_at dksX2_portBits_0 16 rfl rfl)
theorem dX2_portBits_17 : decode cX2_portBits 17 = .ok (.iload_n 1, 1) := dk_27 (dk_at dksX2_portBits_0 17 rfl rfl)
theorem dX2_portBits_18 : decode cX2_portBits 18 = .ok (.bipush 8, 2) := dk_16 8 (dk_at dksX2_portBits_0 18 rfl rfl)
theorem dX2_portBits_20 : decode cX2_portBits 20 = .ok (.ishr, 1) := dk_122 (dk_at dksX2_portBits_0 20 rfl rfl)
theorem dX2_portBits_21 : decode cX2_portBits 21 = .ok (.iconst 3, 1) := dk_6 (dk_at dksX2_portBits_0 21 rfl rfl)
theorem dX2_portBits_22 : decode cX2_portBits 22 = .ok (.iand, 1) := dk_126 (dk_at dksX2_portBits_0 22 rfl rfl)
theorem dX2_portBits_23 : decode cX2_portBits 23 = .ok (.istore 4, 2) := dk_54 4 (dk_at dksX2_portBits_1 0 rfl rfl)
theorem dX2_portBits_25 : decode cX2_portBits 25 = .ok (.iload 4, 2) := dk_21 4 (dk_at dksX2_portBits_1 2 rfl rfl)
theorem dX2_portBits_27 : decode cX2_portBits 27 = .ok (.iconst 1, 1) := dk_4 (dk_at dksX2_portBits_1 4 rfl rfl)
theorem dX2_portBits_28 : decode cX2_portBits 28 = .ok (.iand, 1) := dk_126 (dk_at dksX2_portBits_1 5 rfl rfl)
theorem dX2_portBits_29 : decode cX2_portBits 29 = .ok (.ifCond .eq 42, 3) := dk_153 0 42 (dk_at dksX2_portBits_1 6 rfl rfl)
theorem dX2_portBits_32 : decode cX2_portBits 32 = .ok (.aload_n 0, 1) := dk_42 (dk_at dksX2_portBits_1 9 rfl rfl)
theorem dX2_portBits_33 : decode cX2_portBits 33 = .ok (.aload_n 0, 1) := dk_42 (dk_at dksX2_portBits_1 10 rfl rfl)
theorem dX2_portBits_34 : decode cX2_portBits 34 = .ok (.iload_n 2, 1) := dk_28 (dk_at dksX2_portBits_1 11 rfl rfl)
theorem dX2_portBits_35 : decode cX2_portBits 35 = .ok (.invokevirtual 118, 3) := dk_182 0 118 (dk_at dksX2_portBits_1 12 rfl rfl)
theorem dX2_portBits_38 : decode cX2_portBits 38 = .ok (.iload_n 3, 1) := dk_29 (dk_at dksX2_portBits_1 15 rfl rfl)
theorem dX2_portBits_39 : decode cX2_portBits 39 = .ok (.iand, 1) := dk_126 (dk_at dksX2_portBits_1 16 rfl rfl)
theorem dX2_portBits_40 : decode cX2_portBits 40 = .ok (.ifCond .eq 7, 3) := dk_153 0 7 (dk_at dksX2_portBits_1 17 rfl rfl)
theorem dX2_portBits_43 : decode cX2_portBits 43 = .ok (.iconst 1, 1) := dk_4 (dk_at dksX2_portBits_1 20 rfl rfl)
theorem dX2_portBits_44 : decode cX2_portBits 44 = .ok (.goto 4, 3) := dk_167 0 4 (dk_at dksX2_portBits_1 21 rfl rfl)
theorem dX2_portBits_47 : decode cX2_portBits 47 = .ok (.iconst 0, 1) := dk_3 (dk_at dksX2_portBits_2 0 rfl rfl)
theorem dX2_portBits_48 : decode cX2_portBits 48 = .ok (.iload 4, 2) := dk_21 4 (dk_at dksX2_portBits_2 1 rfl rfl)
theorem dX2_portBits_50 : decode cX2_portBits 50 = .ok (.iconst 3, 1) := dk_6 (dk_at dksX2_portBits_2 3 rfl rfl)
theorem dX2_portBits_51 : decode cX2_portBits 51 = .ok (.if_icmp .ne 7, 3) := dk_160 0 7 (dk_at dksX2_portBits_2 4 rfl rfl)
theorem dX2_portBits_54 : decode cX2_portBits 54 = .ok (.iconst 1, 1) := dk_4 (dk_at dksX2_portBits_2 7 rfl rfl)
theorem dX2_portBits_55 : decode cX2_portBits 55 = .ok (.goto 4, 3) := dk_167 0 4 (dk_at dksX2_portBits_2 8 rfl rfl)
theorem dX2_portBits_58 : decode cX2_portBits 58 = .ok (.iconst 0, 1) := dk_3 (dk_at dksX2_portBits_2 11 rfl rfl)
theorem dX2_portBits_59 : decode cX2_portBits 59 = .ok (.if_icmp .ne 7, 3) := dk_160 0 7 (dk_at dksX2_portBits_2 12 rfl rfl)
theorem dX2_portBits_62 : decode cX2_portBits 62 = .ok (.iconst 1, 1) := dk_4 (dk_at dksX2_portBits_2 15 rfl rfl)
theorem dX2_portBits_63 : decode cX2_portBits 63 = .ok (.goto 4, 3) := dk_167 0 4 (dk_at dksX2_portBits_2 16 rfl rfl)
theorem dX2_portBits_66 : decode cX2_portBits 66 = .ok (.iconst 0, 1) := dk_3 (dk_at dksX2_portBits_2 19 rfl rfl)
theorem dX2_portBits_67 : decode cX2_portBits 67 = .ok (.invokevirtual 249, 3) := dk_182 0 249 (dk_at dksX2_portBits_2 20 rfl rfl)
theorem dX2_portBits_70 : decode cX2_portBits 70 = .ok (.ireturn, 1) := dk_172 (dk_at dksX2_portBits_2 23 rfl rfl)
theorem dX2_portBits_71 : decode cX2_portBits 71 = .ok (.iload_n 2, 1) := dk_28 (dk_at dksX2_portBits_3 0 rfl rfl)
theorem dX2_portBits_72 : decode cX2_portBits 72 = .ok (.bipush 35, 2) := dk_16 35 (dk_at dksX2_portBits_3 1 rfl rfl)
theorem dX2_portBits_74 : decode cX2_portBits 74 = .ok (.if_icmp .eq 9, 3) := dk_159 0 9 (dk_at dksX2_portBits_3 3 rfl rfl)
theorem dX2_portBits_77 : decode cX2_portBits 77 = .ok (.iload_n 2, 1) := dk_28 (dk_at dksX2_portBits_3 6 rfl rfl)
theorem dX2_portBits_78 : decode cX2_portBits 78 = .ok (.bipush 53, 2) := dk_16 53 (dk_at dksX2_portBits_3 7 rfl rfl)
theorem dX2_portBits_80 : decode cX2_portBits 80 = .ok (.if_icmp .ne 7, 3) := dk_160 0 7 (dk_at dksX2_portBits_3 9 rfl rfl)
theorem dX2_portBits_83 : decode cX2_portBits 83 = .ok (.iconst 1, 1) := dk_4 (dk_at dksX2_portBits_3 12 rfl rfl)
theorem dX2_portBits_84 : decode cX2_portBits 84 = .ok (.goto 4, 3) := dk_167 0 4 (dk_at dksX2_portBits_3 13 rfl rfl)
theorem dX2_portBits_87 : decode cX2_portBits 87 = .ok (.iconst 0, 1) := dk_3 (dk_at dksX2_portBits_3 16 rfl rfl)
theorem dX2_portBits_88 : decode cX2_portBits 88 = .ok (.istore 5, 2) := dk_54 5 (dk_at dksX2_portBits_3 17 rfl rfl)
theorem dX2_portBits_90 : decode cX2_portBits 90 = .ok (.iload 5, 2) := dk_21 5 (dk_at dksX2_portBits_3 19 rfl rfl)
theorem dX2_portBits_92 : decode cX2_portBits 92 = .ok (.ifCond .eq 18, 3) := dk_153 0 18 (dk_at dksX2_portBits_3 21 rfl rfl)
theorem dX2_portBits_95 : decode cX2_portBits 95 = .ok (.iload 4, 2) := dk_21 4 (dk_at dksX2_portBits_4 0 rfl rfl)
theorem dX2_portBits_97 : decode cX2_portBits 97 = .ok (.iconst 2, 1) := dk_5 (dk_at dksX2_portBits_4 2 rfl rfl)
theorem dX2_portBits_98 : decode cX2_portBits 98 = .ok (.if_icmp .ne 43, 3) := dk_160 0 43 (dk_at dksX2_portBits_4 3 rfl rfl)
theorem dX2_portBits_101 : decode cX2_portBits 101 = .ok (.aload_n 0, 1) := dk_42 (dk_at dksX2_portBits_4 6 rfl rfl)
theorem dX2_portBits_102 : decode cX2_portBits 102 = .ok (.iload_n 2, 1) := dk_28 (dk_at dksX2_portBits_4 7 rfl rfl)
theorem dX2_portBits_103 : decode cX2_portBits 103 = .ok (.iload_n 3, 1) := dk_29 (dk_at dksX2_portBits_4 8 rfl rfl)
theorem dX2_portBits_104 : decode cX2_portBits 104 = .ok (.invokevirtual 114, 3) := dk_182 0 114 (dk_at dksX2_portBits_4 9 rfl rfl)
theorem dX2_portBits_107 : decode cX2_portBits 107 = .ok (.goto 34, 3) := dk_167 0 34 (dk_at dksX2_portBits_4 12 rfl rfl)
theorem dX2_portBits_110 : decode cX2_portBits 110 = .ok (.aload_n 0, 1) := dk_42 (dk_at dksX2_portBits_4 15 rfl rfl)
theorem dX2_portBits_111 : decode cX2_portBits 111 = .ok (.iload_n 2, 1) := dk_28 (dk_at dksX2_portBits_4 16 rfl rfl)
theorem dX2_portBits_112 : decode cX2_portBits 112 = .ok (.invokevirtual 118, 3) := dk_182 0 118 (dk_at dksX2_portBits_4 17 rfl rfl)
theorem dX2_portBits_115 : decode cX2_portBits 115 = .ok (.istore 6, 2) := dk_54 6 (dk_at dksX2_portBits_4 20 rfl rfl)
theorem dX2_portBits_117 : decode cX2_portBits 117 = .ok (.aload_n 0, 1) := dk_42 (dk_at dksX2_portBits_4 22 rfl rfl)
theorem dX2_portBits_118 : decode cX2_portBits 118 = .ok (.iload_n 2, 1) := dk_28 (dk_at dksX2_portBits_4 23 rfl rfl)
theorem dX2_portBits_119 : decode cX2_portBits 119 = .ok (.iload 4, 2) := dk_21 4 (dk_at dksX2_portBits_5 0 rfl rfl)
theorem dX2_portBits_121 : decode cX2_portBits 121 = .ok (.iconst 2, 1) := dk_5 (dk_at dksX2_portBits_5 2 rfl rfl)
theorem dX2_portBits_122 : decode cX2_portBits 122 = .ok (.if_icmp .ne 10, 3) := dk_160 0 10 (dk_at dksX2_portBits_5 3 rfl rfl)
theorem dX2_portBits_125 : decode cX2_portBits 125 = .ok (.iload 6, 2) := dk_21 6 (dk_at dksX2_portBits_5 6 rfl rfl)
theorem dX2_portBits_127 : decode cX2_portBits 127 = .ok (.iload_n 3, 1) := dk_29 (dk_at dksX2_portBits_5 8 rfl rfl)
theorem dX2_portBits_128 : decode cX2_portBits 128 = .ok (.ior, 1) := dk_128 (dk_at dksX2_portBits_5 9 rfl rfl)
theorem dX2_portBits_129 : decode cX2_portBits 129 = .ok (.goto 9, 3) := dk_167 0 9 (dk_at dksX2_portBits_5 10 rfl rfl)
theorem dX2_portBits_132 : decode cX2_portBits 132 = .ok (.iload 6, 2) := dk_21 6 (dk_at dksX2_portBits_5 13 rfl rfl)
theorem dX2_portBits_134 : decode cX2_portBits 134 = .ok (.iload_n 3, 1) := dk_29 (dk_at dksX2_portBits_5 15 rfl rfl)
theorem dX2_portBits_135 : decode cX2_portBits 135 = .ok (.iconst (-1), 1) := dk_2 (dk_at dksX2_portBits_5 16 rfl rfl)
theorem dX2_portBits_136 : decode cX2_portBits 136 = .ok (.ixor, 1) := dk_130 (dk_at dksX2_portBits_5 17 rfl rfl)
theorem dX2_portBits_137 : decode cX2_portBits 137 = .ok (.iand, 1) := dk_126 (dk_at dksX2_portBits_5 18 rfl rfl)
theorem dX2_portBits_138 : decode cX2_portBits 138 = .ok (.invokevirtual 114, 3) := dk_182 0 114 (dk_at dksX2_portBits_5 19 rfl rfl)
theorem dX2_portBits_141 : decode cX2_portBits 141 = .ok (.iconst 2, 1) := dk_5 (dk_at dksX2_portBits_5 22 rfl rfl)
theorem dX2_portBits_142 : decode cX2_portBits 142 = .ok (.ireturn, 1) := dk_172 (dk_at dksX2_portBits_5 23 rfl rfl)
abbrev cX2_ports : ByteArray := prog_3_method_40_code
def yX2_ports : MethodName := ⟨RX2, "ports", "(I)I"⟩
def dkwX2_ports_2 : List UInt8 := [180, 0, 9, 29, 42, 28, 182, 0, 118, 79, 4, 172]
abbrev dktX2_ports_2 : List UInt8 := dkwX2_ports_2 ++ []
def dkwX2_ports_1 : List UInt8 := [17, 8, 0, 126, 153, 0, 17, 42, 28, 42, 180, 0, 9, 29, 46, 182, 0, 114, 167, 0, 14, 42]
abbrev dktX2_ports_1 : List UInt8 := dkwX2_ports_1 ++ dktX2_ports_2
def dkwX2_ports_0 : List UInt8 := [16, 32, 27, 16, 15, 126, 27, 8, 122, 16, 48, 126, 128, 96, 61, 27, 7, 122, 16, 31, 126, 62, 27]
abbrev dktX2_ports_0 : List UInt8 := dkwX2_ports_0 ++ dktX2_ports_1
theorem dksX2_ports_0 : cX2_ports.data.toList.drop 0 = dktX2_ports_0 := by decide +kernel
theorem dksX2_ports_1 : cX2_ports.data.toList.drop 23 = dktX2_ports_1 := dk_seg dksX2_ports_0 23 rfl rfl
theorem dksX2_ports_2 : cX2_ports.data.toList.drop 45 = dktX2_ports_2 := dk_seg dksX2_ports_1 22 rfl rfl
theorem dX2_ports_0 : decode cX2_ports 0 = .ok (.bipush 32, 2) := dk_16 32 (dk_at dksX2_ports_0 0 rfl rfl)
theorem dX2_ports_2 : decode cX2_ports 2 = .ok (.iload_n 1, 1) := dk_27 (dk_at dksX2_ports_0 2 rfl rfl)
theorem dX2_ports_3 : decode cX2_ports 3 = .ok (.bipush 15, 2) := dk_16 15 (dk_at dksX2_ports_0 3 rfl rfl)
theorem dX2_ports_5 : decode cX2_ports 5 = .ok (.iand, 1) := dk_126 (dk_at dksX2_ports_0 5 rfl rfl)
theorem dX2_ports_6 : decode cX2_ports 6 = .ok (.iload_n 1, 1) := dk_27 (dk_at dksX2_ports_0 6 rfl rfl)
theorem dX2_ports_7 : decode cX2_ports 7 = .ok (.iconst 5, 1) := dk_8 (dk_at dksX2_ports_0 7 rfl rfl)
theorem dX2_ports_8 : decode cX2_ports 8 = .ok (.ishr, 1) := dk_122 (dk_at dksX2_ports_0 8 rfl rfl)
theorem dX2_ports_9 : decode cX2_ports 9 = .ok (.bipush 48, 2) := dk_16 48 (dk_at dksX2_ports_0 9 rfl rfl)
theorem dX2_ports_11 : decode cX2_ports 11 = .ok (.iand, 1) := dk_126 (dk_at dksX2_ports_0 11 rfl rfl)
theorem dX2_ports_12 : decode cX2_ports 12 = .ok (.ior, 1) := dk_128 (dk_at dksX2_ports_0 12 rfl rfl)
theorem dX2_ports_13 : decode cX2_ports 13 = .ok (.iadd, 1) := dk_96 (dk_at dksX2_ports_0 13 rfl rfl)
theorem dX2_ports_14 : decode cX2_ports 14 = .ok (.istore_n 2, 1) := dk_61 (dk_at dksX2_ports_0 14 rfl rfl)
theorem dX2_ports_15 : decode cX2_ports 15 = .ok (.iload_n 1, 1) := dk_27 (dk_at dksX2_ports_0 15 rfl rfl)
theorem dX2_ports_16 : decode cX2_ports 16 = .ok (.iconst 4, 1) := dk_7 (dk_at dksX2_ports_0 16 rfl rfl)
theorem dX2_ports_17 : decode cX2_ports 17 = .ok (.ishr, 1) := dk_122 (dk_at dksX2_ports_0 17 rfl rfl)
theorem dX2_ports_18 : decode cX2_ports 18 = .ok (.bipush 31, 2) := dk_16 31 (dk_at dksX2_ports_0 18 rfl rfl)
theorem dX2_ports_20 : decode cX2_ports 20 = .ok (.iand, 1) := dk_126 (dk_at dksX2_ports_0 20 rfl rfl)
theorem dX2_ports_21 : decode cX2_ports 21 = .ok (.istore_n 3, 1) := dk_62 (dk_at dksX2_ports_0 21 rfl rfl)
theorem dX2_ports_22 : decode cX2_ports 22 = .ok (.iload_n 1, 1) := dk_27 (dk_at dksX2_ports_0 22 rfl rfl)
theorem dX2_ports_23 : decode cX2_ports 23 = .ok (.sipush 2048, 3) := dk_17 8 0 (dk_at dksX2_ports_1 0 rfl rfl)
theorem dX2_ports_26 : decode cX2_ports 26 = .ok (.iand, 1) := dk_126 (dk_at dksX2_ports_1 3 rfl rfl)
theorem dX2_ports_27 : decode cX2_ports 27 = .ok (.ifCond .eq 17, 3) := dk_153 0 17 (dk_at dksX2_ports_1 4 rfl rfl)
theorem dX2_ports_30 : decode cX2_ports 30 = .ok (.aload_n 0, 1) := dk_42 (dk_at dksX2_ports_1 7 rfl rfl)
theorem dX2_ports_31 : decode cX2_ports 31 = .ok (.iload_n 2, 1) := dk_28 (dk_at dksX2_ports_1 8 rfl rfl)
theorem dX2_ports_32 : decode cX2_ports 32 = .ok (.aload_n 0, 1) := dk_42 (dk_at dksX2_ports_1 9 rfl rfl)
theorem dX2_ports_33 : decode cX2_ports 33 = .ok (.getfield 9, 3) := dk_180 0 9 (dk_at dksX2_ports_1 10 rfl rfl)
theorem dX2_ports_36 : decode cX2_ports 36 = .ok (.iload_n 3, 1) := dk_29 (dk_at dksX2_ports_1 13 rfl rfl)
theorem dX2_ports_37 : decode cX2_ports 37 = .ok (.iaload, 1) := dk_46 (dk_at dksX2_ports_1 14 rfl rfl)
theorem dX2_ports_38 : decode cX2_ports 38 = .ok (.invokevirtual 114, 3) := dk_182 0 114 (dk_at dksX2_ports_1 15 rfl rfl)
theorem dX2_ports_41 : decode cX2_ports 41 = .ok (.goto 14, 3) := dk_167 0 14 (dk_at dksX2_ports_1 18 rfl rfl)
theorem dX2_ports_44 : decode cX2_ports 44 = .ok (.aload_n 0, 1) := dk_42 (dk_at dksX2_ports_1 21 rfl rfl)
theorem dX2_ports_45 : decode cX2_ports 45 = .ok (.getfield 9, 3) := dk_180 0 9 (dk_at dksX2_ports_2 0 rfl rfl)
theorem dX2_ports_48 : decode cX2_ports 48 = .ok (.iload_n 3, 1) := dk_29 (dk_at dksX2_ports_2 3 rfl rfl)
theorem dX2_ports_49 : decode cX2_ports 49 = .ok (.aload_n 0, 1) := dk_42 (dk_at dksX2_ports_2 4 rfl rfl)
theorem dX2_ports_50 : decode cX2_ports 50 = .ok (.iload_n 2, 1) := dk_28 (dk_at dksX2_ports_2 5 rfl rfl)
theorem dX2_ports_51 : decode cX2_ports 51 = .ok (.invokevirtual 118, 3) := dk_182 0 118 (dk_at dksX2_ports_2 6 rfl rfl)
theorem dX2_ports_54 : decode cX2_ports 54 = .ok (.iastore, 1) := dk_79 (dk_at dksX2_ports_2 9 rfl rfl)
theorem dX2_ports_55 : decode cX2_ports 55 = .ok (.iconst 1, 1) := dk_4 (dk_at dksX2_ports_2 10 rfl rfl)
theorem dX2_ports_56 : decode cX2_ports 56 = .ok (.ireturn, 1) := dk_172 (dk_at dksX2_ports_2 11 rfl rfl)
abbrev cX2_bits : ByteArray := prog_3_method_45_code
def yX2_bits : MethodName := ⟨RX2, "bits", "(I)I"⟩
def dkwX2_bits_9 : List UInt8 := [21, 4, 126, 153, 0, 7, 4, 167, 0, 4, 3, 182, 0, 249, 172]
abbrev dktX2_bits_9 : List UInt8 := dkwX2_bits_9 ++ []
def dkwX2_bits_8 : List UInt8 := [46, 21, 4, 126, 154, 0, 7, 4, 167, 0, 4, 3, 182, 0, 249, 172, 42, 42, 180, 0, 9, 29, 46]
abbrev dktX2_bits_8 : List UInt8 := dkwX2_bits_8 ++ dktX2_bits_9
def dkwX2_bits_7 : List UInt8 := [29, 46, 21, 4, 126, 153, 0, 7, 4, 167, 0, 4, 3, 182, 0, 128, 4, 172, 42, 42, 180, 0, 9, 29]
abbrev dktX2_bits_7 : List UInt8 := dkwX2_bits_7 ++ dktX2_bits_8
def dkwX2_bits_6 : List UInt8 := [167, 0, 14, 42, 180, 0, 9, 29, 46, 21, 4, 2, 130, 126, 79, 4, 172, 42, 16, 64, 42, 180, 0, 9]
abbrev dktX2_bits_6 : List UInt8 := dkwX2_bits_6 ++ dktX2_bits_7
def dkwX2_bits_5 : List UInt8 := [42, 180, 0, 9, 29, 42, 16, 64, 182, 0, 132, 153, 0, 15, 42, 180, 0, 9, 29, 46, 21, 4, 128]
abbrev dktX2_bits_5 : List UInt8 := dkwX2_bits_5 ++ dktX2_bits_6
def dkwX2_bits_4 : List UInt8 := [170, 0, 0, 0, 112, 0, 0, 0, 0, 0, 0, 0, 2, 0, 0, 0, 25, 0, 0, 0, 65, 0, 0, 0, 90]
abbrev dktX2_bits_4 : List UInt8 := dkwX2_bits_4 ++ dktX2_bits_5
def dkwX2_bits_3 : List UInt8 := [172, 27, 16, 8, 126, 153, 0, 5, 4, 172, 27, 16, 9, 122, 6, 126]
abbrev dktX2_bits_3 : List UInt8 := dkwX2_bits_3 ++ dktX2_bits_4
def dkwX2_bits_2 : List UInt8 := [154, 0, 7, 4, 167, 0, 4, 3, 159, 0, 5, 4, 172, 42, 42, 180, 0, 90, 28, 96, 182, 0, 125, 5]
abbrev dktX2_bits_2 : List UInt8 := dkwX2_bits_2 ++ dktX2_bits_3
def dkwX2_bits_1 : List UInt8 := [126, 120, 54, 4, 27, 17, 8, 0, 126, 154, 0, 39, 42, 21, 4, 182, 0, 132, 27, 17, 4, 0, 126]
abbrev dktX2_bits_1 : List UInt8 := dkwX2_bits_1 ++ dktX2_bits_2
def dkwX2_bits_0 : List UInt8 := [27, 6, 122, 16, 127, 126, 16, 25, 120, 16, 25, 122, 61, 27, 7, 122, 16, 31, 126, 62, 4, 27, 16, 7]
abbrev dktX2_bits_0 : List UInt8 := dkwX2_bits_0 ++ dktX2_bits_1
theorem dksX2_bits_0 : cX2_bits.data.toList.drop 0 = dktX2_bits_0 := by decide +kernel
theorem dksX2_bits_1 : cX2_bits.data.toList.drop 24 = dktX2_bits_1 := dk_seg dksX2_bits_0 24 rfl rfl
theorem dksX2_bits_2 : cX2_bits.data.toList.drop 47 = dktX2_bits_2 := dk_seg dksX2_bits_1 23 rfl rfl
theorem dksX2_bits_3 : cX2_bits.data.toList.drop 71 = dktX2_bits_3 := dk_seg dksX2_bits_2 24 rfl rfl
theorem dksX2_bits_4 : cX2_bits.data.toList.drop 87 = dktX2_bits_4 := dk_seg dksX2_bits_3 16 rfl rfl
theorem dksX2_bits_5 : cX2_bits.data.toList.drop 112 = dktX2_bits_5 := dk_seg dksX2_bits_4 25 rfl rfl
theorem dksX2_bits_6 : cX2_bits.data.toList.drop 135 = dktX2_bits_6 := dk_seg dksX2_bits_5 23 rfl rfl
theorem dksX2_bits_7 : cX2_bits.data.toList.drop 159 = dktX2_bits_7 := dk_seg dksX2_bits_6 24 rfl rfl
theorem dksX2_bits_8 : cX2_bits.data.toList.drop 183 = dktX2_bits_8 := dk_seg dksX2_bits_7 24 rfl rfl
theorem dksX2_bits_9 : cX2_bits.data.toList.drop 206 = dktX2_bits_9 := dk_seg dksX2_bits_8 23 rfl rfl
theorem dX2_bits_0 : decode cX2_bits 0 = .ok (.iload_n 1, 1) := dk_27 (dk_at dksX2_bits_0 0 rfl rfl)
theorem dX2_bits_1 : decode cX2_bits 1 = .ok (.iconst 3, 1) := dk_6 (dk_at dksX2_bits_0 1 rfl rfl)
theorem dX2_bits_2 : decode cX2_bits 2 = .ok (.ishr, 1) := dk_122 (dk_at dksX2_bits_0 2 rfl rfl)
theorem dX2_bits_3 : decode cX2_bits 3 = .ok (.bipush 127, 2) := dk_16 127 (dk_at dksX2_bits_0 3 rfl rfl)
theorem dX2_bits_5 : decode cX2_bits 5 = .ok (.iand, 1) := dk_126 (dk_at dksX2_bits_0 5 rfl rfl)
theorem dX2_bits_6 : decode cX2_bits 6 = .ok (.bipush 25, 2) := dk_16 25 (dk_at dksX2_bits_0 6 rfl rfl)
theorem dX2_bits_8 : decode cX2_bits 8 = .ok (.ishl, 1) := dk_120 (dk_at dksX2_bits_0 8 rfl rfl)
theorem dX2_bits_9 : decode cX2_bits 9 = .ok (.bipush 25, 2) := dk_16 25 (dk_at dksX2_bits_0 9 rfl rfl)
theorem dX2_bits_11 : decode cX2_bits 11 = .ok (.ishr, 1) := dk_122 (dk_at dksX2_bits_0 11 rfl rfl)
theorem dX2_bits_12 : decode cX2_bits 12 = .ok (.istore_n 2, 1) := dk_61 (dk_at dksX2_bits_0 12 rfl rfl)
theorem dX2_bits_13 : decode cX2_bits 13 = .ok (.iload_n 1, 1) := dk_27 (dk_at dksX2_bits_0 13 rfl rfl)
theorem dX2_bits_14 : decode cX2_bits 14 = .ok (.iconst 4, 1) := dk_7 (dk_at dksX2_bits_0 14 rfl rfl)
theorem dX2_bits_15 : decode cX2_bits 15 = .ok (.ishr, 1) := dk_122 (dk_at dksX2_bits_0 15 rfl rfl)
theorem dX2_bits_16 : decode cX2_bits 16 = .ok (.bipush 31, 2) := dk_16 31 (dk_at dksX2_bits_0 16 rfl rfl)
theorem dX2_bits_18 : decode cX2_bits 18 = .ok (.iand, 1) := dk_126 (dk_at dksX2_bits_0 18 rfl rfl)
theorem dX2_bits_19 : decode cX2_bits 19 = .ok (.istore_n 3, 1) := dk_62 (dk_at dksX2_bits_0 19 rfl rfl)
theorem dX2_bits_20 : decode cX2_bits 20 = .ok (.iconst 1, 1) := dk_4 (dk_at dksX2_bits_0 20 rfl rfl)
theorem dX2_bits_21 : decode cX2_bits 21 = .ok (.iload_n 1, 1) := dk_27 (dk_at dksX2_bits_0 21 rfl rfl)
theorem dX2_bits_22 : decode cX2_bits 22 = .ok (.bipush 7, 2) := dk_16 7 (dk_at dksX2_bits_0 22 rfl rfl)
theorem dX2_bits_24 : decode cX2_bits 24 = .ok (.iand, 1) := dk_126 (dk_at dksX2_bits_1 0 rfl rfl)
theorem dX2_bits_25 : decode cX2_bits 25 = .ok (.ishl, 1) := dk_120 (dk_at dksX2_bits_1 1 rfl rfl)
theorem dX2_bits_26 : decode cX2_bits 26 = .ok (.istore 4, 2) := dk_54 4 (dk_at dksX2_bits_1 2 rfl rfl)
theorem dX2_bits_28 : decode cX2_bits 28 = .ok (.iload_n 1, 1) := dk_27 (dk_at dksX2_bits_1 4 rfl rfl)
theorem dX2_bits_29 : decode cX2_bits 29 = .ok (.sipush 2048, 3) := dk_17 8 0 (dk_at dksX2_bits_1 5 rfl rfl)
theorem dX2_bits_32 : decode cX2_bits 32 = .ok (.iand, 1) := dk_126 (dk_at dksX2_bits_1 8 rfl rfl)
theorem dX2_bits_33 : decode cX2_bits 33 = .ok (.ifCond .ne 39, 3) := dk_154 0 39 (dk_at dksX2_bits_1 9 rfl rfl)
theorem dX2_bits_36 : decode cX2_bits 36 = .ok (.aload_n 0, 1) := dk_42 (dk_at dksX2_bits_1 12 rfl rfl)
theorem dX2_bits_37 : decode cX2_bits 37 = .ok (.iload 4, 2) := dk_21 4 (dk_at dksX2_bits_1 13 rfl rfl)
theorem dX2_bits_39 : decode cX2_bits 39 = .ok (.invokevirtual 132, 3) := dk_182 0 132 (dk_at dksX2_bits_1 15 rfl rfl)
theorem dX2_bits_42 : decode cX2_bits 42 = .ok (.iload_n 1, 1) := dk_27 (dk_at dksX2_bits_1 18 rfl rfl)
theorem dX2_bits_43 : decode cX2_bits 43 = .ok (.sipush 1024, 3) := dk_17 4 0 (dk_at dksX2_bits_1 19 rfl rfl)
theorem dX2_bits_46 : decode cX2_bits 46 = .ok (.iand, 1) := dk_126 (dk_at dksX2_bits_1 22 rfl rfl)
theorem dX2_bits_47 : decode cX2_bits 47 = .ok (.ifCond .ne 7, 3) := dk_154 0 7 (dk_at dksX2_bits_2 0 rfl rfl)
theorem dX2_bits_50 : decode cX2_bits 50 = .ok (.iconst 1, 1) := dk_4 (dk_at dksX2_bits_2 3 rfl rfl)
theorem dX2_bits_51 : decode cX2_bits 51 = .ok (.goto 4, 3) := dk_167 0 4 (dk_at dksX2_bits_2 4 rfl rfl)
theorem dX2_bits_54 : decode cX2_bits 54 = .ok (.iconst 0, 1) := dk_3 (dk_at dksX2_bits_2 7 rfl rfl)
theorem dX2_bits_55 : decode cX2_bits 55 = .ok (.if_icmp .eq 5, 3) := dk_159 0 5 (dk_at dksX2_bits_2 8 rfl rfl)
theorem dX2_bits_58 : decode cX2_bits 58 = .ok (.iconst 1, 1) := dk_4 (dk_at dksX2_bits_2 11 rfl rfl)
theorem dX2_bits_59 : decode cX2_bits 59 = .ok (.ireturn, 1) := dk_172 (dk_at dksX2_bits_2 12 rfl rfl)
theorem dX2_bits_60 : decode cX2_bits 60 = .ok (.aload_n 0, 1) := dk_42 (dk_at dksX2_bits_2 13 rfl rfl)
theorem dX2_bits_61 : decode cX2_bits 61 = .ok (.aload_n 0, 1) := dk_42 (dk_at dksX2_bits_2 14 rfl rfl)
theorem dX2_bits_62 : decode cX2_bits 62 = .ok (.getfield 90, 3) := dk_180 0 90 (dk_at dksX2_bits_2 15 rfl rfl)
theorem dX2_bits_65 : decode cX2_bits 65 = .ok (.iload_n 2, 1) := dk_28 (dk_at dksX2_bits_2 18 rfl rfl)
theorem dX2_bits_66 : decode cX2_bits 66 = .ok (.iadd, 1) := dk_96 (dk_at dksX2_bits_2 19 rfl rfl)
theorem dX2_bits_67 : decode cX2_bits 67 = .ok (.invokevirtual 125, 3) := dk_182 0 125 (dk_at dksX2_bits_2 20 rfl rfl)
theorem dX2_bits_70 : decode cX2_bits 70 = .ok (.iconst 2, 1) := dk_5 (dk_at dksX2_bits_2 23 rfl rfl)
theorem dX2_bits_71 : decode cX2_bits 71 = .ok (.ireturn, 1) := dk_172 (dk_at dksX2_bits_3 0 rfl rfl)
theorem dX2_bits_72 : decode cX2_bits 72 = .ok (.iload_n 1, 1) := dk_27 (dk_at dksX2_bits_3 1 rfl rfl)
theorem dX2_bits_73 : decode cX2_bits 73 = .ok (.bipush 8, 2) := dk_16 8 (dk_at dksX2_bits_3 2 rfl rfl)
theorem dX2_bits_75 : decode cX2_bits 75 = .ok (.iand, 1) := dk_126 (dk_at dksX2_bits_3 4 rfl rfl)
theorem dX2_bits_76 : decode cX2_bits 76 = .ok (.ifCond .eq 5, 3) := dk_153 0 5 (dk_at dksX2_bits_3 5 rfl rfl)
theorem dX2_bits_79 : decode cX2_bits 79 = .ok (.iconst 1, 1) := dk_4 (dk_at dksX2_bits_3 8 rfl rfl)
theorem dX2_bits_80 : decode cX2_bits 80 = .ok (.ireturn, 1) := dk_172 (dk_at dksX2_bits_3 9 rfl rfl)
theorem dX2_bits_81 : decode cX2_bits 81 = .ok (.iload_n 1, 1) := dk_27 (dk_at dksX2_bits_3 10 rfl rfl)
theorem dX2_bits_82 : decode cX2_bits 82 = .ok (.bipush 9, 2) := dk_16 9 (dk_at dksX2_bits_3 11 rfl rfl)
theorem dX2_bits_84 : decode cX2_bits 84 = .ok (.ishr, 1) := dk_122 (dk_at dksX2_bits_3 13 rfl rfl)
theorem dX2_bits_85 : decode cX2_bits 85 = .ok (.iconst 3, 1) := dk_6 (dk_at dksX2_bits_3 14 rfl rfl)
theorem dX2_bits_86 : decode cX2_bits 86 = .ok (.iand, 1) := dk_126 (dk_at dksX2_bits_3 15 rfl rfl)
theorem dX2_bits_87 : decode cX2_bits 87 = .ok (.tableswitch 112 0 2 #[25, 65, 90], 25) := by decide +kernel
theorem dX2_bits_112 : decode cX2_bits 112 = .ok (.aload_n 0, 1) := dk_42 (dk_at dksX2_bits_5 0 rfl rfl)
theorem dX2_bits_113 : decode cX2_bits 113 = .ok (.getfield 9, 3) := dk_180 0 9 (dk_at dksX2_bits_5 1 rfl rfl)
theorem dX2_bits_116 : decode cX2_bits 116 = .ok (.iload_n 3, 1) := dk_29 (dk_at dksX2_bits_5 4 rfl rfl)
theorem dX2_bits_117 : decode cX2_bits 117 = .ok (.aload_n 0, 1) := dk_42 (dk_at dksX2_bits_5 5 rfl rfl)
theorem dX2_bits_118 : decode cX2_bits 118 = .ok (.bipush 64, 2) := dk_16 64 (dk_at dksX2_bits_5 6 rfl rfl)
theorem dX2_bits_120 : decode cX2_bits 120 = .ok (.invokevirtual 132, 3) := dk_182 0 132 (dk_at dksX2_bits_5 8 rfl rfl)
theorem dX2_bits_123 : decode cX2_bits 123 = .ok (.ifCond .eq 15, 3) := dk_153 0 15 (dk_at dksX2_bits_5 11 rfl rfl)
theorem dX2_bits_126 : decode cX2_bits 126 = .ok (.aload_n 0, 1) := dk_42 (dk_at dksX2_bits_5 14 rfl rfl)
theorem dX2_bits_127 : decode cX2_bits 127 = .ok (.getfield 9, 3) := dk_180 0 9 (dk_at dksX2_bits_5 15 rfl rfl)
theorem dX2_bits_130 : decode cX2_bits 130 = .ok (.iload_n 3, 1) := dk_29 (dk_at dksX2_bits_5 18 rfl rfl)
theorem dX2_bits_131 : decode cX2_bits 131 = .ok (.iaload, 1) := dk_46 (dk_at dksX2_bits_5 19 rfl rfl)
theorem dX2_bits_132 : decode cX2_bits 132 = .ok (.iload 4, 2) := dk_21 4 (dk_at dksX2_bits_5 20 rfl rfl)
theorem dX2_bits_134 : decode cX2_bits 134 = .ok (.ior, 1) := dk_128 (dk_at dksX2_bits_5 22 rfl rfl)
theorem dX2_bits_135 : decode cX2_bits 135 = .ok (.goto 14, 3) := dk_167 0 14 (dk_at dksX2_bits_6 0 rfl rfl)
theorem dX2_bits_138 : decode cX2_bits 138 = .ok (.aload_n 0, 1) := dk_42 (dk_at dksX2_bits_6 3 rfl rfl)
theorem dX2_bits_139 : decode cX2_bits 139 = .ok (.getfield 9, 3) := dk_180 0 9 (dk_at dksX2_bits_6 4 rfl rfl)
theorem dX2_bits_142 : decode cX2_bits 142 = .ok (.iload_n 3, 1) := dk_29 (dk_at dksX2_bits_6 7 rfl rfl)
theorem dX2_bits_143 : decode cX2_bits 143 = .ok (.iaload, 1) := dk_46 (dk_at dksX2_bits_6 8 rfl rfl)
theorem dX2_bits_144 : decode cX2_bits 144 = .ok (.iload 4, 2) := dk_21 4 (dk_at dksX2_bits_6 9 rfl rfl)
theorem dX2_bits_146 : decode cX2_bits 146 = .ok (.iconst (-1), 1) := dk_2 (dk_at dksX2_bits_6 11 rfl rfl)
theorem dX2_bits_147 : decode cX2_bits 147 = .ok (.ixor, 1) := dk_130 (dk_at dksX2_bits_6 12 rfl rfl)
theorem dX2_bits_148 : decode cX2_bits 148 = .ok (.iand, 1) := dk_126 (dk_at dksX2_bits_6 13 rfl rfl)
theorem dX2_bits_149 : decode cX2_bits 149 = .ok (.iastore, 1) := dk_79 (dk_at dksX2_bits_6 14 rfl rfl)
theorem dX2_bits_150 : decode cX2_bits 150 = .ok (.iconst 1, 1) := dk_4 (dk_at dksX2_bits_6 15 rfl rfl)
theorem dX2_bits_151 : decode cX2_bits 151 = .ok (.ireturn, 1) := dk_172 (dk_at dksX2_bits_6 16 rfl rfl)
theorem dX2_bits_152 : decode cX2_bits 152 = .ok (.aload_n 0, 1) := dk_42 (dk_at dksX2_bits_6 17 rfl rfl)
theorem dX2_bits_153 : decode cX2_bits 153 = .ok (.bipush 64, 2) := dk_16 64 (dk_at dksX2_bits_6 18 rfl rfl)
theorem dX2_bits_155 : decode cX2_bits 155 = .ok (.aload_n 0, 1) := dk_42 (dk_at dksX2_bits_6 20 rfl rfl)
theorem dX2_bits_156 : decode cX2_bits 156 = .ok (.getfield 9, 3) := dk_180 0 9 (dk_at dksX2_bits_6 21 rfl rfl)
theorem dX2_bits_159 : decode cX2_bits 159 = .ok (.iload_n 3, 1) := dk_29 (dk_at dksX2_bits_7 0 rfl rfl)
theorem dX2_bits_160 : decode cX2_bits 160 = .ok (.iaload, 1) := dk_46 (dk_at dksX2_bits_7 1 rfl rfl)
theorem dX2_bits_161 : decode cX2_bits 161 = .ok (.iload 4, 2) := dk_21 4 (dk_at dksX2_bits_7 2 rfl rfl)
theorem dX2_bits_163 : decode cX2_bits 163 = .ok (.iand, 1) := dk_126 (dk_at dksX2_bits_7 4 rfl rfl)
theorem dX2_bits_164 : decode cX2_bits 164 = .ok (.ifCond .eq 7, 3) := dk_153 0 7 (dk_at dksX2_bits_7 5 rfl rfl)
theorem dX2_bits_167 : decode cX2_bits 167 = .ok (.iconst 1, 1) := dk_4 (dk_at dksX2_bits_7 8 rfl rfl)
theorem dX2_bits_168 : decode cX2_bits 168 = .ok (.goto 4, 3) := dk_167 0 4 (dk_at dksX2_bits_7 9 rfl rfl)
theorem dX2_bits_171 : decode cX2_bits 171 = .ok (.iconst 0, 1) := dk_3 (dk_at dksX2_bits_7 12 rfl rfl)
theorem dX2_bits_172 : decode cX2_bits 172 = .ok (.invokevirtual 128, 3) := dk_182 0 128 (dk_at dksX2_bits_7 13 rfl rfl)
theorem dX2_bits_175 : decode cX2_bits 175 = .ok (.iconst 1, 1) := dk_4 (dk_at dksX2_bits_7 16 rfl rfl)
theorem dX2_bits_176 : decode cX2_bits 176 = .ok (.ireturn, 1) := dk_172 (dk_at dksX2_bits_7 17 rfl rfl)
theorem dX2_bits_177 : decode cX2_bits 177 = .ok (.aload_n 0, 1) := dk_42 (dk_at dksX2_bits_7 18 rfl rfl)
theorem dX2_bits_178 : decode cX2_bits 178 = .ok (.aload_n 0, 1) := dk_42 (dk_at dksX2_bits_7 19 rfl rfl)
theorem dX2_bits_179 : decode cX2_bits 179 = .ok (.getfield 9, 3) := dk_180 0 9 (dk_at dksX2_bits_7 20 rfl rfl)
theorem dX2_bits_182 : decode cX2_bits 182 = .ok (.iload_n 3, 1) := dk_29 (dk_at dksX2_bits_7 23 rfl rfl)
theorem dX2_bits_183 : decode cX2_bits 183 = .ok (.iaload, 1) := dk_46 (dk_at dksX2_bits_8 0 rfl rfl)
theorem dX2_bits_184 : decode cX2_bits 184 = .ok (.iload 4, 2) := dk_21 4 (dk_at dksX2_bits_8 1 rfl rfl)
theorem dX2_bits_186 : decode cX2_bits 186 = .ok (.iand, 1) := dk_126 (dk_at dksX2_bits_8 3 rfl rfl)
theorem dX2_bits_187 : decode cX2_bits 187 = .ok (.ifCond .ne 7, 3) := dk_154 0 7 (dk_at dksX2_bits_8 4 rfl rfl)
theorem dX2_bits_190 : decode cX2_bits 190 = .ok (.iconst 1, 1) := dk_4 (dk_at dksX2_bits_8 7 rfl rfl)
theorem dX2_bits_191 : decode cX2_bits 191 = .ok (.goto 4, 3) := dk_167 0 4 (dk_at dksX2_bits_8 8 rfl rfl)
theorem dX2_bits_194 : decode cX2_bits 194 = .ok (.iconst 0, 1) := dk_3 (dk_at dksX2_bits_8 11 rfl rfl)
theorem dX2_bits_195 : decode cX2_bits 195 = .ok (.invokevirtual 249, 3) := dk_182 0 249 (dk_at dksX2_bits_8 12 rfl rfl)
theorem dX2_bits_198 : decode cX2_bits 198 = .ok (.ireturn, 1) := dk_172 (dk_at dksX2_bits_8 15 rfl rfl)
theorem dX2_bits_199 : decode cX2_bits 199 = .ok (.aload_n 0, 1) := dk_42 (dk_at dksX2_bits_8 16 rfl rfl)
theorem dX2_bits_200 : decode cX2_bits 200 = .ok (.aload_n 0, 1) := dk_42 (dk_at dksX2_bits_8 17 rfl rfl)
theorem dX2_bits_201 : decode cX2_bits 201 = .ok (.getfield 9, 3) := dk_180 0 9 (dk_at dksX2_bits_8 18 rfl rfl)
theorem dX2_bits_204 : decode cX2_bits 204 = .ok (.iload_n 3, 1) := dk_29 (dk_at dksX2_bits_8 21 rfl rfl)
theorem dX2_bits_205 : decode cX2_bits 205 = .ok (.iaload, 1) := dk_46 (dk_at dksX2_bits_8 22 rfl rfl)
theorem dX2_bits_206 : decode cX2_bits 206 = .ok (.iload 4, 2) := dk_21 4 (dk_at dksX2_bits_9 0 rfl rfl)
theorem dX2_bits_208 : decode cX2_bits 208 = .ok (.iand, 1) := dk_126 (dk_at dksX2_bits_9 2 rfl rfl)
theorem dX2_bits_209 : decode cX2_bits 209 = .ok (.ifCond .eq 7, 3) := dk_153 0 7 (dk_at dksX2_bits_9 3 rfl rfl)
theorem dX2_bits_212 : decode cX2_bits 212 = .ok (.iconst 1, 1) := dk_4 (dk_at dksX2_bits_9 6 rfl rfl)
theorem dX2_bits_213 : decode cX2_bits 213 = .ok (.goto 4, 3) := dk_167 0 4 (dk_at dksX2_bits_9 7 rfl rfl)
theorem dX2_bits_216 : decode cX2_bits 216 = .ok (.iconst 0, 1) := dk_3 (dk_at dksX2_bits_9 10 rfl rfl)
theorem dX2_bits_217 : decode cX2_bits 217 = .ok (.invokevirtual 249, 3) := dk_182 0 249 (dk_at dksX2_bits_9 11 rfl rfl)
theorem dX2_bits_220 : decode cX2_bits 220 = .ok (.ireturn, 1) := dk_172 (dk_at dksX2_bits_9 14 rfl rfl)
abbrev cX2_constant : ByteArray := prog_3_method_30_code
def yX2_constant : MethodName := ⟨RX2, "constant", "(I)I"⟩
def dkwX2_constant_7 : List UInt8 := [79, 167, 0, 10, 42, 180, 0, 9, 28, 29, 79, 4, 172]
abbrev dktX2_constant_7 : List UInt8 := dkwX2_constant_7 ++ []
def dkwX2_constant_6 : List UInt8 := [182, 0, 237, 79, 167, 0, 31, 42, 180, 0, 9, 28, 42, 42, 180, 0, 9, 28, 46, 29, 126, 182, 0, 237]
abbrev dktX2_constant_6 : List UInt8 := dkwX2_constant_6 ++ dktX2_constant_7
def dkwX2_constant_5 : List UInt8 := [46, 29, 3, 182, 0, 139, 79, 167, 0, 52, 42, 180, 0, 9, 28, 42, 42, 180, 0, 9, 28, 46, 29, 128]
abbrev dktX2_constant_5 : List UInt8 := dkwX2_constant_5 ++ dktX2_constant_6
def dkwX2_constant_4 : List UInt8 := [180, 0, 9, 28, 46, 29, 182, 0, 233, 79, 167, 0, 73, 42, 180, 0, 9, 28, 42, 42, 180, 0, 9, 28]
abbrev dktX2_constant_4 : List UInt8 := dkwX2_constant_4 ++ dktX2_constant_5
def dkwX2_constant_3 : List UInt8 := [42, 42, 180, 0, 9, 28, 46, 29, 3, 182, 0, 139, 87, 167, 0, 93, 42, 180, 0, 9, 28, 42, 42]
abbrev dktX2_constant_3 : List UInt8 := dkwX2_constant_3 ++ dktX2_constant_4
def dkwX2_constant_2 : List UInt8 := [170, 0, 0, 0, 132, 0, 0, 0, 3, 0, 0, 0, 7, 0, 0, 0, 33, 0, 0, 0, 49, 0, 0, 0, 69, 0, 0, 0, 90, 0, 0, 0, 111]
abbrev dktX2_constant_2 : List UInt8 := dkwX2_constant_2 ++ dktX2_constant_3
def dkwX2_constant_1 : List UInt8 := [16, 12, 122]
abbrev dktX2_constant_1 : List UInt8 := dkwX2_constant_1 ++ dktX2_constant_2
def dkwX2_constant_0 : List UInt8 := [16, 16, 27, 7, 122, 16, 15, 126, 96, 61, 27, 7, 122, 17, 0, 240, 126, 27, 16, 15, 126, 128, 62, 27]
abbrev dktX2_constant_0 : List UInt8 := dkwX2_constant_0 ++ dktX2_constant_1
theorem dksX2_constant_0 : cX2_constant.data.toList.drop 0 = dktX2_constant_0 := by decide +kernel
theorem dksX2_constant_1 : cX2_constant.data.toList.drop 24 = dktX2_constant_1 := dk_seg dksX2_constant_0 24 rfl rfl
theorem dksX2_constant_2 : cX2_constant.data.toList.drop 27 = dktX2_constant_2 := dk_seg dksX2_constant_1 3 rfl rfl
theorem dksX2_constant_3 : cX2_constant.data.toList.drop 60 = dktX2_constant_3 := dk_seg dksX2_constant_2 33 rfl rfl
theorem dksX2_constant_4 : cX2_constant.data.toList.drop 83 = dktX2_constant_4 := dk_seg dksX2_constant_3 23 rfl rfl
theorem dksX2_constant_5 : cX2_constant.data.toList.drop 107 = dktX2_constant_5 := dk_seg dksX2_constant_4 24 rfl rfl
theorem dksX2_constant_6 : cX2_constant.data.toList.drop 131 = dktX2_constant_6 := dk_seg dksX2_constant_5 24 rfl rfl
theorem dksX2_constant_7 : cX2_constant.data.toList.drop 155 = dktX2_constant_7 := dk_seg dksX2_constant_6 24 rfl rfl
theorem dX2_constant_0 : decode cX2_constant 0 = .ok (.bipush 16, 2) := dk_16 16 (dk_at dksX2_constant_0 0 rfl rfl)
theorem dX2_constant_2 : decode cX2_constant 2 = .ok (.iload_n 1, 1) := dk_27 (dk_at dksX2_constant_0 2 rfl rfl)
theorem dX2_constant_3 : decode cX2_constant 3 = .ok (.iconst 4, 1) := dk_7 (dk_at dksX2_constant_0 3 rfl rfl)
theorem dX2_constant_4 : decode cX2_constant 4 = .ok (.ishr, 1) := dk_122 (dk_at dksX2_constant_0 4 rfl rfl)
theorem dX2_constant_5 : decode cX2_constant 5 = .ok (.bipush 15, 2) := dk_16 15 (dk_at dksX2_constant_0 5 rfl rfl)
theorem dX2_constant_7 : decode cX2_constant 7 = .ok (.iand, 1) := dk_126 (dk_at dksX2_constant_0 7 rfl rfl)
theorem dX2_constant_8 : decode cX2_constant 8 = .ok (.iadd, 1) := dk_96 (dk_at dksX2_constant_0 8 rfl rfl)
theorem dX2_constant_9 : decode cX2_constant 9 = .ok (.istore_n 2, 1) := dk_61 (dk_at dksX2_constant_0 9 rfl rfl)
theorem dX2_constant_10 : decode cX2_constant 10 = .ok (.iload_n 1, 1) := dk_27 (dk_at dksX2_constant_0 10 rfl rfl)
theorem dX2_constant_11 : decode cX2_constant 11 = .ok (.iconst 4, 1) := dk_7 (dk_at dksX2_constant_0 11 rfl rfl)
theorem dX2_constant_12 : decode cX2_constant 12 = .ok (.ishr, 1) := dk_122 (dk_at dksX2_constant_0 12 rfl rfl)
theorem dX2_constant_13 : decode cX2_constant 13 = .ok (.sipush 240, 3) := dk_17 0 240 (dk_at dksX2_constant_0 13 rfl rfl)
theorem dX2_constant_16 : decode cX2_constant 16 = .ok (.iand, 1) := dk_126 (dk_at dksX2_constant_0 16 rfl rfl)
theorem dX2_constant_17 : decode cX2_constant 17 = .ok (.iload_n 1, 1) := dk_27 (dk_at dksX2_constant_0 17 rfl rfl)
theorem dX2_constant_18 : decode cX2_constant 18 = .ok (.bipush 15, 2) := dk_16 15 (dk_at dksX2_constant_0 18 rfl rfl)
theorem dX2_constant_20 : decode cX2_constant 20 = .ok (.iand, 1) := dk_126 (dk_at dksX2_constant_0 20 rfl rfl)
theorem dX2_constant_21 : decode cX2_constant 21 = .ok (.ior, 1) := dk_128 (dk_at dksX2_constant_0 21 rfl rfl)
theorem dX2_constant_22 : decode cX2_constant 22 = .ok (.istore_n 3, 1) := dk_62 (dk_at dksX2_constant_0 22 rfl rfl)
theorem dX2_constant_23 : decode cX2_constant 23 = .ok (.iload_n 1, 1) := dk_27 (dk_at dksX2_constant_0 23 rfl rfl)
theorem dX2_constant_24 : decode cX2_constant 24 = .ok (.bipush 12, 2) := dk_16 12 (dk_at dksX2_constant_1 0 rfl rfl)
theorem dX2_constant_26 : decode cX2_constant 26 = .ok (.ishr, 1) := dk_122 (dk_at dksX2_constant_1 2 rfl rfl)
theorem dX2_constant_27 : decode cX2_constant 27 = .ok (.tableswitch 132 3 7 #[33, 49, 69, 90, 111], 33) := by decide +kernel
theorem dX2_constant_60 : decode cX2_constant 60 = .ok (.aload_n 0, 1) := dk_42 (dk_at dksX2_constant_3 0 rfl rfl)
theorem dX2_constant_61 : decode cX2_constant 61 = .ok (.aload_n 0, 1) := dk_42 (dk_at dksX2_constant_3 1 rfl rfl)
theorem dX2_constant_62 : decode cX2_constant 62 = .ok (.getfield 9, 3) := dk_180 0 9 (dk_at dksX2_constant_3 2 rfl rfl)
theorem dX2_constant_65 : decode cX2_constant 65 = .ok (.iload_n 2, 1) := dk_28 (dk_at dksX2_constant_3 5 rfl rfl)
theorem dX2_constant_66 : decode cX2_constant 66 = .ok (.iaload, 1) := dk_46 (dk_at dksX2_constant_3 6 rfl rfl)
theorem dX2_constant_67 : decode cX2_constant 67 = .ok (.iload_n 3, 1) := dk_29 (dk_at dksX2_constant_3 7 rfl rfl)
theorem dX2_constant_68 : decode cX2_constant 68 = .ok (.iconst 0, 1) := dk_3 (dk_at dksX2_constant_3 8 rfl rfl)
theorem dX2_constant_69 : decode cX2_constant 69 = .ok (.invokevirtual 139, 3) := dk_182 0 139 (dk_at dksX2_constant_3 9 rfl rfl)
theorem dX2_constant_72 : decode cX2_constant 72 = .ok (.pop, 1) := dk_87 (dk_at dksX2_constant_3 12 rfl rfl)
theorem dX2_constant_73 : decode cX2_constant 73 = .ok (.goto 93, 3) := dk_167 0 93 (dk_at dksX2_constant_3 13 rfl rfl)
theorem dX2_constant_76 : decode cX2_constant 76 = .ok (.aload_n 0, 1) := dk_42 (dk_at dksX2_constant_3 16 rfl rfl)
theorem dX2_constant_77 : decode cX2_constant 77 = .ok (.getfield 9, 3) := dk_180 0 9 (dk_at dksX2_constant_3 17 rfl rfl)
theorem dX2_constant_80 : decode cX2_constant 80 = .ok (.iload_n 2, 1) := dk_28 (dk_at dksX2_constant_3 20 rfl rfl)
theorem dX2_constant_81 : decode cX2_constant 81 = .ok (.aload_n 0, 1) := dk_42 (dk_at dksX2_constant_3 21 rfl rfl)
theorem dX2_constant_82 : decode cX2_constant 82 = .ok (.aload_n 0, 1) := dk_42 (dk_at dksX2_constant_3 22 rfl rfl)
theorem dX2_constant_83 : decode cX2_constant 83 = .ok (.getfield 9, 3) := dk_180 0 9 (dk_at dksX2_constant_4 0 rfl rfl)
theorem dX2_constant_86 : decode cX2_constant 86 = .ok (.iload_n 2, 1) := dk_28 (dk_at dksX2_constant_4 3 rfl rfl)
theorem dX2_constant_87 : decode cX2_constant 87 = .ok (.iaload, 1) := dk_46 (dk_at dksX2_constant_4 4 rfl rfl)
theorem dX2_constant_88 : decode cX2_constant 88 = .ok (.iload_n 3, 1) := dk_29 (dk_at dksX2_constant_4 5 rfl rfl)
theorem dX2_constant_89 : decode cX2_constant 89 = .ok (.invokevirtual 233, 3) := dk_182 0 233 (dk_at dksX2_constant_4 6 rfl rfl)
theorem dX2_constant_92 : decode cX2_constant 92 = .ok (.iastore, 1) := dk_79 (dk_at dksX2_constant_4 9 rfl rfl)
theorem dX2_constant_93 : decode cX2_constant 93 = .ok (.goto 73, 3) := dk_167 0 73 (dk_at dksX2_constant_4 10 rfl rfl)
theorem dX2_constant_96 : decode cX2_constant 96 = .ok (.aload_n 0, 1) := dk_42 (dk_at dksX2_constant_4 13 rfl rfl)
theorem dX2_constant_97 : decode cX2_constant 97 = .ok (.getfield 9, 3) := dk_180 0 9 (dk_at dksX2_constant_4 14 rfl rfl)
theorem dX2_constant_100 : decode cX2_constant 100 = .ok (.iload_n 2, 1) := dk_28 (dk_at dksX2_constant_4 17 rfl rfl)
theorem dX2_constant_101 : decode cX2_constant 101 = .ok (.aload_n 0, 1) := dk_42 (dk_at dksX2_constant_4 18 rfl rfl)
theorem dX2_constant_102 : decode cX2_constant 102 = .ok (.aload_n 0, 1) := dk_42 (dk_at dksX2_constant_4 19 rfl rfl)
theorem dX2_constant_103 : decode cX2_constant 103 = .ok (.getfield 9, 3) := dk_180 0 9 (dk_at dksX2_constant_4 20 rfl rfl)
theorem dX2_constant_106 : decode cX2_constant 106 = .ok (.iload_n 2, 1) := dk_28 (dk_at dksX2_constant_4 23 rfl rfl)
theorem dX2_constant_107 : decode cX2_constant 107 = .ok (.iaload, 1) := dk_46 (dk_at dksX2_constant_5 0 rfl rfl)
theorem dX2_constant_108 : decode cX2_constant 108 = .ok (.iload_n 3, 1) := dk_29 (dk_at dksX2_constant_5 1 rfl rfl)
theorem dX2_constant_109 : decode cX2_constant 109 = .ok (.iconst 0, 1) := dk_3 (dk_at dksX2_constant_5 2 rfl rfl)
theorem dX2_constant_110 : decode cX2_constant 110 = .ok (.invokevirtual 139, 3) := dk_182 0 139 (dk_at dksX2_constant_5 3 rfl rfl)
theorem dX2_constant_113 : decode cX2_constant 113 = .ok (.iastore, 1) := dk_79 (dk_at dksX2_constant_5 6 rfl rfl)
theorem dX2_constant_114 : decode cX2_constant 114 = .ok (.goto 52, 3) := dk_167 0 52 (dk_at dksX2_constant_5 7 rfl rfl)
theorem dX2_constant_117 : decode cX2_constant 117 = .ok (.aload_n 0, 1) := dk_42 (dk_at dksX2_constant_5 10 rfl rfl)
theorem dX2_constant_118 : decode cX2_constant 118 = .ok (.getfield 9, 3) := dk_180 0 9 (dk_at dksX2_constant_5 11 rfl rfl)
theorem dX2_constant_121 : decode cX2_constant 121 = .ok (.iload_n 2, 1) := dk_28 (dk_at dksX2_constant_5 14 rfl rfl)
theorem dX2_constant_122 : decode cX2_constant 122 = .ok (.aload_n 0, 1) := dk_42 (dk_at dksX2_constant_5 15 rfl rfl)
theorem dX2_constant_123 : decode cX2_constant 123 = .ok (.aload_n 0, 1) := dk_42 (dk_at dksX2_constant_5 16 rfl rfl)
theorem dX2_constant_124 : decode cX2_constant 124 = .ok (.getfield 9, 3) := dk_180 0 9 (dk_at dksX2_constant_5 17 rfl rfl)
theorem dX2_constant_127 : decode cX2_constant 127 = .ok (.iload_n 2, 1) := dk_28 (dk_at dksX2_constant_5 20 rfl rfl)
theorem dX2_constant_128 : decode cX2_constant 128 = .ok (.iaload, 1) := dk_46 (dk_at dksX2_constant_5 21 rfl rfl)
theorem dX2_constant_129 : decode cX2_constant 129 = .ok (.iload_n 3, 1) := dk_29 (dk_at dksX2_constant_5 22 rfl rfl)
theorem dX2_constant_130 : decode cX2_constant 130 = .ok (.ior, 1) := dk_128 (dk_at dksX2_constant_5 23 rfl rfl)
theorem dX2_constant_131 : decode cX2_constant 131 = .ok (.invokevirtual 237, 3) := dk_182 0 237 (dk_at dksX2_constant_6 0 rfl rfl)
theorem dX2_constant_134 : decode cX2_constant 134 = .ok (.iastore, 1) := dk_79 (dk_at dksX2_constant_6 3 rfl rfl)
theorem dX2_constant_135 : decode cX2_constant 135 = .ok (.goto 31, 3) := dk_167 0 31 (dk_at dksX2_constant_6 4 rfl rfl)
theorem dX2_constant_138 : decode cX2_constant 138 = .ok (.aload_n 0, 1) := dk_42 (dk_at dksX2_constant_6 7 rfl rfl)
theorem dX2_constant_139 : decode cX2_constant 139 = .ok (.getfield 9, 3) := dk_180 0 9 (dk_at dksX2_constant_6 8 rfl rfl)
theorem dX2_constant_142 : decode cX2_constant 142 = .ok (.iload_n 2, 1) := dk_28 (dk_at dksX2_constant_6 11 rfl rfl)
theorem dX2_constant_143 : decode cX2_constant 143 = .ok (.aload_n 0, 1) := dk_42 (dk_at dksX2_constant_6 12 rfl rfl)
theorem dX2_constant_144 : decode cX2_constant 144 = .ok (.aload_n 0, 1) := dk_42 (dk_at dksX2_constant_6 13 rfl rfl)
theorem dX2_constant_145 : decode cX2_constant 145 = .ok (.getfield 9, 3) := dk_180 0 9 (dk_at dksX2_constant_6 14 rfl rfl)
theorem dX2_constant_148 : decode cX2_constant 148 = .ok (.iload_n 2, 1) := dk_28 (dk_at dksX2_constant_6 17 rfl rfl)
theorem dX2_constant_149 : decode cX2_constant 149 = .ok (.iaload, 1) := dk_46 (dk_at dksX2_constant_6 18 rfl rfl)
theorem dX2_constant_150 : decode cX2_constant 150 = .ok (.iload_n 3, 1) := dk_29 (dk_at dksX2_constant_6 19 rfl rfl)
theorem dX2_constant_151 : decode cX2_constant 151 = .ok (.iand, 1) := dk_126 (dk_at dksX2_constant_6 20 rfl rfl)
theorem dX2_constant_152 : decode cX2_constant 152 = .ok (.invokevirtual 237, 3) := dk_182 0 237 (dk_at dksX2_constant_6 21 rfl rfl)
theorem dX2_constant_155 : decode cX2_constant 155 = .ok (.iastore, 1) := dk_79 (dk_at dksX2_constant_7 0 rfl rfl)
theorem dX2_constant_156 : decode cX2_constant 156 = .ok (.goto 10, 3) := dk_167 0 10 (dk_at dksX2_constant_7 1 rfl rfl)
theorem dX2_constant_159 : decode cX2_constant 159 = .ok (.aload_n 0, 1) := dk_42 (dk_at dksX2_constant_7 4 rfl rfl)
theorem dX2_constant_160 : decode cX2_constant 160 = .ok (.getfield 9, 3) := dk_180 0 9 (dk_at dksX2_constant_7 5 rfl rfl)
theorem dX2_constant_163 : decode cX2_constant 163 = .ok (.iload_n 2, 1) := dk_28 (dk_at dksX2_constant_7 8 rfl rfl)
theorem dX2_constant_164 : decode cX2_constant 164 = .ok (.iload_n 3, 1) := dk_29 (dk_at dksX2_constant_7 9 rfl rfl)
theorem dX2_constant_165 : decode cX2_constant 165 = .ok (.iastore, 1) := dk_79 (dk_at dksX2_constant_7 10 rfl rfl)
theorem dX2_constant_166 : decode cX2_constant 166 = .ok (.iconst 1, 1) := dk_4 (dk_at dksX2_constant_7 11 rfl rfl)
theorem dX2_constant_167 : decode cX2_constant 167 = .ok (.ireturn, 1) := dk_172 (dk_at dksX2_constant_7 12 rfl rfl)
abbrev cX2_pass : ByteArray := prog_3_method_25_code
def yX2_pass : MethodName := ⟨RX2, "pass", "(I)I"⟩
def dkwX2_pass_4 : List UInt8 := [28, 172, 28, 172]
abbrev dktX2_pass_4 : List UInt8 := dkwX2_pass_4 ++ []
def dkwX2_pass_3 : List UInt8 := [180, 0, 99, 154, 0, 6, 167, 255, 182, 42, 89, 180, 0, 195, 4, 96, 181, 0, 195, 42, 6, 182, 0, 79]
abbrev dktX2_pass_3 : List UInt8 := dkwX2_pass_3 ++ dktX2_pass_4
def dkwX2_pass_2 : List UInt8 := [42, 180, 0, 33, 182, 0, 192, 42, 180, 0, 40, 182, 0, 193, 42, 180, 0, 54, 182, 0, 194, 42]
abbrev dktX2_pass_2 : List UInt8 := dkwX2_pass_2 ++ dktX2_pass_3
def dkwX2_pass_1 : List UInt8 := [182, 0, 184, 42, 180, 0, 54, 182, 0, 187, 42, 180, 0, 61, 182, 0, 190, 42, 180, 0, 47, 182, 0, 191]
abbrev dktX2_pass_1 : List UInt8 := dkwX2_pass_1 ++ dktX2_pass_2
def dkwX2_pass_0 : List UInt8 := [3, 61, 28, 27, 162, 0, 92, 132, 2, 1, 42, 89, 180, 0, 181, 4, 96, 181, 0, 181, 42, 180, 0, 68]
abbrev dktX2_pass_0 : List UInt8 := dkwX2_pass_0 ++ dktX2_pass_1
theorem dksX2_pass_0 : cX2_pass.data.toList.drop 0 = dktX2_pass_0 := by decide +kernel
theorem dksX2_pass_1 : cX2_pass.data.toList.drop 24 = dktX2_pass_1 := dk_seg dksX2_pass_0 24 rfl rfl
theorem dksX2_pass_2 : cX2_pass.data.toList.drop 48 = dktX2_pass_2 := dk_seg dksX2_pass_1 24 rfl rfl
theorem dksX2_pass_3 : cX2_pass.data.toList.drop 70 = dktX2_pass_3 := dk_seg dksX2_pass_2 22 rfl rfl
theorem dksX2_pass_4 : cX2_pass.data.toList.drop 94 = dktX2_pass_4 := dk_seg dksX2_pass_3 24 rfl rfl
theorem dX2_pass_0 : decode cX2_pass 0 = .ok (.iconst 0, 1) := dk_3 (dk_at dksX2_pass_0 0 rfl rfl)
theorem dX2_pass_1 : decode cX2_pass 1 = .ok (.istore_n 2, 1) := dk_61 (dk_at dksX2_pass_0 1 rfl rfl)
theorem dX2_pass_2 : decode cX2_pass 2 = .ok (.iload_n 2, 1) := dk_28 (dk_at dksX2_pass_0 2 rfl rfl)
theorem dX2_pass_3 : decode cX2_pass 3 = .ok (.iload_n 1, 1) := dk_27 (dk_at dksX2_pass_0 3 rfl rfl)
theorem dX2_pass_4 : decode cX2_pass 4 = .ok (.if_icmp .ge 92, 3) := dk_162 0 92 (dk_at dksX2_pass_0 4 rfl rfl)
theorem dX2_pass_7 : decode cX2_pass 7 = .ok (.iinc 2 1, 3) := dk_132 2 1 (dk_at dksX2_pass_0 7 rfl rfl)
theorem dX2_pass_10 : decode cX2_pass 10 = .ok (.aload_n 0, 1) := dk_42 (dk_at dksX2_pass_0 10 rfl rfl)
theorem dX2_pass_11 : decode cX2_pass 11 = .ok (.dup, 1) := dk_89 (dk_at dksX2_pass_0 11 rfl rfl)
theorem dX2_pass_12 : decode cX2_pass 12 = .ok (.getfield 181, 3) := dk_180 0 181 (dk_at dksX2_pass_0 12 rfl rfl)
theorem dX2_pass_15 : decode cX2_pass 15 = .ok (.iconst 1, 1) := dk_4 (dk_at dksX2_pass_0 15 rfl rfl)
theorem dX2_pass_16 : decode cX2_pass 16 = .ok (.iadd, 1) := dk_96 (dk_at dksX2_pass_0 16 rfl rfl)
theorem dX2_pass_17 : decode cX2_pass 17 = .ok (.putfield 181, 3) := dk_181 0 181 (dk_at dksX2_pass_0 17 rfl rfl)
theorem dX2_pass_20 : decode cX2_pass 20 = .ok (.aload_n 0, 1) := dk_42 (dk_at dksX2_pass_0 20 rfl rfl)
theorem dX2_pass_21 : decode cX2_pass 21 = .ok (.getfield 68, 3) := dk_180 0 68 (dk_at dksX2_pass_0 21 rfl rfl)
theorem dX2_pass_24 : decode cX2_pass 24 = .ok (.invokevirtual 184, 3) := dk_182 0 184 (dk_at dksX2_pass_1 0 rfl rfl)
theorem dX2_pass_27 : decode cX2_pass 27 = .ok (.aload_n 0, 1) := dk_42 (dk_at dksX2_pass_1 3 rfl rfl)
theorem dX2_pass_28 : decode cX2_pass 28 = .ok (.getfield 54, 3) := dk_180 0 54 (dk_at dksX2_pass_1 4 rfl rfl)
theorem dX2_pass_31 : decode cX2_pass 31 = .ok (.invokevirtual 187, 3) := dk_182 0 187 (dk_at dksX2_pass_1 7 rfl rfl)
theorem dX2_pass_34 : decode cX2_pass 34 = .ok (.aload_n 0, 1) := dk_42 (dk_at dksX2_pass_1 10 rfl rfl)
theorem dX2_pass_35 : decode cX2_pass 35 = .ok (.getfield 61, 3) := dk_180 0 61 (dk_at dksX2_pass_1 11 rfl rfl)
theorem dX2_pass_38 : decode cX2_pass 38 = .ok (.invokevirtual 190, 3) := dk_182 0 190 (dk_at dksX2_pass_1 14 rfl rfl)
theorem dX2_pass_41 : decode cX2_pass 41 = .ok (.aload_n 0, 1) := dk_42 (dk_at dksX2_pass_1 17 rfl rfl)
theorem dX2_pass_42 : decode cX2_pass 42 = .ok (.getfield 47, 3) := dk_180 0 47 (dk_at dksX2_pass_1 18 rfl rfl)
theorem dX2_pass_45 : decode cX2_pass 45 = .ok (.invokevirtual 191, 3) := dk_182 0 191 (dk_at dksX2_pass_1 21 rfl rfl)
theorem dX2_pass_48 : decode cX2_pass 48 = .ok (.aload_n 0, 1) := dk_42 (dk_at dksX2_pass_2 0 rfl rfl)
theorem dX2_pass_49 : decode cX2_pass 49 = .ok (.getfield 33, 3) := dk_180 0 33 (dk_at dksX2_pass_2 1 rfl rfl)
theorem dX2_pass_52 : decode cX2_pass 52 = .ok (.invokevirtual 192, 3) := dk_182 0 192 (dk_at dksX2_pass_2 4 rfl rfl)
theorem dX2_pass_55 : decode cX2_pass 55 = .ok (.aload_n 0, 1) := dk_42 (dk_at dksX2_pass_2 7 rfl rfl)
theorem dX2_pass_56 : decode cX2_pass 56 = .ok (.getfield 40, 3) := dk_180 0 40 (dk_at dksX2_pass_2 8 rfl rfl)
theorem dX2_pass_59 : decode cX2_pass 59 = .ok (.invokevirtual 193, 3) := dk_182 0 193 (dk_at dksX2_pass_2 11 rfl rfl)
theorem dX2_pass_62 : decode cX2_pass 62 = .ok (.aload_n 0, 1) := dk_42 (dk_at dksX2_pass_2 14 rfl rfl)
theorem dX2_pass_63 : decode cX2_pass 63 = .ok (.getfield 54, 3) := dk_180 0 54 (dk_at dksX2_pass_2 15 rfl rfl)
theorem dX2_pass_66 : decode cX2_pass 66 = .ok (.invokevirtual 194, 3) := dk_182 0 194 (dk_at dksX2_pass_2 18 rfl rfl)
theorem dX2_pass_69 : decode cX2_pass 69 = .ok (.aload_n 0, 1) := dk_42 (dk_at dksX2_pass_2 21 rfl rfl)
theorem dX2_pass_70 : decode cX2_pass 70 = .ok (.getfield 99, 3) := dk_180 0 99 (dk_at dksX2_pass_3 0 rfl rfl)
theorem dX2_pass_73 : decode cX2_pass 73 = .ok (.ifCond .ne 6, 3) := dk_154 0 6 (dk_at dksX2_pass_3 3 rfl rfl)
theorem dX2_pass_76 : decode cX2_pass 76 = .ok (.goto (-74), 3) := dk_167 255 182 (dk_at dksX2_pass_3 6 rfl rfl)
theorem dX2_pass_79 : decode cX2_pass 79 = .ok (.aload_n 0, 1) := dk_42 (dk_at dksX2_pass_3 9 rfl rfl)
theorem dX2_pass_80 : decode cX2_pass 80 = .ok (.dup, 1) := dk_89 (dk_at dksX2_pass_3 10 rfl rfl)
theorem dX2_pass_81 : decode cX2_pass 81 = .ok (.getfield 195, 3) := dk_180 0 195 (dk_at dksX2_pass_3 11 rfl rfl)
theorem dX2_pass_84 : decode cX2_pass 84 = .ok (.iconst 1, 1) := dk_4 (dk_at dksX2_pass_3 14 rfl rfl)
theorem dX2_pass_85 : decode cX2_pass 85 = .ok (.iadd, 1) := dk_96 (dk_at dksX2_pass_3 15 rfl rfl)
theorem dX2_pass_86 : decode cX2_pass 86 = .ok (.putfield 195, 3) := dk_181 0 195 (dk_at dksX2_pass_3 16 rfl rfl)
theorem dX2_pass_89 : decode cX2_pass 89 = .ok (.aload_n 0, 1) := dk_42 (dk_at dksX2_pass_3 19 rfl rfl)
theorem dX2_pass_90 : decode cX2_pass 90 = .ok (.iconst 3, 1) := dk_6 (dk_at dksX2_pass_3 20 rfl rfl)
theorem dX2_pass_91 : decode cX2_pass 91 = .ok (.invokevirtual 79, 3) := dk_182 0 79 (dk_at dksX2_pass_3 21 rfl rfl)
theorem dX2_pass_94 : decode cX2_pass 94 = .ok (.iload_n 2, 1) := dk_28 (dk_at dksX2_pass_4 0 rfl rfl)
theorem dX2_pass_95 : decode cX2_pass 95 = .ok (.ireturn, 1) := dk_172 (dk_at dksX2_pass_4 1 rfl rfl)
theorem dX2_pass_96 : decode cX2_pass 96 = .ok (.iload_n 2, 1) := dk_28 (dk_at dksX2_pass_4 2 rfl rfl)
theorem dX2_pass_97 : decode cX2_pass 97 = .ok (.ireturn, 1) := dk_172 (dk_at dksX2_pass_4 3 rfl rfl)
theorem q107 : (Jvm.Cond.initialized "FlashBoard$Core") ∈ lw_all := lw_g (lw_at lw_m1 2 rfl) rfl
theorem q140 : (Jvm.Cond.instantiable "FlashBoard$Core" (19 : Nat)) ∈ lw_all := lw_g (lw_at lw_m1 35 rfl) rfl
theorem q142 : (Jvm.Cond.instanceMethod ({ cls := "FlashBoard$Core", name := "<init>", desc := "()V" } : Jvm.MethodName)) ∈ lw_all := lw_g (lw_at lw_m1 37 rfl) rfl
theorem q143 : (Jvm.Cond.code ({ cls := "FlashBoard$Core", name := "<init>", desc := "()V" } : Jvm.MethodName) prog_3_method_1_code (7 : Nat) (Option.none : Option Jvm.ClassFile.FieldType)) ∈ lw_all := lw_g (lw_at lw_m1 38 rfl) rfl
theorem q144 : (Jvm.Cond.methodLink "FlashBoard$Core" (3 : Nat) ({ cls := "java/lang/Object", name := "<init>", desc := "()V" } : Jvm.MethodName)) ∈ lw_all := lw_g (lw_at lw_m1 39 rfl) rfl
theorem q145 : (Jvm.Cond.classLink "FlashBoard$Core" (15 : Nat) "FlashBoard$Unit") ∈ lw_all := lw_g (lw_at lw_m1 40 rfl) rfl
theorem q147 : (Jvm.Cond.classLink "FlashBoard$Core" (21 : Nat) "FlashBoard$Port") ∈ lw_all := lw_g (lw_at lw_m1 42 rfl) rfl
theorem q149 : (Jvm.Cond.methodLink "FlashBoard$Core" (23 : Nat) ({ cls := "FlashBoard$Port", name := "<init>", desc := "(LFlashBoard$Core;)V" } : Jvm.MethodName)) ∈ lw_all := lw_g (lw_at lw_m1 44 rfl) rfl
theorem q179 : (Jvm.Cond.classLink "FlashBoard$Core" (30 : Nat) "FlashBoard$Timer") ∈ lw_all := lw_g (lw_at lw_m1 74 rfl) rfl
theorem q181 : (Jvm.Cond.methodLink "FlashBoard$Core" (32 : Nat) ({ cls := "FlashBoard$Timer", name := "<init>", desc := "(LFlashBoard$Core;)V" } : Jvm.MethodName)) ∈ lw_all := lw_g (lw_at lw_m1 76 rfl) rfl
theorem q191 : (Jvm.Cond.classLink "FlashBoard$Core" (37 : Nat) "FlashBoard$Line") ∈ lw_all := lw_g (lw_at lw_m1 86 rfl) rfl
theorem q193 : (Jvm.Cond.methodLink "FlashBoard$Core" (39 : Nat) ({ cls := "FlashBoard$Line", name := "<init>", desc := "(LFlashBoard$Core;)V" } : Jvm.MethodName)) ∈ lw_all := lw_g (lw_at lw_m1 88 rfl) rfl
theorem q211 : (Jvm.Cond.fieldLinkNest "FlashBoard$Core" (157 : Nat) "FlashBoard$Line" "isAllSent" "Z" "FlashBoard") ∈ lw_tbl := lw_at lw_m1 106 rfl
theorem q255 : (Jvm.Cond.classLink "FlashBoard$Core" (44 : Nat) "FlashBoard$Eeprom") ∈ lw_all := lw_g (lw_at lw_m1 150 rfl) rfl
theorem q257 : (Jvm.Cond.methodLink "FlashBoard$Core" (46 : Nat) ({ cls := "FlashBoard$Eeprom", name := "<init>", desc := "(LFlashBoard$Core;)V" } : Jvm.MethodName)) ∈ lw_all := lw_g (lw_at lw_m1 152 rfl) rfl
theorem q267 : (Jvm.Cond.fieldLinkNest "FlashBoard$Core" (151 : Nat) "FlashBoard$Eeprom" "writes" "I" "FlashBoard") ∈ lw_tbl := lw_at lw_m1 162 rfl
theorem q276 : (Jvm.Cond.classLink "FlashBoard$Core" (51 : Nat) "FlashBoard$Watchdog") ∈ lw_all := lw_g (lw_at lw_m1 171 rfl) rfl
theorem q278 : (Jvm.Cond.methodLink "FlashBoard$Core" (53 : Nat) ({ cls := "FlashBoard$Watchdog", name := "<init>", desc := "(LFlashBoard$Core;)V" } : Jvm.MethodName)) ∈ lw_all := lw_g (lw_at lw_m1 173 rfl) rfl
theorem q286 : (Jvm.Cond.fieldLinkNest "FlashBoard$Core" (290 : Nat) "FlashBoard$Watchdog" "count" "I" "FlashBoard") ∈ lw_tbl := lw_at lw_m1 181 rfl
theorem q293 : (Jvm.Cond.classLink "FlashBoard$Core" (58 : Nat) "FlashBoard$Causes") ∈ lw_all := lw_g (lw_at lw_m1 188 rfl) rfl
theorem q295 : (Jvm.Cond.methodLink "FlashBoard$Core" (60 : Nat) ({ cls := "FlashBoard$Causes", name := "<init>", desc := "(LFlashBoard$Core;)V" } : Jvm.MethodName)) ∈ lw_all := lw_g (lw_at lw_m1 190 rfl) rfl
theorem q305 : (Jvm.Cond.classLink "FlashBoard$Core" (65 : Nat) "FlashBoard$Flash") ∈ lw_all := lw_g (lw_at lw_m1 200 rfl) rfl
theorem q307 : (Jvm.Cond.methodLink "FlashBoard$Core" (67 : Nat) ({ cls := "FlashBoard$Flash", name := "<init>", desc := "(LFlashBoard$Core;)V" } : Jvm.MethodName)) ∈ lw_all := lw_g (lw_at lw_m1 202 rfl) rfl
theorem q432 : (Jvm.Cond.fieldLinkNest "FlashBoard$Core" (86 : Nat) "FlashBoard$Flash" "fuse" "I" "FlashBoard") ∈ lw_tbl := lw_at lw_m2 87 rfl
theorem q449 : (Jvm.Cond.classLink "FlashBoard$Core" (76 : Nat) "FlashBoard$Holder") ∈ lw_all := lw_g (lw_at lw_m2 104 rfl) rfl
theorem q451 : (Jvm.Cond.methodLink "FlashBoard$Core" (78 : Nat) ({ cls := "FlashBoard$Holder", name := "<init>", desc := "(LFlashBoard$Core;)V" } : Jvm.MethodName)) ∈ lw_all := lw_g (lw_at lw_m2 106 rfl) rfl
theorem q457 : (Jvm.Cond.methodLink "FlashBoard$Core" (79 : Nat) ({ cls := "FlashBoard$Core", name := "reset", desc := "(I)V" } : Jvm.MethodName)) ∈ lw_all := lw_g (lw_at lw_m2 112 rfl) rfl
theorem q458 : (Jvm.Cond.instanceMethod ({ cls := "FlashBoard$Core", name := "reset", desc := "(I)V" } : Jvm.MethodName)) ∈ lw_all := lw_g (lw_at lw_m2 113 rfl) rfl
theorem q459 : (Jvm.Cond.selects "FlashBoard$Core" ({ cls := "FlashBoard$Core", name := "reset", desc := "(I)V" } : Jvm.MethodName) ({ cls := "FlashBoard$Core", name := "reset", desc := "(I)V" } : Jvm.MethodName)) ∈ lw_all := lw_g (lw_at lw_m2 114 rfl) rfl
theorem q460 : (Jvm.Cond.code ({ cls := "FlashBoard$Core", name := "reset", desc := "(I)V" } : Jvm.MethodName) prog_3_method_2_code (7 : Nat) (Option.none : Option Jvm.ClassFile.FieldType)) ∈ lw_all := lw_g (lw_at lw_m2 115 rfl) rfl
theorem q461 : (Jvm.Cond.methodLink "FlashBoard$Core" (83 : Nat) ({ cls := "FlashBoard$Unit", name := "clear", desc := "()V" } : Jvm.MethodName)) ∈ lw_all := lw_g (lw_at lw_m2 116 rfl) rfl
theorem q488 : (Jvm.Cond.fieldLink "FlashBoard$Core" (9 : Nat) "FlashBoard$Core" "data" "[I") ∈ lw_all := lw_g (lw_at lw_m2 143 rfl) rfl
theorem q498 : (Jvm.Cond.fieldLink "FlashBoard$Core" (17 : Nat) "FlashBoard$Core" "units" "[LFlashBoard$Unit;") ∈ lw_all := lw_g (lw_at lw_m2 153 rfl) rfl
theorem q499 : (Jvm.Cond.fieldLink "FlashBoard$Core" (26 : Nat) "FlashBoard$Core" "port" "LFlashBoard$Port;") ∈ lw_all := lw_g (lw_at lw_m2 154 rfl) rfl
theorem q501 : (Jvm.Cond.fieldLink "FlashBoard$Core" (33 : Nat) "FlashBoard$Core" "timer" "LFlashBoard$Timer;") ∈ lw_all := lw_g (lw_at lw_m2 156 rfl) rfl
theorem q503 : (Jvm.Cond.fieldLink "FlashBoard$Core" (40 : Nat) "FlashBoard$Core" "line" "LFlashBoard$Line;") ∈ lw_all := lw_g (lw_at lw_m2 158 rfl) rfl
theorem q505 : (Jvm.Cond.fieldLink "FlashBoard$Core" (47 : Nat) "FlashBoard$Core" "eeprom" "LFlashBoard$Eeprom;") ∈ lw_all := lw_g (lw_at lw_m2 160 rfl) rfl
theorem q507 : (Jvm.Cond.fieldLink "FlashBoard$Core" (54 : Nat) "FlashBoard$Core" "watchdog" "LFlashBoard$Watchdog;") ∈ lw_all := lw_g (lw_at lw_m2 162 rfl) rfl
theorem q509 : (Jvm.Cond.fieldLink "FlashBoard$Core" (61 : Nat) "FlashBoard$Core" "causes" "LFlashBoard$Causes;") ∈ lw_all := lw_g (lw_at lw_m2 164 rfl) rfl
theorem q511 : (Jvm.Cond.fieldLink "FlashBoard$Core" (68 : Nat) "FlashBoard$Core" "flash" "LFlashBoard$Flash;") ∈ lw_all := lw_g (lw_at lw_m2 166 rfl) rfl
theorem q513 : (Jvm.Cond.fieldLink "FlashBoard$Core" (90 : Nat) "FlashBoard$Core" "pc" "I") ∈ lw_all := lw_g (lw_at lw_m2 168 rfl) rfl
theorem q517 : (Jvm.Cond.fieldLink "FlashBoard$Core" (169 : Nat) "FlashBoard$Core" "more" "I") ∈ lw_all := lw_g (lw_at lw_m2 172 rfl) rfl
theorem q519 : (Jvm.Cond.fieldLink "FlashBoard$Core" (181 : Nat) "FlashBoard$Core" "cycles" "I") ∈ lw_all := lw_g (lw_at lw_m2 174 rfl) rfl
theorem q521 : (Jvm.Cond.fieldLink "FlashBoard$Core" (163 : Nat) "FlashBoard$Core" "steps" "I") ∈ lw_all := lw_g (lw_at lw_m2 176 rfl) rfl
theorem q523 : (Jvm.Cond.fieldLink "FlashBoard$Core" (160 : Nat) "FlashBoard$Core" "entries" "I") ∈ lw_all := lw_g (lw_at lw_m2 178 rfl) rfl
theorem q525 : (Jvm.Cond.fieldLink "FlashBoard$Core" (195 : Nat) "FlashBoard$Core" "resets" "I") ∈ lw_all := lw_g (lw_at lw_m2 180 rfl) rfl
theorem q526 : (Jvm.Cond.fieldLink "FlashBoard$Core" (93 : Nat) "FlashBoard$Core" "sleeps" "Z") ∈ lw_all := lw_g (lw_at lw_m2 181 rfl) rfl
theorem q528 : (Jvm.Cond.fieldLink "FlashBoard$Core" (99 : Nat) "FlashBoard$Core" "isReset" "Z") ∈ lw_all := lw_g (lw_at lw_m2 183 rfl) rfl
theorem q530 : (Jvm.Cond.fieldLink "FlashBoard$Core" (96 : Nat) "FlashBoard$Core" "wasEnabled" "Z") ∈ lw_all := lw_g (lw_at lw_m2 185 rfl) rfl
theorem q531 : (Jvm.Cond.fieldLink "FlashBoard$Core" (72 : Nat) "FlashBoard$Core" "hasPower" "Z") ∈ lw_all := lw_g (lw_at lw_m2 186 rfl) rfl
theorem q533 : (Jvm.Cond.laysFinal "FlashBoard$Core" "FlashBoard$Core" "data" "[I") ∈ lw_all := lw_g (lw_at lw_m2 188 rfl) rfl
theorem q534 : (Jvm.Cond.soleField "FlashBoard$Core" "data") ∈ lw_all := lw_g (lw_at lw_m2 189 rfl) rfl
theorem q535 : (Jvm.Cond.laysFinal "FlashBoard$Core" "FlashBoard$Core" "units" "[LFlashBoard$Unit;") ∈ lw_all := lw_g (lw_at lw_m2 190 rfl) rfl
theorem q536 : (Jvm.Cond.soleField "FlashBoard$Core" "units") ∈ lw_all := lw_g (lw_at lw_m2 191 rfl) rfl
theorem q537 : (Jvm.Cond.laysFinal "FlashBoard$Core" "FlashBoard$Core" "port" "LFlashBoard$Port;") ∈ lw_all := lw_g (lw_at lw_m2 192 rfl) rfl
theorem q538 : (Jvm.Cond.soleField "FlashBoard$Core" "port") ∈ lw_all := lw_g (lw_at lw_m2 193 rfl) rfl
theorem q539 : (Jvm.Cond.laysFinal "FlashBoard$Core" "FlashBoard$Core" "timer" "LFlashBoard$Timer;") ∈ lw_all := lw_g (lw_at lw_m2 194 rfl) rfl
theorem q540 : (Jvm.Cond.soleField "FlashBoard$Core" "timer") ∈ lw_all := lw_g (lw_at lw_m2 195 rfl) rfl
theorem q541 : (Jvm.Cond.laysFinal "FlashBoard$Core" "FlashBoard$Core" "line" "LFlashBoard$Line;") ∈ lw_all := lw_g (lw_at lw_m2 196 rfl) rfl
theorem q542 : (Jvm.Cond.soleField "FlashBoard$Core" "line") ∈ lw_all := lw_g (lw_at lw_m2 197 rfl) rfl
theorem q543 : (Jvm.Cond.laysFinal "FlashBoard$Core" "FlashBoard$Core" "eeprom" "LFlashBoard$Eeprom;") ∈ lw_all := lw_g (lw_at lw_m2 198 rfl) rfl
theorem q544 : (Jvm.Cond.soleField "FlashBoard$Core" "eeprom") ∈ lw_all := lw_g (lw_at lw_m2 199 rfl) rfl
theorem q545 : (Jvm.Cond.laysFinal "FlashBoard$Core" "FlashBoard$Core" "watchdog" "LFlashBoard$Watchdog;") ∈ lw_all := lw_g (lw_at lw_m2 200 rfl) rfl
theorem q546 : (Jvm.Cond.soleField "FlashBoard$Core" "watchdog") ∈ lw_all := lw_g (lw_at lw_m2 201 rfl) rfl
theorem q547 : (Jvm.Cond.laysFinal "FlashBoard$Core" "FlashBoard$Core" "causes" "LFlashBoard$Causes;") ∈ lw_all := lw_g (lw_at lw_m2 202 rfl) rfl
theorem q548 : (Jvm.Cond.soleField "FlashBoard$Core" "causes") ∈ lw_all := lw_g (lw_at lw_m2 203 rfl) rfl
theorem q549 : (Jvm.Cond.laysFinal "FlashBoard$Core" "FlashBoard$Core" "flash" "LFlashBoard$Flash;") ∈ lw_all := lw_g (lw_at lw_m2 204 rfl) rfl
theorem q550 : (Jvm.Cond.soleField "FlashBoard$Core" "flash") ∈ lw_all := lw_g (lw_at lw_m2 205 rfl) rfl
theorem q551 : (Jvm.Cond.lays "FlashBoard$Core" "FlashBoard$Core" "pc" "I") ∈ lw_all := lw_g (lw_at lw_m2 206 rfl) rfl
theorem q552 : (Jvm.Cond.soleField "FlashBoard$Core" "pc") ∈ lw_all := lw_g (lw_at lw_m2 207 rfl) rfl
theorem q553 : (Jvm.Cond.lays "FlashBoard$Core" "FlashBoard$Core" "more" "I") ∈ lw_all := lw_g (lw_at lw_m2 208 rfl) rfl
theorem q554 : (Jvm.Cond.soleField "FlashBoard$Core" "more") ∈ lw_all := lw_g (lw_at lw_m2 209 rfl) rfl
theorem q555 : (Jvm.Cond.lays "FlashBoard$Core" "FlashBoard$Core" "cycles" "I") ∈ lw_all := lw_g (lw_at lw_m2 210 rfl) rfl
theorem q556 : (Jvm.Cond.soleField "FlashBoard$Core" "cycles") ∈ lw_all := lw_g (lw_at lw_m2 211 rfl) rfl
theorem q557 : (Jvm.Cond.lays "FlashBoard$Core" "FlashBoard$Core" "steps" "I") ∈ lw_all := lw_g (lw_at lw_m2 212 rfl) rfl
theorem q558 : (Jvm.Cond.soleField "FlashBoard$Core" "steps") ∈ lw_all := lw_g (lw_at lw_m2 213 rfl) rfl
theorem q559 : (Jvm.Cond.lays "FlashBoard$Core" "FlashBoard$Core" "entries" "I") ∈ lw_all := lw_g (lw_at lw_m2 214 rfl) rfl
theorem q560 : (Jvm.Cond.soleField "FlashBoard$Core" "entries") ∈ lw_all := lw_g (lw_at lw_m2 215 rfl) rfl
theorem q561 : (Jvm.Cond.lays "FlashBoard$Core" "FlashBoard$Core" "resets" "I") ∈ lw_all := lw_g (lw_at lw_m2 216 rfl) rfl
theorem q562 : (Jvm.Cond.soleField "FlashBoard$Core" "resets") ∈ lw_all := lw_g (lw_at lw_m2 217 rfl) rfl
theorem q563 : (Jvm.Cond.lays "FlashBoard$Core" "FlashBoard$Core" "sleeps" "Z") ∈ lw_all := lw_g (lw_at lw_m2 218 rfl) rfl
theorem q564 : (Jvm.Cond.soleField "FlashBoard$Core" "sleeps") ∈ lw_all := lw_g (lw_at lw_m2 219 rfl) rfl
theorem q565 : (Jvm.Cond.lays "FlashBoard$Core" "FlashBoard$Core" "isReset" "Z") ∈ lw_all := lw_g (lw_at lw_m2 220 rfl) rfl
theorem q566 : (Jvm.Cond.soleField "FlashBoard$Core" "isReset") ∈ lw_all := lw_g (lw_at lw_m2 221 rfl) rfl
theorem q567 : (Jvm.Cond.lays "FlashBoard$Core" "FlashBoard$Core" "wasEnabled" "Z") ∈ lw_all := lw_g (lw_at lw_m2 222 rfl) rfl
theorem q568 : (Jvm.Cond.soleField "FlashBoard$Core" "wasEnabled") ∈ lw_all := lw_g (lw_at lw_m2 223 rfl) rfl
theorem q569 : (Jvm.Cond.lays "FlashBoard$Core" "FlashBoard$Core" "hasPower" "Z") ∈ lw_all := lw_g (lw_at lw_m2 224 rfl) rfl
theorem q570 : (Jvm.Cond.soleField "FlashBoard$Core" "hasPower") ∈ lw_all := lw_g (lw_at lw_m2 225 rfl) rfl
theorem q571 : (Jvm.Cond.superclass "FlashBoard$Core" "java/lang/Object") ∈ lw_all := lw_g (lw_at lw_m2 226 rfl) rfl
theorem q581 : (Jvm.Cond.instanceMethod ({ cls := "FlashBoard$Core", name := "step", desc := "()I" } : Jvm.MethodName)) ∈ lw_all := lw_g (lw_at lw_m2 236 rfl) rfl
theorem q582 : (Jvm.Cond.selects "FlashBoard$Core" ({ cls := "FlashBoard$Core", name := "step", desc := "()I" } : Jvm.MethodName) ({ cls := "FlashBoard$Core", name := "step", desc := "()I" } : Jvm.MethodName)) ∈ lw_all := lw_g (lw_at lw_m2 237 rfl) rfl
theorem q583 : (Jvm.Cond.code ({ cls := "FlashBoard$Core", name := "step", desc := "()I" } : Jvm.MethodName) prog_3_method_24_code (4 : Nat) (Option.some Jvm.ClassFile.FieldType.int)) ∈ lw_all := lw_g (lw_at lw_m2 238 rfl) rfl
theorem q584 : (Jvm.Cond.methodLink "FlashBoard$Core" (166 : Nat) ({ cls := "FlashBoard$Core", name := "waits", desc := "()I" } : Jvm.MethodName)) ∈ lw_all := lw_g (lw_at lw_m2 239 rfl) rfl
theorem q585 : (Jvm.Cond.instanceMethod ({ cls := "FlashBoard$Core", name := "waits", desc := "()I" } : Jvm.MethodName)) ∈ lw_all := lw_g (lw_at lw_m3 0 rfl) rfl
theorem q586 : (Jvm.Cond.selects "FlashBoard$Core" ({ cls := "FlashBoard$Core", name := "waits", desc := "()I" } : Jvm.MethodName) ({ cls := "FlashBoard$Core", name := "waits", desc := "()I" } : Jvm.MethodName)) ∈ lw_all := lw_g (lw_at lw_m3 1 rfl) rfl
theorem q587 : (Jvm.Cond.code ({ cls := "FlashBoard$Core", name := "waits", desc := "()I" } : Jvm.MethodName) prog_3_method_22_code (3 : Nat) (Option.some Jvm.ClassFile.FieldType.int)) ∈ lw_all := lw_g (lw_at lw_m3 2 rfl) rfl
theorem q588 : (Jvm.Cond.methodLink "FlashBoard$Core" (132 : Nat) ({ cls := "FlashBoard$Core", name := "is", desc := "(I)Z" } : Jvm.MethodName)) ∈ lw_all := lw_g (lw_at lw_m3 3 rfl) rfl
theorem q589 : (Jvm.Cond.privateMethod ({ cls := "FlashBoard$Core", name := "is", desc := "(I)Z" } : Jvm.MethodName)) ∈ lw_tbl := lw_at lw_m3 4 rfl
theorem q590 : (Jvm.Cond.instanceMethod ({ cls := "FlashBoard$Core", name := "is", desc := "(I)Z" } : Jvm.MethodName)) ∈ lw_all := lw_g (lw_at lw_m3 5 rfl) rfl
theorem q591 : (Jvm.Cond.code ({ cls := "FlashBoard$Core", name := "is", desc := "(I)Z" } : Jvm.MethodName) prog_3_method_14_code (2 : Nat) (Option.some Jvm.ClassFile.FieldType.boolean)) ∈ lw_all := lw_g (lw_at lw_m3 6 rfl) rfl
theorem q592 : (Jvm.Cond.methodLink "FlashBoard$Core" (148 : Nat) ({ cls := "FlashBoard$Line", name := "state", desc := "()I" } : Jvm.MethodName)) ∈ lw_all := lw_g (lw_at lw_m3 7 rfl) rfl
theorem q596 : (Jvm.Cond.methodLink "FlashBoard$Core" (172 : Nat) ({ cls := "FlashBoard$Core", name := "entry", desc := "(I)V" } : Jvm.MethodName)) ∈ lw_all := lw_g (lw_at lw_m3 11 rfl) rfl
theorem q597 : (Jvm.Cond.privateMethod ({ cls := "FlashBoard$Core", name := "entry", desc := "(I)V" } : Jvm.MethodName)) ∈ lw_tbl := lw_at lw_m3 12 rfl
theorem q598 : (Jvm.Cond.instanceMethod ({ cls := "FlashBoard$Core", name := "entry", desc := "(I)V" } : Jvm.MethodName)) ∈ lw_all := lw_g (lw_at lw_m3 13 rfl) rfl
theorem q599 : (Jvm.Cond.code ({ cls := "FlashBoard$Core", name := "entry", desc := "(I)V" } : Jvm.MethodName) prog_3_method_23_code (2 : Nat) (Option.none : Option Jvm.ClassFile.FieldType)) ∈ lw_all := lw_g (lw_at lw_m3 14 rfl) rfl
theorem q600 : (Jvm.Cond.methodLink "FlashBoard$Core" (154 : Nat) ({ cls := "FlashBoard$Core", name := "pushPlace", desc := "()V" } : Jvm.MethodName)) ∈ lw_all := lw_g (lw_at lw_m3 15 rfl) rfl
theorem q601 : (Jvm.Cond.privateMethod ({ cls := "FlashBoard$Core", name := "pushPlace", desc := "()V" } : Jvm.MethodName)) ∈ lw_tbl := lw_at lw_m3 16 rfl
theorem q602 : (Jvm.Cond.instanceMethod ({ cls := "FlashBoard$Core", name := "pushPlace", desc := "()V" } : Jvm.MethodName)) ∈ lw_all := lw_g (lw_at lw_m3 17 rfl) rfl
theorem q603 : (Jvm.Cond.code ({ cls := "FlashBoard$Core", name := "pushPlace", desc := "()V" } : Jvm.MethodName) prog_3_method_11_code (1 : Nat) (Option.none : Option Jvm.ClassFile.FieldType)) ∈ lw_all := lw_g (lw_at lw_m3 18 rfl) rfl
theorem q604 : (Jvm.Cond.methodLink "FlashBoard$Core" (119 : Nat) ({ cls := "FlashBoard$Core", name := "push", desc := "(I)V" } : Jvm.MethodName)) ∈ lw_all := lw_g (lw_at lw_m3 19 rfl) rfl
theorem q605 : (Jvm.Cond.privateMethod ({ cls := "FlashBoard$Core", name := "push", desc := "(I)V" } : Jvm.MethodName)) ∈ lw_tbl := lw_at lw_m3 20 rfl
theorem q606 : (Jvm.Cond.instanceMethod ({ cls := "FlashBoard$Core", name := "push", desc := "(I)V" } : Jvm.MethodName)) ∈ lw_all := lw_g (lw_at lw_m3 21 rfl) rfl
theorem q607 : (Jvm.Cond.code ({ cls := "FlashBoard$Core", name := "push", desc := "(I)V" } : Jvm.MethodName) prog_3_method_9_code (3 : Nat) (Option.none : Option Jvm.ClassFile.FieldType)) ∈ lw_all := lw_g (lw_at lw_m3 22 rfl) rfl
theorem q608 : (Jvm.Cond.methodLink "FlashBoard$Core" (110 : Nat) ({ cls := "FlashBoard$Core", name := "stack", desc := "()I" } : Jvm.MethodName)) ∈ lw_all := lw_g (lw_at lw_m3 23 rfl) rfl
theorem q609 : (Jvm.Cond.privateMethod ({ cls := "FlashBoard$Core", name := "stack", desc := "()I" } : Jvm.MethodName)) ∈ lw_tbl := lw_at lw_m3 24 rfl
theorem q610 : (Jvm.Cond.instanceMethod ({ cls := "FlashBoard$Core", name := "stack", desc := "()I" } : Jvm.MethodName)) ∈ lw_all := lw_g (lw_at lw_m3 25 rfl) rfl
theorem q611 : (Jvm.Cond.code ({ cls := "FlashBoard$Core", name := "stack", desc := "()I" } : Jvm.MethodName) prog_3_method_7_code (1 : Nat) (Option.some Jvm.ClassFile.FieldType.int)) ∈ lw_all := lw_g (lw_at lw_m3 26 rfl) rfl
theorem q612 : (Jvm.Cond.methodLink "FlashBoard$Core" (114 : Nat) ({ cls := "FlashBoard$Core", name := "store", desc := "(II)V" } : Jvm.MethodName)) ∈ lw_all := lw_g (lw_at lw_m3 27 rfl) rfl
theorem q613 : (Jvm.Cond.instanceMethod ({ cls := "FlashBoard$Core", name := "store", desc := "(II)V" } : Jvm.MethodName)) ∈ lw_all := lw_g (lw_at lw_m3 28 rfl) rfl
theorem q614 : (Jvm.Cond.selects "FlashBoard$Core" ({ cls := "FlashBoard$Core", name := "store", desc := "(II)V" } : Jvm.MethodName) ({ cls := "FlashBoard$Core", name := "store", desc := "(II)V" } : Jvm.MethodName)) ∈ lw_all := lw_g (lw_at lw_m3 29 rfl) rfl
theorem q615 : (Jvm.Cond.code ({ cls := "FlashBoard$Core", name := "store", desc := "(II)V" } : Jvm.MethodName) prog_3_method_4_code (3 : Nat) (Option.none : Option Jvm.ClassFile.FieldType)) ∈ lw_all := lw_g (lw_at lw_m3 30 rfl) rfl
theorem q616 : (Jvm.Cond.methodLink "FlashBoard$Core" (106 : Nat) ({ cls := "FlashBoard$Unit", name := "store", desc := "(II)V" } : Jvm.MethodName)) ∈ lw_all := lw_g (lw_at lw_m3 31 rfl) rfl
theorem q642 : (Jvm.Cond.methodLink "FlashBoard$Core" (115 : Nat) ({ cls := "FlashBoard$Core", name := "toStack", desc := "(I)V" } : Jvm.MethodName)) ∈ lw_all := lw_g (lw_at lw_m3 57 rfl) rfl
theorem q643 : (Jvm.Cond.privateMethod ({ cls := "FlashBoard$Core", name := "toStack", desc := "(I)V" } : Jvm.MethodName)) ∈ lw_tbl := lw_at lw_m3 58 rfl
theorem q644 : (Jvm.Cond.instanceMethod ({ cls := "FlashBoard$Core", name := "toStack", desc := "(I)V" } : Jvm.MethodName)) ∈ lw_all := lw_g (lw_at lw_m3 59 rfl) rfl
theorem q645 : (Jvm.Cond.code ({ cls := "FlashBoard$Core", name := "toStack", desc := "(I)V" } : Jvm.MethodName) prog_3_method_8_code (2 : Nat) (Option.none : Option Jvm.ClassFile.FieldType)) ∈ lw_all := lw_g (lw_at lw_m3 60 rfl) rfl
theorem q646 : (Jvm.Cond.methodLink "FlashBoard$Core" (128 : Nat) ({ cls := "FlashBoard$Core", name := "set", desc := "(IZ)V" } : Jvm.MethodName)) ∈ lw_all := lw_g (lw_at lw_m3 61 rfl) rfl
theorem q647 : (Jvm.Cond.privateMethod ({ cls := "FlashBoard$Core", name := "set", desc := "(IZ)V" } : Jvm.MethodName)) ∈ lw_tbl := lw_at lw_m3 62 rfl
theorem q648 : (Jvm.Cond.instanceMethod ({ cls := "FlashBoard$Core", name := "set", desc := "(IZ)V" } : Jvm.MethodName)) ∈ lw_all := lw_g (lw_at lw_m3 63 rfl) rfl
theorem q649 : (Jvm.Cond.code ({ cls := "FlashBoard$Core", name := "set", desc := "(IZ)V" } : Jvm.MethodName) prog_3_method_15_code (3 : Nat) (Option.none : Option Jvm.ClassFile.FieldType)) ∈ lw_all := lw_g (lw_at lw_m3 64 rfl) rfl
theorem q650 : (Jvm.Cond.methodLink "FlashBoard$Core" (125 : Nat) ({ cls := "FlashBoard$Core", name := "go", desc := "(I)V" } : Jvm.MethodName)) ∈ lw_all := lw_g (lw_at lw_m3 65 rfl) rfl
theorem q651 : (Jvm.Cond.privateMethod ({ cls := "FlashBoard$Core", name := "go", desc := "(I)V" } : Jvm.MethodName)) ∈ lw_tbl := lw_at lw_m3 66 rfl
theorem q652 : (Jvm.Cond.instanceMethod ({ cls := "FlashBoard$Core", name := "go", desc := "(I)V" } : Jvm.MethodName)) ∈ lw_all := lw_g (lw_at lw_m3 67 rfl) rfl
theorem q653 : (Jvm.Cond.code ({ cls := "FlashBoard$Core", name := "go", desc := "(I)V" } : Jvm.MethodName) prog_3_method_13_code (2 : Nat) (Option.none : Option Jvm.ClassFile.FieldType)) ∈ lw_all := lw_g (lw_at lw_m3 68 rfl) rfl
theorem q654 : (Jvm.Cond.methodLink "FlashBoard$Core" (175 : Nat) ({ cls := "FlashBoard$Core", name := "instruction", desc := "()I" } : Jvm.MethodName)) ∈ lw_all := lw_g (lw_at lw_m3 69 rfl) rfl
theorem q655 : (Jvm.Cond.privateMethod ({ cls := "FlashBoard$Core", name := "instruction", desc := "()I" } : Jvm.MethodName)) ∈ lw_tbl := lw_at lw_m3 70 rfl
theorem q656 : (Jvm.Cond.instanceMethod ({ cls := "FlashBoard$Core", name := "instruction", desc := "()I" } : Jvm.MethodName)) ∈ lw_all := lw_g (lw_at lw_m3 71 rfl) rfl
theorem q657 : (Jvm.Cond.code ({ cls := "FlashBoard$Core", name := "instruction", desc := "()I" } : Jvm.MethodName) prog_3_method_29_code (3 : Nat) (Option.some Jvm.ClassFile.FieldType.int)) ∈ lw_all := lw_g (lw_at lw_m3 72 rfl) rfl
theorem q658 : (Jvm.Cond.methodLink "FlashBoard$Core" (205 : Nat) ({ cls := "FlashBoard$Core", name := "next", desc := "()I" } : Jvm.MethodName)) ∈ lw_all := lw_g (lw_at lw_m3 73 rfl) rfl
theorem q659 : (Jvm.Cond.privateMethod ({ cls := "FlashBoard$Core", name := "next", desc := "()I" } : Jvm.MethodName)) ∈ lw_tbl := lw_at lw_m3 74 rfl
theorem q660 : (Jvm.Cond.instanceMethod ({ cls := "FlashBoard$Core", name := "next", desc := "()I" } : Jvm.MethodName)) ∈ lw_all := lw_g (lw_at lw_m3 75 rfl) rfl
theorem q661 : (Jvm.Cond.code ({ cls := "FlashBoard$Core", name := "next", desc := "()I" } : Jvm.MethodName) prog_3_method_26_code (2 : Nat) (Option.some Jvm.ClassFile.FieldType.int)) ∈ lw_all := lw_g (lw_at lw_m3 76 rfl) rfl
theorem q662 : (Jvm.Cond.methodLink "FlashBoard$Core" (198 : Nat) ({ cls := "FlashBoard$Flash", name := "word", desc := "(I)I" } : Jvm.MethodName)) ∈ lw_all := lw_g (lw_at lw_m3 77 rfl) rfl
theorem q666 : (Jvm.Cond.methodLink "FlashBoard$Core" (211 : Nat) ({ cls := "FlashBoard$Core", name := "pairs", desc := "(I)I" } : Jvm.MethodName)) ∈ lw_all := lw_g (lw_at lw_m3 81 rfl) rfl
theorem q667 : (Jvm.Cond.privateMethod ({ cls := "FlashBoard$Core", name := "pairs", desc := "(I)I" } : Jvm.MethodName)) ∈ lw_tbl := lw_at lw_m3 82 rfl
theorem q668 : (Jvm.Cond.instanceMethod ({ cls := "FlashBoard$Core", name := "pairs", desc := "(I)I" } : Jvm.MethodName)) ∈ lw_all := lw_g (lw_at lw_m3 83 rfl) rfl
theorem q669 : (Jvm.Cond.code ({ cls := "FlashBoard$Core", name := "pairs", desc := "(I)I" } : Jvm.MethodName) prog_3_method_31_code (7 : Nat) (Option.some Jvm.ClassFile.FieldType.int)) ∈ lw_all := lw_g (lw_at lw_m3 84 rfl) rfl
theorem q670 : (Jvm.Cond.methodLink "FlashBoard$Core" (240 : Nat) ({ cls := "FlashBoard$Core", name := "pair", desc := "(I)I" } : Jvm.MethodName)) ∈ lw_all := lw_g (lw_at lw_m3 85 rfl) rfl
theorem q671 : (Jvm.Cond.privateMethod ({ cls := "FlashBoard$Core", name := "pair", desc := "(I)I" } : Jvm.MethodName)) ∈ lw_tbl := lw_at lw_m3 86 rfl
theorem q672 : (Jvm.Cond.instanceMethod ({ cls := "FlashBoard$Core", name := "pair", desc := "(I)I" } : Jvm.MethodName)) ∈ lw_all := lw_g (lw_at lw_m3 87 rfl) rfl
theorem q673 : (Jvm.Cond.code ({ cls := "FlashBoard$Core", name := "pair", desc := "(I)I" } : Jvm.MethodName) prog_3_method_5_code (2 : Nat) (Option.some Jvm.ClassFile.FieldType.int)) ∈ lw_all := lw_g (lw_at lw_m3 88 rfl) rfl
theorem q674 : (Jvm.Cond.methodLink "FlashBoard$Core" (144 : Nat) ({ cls := "FlashBoard$Core", name := "toPair", desc := "(II)V" } : Jvm.MethodName)) ∈ lw_all := lw_g (lw_at lw_m3 89 rfl) rfl
theorem q675 : (Jvm.Cond.privateMethod ({ cls := "FlashBoard$Core", name := "toPair", desc := "(II)V" } : Jvm.MethodName)) ∈ lw_tbl := lw_at lw_m3 90 rfl
theorem q676 : (Jvm.Cond.instanceMethod ({ cls := "FlashBoard$Core", name := "toPair", desc := "(II)V" } : Jvm.MethodName)) ∈ lw_all := lw_g (lw_at lw_m3 91 rfl) rfl
theorem q677 : (Jvm.Cond.code ({ cls := "FlashBoard$Core", name := "toPair", desc := "(II)V" } : Jvm.MethodName) prog_3_method_6_code (3 : Nat) (Option.none : Option Jvm.ClassFile.FieldType)) ∈ lw_all := lw_g (lw_at lw_m3 92 rfl) rfl
theorem q678 : (Jvm.Cond.methodLink "FlashBoard$Core" (243 : Nat) ({ cls := "FlashBoard$Core", name := "product", desc := "(IZ)V" } : Jvm.MethodName)) ∈ lw_all := lw_g (lw_at lw_m3 93 rfl) rfl
theorem q679 : (Jvm.Cond.privateMethod ({ cls := "FlashBoard$Core", name := "product", desc := "(IZ)V" } : Jvm.MethodName)) ∈ lw_tbl := lw_at lw_m3 94 rfl
theorem q680 : (Jvm.Cond.instanceMethod ({ cls := "FlashBoard$Core", name := "product", desc := "(IZ)V" } : Jvm.MethodName)) ∈ lw_all := lw_g (lw_at lw_m3 95 rfl) rfl
theorem q681 : (Jvm.Cond.code ({ cls := "FlashBoard$Core", name := "product", desc := "(IZ)V" } : Jvm.MethodName) prog_3_method_21_code (4 : Nat) (Option.none : Option Jvm.ClassFile.FieldType)) ∈ lw_all := lw_g (lw_at lw_m3 96 rfl) rfl
theorem q682 : (Jvm.Cond.constant "FlashBoard$Core" (143 : Nat) (32768 : Int32)) ∈ lw_all := lw_g (lw_at lw_m3 97 rfl) rfl
theorem q683 : (Jvm.Cond.constant "FlashBoard$Core" (147 : Nat) (65535 : Int32)) ∈ lw_all := lw_g (lw_at lw_m3 98 rfl) rfl
theorem q684 : (Jvm.Cond.methodLink "FlashBoard$Core" (214 : Nat) ({ cls := "FlashBoard$Core", name := "twoRegisters", desc := "(I)I" } : Jvm.MethodName)) ∈ lw_all := lw_g (lw_at lw_m3 99 rfl) rfl
theorem q685 : (Jvm.Cond.privateMethod ({ cls := "FlashBoard$Core", name := "twoRegisters", desc := "(I)I" } : Jvm.MethodName)) ∈ lw_tbl := lw_at lw_m3 100 rfl
theorem q686 : (Jvm.Cond.instanceMethod ({ cls := "FlashBoard$Core", name := "twoRegisters", desc := "(I)I" } : Jvm.MethodName)) ∈ lw_all := lw_g (lw_at lw_m3 101 rfl) rfl
theorem q687 : (Jvm.Cond.code ({ cls := "FlashBoard$Core", name := "twoRegisters", desc := "(I)I" } : Jvm.MethodName) prog_3_method_32_code (6 : Nat) (Option.some Jvm.ClassFile.FieldType.int)) ∈ lw_all := lw_g (lw_at lw_m3 102 rfl) rfl
theorem q688 : (Jvm.Cond.methodLink "FlashBoard$Core" (233 : Nat) ({ cls := "FlashBoard$Core", name := "takenOn", desc := "(II)I" } : Jvm.MethodName)) ∈ lw_all := lw_g (lw_at lw_m3 103 rfl) rfl
theorem q689 : (Jvm.Cond.privateMethod ({ cls := "FlashBoard$Core", name := "takenOn", desc := "(II)I" } : Jvm.MethodName)) ∈ lw_tbl := lw_at lw_m3 104 rfl
theorem q690 : (Jvm.Cond.instanceMethod ({ cls := "FlashBoard$Core", name := "takenOn", desc := "(II)I" } : Jvm.MethodName)) ∈ lw_all := lw_g (lw_at lw_m3 105 rfl) rfl
theorem q691 : (Jvm.Cond.code ({ cls := "FlashBoard$Core", name := "takenOn", desc := "(II)I" } : Jvm.MethodName) prog_3_method_19_code (5 : Nat) (Option.some Jvm.ClassFile.FieldType.int)) ∈ lw_all := lw_g (lw_at lw_m3 106 rfl) rfl
theorem q692 : (Jvm.Cond.methodLink "FlashBoard$Core" (139 : Nat) ({ cls := "FlashBoard$Core", name := "taken", desc := "(III)I" } : Jvm.MethodName)) ∈ lw_all := lw_g (lw_at lw_m3 107 rfl) rfl
theorem q693 : (Jvm.Cond.privateMethod ({ cls := "FlashBoard$Core", name := "taken", desc := "(III)I" } : Jvm.MethodName)) ∈ lw_tbl := lw_at lw_m3 108 rfl
theorem q694 : (Jvm.Cond.instanceMethod ({ cls := "FlashBoard$Core", name := "taken", desc := "(III)I" } : Jvm.MethodName)) ∈ lw_all := lw_g (lw_at lw_m3 109 rfl) rfl
theorem q695 : (Jvm.Cond.code ({ cls := "FlashBoard$Core", name := "taken", desc := "(III)I" } : Jvm.MethodName) prog_3_method_18_code (5 : Nat) (Option.some Jvm.ClassFile.FieldType.int)) ∈ lw_all := lw_g (lw_at lw_m3 110 rfl) rfl
theorem q696 : (Jvm.Cond.methodLink "FlashBoard$Core" (136 : Nat) ({ cls := "FlashBoard$Core", name := "by", desc := "(IZ)V" } : Jvm.MethodName)) ∈ lw_all := lw_g (lw_at lw_m3 111 rfl) rfl
theorem q697 : (Jvm.Cond.privateMethod ({ cls := "FlashBoard$Core", name := "by", desc := "(IZ)V" } : Jvm.MethodName)) ∈ lw_tbl := lw_at lw_m3 112 rfl
theorem q698 : (Jvm.Cond.instanceMethod ({ cls := "FlashBoard$Core", name := "by", desc := "(IZ)V" } : Jvm.MethodName)) ∈ lw_all := lw_g (lw_at lw_m3 113 rfl) rfl
theorem q699 : (Jvm.Cond.code ({ cls := "FlashBoard$Core", name := "by", desc := "(IZ)V" } : Jvm.MethodName) prog_3_method_16_code (3 : Nat) (Option.none : Option Jvm.ClassFile.FieldType)) ∈ lw_all := lw_g (lw_at lw_m3 114 rfl) rfl
theorem q700 : (Jvm.Cond.methodLink "FlashBoard$Core" (246 : Nat) ({ cls := "FlashBoard$Core", name := "added", desc := "(III)I" } : Jvm.MethodName)) ∈ lw_all := lw_g (lw_at lw_m3 115 rfl) rfl
theorem q701 : (Jvm.Cond.privateMethod ({ cls := "FlashBoard$Core", name := "added", desc := "(III)I" } : Jvm.MethodName)) ∈ lw_tbl := lw_at lw_m3 116 rfl
theorem q702 : (Jvm.Cond.instanceMethod ({ cls := "FlashBoard$Core", name := "added", desc := "(III)I" } : Jvm.MethodName)) ∈ lw_all := lw_g (lw_at lw_m3 117 rfl) rfl
theorem q703 : (Jvm.Cond.code ({ cls := "FlashBoard$Core", name := "added", desc := "(III)I" } : Jvm.MethodName) prog_3_method_17_code (5 : Nat) (Option.some Jvm.ClassFile.FieldType.int)) ∈ lw_all := lw_g (lw_at lw_m3 118 rfl) rfl
theorem q704 : (Jvm.Cond.methodLink "FlashBoard$Core" (249 : Nat) ({ cls := "FlashBoard$Core", name := "skip", desc := "(Z)I" } : Jvm.MethodName)) ∈ lw_all := lw_g (lw_at lw_m3 119 rfl) rfl
theorem q705 : (Jvm.Cond.privateMethod ({ cls := "FlashBoard$Core", name := "skip", desc := "(Z)I" } : Jvm.MethodName)) ∈ lw_tbl := lw_at lw_m3 120 rfl
theorem q706 : (Jvm.Cond.instanceMethod ({ cls := "FlashBoard$Core", name := "skip", desc := "(Z)I" } : Jvm.MethodName)) ∈ lw_all := lw_g (lw_at lw_m3 121 rfl) rfl
theorem q707 : (Jvm.Cond.code ({ cls := "FlashBoard$Core", name := "skip", desc := "(Z)I" } : Jvm.MethodName) prog_3_method_28_code (3 : Nat) (Option.some Jvm.ClassFile.FieldType.int)) ∈ lw_all := lw_g (lw_at lw_m3 122 rfl) rfl
theorem q708 : (Jvm.Cond.methodLink "FlashBoard$Core" (208 : Nat) ({ cls := "FlashBoard$Core", name := "isLong", desc := "(I)Z" } : Jvm.MethodName)) ∈ lw_all := lw_g (lw_at lw_m3 123 rfl) rfl
theorem q709 : (Jvm.Cond.static ({ cls := "FlashBoard$Core", name := "isLong", desc := "(I)Z" } : Jvm.MethodName)) ∈ lw_all := lw_g (lw_at lw_m3 124 rfl) rfl
theorem q710 : (Jvm.Cond.code ({ cls := "FlashBoard$Core", name := "isLong", desc := "(I)Z" } : Jvm.MethodName) prog_3_method_27_code (1 : Nat) (Option.some Jvm.ClassFile.FieldType.boolean)) ∈ lw_all := lw_g (lw_at lw_m3 125 rfl) rfl
theorem q711 : (Jvm.Cond.constant "FlashBoard$Core" (201 : Nat) (64527 : Int32)) ∈ lw_all := lw_g (lw_at lw_m3 126 rfl) rfl
theorem q712 : (Jvm.Cond.constant "FlashBoard$Core" (202 : Nat) (36864 : Int32)) ∈ lw_all := lw_g (lw_at lw_m3 127 rfl) rfl
theorem q713 : (Jvm.Cond.constant "FlashBoard$Core" (203 : Nat) (65036 : Int32)) ∈ lw_all := lw_g (lw_at lw_m3 128 rfl) rfl
theorem q714 : (Jvm.Cond.constant "FlashBoard$Core" (204 : Nat) (37900 : Int32)) ∈ lw_all := lw_g (lw_at lw_m3 129 rfl) rfl
theorem q715 : (Jvm.Cond.methodLink "FlashBoard$Core" (237 : Nat) ({ cls := "FlashBoard$Core", name := "logic", desc := "(I)I" } : Jvm.MethodName)) ∈ lw_all := lw_g (lw_at lw_m3 130 rfl) rfl
theorem q716 : (Jvm.Cond.privateMethod ({ cls := "FlashBoard$Core", name := "logic", desc := "(I)I" } : Jvm.MethodName)) ∈ lw_tbl := lw_at lw_m3 131 rfl
theorem q717 : (Jvm.Cond.instanceMethod ({ cls := "FlashBoard$Core", name := "logic", desc := "(I)I" } : Jvm.MethodName)) ∈ lw_all := lw_g (lw_at lw_m3 132 rfl) rfl
theorem q718 : (Jvm.Cond.code ({ cls := "FlashBoard$Core", name := "logic", desc := "(I)I" } : Jvm.MethodName) prog_3_method_20_code (2 : Nat) (Option.some Jvm.ClassFile.FieldType.int)) ∈ lw_all := lw_g (lw_at lw_m3 133 rfl) rfl
theorem q719 : (Jvm.Cond.methodLink "FlashBoard$Core" (217 : Nat) ({ cls := "FlashBoard$Core", name := "displaced", desc := "(I)I" } : Jvm.MethodName)) ∈ lw_all := lw_g (lw_at lw_m3 134 rfl) rfl
theorem q720 : (Jvm.Cond.privateMethod ({ cls := "FlashBoard$Core", name := "displaced", desc := "(I)I" } : Jvm.MethodName)) ∈ lw_tbl := lw_at lw_m3 135 rfl
theorem q721 : (Jvm.Cond.instanceMethod ({ cls := "FlashBoard$Core", name := "displaced", desc := "(I)I" } : Jvm.MethodName)) ∈ lw_all := lw_g (lw_at lw_m3 136 rfl) rfl
theorem q722 : (Jvm.Cond.code ({ cls := "FlashBoard$Core", name := "displaced", desc := "(I)I" } : Jvm.MethodName) prog_3_method_33_code (4 : Nat) (Option.some Jvm.ClassFile.FieldType.int)) ∈ lw_all := lw_g (lw_at lw_m3 137 rfl) rfl
theorem q723 : (Jvm.Cond.methodLink "FlashBoard$Core" (253 : Nat) ({ cls := "FlashBoard$Core", name := "move", desc := "(II)V" } : Jvm.MethodName)) ∈ lw_all := lw_g (lw_at lw_m3 138 rfl) rfl
theorem q724 : (Jvm.Cond.privateMethod ({ cls := "FlashBoard$Core", name := "move", desc := "(II)V" } : Jvm.MethodName)) ∈ lw_tbl := lw_at lw_m3 139 rfl
theorem q725 : (Jvm.Cond.instanceMethod ({ cls := "FlashBoard$Core", name := "move", desc := "(II)V" } : Jvm.MethodName)) ∈ lw_all := lw_g (lw_at lw_m3 140 rfl) rfl
theorem q726 : (Jvm.Cond.code ({ cls := "FlashBoard$Core", name := "move", desc := "(II)V" } : Jvm.MethodName) prog_3_method_34_code (4 : Nat) (Option.none : Option Jvm.ClassFile.FieldType)) ∈ lw_all := lw_g (lw_at lw_m3 141 rfl) rfl
theorem q727 : (Jvm.Cond.methodLink "FlashBoard$Core" (118 : Nat) ({ cls := "FlashBoard$Core", name := "load", desc := "(I)I" } : Jvm.MethodName)) ∈ lw_all := lw_g (lw_at lw_m3 142 rfl) rfl
theorem q728 : (Jvm.Cond.instanceMethod ({ cls := "FlashBoard$Core", name := "load", desc := "(I)I" } : Jvm.MethodName)) ∈ lw_all := lw_g (lw_at lw_m3 143 rfl) rfl
theorem q729 : (Jvm.Cond.selects "FlashBoard$Core" ({ cls := "FlashBoard$Core", name := "load", desc := "(I)I" } : Jvm.MethodName) ({ cls := "FlashBoard$Core", name := "load", desc := "(I)I" } : Jvm.MethodName)) ∈ lw_all := lw_g (lw_at lw_m3 144 rfl) rfl
theorem q730 : (Jvm.Cond.code ({ cls := "FlashBoard$Core", name := "load", desc := "(I)I" } : Jvm.MethodName) prog_3_method_3_code (3 : Nat) (Option.some Jvm.ClassFile.FieldType.int)) ∈ lw_all := lw_g (lw_at lw_m3 145 rfl) rfl
theorem q731 : (Jvm.Cond.methodLink "FlashBoard$Core" (102 : Nat) ({ cls := "FlashBoard$Unit", name := "load", desc := "(I)I" } : Jvm.MethodName)) ∈ lw_all := lw_g (lw_at lw_m3 146 rfl) rfl
theorem q750 : (Jvm.Cond.methodLink "FlashBoard$Core" (220 : Nat) ({ cls := "FlashBoard$Core", name := "nine", desc := "(IZ)I" } : Jvm.MethodName)) ∈ lw_all := lw_g (lw_at lw_m3 165 rfl) rfl
theorem q751 : (Jvm.Cond.privateMethod ({ cls := "FlashBoard$Core", name := "nine", desc := "(IZ)I" } : Jvm.MethodName)) ∈ lw_tbl := lw_at lw_m3 166 rfl
theorem q752 : (Jvm.Cond.instanceMethod ({ cls := "FlashBoard$Core", name := "nine", desc := "(IZ)I" } : Jvm.MethodName)) ∈ lw_all := lw_g (lw_at lw_m3 167 rfl) rfl
theorem q753 : (Jvm.Cond.code ({ cls := "FlashBoard$Core", name := "nine", desc := "(IZ)I" } : Jvm.MethodName) prog_3_method_37_code (3 : Nat) (Option.some Jvm.ClassFile.FieldType.int)) ∈ lw_all := lw_g (lw_at lw_m3 168 rfl) rfl
theorem q754 : (Jvm.Cond.methodLink "FlashBoard$Core" (262 : Nat) ({ cls := "FlashBoard$Core", name := "moved", desc := "(IZ)I" } : Jvm.MethodName)) ∈ lw_all := lw_g (lw_at lw_m3 169 rfl) rfl
theorem q755 : (Jvm.Cond.privateMethod ({ cls := "FlashBoard$Core", name := "moved", desc := "(IZ)I" } : Jvm.MethodName)) ∈ lw_tbl := lw_at lw_m3 170 rfl
theorem q756 : (Jvm.Cond.instanceMethod ({ cls := "FlashBoard$Core", name := "moved", desc := "(IZ)I" } : Jvm.MethodName)) ∈ lw_all := lw_g (lw_at lw_m3 171 rfl) rfl
theorem q757 : (Jvm.Cond.code ({ cls := "FlashBoard$Core", name := "moved", desc := "(IZ)I" } : Jvm.MethodName) prog_3_method_36_code (11 : Nat) (Option.some Jvm.ClassFile.FieldType.int)) ∈ lw_all := lw_g (lw_at lw_m3 172 rfl) rfl
theorem q758 : (Jvm.Cond.methodLink "FlashBoard$Core" (256 : Nat) ({ cls := "FlashBoard$Core", name := "pointer", desc := "(I)I" } : Jvm.MethodName)) ∈ lw_all := lw_g (lw_at lw_m3 173 rfl) rfl
theorem q759 : (Jvm.Cond.static ({ cls := "FlashBoard$Core", name := "pointer", desc := "(I)I" } : Jvm.MethodName)) ∈ lw_all := lw_g (lw_at lw_m3 174 rfl) rfl
theorem q760 : (Jvm.Cond.code ({ cls := "FlashBoard$Core", name := "pointer", desc := "(I)I" } : Jvm.MethodName) prog_3_method_35_code (1 : Nat) (Option.some Jvm.ClassFile.FieldType.int)) ∈ lw_all := lw_g (lw_at lw_m3 175 rfl) rfl
theorem q761 : (Jvm.Cond.methodLink "FlashBoard$Core" (259 : Nat) ({ cls := "FlashBoard$Flash", name := "read", desc := "(IZ)I" } : Jvm.MethodName)) ∈ lw_all := lw_g (lw_at lw_m3 176 rfl) rfl
theorem q770 : (Jvm.Cond.methodLink "FlashBoard$Core" (122 : Nat) ({ cls := "FlashBoard$Core", name := "pop", desc := "()I" } : Jvm.MethodName)) ∈ lw_all := lw_g (lw_at lw_m3 185 rfl) rfl
theorem q771 : (Jvm.Cond.privateMethod ({ cls := "FlashBoard$Core", name := "pop", desc := "()I" } : Jvm.MethodName)) ∈ lw_tbl := lw_at lw_m3 186 rfl
theorem q772 : (Jvm.Cond.instanceMethod ({ cls := "FlashBoard$Core", name := "pop", desc := "()I" } : Jvm.MethodName)) ∈ lw_all := lw_g (lw_at lw_m3 187 rfl) rfl
theorem q773 : (Jvm.Cond.code ({ cls := "FlashBoard$Core", name := "pop", desc := "()I" } : Jvm.MethodName) prog_3_method_10_code (1 : Nat) (Option.some Jvm.ClassFile.FieldType.int)) ∈ lw_all := lw_g (lw_at lw_m3 188 rfl) rfl
theorem q774 : (Jvm.Cond.methodLink "FlashBoard$Core" (265 : Nat) ({ cls := "FlashBoard$Core", name := "one", desc := "(IZ)I" } : Jvm.MethodName)) ∈ lw_all := lw_g (lw_at lw_m3 189 rfl) rfl
theorem q775 : (Jvm.Cond.privateMethod ({ cls := "FlashBoard$Core", name := "one", desc := "(IZ)I" } : Jvm.MethodName)) ∈ lw_tbl := lw_at lw_m3 190 rfl
theorem q776 : (Jvm.Cond.instanceMethod ({ cls := "FlashBoard$Core", name := "one", desc := "(IZ)I" } : Jvm.MethodName)) ∈ lw_all := lw_g (lw_at lw_m3 191 rfl) rfl
theorem q777 : (Jvm.Cond.code ({ cls := "FlashBoard$Core", name := "one", desc := "(IZ)I" } : Jvm.MethodName) prog_3_method_41_code (6 : Nat) (Option.some Jvm.ClassFile.FieldType.int)) ∈ lw_all := lw_g (lw_at lw_m3 192 rfl) rfl
theorem q778 : (Jvm.Cond.methodLink "FlashBoard$Core" (274 : Nat) ({ cls := "FlashBoard$Core", name := "shifted", desc := "(II)V" } : Jvm.MethodName)) ∈ lw_all := lw_g (lw_at lw_m3 193 rfl) rfl
theorem q779 : (Jvm.Cond.privateMethod ({ cls := "FlashBoard$Core", name := "shifted", desc := "(II)V" } : Jvm.MethodName)) ∈ lw_tbl := lw_at lw_m3 194 rfl
theorem q780 : (Jvm.Cond.instanceMethod ({ cls := "FlashBoard$Core", name := "shifted", desc := "(II)V" } : Jvm.MethodName)) ∈ lw_all := lw_g (lw_at lw_m3 195 rfl) rfl
theorem q781 : (Jvm.Cond.code ({ cls := "FlashBoard$Core", name := "shifted", desc := "(II)V" } : Jvm.MethodName) prog_3_method_42_code (6 : Nat) (Option.none : Option Jvm.ClassFile.FieldType)) ∈ lw_all := lw_g (lw_at lw_m3 196 rfl) rfl
theorem q782 : (Jvm.Cond.methodLink "FlashBoard$Core" (277 : Nat) ({ cls := "FlashBoard$Core", name := "alone", desc := "(IZ)I" } : Jvm.MethodName)) ∈ lw_all := lw_g (lw_at lw_m3 197 rfl) rfl
theorem q783 : (Jvm.Cond.privateMethod ({ cls := "FlashBoard$Core", name := "alone", desc := "(IZ)I" } : Jvm.MethodName)) ∈ lw_tbl := lw_at lw_m3 198 rfl
theorem q784 : (Jvm.Cond.instanceMethod ({ cls := "FlashBoard$Core", name := "alone", desc := "(IZ)I" } : Jvm.MethodName)) ∈ lw_all := lw_g (lw_at lw_m3 199 rfl) rfl
theorem q785 : (Jvm.Cond.code ({ cls := "FlashBoard$Core", name := "alone", desc := "(IZ)I" } : Jvm.MethodName) prog_3_method_44_code (3 : Nat) (Option.some Jvm.ClassFile.FieldType.int)) ∈ lw_all := lw_g (lw_at lw_m3 200 rfl) rfl
theorem q786 : (Jvm.Cond.constant "FlashBoard$Core" (285 : Nat) (38144 : Int32)) ∈ lw_all := lw_g (lw_at lw_m3 201 rfl) rfl
theorem q787 : (Jvm.Cond.constant "FlashBoard$Core" (286 : Nat) (38008 : Int32)) ∈ lw_all := lw_g (lw_at lw_m3 202 rfl) rfl
theorem q788 : (Jvm.Cond.methodLink "FlashBoard$Core" (287 : Nat) ({ cls := "FlashBoard$Core", name := "popPlace", desc := "()V" } : Jvm.MethodName)) ∈ lw_all := lw_g (lw_at lw_m3 203 rfl) rfl
theorem q789 : (Jvm.Cond.privateMethod ({ cls := "FlashBoard$Core", name := "popPlace", desc := "()V" } : Jvm.MethodName)) ∈ lw_tbl := lw_at lw_m3 204 rfl
theorem q790 : (Jvm.Cond.instanceMethod ({ cls := "FlashBoard$Core", name := "popPlace", desc := "()V" } : Jvm.MethodName)) ∈ lw_all := lw_g (lw_at lw_m3 205 rfl) rfl
theorem q791 : (Jvm.Cond.code ({ cls := "FlashBoard$Core", name := "popPlace", desc := "()V" } : Jvm.MethodName) prog_3_method_12_code (2 : Nat) (Option.none : Option Jvm.ClassFile.FieldType)) ∈ lw_all := lw_g (lw_at lw_m3 206 rfl) rfl
theorem q792 : (Jvm.Cond.methodLink "FlashBoard$Core" (293 : Nat) ({ cls := "FlashBoard$Flash", name := "stores", desc := "(IZ)V" } : Jvm.MethodName)) ∈ lw_all := lw_g (lw_at lw_m3 207 rfl) rfl
theorem q800 : (Jvm.Cond.methodLink "FlashBoard$Core" (280 : Nat) ({ cls := "FlashBoard$Core", name := "indirect", desc := "(I)I" } : Jvm.MethodName)) ∈ lw_all := lw_g (lw_at lw_m3 215 rfl) rfl
theorem q801 : (Jvm.Cond.privateMethod ({ cls := "FlashBoard$Core", name := "indirect", desc := "(I)I" } : Jvm.MethodName)) ∈ lw_tbl := lw_at lw_m3 216 rfl
theorem q802 : (Jvm.Cond.instanceMethod ({ cls := "FlashBoard$Core", name := "indirect", desc := "(I)I" } : Jvm.MethodName)) ∈ lw_all := lw_g (lw_at lw_m3 217 rfl) rfl
theorem q803 : (Jvm.Cond.code ({ cls := "FlashBoard$Core", name := "indirect", desc := "(I)I" } : Jvm.MethodName) prog_3_method_43_code (2 : Nat) (Option.some Jvm.ClassFile.FieldType.int)) ∈ lw_all := lw_g (lw_at lw_m3 218 rfl) rfl
theorem q804 : (Jvm.Cond.constant "FlashBoard$Core" (283 : Nat) (37897 : Int32)) ∈ lw_all := lw_g (lw_at lw_m3 219 rfl) rfl
theorem q805 : (Jvm.Cond.constant "FlashBoard$Core" (284 : Nat) (38153 : Int32)) ∈ lw_all := lw_g (lw_at lw_m3 220 rfl) rfl
theorem q806 : (Jvm.Cond.methodLink "FlashBoard$Core" (268 : Nat) ({ cls := "FlashBoard$Core", name := "words", desc := "(I)I" } : Jvm.MethodName)) ∈ lw_all := lw_g (lw_at lw_m3 221 rfl) rfl
theorem q807 : (Jvm.Cond.privateMethod ({ cls := "FlashBoard$Core", name := "words", desc := "(I)I" } : Jvm.MethodName)) ∈ lw_tbl := lw_at lw_m3 222 rfl
theorem q808 : (Jvm.Cond.instanceMethod ({ cls := "FlashBoard$Core", name := "words", desc := "(I)I" } : Jvm.MethodName)) ∈ lw_all := lw_g (lw_at lw_m3 223 rfl) rfl
theorem q809 : (Jvm.Cond.code ({ cls := "FlashBoard$Core", name := "words", desc := "(I)I" } : Jvm.MethodName) prog_3_method_38_code (7 : Nat) (Option.some Jvm.ClassFile.FieldType.int)) ∈ lw_all := lw_g (lw_at lw_m3 224 rfl) rfl
theorem q810 : (Jvm.Cond.methodLink "FlashBoard$Core" (271 : Nat) ({ cls := "FlashBoard$Core", name := "portBits", desc := "(I)I" } : Jvm.MethodName)) ∈ lw_all := lw_g (lw_at lw_m3 225 rfl) rfl
theorem q811 : (Jvm.Cond.privateMethod ({ cls := "FlashBoard$Core", name := "portBits", desc := "(I)I" } : Jvm.MethodName)) ∈ lw_tbl := lw_at lw_m3 226 rfl
theorem q812 : (Jvm.Cond.instanceMethod ({ cls := "FlashBoard$Core", name := "portBits", desc := "(I)I" } : Jvm.MethodName)) ∈ lw_all := lw_g (lw_at lw_m3 227 rfl) rfl
theorem q813 : (Jvm.Cond.code ({ cls := "FlashBoard$Core", name := "portBits", desc := "(I)I" } : Jvm.MethodName) prog_3_method_39_code (7 : Nat) (Option.some Jvm.ClassFile.FieldType.int)) ∈ lw_all := lw_g (lw_at lw_m3 228 rfl) rfl
theorem q814 : (Jvm.Cond.methodLink "FlashBoard$Core" (224 : Nat) ({ cls := "FlashBoard$Core", name := "ports", desc := "(I)I" } : Jvm.MethodName)) ∈ lw_all := lw_g (lw_at lw_m3 229 rfl) rfl
theorem q815 : (Jvm.Cond.privateMethod ({ cls := "FlashBoard$Core", name := "ports", desc := "(I)I" } : Jvm.MethodName)) ∈ lw_tbl := lw_at lw_m3 230 rfl
theorem q816 : (Jvm.Cond.instanceMethod ({ cls := "FlashBoard$Core", name := "ports", desc := "(I)I" } : Jvm.MethodName)) ∈ lw_all := lw_g (lw_at lw_m3 231 rfl) rfl
theorem q817 : (Jvm.Cond.code ({ cls := "FlashBoard$Core", name := "ports", desc := "(I)I" } : Jvm.MethodName) prog_3_method_40_code (4 : Nat) (Option.some Jvm.ClassFile.FieldType.int)) ∈ lw_all := lw_g (lw_at lw_m3 232 rfl) rfl
theorem q818 : (Jvm.Cond.methodLink "FlashBoard$Core" (227 : Nat) ({ cls := "FlashBoard$Core", name := "bits", desc := "(I)I" } : Jvm.MethodName)) ∈ lw_all := lw_g (lw_at lw_m3 233 rfl) rfl
theorem q819 : (Jvm.Cond.privateMethod ({ cls := "FlashBoard$Core", name := "bits", desc := "(I)I" } : Jvm.MethodName)) ∈ lw_tbl := lw_at lw_m3 234 rfl
theorem q820 : (Jvm.Cond.instanceMethod ({ cls := "FlashBoard$Core", name := "bits", desc := "(I)I" } : Jvm.MethodName)) ∈ lw_all := lw_g (lw_at lw_m3 235 rfl) rfl
theorem q821 : (Jvm.Cond.code ({ cls := "FlashBoard$Core", name := "bits", desc := "(I)I" } : Jvm.MethodName) prog_3_method_45_code (5 : Nat) (Option.some Jvm.ClassFile.FieldType.int)) ∈ lw_all := lw_g (lw_at lw_m3 236 rfl) rfl
theorem q822 : (Jvm.Cond.methodLink "FlashBoard$Core" (230 : Nat) ({ cls := "FlashBoard$Core", name := "constant", desc := "(I)I" } : Jvm.MethodName)) ∈ lw_all := lw_g (lw_at lw_m3 237 rfl) rfl
theorem q823 : (Jvm.Cond.privateMethod ({ cls := "FlashBoard$Core", name := "constant", desc := "(I)I" } : Jvm.MethodName)) ∈ lw_tbl := lw_at lw_m3 238 rfl
theorem q824 : (Jvm.Cond.instanceMethod ({ cls := "FlashBoard$Core", name := "constant", desc := "(I)I" } : Jvm.MethodName)) ∈ lw_all := lw_g (lw_at lw_m3 239 rfl) rfl
theorem q825 : (Jvm.Cond.code ({ cls := "FlashBoard$Core", name := "constant", desc := "(I)I" } : Jvm.MethodName) prog_3_method_30_code (4 : Nat) (Option.some Jvm.ClassFile.FieldType.int)) ∈ lw_all := lw_g (lw_at lw_m4 0 rfl) rfl
theorem q826 : (Jvm.Cond.methodLink "FlashBoard$Core" (178 : Nat) ({ cls := "FlashBoard$Core", name := "pass", desc := "(I)I" } : Jvm.MethodName)) ∈ lw_all := lw_g (lw_at lw_m4 1 rfl) rfl
theorem q827 : (Jvm.Cond.privateMethod ({ cls := "FlashBoard$Core", name := "pass", desc := "(I)I" } : Jvm.MethodName)) ∈ lw_tbl := lw_at lw_m4 2 rfl
theorem q828 : (Jvm.Cond.instanceMethod ({ cls := "FlashBoard$Core", name := "pass", desc := "(I)I" } : Jvm.MethodName)) ∈ lw_all := lw_g (lw_at lw_m4 3 rfl) rfl
theorem q829 : (Jvm.Cond.code ({ cls := "FlashBoard$Core", name := "pass", desc := "(I)I" } : Jvm.MethodName) prog_3_method_25_code (3 : Nat) (Option.some Jvm.ClassFile.FieldType.int)) ∈ lw_all := lw_g (lw_at lw_m4 4 rfl) rfl
theorem q830 : (Jvm.Cond.methodLink "FlashBoard$Core" (184 : Nat) ({ cls := "FlashBoard$Flash", name := "cycle", desc := "()V" } : Jvm.MethodName)) ∈ lw_all := lw_g (lw_at lw_m4 5 rfl) rfl
theorem q834 : (Jvm.Cond.methodLink "FlashBoard$Core" (187 : Nat) ({ cls := "FlashBoard$Watchdog", name := "shorter", desc := "()V" } : Jvm.MethodName)) ∈ lw_all := lw_g (lw_at lw_m4 9 rfl) rfl
theorem q838 : (Jvm.Cond.methodLink "FlashBoard$Core" (190 : Nat) ({ cls := "FlashBoard$Causes", name := "cycle", desc := "()V" } : Jvm.MethodName)) ∈ lw_all := lw_g (lw_at lw_m4 13 rfl) rfl
theorem q842 : (Jvm.Cond.methodLink "FlashBoard$Core" (191 : Nat) ({ cls := "FlashBoard$Eeprom", name := "cycle", desc := "()V" } : Jvm.MethodName)) ∈ lw_all := lw_g (lw_at lw_m4 17 rfl) rfl
theorem q846 : (Jvm.Cond.methodLink "FlashBoard$Core" (192 : Nat) ({ cls := "FlashBoard$Timer", name := "cycle", desc := "()V" } : Jvm.MethodName)) ∈ lw_all := lw_g (lw_at lw_m4 21 rfl) rfl
theorem q854 : (Jvm.Cond.methodLink "FlashBoard$Core" (193 : Nat) ({ cls := "FlashBoard$Line", name := "cycle", desc := "()V" } : Jvm.MethodName)) ∈ lw_all := lw_g (lw_at lw_m4 29 rfl) rfl
theorem q866 : (Jvm.Cond.methodLink "FlashBoard$Core" (194 : Nat) ({ cls := "FlashBoard$Watchdog", name := "cycle", desc := "()V" } : Jvm.MethodName)) ∈ lw_all := lw_g (lw_at lw_m4 41 rfl) rfl
theorem q1639 : (Jvm.Cond.castable "FlashBoard$Core" "java/lang/Object") ∈ lw_tbl := lw_at lw_m7 94 rfl
theorem in_X2 : ∀ w ∈ wsX20, w ∈ lw_all := lw_in wsX20 [533, 535, 537, 539, 541, 543, 545, 547, 549, 551, 553, 555, 557, 559, 561, 563, 565, 567, 569] (by decide +kernel) (by decide +kernel)

/-! FlashBoard$Unit -/
set_option maxRecDepth 100000
def RX3 : String := "FlashBoard$Unit"
abbrev cX3_init : ByteArray := prog_10_method_1_code
def yX3_init : MethodName := ⟨RX3, "<init>", "(LFlashBoard$Core;)V"⟩
def dkwX3_init_0 : List UInt8 := [42, 183, 0, 1, 42, 43, 181, 0, 7, 177]
abbrev dktX3_init_0 : List UInt8 := dkwX3_init_0 ++ []
theorem dksX3_init_0 : cX3_init.data.toList.drop 0 = dktX3_init_0 := by decide +kernel
theorem dX3_init_0 : decode cX3_init 0 = .ok (.aload_n 0, 1) := dk_42 (dk_at dksX3_init_0 0 rfl rfl)
theorem dX3_init_1 : decode cX3_init 1 = .ok (.invokespecial 1, 3) := dk_183 0 1 (dk_at dksX3_init_0 1 rfl rfl)
theorem dX3_init_4 : decode cX3_init 4 = .ok (.aload_n 0, 1) := dk_42 (dk_at dksX3_init_0 4 rfl rfl)
theorem dX3_init_5 : decode cX3_init 5 = .ok (.aload_n 1, 1) := dk_43 (dk_at dksX3_init_0 5 rfl rfl)
theorem dX3_init_6 : decode cX3_init 6 = .ok (.putfield 7, 3) := dk_181 0 7 (dk_at dksX3_init_0 6 rfl rfl)
theorem dX3_init_9 : decode cX3_init 9 = .ok (.return_, 1) := dk_177 (dk_at dksX3_init_0 9 rfl rfl)
abbrev cX3_store : ByteArray := prog_10_method_3_code
def yX3_store : MethodName := ⟨RX3, "store", "(II)V"⟩
def dkwX3_store_0 : List UInt8 := [42, 180, 0, 7, 180, 0, 13, 27, 28, 79, 177]
abbrev dktX3_store_0 : List UInt8 := dkwX3_store_0 ++ []
theorem dksX3_store_0 : cX3_store.data.toList.drop 0 = dktX3_store_0 := by decide +kernel
theorem dX3_store_0 : decode cX3_store 0 = .ok (.aload_n 0, 1) := dk_42 (dk_at dksX3_store_0 0 rfl rfl)
theorem dX3_store_1 : decode cX3_store 1 = .ok (.getfield 7, 3) := dk_180 0 7 (dk_at dksX3_store_0 1 rfl rfl)
theorem dX3_store_4 : decode cX3_store 4 = .ok (.getfield 13, 3) := dk_180 0 13 (dk_at dksX3_store_0 4 rfl rfl)
theorem dX3_store_7 : decode cX3_store 7 = .ok (.iload_n 1, 1) := dk_27 (dk_at dksX3_store_0 7 rfl rfl)
theorem dX3_store_8 : decode cX3_store 8 = .ok (.iload_n 2, 1) := dk_28 (dk_at dksX3_store_0 8 rfl rfl)
theorem dX3_store_9 : decode cX3_store 9 = .ok (.iastore, 1) := dk_79 (dk_at dksX3_store_0 9 rfl rfl)
theorem dX3_store_10 : decode cX3_store 10 = .ok (.return_, 1) := dk_177 (dk_at dksX3_store_0 10 rfl rfl)
abbrev cX3_load : ByteArray := prog_10_method_2_code
def yX3_load : MethodName := ⟨RX3, "load", "(I)I"⟩
def dkwX3_load_0 : List UInt8 := [42, 180, 0, 7, 180, 0, 13, 27, 46, 172]
abbrev dktX3_load_0 : List UInt8 := dkwX3_load_0 ++ []
theorem dksX3_load_0 : cX3_load.data.toList.drop 0 = dktX3_load_0 := by decide +kernel
theorem dX3_load_0 : decode cX3_load 0 = .ok (.aload_n 0, 1) := dk_42 (dk_at dksX3_load_0 0 rfl rfl)
theorem dX3_load_1 : decode cX3_load 1 = .ok (.getfield 7, 3) := dk_180 0 7 (dk_at dksX3_load_0 1 rfl rfl)
theorem dX3_load_4 : decode cX3_load 4 = .ok (.getfield 13, 3) := dk_180 0 13 (dk_at dksX3_load_0 4 rfl rfl)
theorem dX3_load_7 : decode cX3_load 7 = .ok (.iload_n 1, 1) := dk_27 (dk_at dksX3_load_0 7 rfl rfl)
theorem dX3_load_8 : decode cX3_load 8 = .ok (.iaload, 1) := dk_46 (dk_at dksX3_load_0 8 rfl rfl)
theorem dX3_load_9 : decode cX3_load 9 = .ok (.ireturn, 1) := dk_172 (dk_at dksX3_load_0 9 rfl rfl)
theorem q108 : (Jvm.Cond.initialized "FlashBoard$Unit") ∈ lw_all := lw_g (lw_at lw_m1 3 rfl) rfl
theorem q153 : (Jvm.Cond.instanceMethod ({ cls := "FlashBoard$Unit", name := "<init>", desc := "(LFlashBoard$Core;)V" } : Jvm.MethodName)) ∈ lw_all := lw_g (lw_at lw_m1 48 rfl) rfl
theorem q154 : (Jvm.Cond.code ({ cls := "FlashBoard$Unit", name := "<init>", desc := "(LFlashBoard$Core;)V" } : Jvm.MethodName) prog_10_method_1_code (2 : Nat) (Option.none : Option Jvm.ClassFile.FieldType)) ∈ lw_all := lw_g (lw_at lw_m1 49 rfl) rfl
theorem q155 : (Jvm.Cond.methodLink "FlashBoard$Unit" (1 : Nat) ({ cls := "java/lang/Object", name := "<init>", desc := "()V" } : Jvm.MethodName)) ∈ lw_all := lw_g (lw_at lw_m1 50 rfl) rfl
theorem q158 : (Jvm.Cond.fieldLink "FlashBoard$Unit" (7 : Nat) "FlashBoard$Unit" "core" "LFlashBoard$Core;") ∈ lw_all := lw_g (lw_at lw_m1 53 rfl) rfl
theorem q176 : (Jvm.Cond.soleField "FlashBoard$Unit" "core") ∈ lw_all := lw_g (lw_at lw_m1 71 rfl) rfl
theorem q462 : (Jvm.Cond.declares ({ cls := "FlashBoard$Unit", name := "clear", desc := "()V" } : Jvm.MethodName)) ∈ lw_tbl := lw_at lw_m2 117 rfl
theorem q463 : (Jvm.Cond.sameMethod "FlashBoard$Unit" "FlashBoard$Unit" "clear" "()V") ∈ lw_all := lw_g (lw_at lw_m2 118 rfl) rfl
theorem q492 : (Jvm.Cond.fieldLinkNest "FlashBoard$Unit" (13 : Nat) "FlashBoard$Core" "data" "[I" "FlashBoard") ∈ lw_tbl := lw_at lw_m2 147 rfl
theorem q617 : (Jvm.Cond.instanceMethod ({ cls := "FlashBoard$Unit", name := "store", desc := "(II)V" } : Jvm.MethodName)) ∈ lw_all := lw_g (lw_at lw_m3 32 rfl) rfl
theorem q618 : (Jvm.Cond.sameMethod "FlashBoard$Unit" "FlashBoard$Unit" "store" "(II)V") ∈ lw_all := lw_g (lw_at lw_m3 33 rfl) rfl
theorem q641 : (Jvm.Cond.code ({ cls := "FlashBoard$Unit", name := "store", desc := "(II)V" } : Jvm.MethodName) prog_10_method_3_code (3 : Nat) (Option.none : Option Jvm.ClassFile.FieldType)) ∈ lw_all := lw_g (lw_at lw_m3 56 rfl) rfl
theorem q732 : (Jvm.Cond.instanceMethod ({ cls := "FlashBoard$Unit", name := "load", desc := "(I)I" } : Jvm.MethodName)) ∈ lw_all := lw_g (lw_at lw_m3 147 rfl) rfl
theorem q733 : (Jvm.Cond.sameMethod "FlashBoard$Unit" "FlashBoard$Unit" "load" "(I)I") ∈ lw_all := lw_g (lw_at lw_m3 148 rfl) rfl
theorem q749 : (Jvm.Cond.code ({ cls := "FlashBoard$Unit", name := "load", desc := "(I)I" } : Jvm.MethodName) prog_10_method_2_code (2 : Nat) (Option.some Jvm.ClassFile.FieldType.int)) ∈ lw_all := lw_g (lw_at lw_m3 164 rfl) rfl

/-! FlashBoard$Port -/
set_option maxRecDepth 100000
def RX4 : String := "FlashBoard$Port"
def TX4 : u_T := fun k => match k with
  | 0 => ("FlashBoard$Unit", "core", "LFlashBoard$Core;", true)
  | _ => ("FlashBoard$Port", "pins", "I", false)
def tyX4 : Nat → FieldType := fun k => match k with
  | 0 => .object "FlashBoard$Core"
  | _ => .int
abbrev wsX40 : List Cond := u_ws RX4 TX4 2
theorem nmX4 : ∀ a, a < 2 → ∀ b, b < 2 → a ≠ b → (TX4 a).2.1 ≠ (TX4 b).2.1 := by decide +kernel
theorem tyX4_ok : ∀ k, k < 2 → parseFieldDescriptor (TX4 k).2.2.1 = some (tyX4 k) := by decide +kernel
abbrev cX4_init : ByteArray := prog_8_method_1_code
def yX4_init : MethodName := ⟨RX4, "<init>", "(LFlashBoard$Core;)V"⟩
def dkwX4_init_0 : List UInt8 := [42, 43, 183, 0, 1, 177]
abbrev dktX4_init_0 : List UInt8 := dkwX4_init_0 ++ []
theorem dksX4_init_0 : cX4_init.data.toList.drop 0 = dktX4_init_0 := by decide +kernel
theorem dX4_init_0 : decode cX4_init 0 = .ok (.aload_n 0, 1) := dk_42 (dk_at dksX4_init_0 0 rfl rfl)
theorem dX4_init_1 : decode cX4_init 1 = .ok (.aload_n 1, 1) := dk_43 (dk_at dksX4_init_0 1 rfl rfl)
theorem dX4_init_2 : decode cX4_init 2 = .ok (.invokespecial 1, 3) := dk_183 0 1 (dk_at dksX4_init_0 2 rfl rfl)
theorem dX4_init_5 : decode cX4_init 5 = .ok (.return_, 1) := dk_177 (dk_at dksX4_init_0 5 rfl rfl)
abbrev cX4_clear : ByteArray := prog_8_method_5_code
def yX4_clear : MethodName := ⟨RX4, "clear", "()V"⟩
theorem dX4_clear_0 : decode cX4_clear 0 = .ok (.return_, 1) := by decide +kernel
abbrev cX4_store : ByteArray := prog_8_method_3_code
def yX4_store : MethodName := ⟨RX4, "store", "(II)V"⟩
def dkwX4_store_0 : List UInt8 := [42, 180, 0, 7, 180, 0, 13, 16, 37, 92, 46, 28, 130, 79, 177]
abbrev dktX4_store_0 : List UInt8 := dkwX4_store_0 ++ []
theorem dksX4_store_0 : cX4_store.data.toList.drop 0 = dktX4_store_0 := by decide +kernel
theorem dX4_store_0 : decode cX4_store 0 = .ok (.aload_n 0, 1) := dk_42 (dk_at dksX4_store_0 0 rfl rfl)
theorem dX4_store_1 : decode cX4_store 1 = .ok (.getfield 7, 3) := dk_180 0 7 (dk_at dksX4_store_0 1 rfl rfl)
theorem dX4_store_4 : decode cX4_store 4 = .ok (.getfield 13, 3) := dk_180 0 13 (dk_at dksX4_store_0 4 rfl rfl)
theorem dX4_store_7 : decode cX4_store 7 = .ok (.bipush 37, 2) := dk_16 37 (dk_at dksX4_store_0 7 rfl rfl)
theorem dX4_store_9 : decode cX4_store 9 = .ok (.dup2, 1) := dk_92 (dk_at dksX4_store_0 9 rfl rfl)
theorem dX4_store_10 : decode cX4_store 10 = .ok (.iaload, 1) := dk_46 (dk_at dksX4_store_0 10 rfl rfl)
theorem dX4_store_11 : decode cX4_store 11 = .ok (.iload_n 2, 1) := dk_28 (dk_at dksX4_store_0 11 rfl rfl)
theorem dX4_store_12 : decode cX4_store 12 = .ok (.ixor, 1) := dk_130 (dk_at dksX4_store_0 12 rfl rfl)
theorem dX4_store_13 : decode cX4_store 13 = .ok (.iastore, 1) := dk_79 (dk_at dksX4_store_0 13 rfl rfl)
theorem dX4_store_14 : decode cX4_store 14 = .ok (.return_, 1) := dk_177 (dk_at dksX4_store_0 14 rfl rfl)
abbrev cX4_load : ByteArray := prog_8_method_2_code
def yX4_load : MethodName := ⟨RX4, "load", "(I)I"⟩
def dkwX4_load_1 : List UInt8 := [180, 0, 19, 42, 180, 0, 7, 180, 0, 13, 16, 36, 46, 2, 130, 126, 17, 0, 255, 126, 128, 172]
abbrev dktX4_load_1 : List UInt8 := dkwX4_load_1 ++ []
def dkwX4_load_0 : List UInt8 := [42, 180, 0, 7, 180, 0, 13, 16, 37, 46, 42, 180, 0, 7, 180, 0, 13, 16, 36, 46, 126, 42]
abbrev dktX4_load_0 : List UInt8 := dkwX4_load_0 ++ dktX4_load_1
theorem dksX4_load_0 : cX4_load.data.toList.drop 0 = dktX4_load_0 := by decide +kernel
theorem dksX4_load_1 : cX4_load.data.toList.drop 22 = dktX4_load_1 := dk_seg dksX4_load_0 22 rfl rfl
theorem dX4_load_0 : decode cX4_load 0 = .ok (.aload_n 0, 1) := dk_42 (dk_at dksX4_load_0 0 rfl rfl)
theorem dX4_load_1 : decode cX4_load 1 = .ok (.getfield 7, 3) := dk_180 0 7 (dk_at dksX4_load_0 1 rfl rfl)
theorem dX4_load_4 : decode cX4_load 4 = .ok (.getfield 13, 3) := dk_180 0 13 (dk_at dksX4_load_0 4 rfl rfl)
theorem dX4_load_7 : decode cX4_load 7 = .ok (.bipush 37, 2) := dk_16 37 (dk_at dksX4_load_0 7 rfl rfl)
theorem dX4_load_9 : decode cX4_load 9 = .ok (.iaload, 1) := dk_46 (dk_at dksX4_load_0 9 rfl rfl)
theorem dX4_load_10 : decode cX4_load 10 = .ok (.aload_n 0, 1) := dk_42 (dk_at dksX4_load_0 10 rfl rfl)
theorem dX4_load_11 : decode cX4_load 11 = .ok (.getfield 7, 3) := dk_180 0 7 (dk_at dksX4_load_0 11 rfl rfl)
theorem dX4_load_14 : decode cX4_load 14 = .ok (.getfield 13, 3) := dk_180 0 13 (dk_at dksX4_load_0 14 rfl rfl)
theorem dX4_load_17 : decode cX4_load 17 = .ok (.bipush 36, 2) := dk_16 36 (dk_at dksX4_load_0 17 rfl rfl)
theorem dX4_load_19 : decode cX4_load 19 = .ok (.iaload, 1) := dk_46 (dk_at dksX4_load_0 19 rfl rfl)
theorem dX4_load_20 : decode cX4_load 20 = .ok (.iand, 1) := dk_126 (dk_at dksX4_load_0 20 rfl rfl)
theorem dX4_load_21 : decode cX4_load 21 = .ok (.aload_n 0, 1) := dk_42 (dk_at dksX4_load_0 21 rfl rfl)
theorem dX4_load_22 : decode cX4_load 22 = .ok (.getfield 19, 3) := dk_180 0 19 (dk_at dksX4_load_1 0 rfl rfl)
theorem dX4_load_25 : decode cX4_load 25 = .ok (.aload_n 0, 1) := dk_42 (dk_at dksX4_load_1 3 rfl rfl)
theorem dX4_load_26 : decode cX4_load 26 = .ok (.getfield 7, 3) := dk_180 0 7 (dk_at dksX4_load_1 4 rfl rfl)
theorem dX4_load_29 : decode cX4_load 29 = .ok (.getfield 13, 3) := dk_180 0 13 (dk_at dksX4_load_1 7 rfl rfl)
theorem dX4_load_32 : decode cX4_load 32 = .ok (.bipush 36, 2) := dk_16 36 (dk_at dksX4_load_1 10 rfl rfl)
theorem dX4_load_34 : decode cX4_load 34 = .ok (.iaload, 1) := dk_46 (dk_at dksX4_load_1 12 rfl rfl)
theorem dX4_load_35 : decode cX4_load 35 = .ok (.iconst (-1), 1) := dk_2 (dk_at dksX4_load_1 13 rfl rfl)
theorem dX4_load_36 : decode cX4_load 36 = .ok (.ixor, 1) := dk_130 (dk_at dksX4_load_1 14 rfl rfl)
theorem dX4_load_37 : decode cX4_load 37 = .ok (.iand, 1) := dk_126 (dk_at dksX4_load_1 15 rfl rfl)
theorem dX4_load_38 : decode cX4_load 38 = .ok (.sipush 255, 3) := dk_17 0 255 (dk_at dksX4_load_1 16 rfl rfl)
theorem dX4_load_41 : decode cX4_load 41 = .ok (.iand, 1) := dk_126 (dk_at dksX4_load_1 19 rfl rfl)
theorem dX4_load_42 : decode cX4_load 42 = .ok (.ior, 1) := dk_128 (dk_at dksX4_load_1 20 rfl rfl)
theorem dX4_load_43 : decode cX4_load 43 = .ok (.ireturn, 1) := dk_172 (dk_at dksX4_load_1 21 rfl rfl)
theorem q109 : (Jvm.Cond.initialized "FlashBoard$Port") ∈ lw_all := lw_g (lw_at lw_m1 4 rfl) rfl
theorem q148 : (Jvm.Cond.instantiable "FlashBoard$Port" (2 : Nat)) ∈ lw_all := lw_g (lw_at lw_m1 43 rfl) rfl
theorem q150 : (Jvm.Cond.instanceMethod ({ cls := "FlashBoard$Port", name := "<init>", desc := "(LFlashBoard$Core;)V" } : Jvm.MethodName)) ∈ lw_all := lw_g (lw_at lw_m1 45 rfl) rfl
theorem q151 : (Jvm.Cond.code ({ cls := "FlashBoard$Port", name := "<init>", desc := "(LFlashBoard$Core;)V" } : Jvm.MethodName) prog_8_method_1_code (2 : Nat) (Option.none : Option Jvm.ClassFile.FieldType)) ∈ lw_all := lw_g (lw_at lw_m1 46 rfl) rfl
theorem q152 : (Jvm.Cond.methodLink "FlashBoard$Port" (1 : Nat) ({ cls := "FlashBoard$Unit", name := "<init>", desc := "(LFlashBoard$Core;)V" } : Jvm.MethodName)) ∈ lw_all := lw_g (lw_at lw_m1 47 rfl) rfl
theorem q156 : (Jvm.Cond.fieldLink "FlashBoard$Port" (19 : Nat) "FlashBoard$Port" "pins" "I") ∈ lw_all := lw_g (lw_at lw_m1 51 rfl) rfl
theorem q165 : (Jvm.Cond.fieldLink "FlashBoard$Port" (7 : Nat) "FlashBoard$Port" "core" "LFlashBoard$Core;") ∈ lw_all := lw_g (lw_at lw_m1 60 rfl) rfl
theorem q166 : (Jvm.Cond.sameField "FlashBoard$Port" "FlashBoard$Unit" "core" "LFlashBoard$Core;") ∈ lw_all := lw_g (lw_at lw_m1 61 rfl) rfl
theorem q173 : (Jvm.Cond.lays "FlashBoard$Port" "FlashBoard$Port" "pins" "I") ∈ lw_all := lw_g (lw_at lw_m1 68 rfl) rfl
theorem q174 : (Jvm.Cond.soleField "FlashBoard$Port" "pins") ∈ lw_all := lw_g (lw_at lw_m1 69 rfl) rfl
theorem q175 : (Jvm.Cond.laysFinal "FlashBoard$Port" "FlashBoard$Unit" "core" "LFlashBoard$Core;") ∈ lw_all := lw_g (lw_at lw_m1 70 rfl) rfl
theorem q177 : (Jvm.Cond.superclass "FlashBoard$Port" "FlashBoard$Unit") ∈ lw_all := lw_g (lw_at lw_m1 72 rfl) rfl
theorem q479 : (Jvm.Cond.selects "FlashBoard$Port" ({ cls := "FlashBoard$Unit", name := "clear", desc := "()V" } : Jvm.MethodName) ({ cls := "FlashBoard$Port", name := "clear", desc := "()V" } : Jvm.MethodName)) ∈ lw_all := lw_g (lw_at lw_m2 134 rfl) rfl
theorem q480 : (Jvm.Cond.instanceMethod ({ cls := "FlashBoard$Port", name := "clear", desc := "()V" } : Jvm.MethodName)) ∈ lw_all := lw_g (lw_at lw_m2 135 rfl) rfl
theorem q481 : (Jvm.Cond.code ({ cls := "FlashBoard$Port", name := "clear", desc := "()V" } : Jvm.MethodName) prog_8_method_5_code (1 : Nat) (Option.none : Option Jvm.ClassFile.FieldType)) ∈ lw_all := lw_g (lw_at lw_m2 136 rfl) rfl
theorem q493 : (Jvm.Cond.fieldLinkNest "FlashBoard$Port" (13 : Nat) "FlashBoard$Core" "data" "[I" "FlashBoard") ∈ lw_tbl := lw_at lw_m2 148 rfl
theorem q632 : (Jvm.Cond.selects "FlashBoard$Port" ({ cls := "FlashBoard$Unit", name := "store", desc := "(II)V" } : Jvm.MethodName) ({ cls := "FlashBoard$Port", name := "store", desc := "(II)V" } : Jvm.MethodName)) ∈ lw_all := lw_g (lw_at lw_m3 47 rfl) rfl
theorem q633 : (Jvm.Cond.instanceMethod ({ cls := "FlashBoard$Port", name := "store", desc := "(II)V" } : Jvm.MethodName)) ∈ lw_all := lw_g (lw_at lw_m3 48 rfl) rfl
theorem q634 : (Jvm.Cond.code ({ cls := "FlashBoard$Port", name := "store", desc := "(II)V" } : Jvm.MethodName) prog_8_method_3_code (3 : Nat) (Option.none : Option Jvm.ClassFile.FieldType)) ∈ lw_all := lw_g (lw_at lw_m3 49 rfl) rfl
theorem q744 : (Jvm.Cond.selects "FlashBoard$Port" ({ cls := "FlashBoard$Unit", name := "load", desc := "(I)I" } : Jvm.MethodName) ({ cls := "FlashBoard$Port", name := "load", desc := "(I)I" } : Jvm.MethodName)) ∈ lw_all := lw_g (lw_at lw_m3 159 rfl) rfl
theorem q745 : (Jvm.Cond.instanceMethod ({ cls := "FlashBoard$Port", name := "load", desc := "(I)I" } : Jvm.MethodName)) ∈ lw_all := lw_g (lw_at lw_m3 160 rfl) rfl
theorem q746 : (Jvm.Cond.code ({ cls := "FlashBoard$Port", name := "load", desc := "(I)I" } : Jvm.MethodName) prog_8_method_2_code (2 : Nat) (Option.some Jvm.ClassFile.FieldType.int)) ∈ lw_all := lw_g (lw_at lw_m3 161 rfl) rfl
theorem q1640 : (Jvm.Cond.castable "FlashBoard$Port" "java/lang/Object") ∈ lw_tbl := lw_at lw_m7 95 rfl
theorem q1655 : (Jvm.Cond.castable "FlashBoard$Port" "FlashBoard$Unit") ∈ lw_tbl := lw_at lw_m7 110 rfl
theorem in_X4 : ∀ w ∈ wsX40, w ∈ lw_all := lw_in wsX40 [175, 173] (by decide +kernel) (by decide +kernel)

/-! FlashBoard$Timer -/
set_option maxRecDepth 100000
def RX5 : String := "FlashBoard$Timer"
def TX5 : u_T := fun k => match k with
  | 0 => ("FlashBoard$Unit", "core", "LFlashBoard$Core;", true)
  | _ => ("FlashBoard$Timer", "prescaler", "I", false)
def tyX5 : Nat → FieldType := fun k => match k with
  | 0 => .object "FlashBoard$Core"
  | _ => .int
abbrev wsX50 : List Cond := u_ws RX5 TX5 2
theorem nmX5 : ∀ a, a < 2 → ∀ b, b < 2 → a ≠ b → (TX5 a).2.1 ≠ (TX5 b).2.1 := by decide +kernel
theorem tyX5_ok : ∀ k, k < 2 → parseFieldDescriptor (TX5 k).2.2.1 = some (tyX5 k) := by decide +kernel
abbrev cX5_init : ByteArray := prog_9_method_1_code
def yX5_init : MethodName := ⟨RX5, "<init>", "(LFlashBoard$Core;)V"⟩
def dkwX5_init_0 : List UInt8 := [42, 43, 183, 0, 1, 177]
abbrev dktX5_init_0 : List UInt8 := dkwX5_init_0 ++ []
theorem dksX5_init_0 : cX5_init.data.toList.drop 0 = dktX5_init_0 := by decide +kernel
theorem dX5_init_0 : decode cX5_init 0 = .ok (.aload_n 0, 1) := dk_42 (dk_at dksX5_init_0 0 rfl rfl)
theorem dX5_init_1 : decode cX5_init 1 = .ok (.aload_n 1, 1) := dk_43 (dk_at dksX5_init_0 1 rfl rfl)
theorem dX5_init_2 : decode cX5_init 2 = .ok (.invokespecial 1, 3) := dk_183 0 1 (dk_at dksX5_init_0 2 rfl rfl)
theorem dX5_init_5 : decode cX5_init 5 = .ok (.return_, 1) := dk_177 (dk_at dksX5_init_0 5 rfl rfl)
abbrev cX5_clear : ByteArray := prog_9_method_5_code
def yX5_clear : MethodName := ⟨RX5, "clear", "()V"⟩
def dkwX5_clear_0 : List UInt8 := [42, 3, 181, 0, 19, 177]
abbrev dktX5_clear_0 : List UInt8 := dkwX5_clear_0 ++ []
theorem dksX5_clear_0 : cX5_clear.data.toList.drop 0 = dktX5_clear_0 := by decide +kernel
theorem dX5_clear_0 : decode cX5_clear 0 = .ok (.aload_n 0, 1) := dk_42 (dk_at dksX5_clear_0 0 rfl rfl)
theorem dX5_clear_1 : decode cX5_clear 1 = .ok (.iconst 0, 1) := dk_3 (dk_at dksX5_clear_0 1 rfl rfl)
theorem dX5_clear_2 : decode cX5_clear 2 = .ok (.putfield 19, 3) := dk_181 0 19 (dk_at dksX5_clear_0 2 rfl rfl)
theorem dX5_clear_5 : decode cX5_clear 5 = .ok (.return_, 1) := dk_177 (dk_at dksX5_clear_0 5 rfl rfl)
abbrev cX5_store : ByteArray := prog_9_method_2_code
def yX5_store : MethodName := ⟨RX5, "store", "(II)V"⟩
def dkwX5_store_0 : List UInt8 := [42, 180, 0, 7, 180, 0, 13, 16, 53, 92, 46, 28, 2, 130, 6, 126, 126, 79, 177]
abbrev dktX5_store_0 : List UInt8 := dkwX5_store_0 ++ []
theorem dksX5_store_0 : cX5_store.data.toList.drop 0 = dktX5_store_0 := by decide +kernel
theorem dX5_store_0 : decode cX5_store 0 = .ok (.aload_n 0, 1) := dk_42 (dk_at dksX5_store_0 0 rfl rfl)
theorem dX5_store_1 : decode cX5_store 1 = .ok (.getfield 7, 3) := dk_180 0 7 (dk_at dksX5_store_0 1 rfl rfl)
theorem dX5_store_4 : decode cX5_store 4 = .ok (.getfield 13, 3) := dk_180 0 13 (dk_at dksX5_store_0 4 rfl rfl)
theorem dX5_store_7 : decode cX5_store 7 = .ok (.bipush 53, 2) := dk_16 53 (dk_at dksX5_store_0 7 rfl rfl)
theorem dX5_store_9 : decode cX5_store 9 = .ok (.dup2, 1) := dk_92 (dk_at dksX5_store_0 9 rfl rfl)
theorem dX5_store_10 : decode cX5_store 10 = .ok (.iaload, 1) := dk_46 (dk_at dksX5_store_0 10 rfl rfl)
theorem dX5_store_11 : decode cX5_store 11 = .ok (.iload_n 2, 1) := dk_28 (dk_at dksX5_store_0 11 rfl rfl)
theorem dX5_store_12 : decode cX5_store 12 = .ok (.iconst (-1), 1) := dk_2 (dk_at dksX5_store_0 12 rfl rfl)
theorem dX5_store_13 : decode cX5_store 13 = .ok (.ixor, 1) := dk_130 (dk_at dksX5_store_0 13 rfl rfl)
theorem dX5_store_14 : decode cX5_store 14 = .ok (.iconst 3, 1) := dk_6 (dk_at dksX5_store_0 14 rfl rfl)
theorem dX5_store_15 : decode cX5_store 15 = .ok (.iand, 1) := dk_126 (dk_at dksX5_store_0 15 rfl rfl)
theorem dX5_store_16 : decode cX5_store 16 = .ok (.iand, 1) := dk_126 (dk_at dksX5_store_0 16 rfl rfl)
theorem dX5_store_17 : decode cX5_store 17 = .ok (.iastore, 1) := dk_79 (dk_at dksX5_store_0 17 rfl rfl)
theorem dX5_store_18 : decode cX5_store 18 = .ok (.return_, 1) := dk_177 (dk_at dksX5_store_0 18 rfl rfl)
abbrev cX5_cycle : ByteArray := prog_9_method_4_code
def yX5_cycle : MethodName := ⟨RX5, "cycle", "()V"⟩
def dkwX5_cycle_4 : List UInt8 := [160, 0, 11, 43, 16, 53, 92, 46, 5, 128, 79, 177]
abbrev dktX5_cycle_4 : List UInt8 := dkwX5_cycle_4 ++ []
def dkwX5_cycle_3 : List UInt8 := [79, 43, 16, 70, 46, 154, 0, 11, 43, 16, 53, 92, 46, 4, 128, 79, 43, 16, 70, 46, 43, 16, 71, 46]
abbrev dktX5_cycle_3 : List UInt8 := dkwX5_cycle_3 ++ dktX5_cycle_4
def dkwX5_cycle_2 : List UInt8 := [160, 0, 11, 43, 16, 70, 3, 79, 167, 0, 32, 43, 16, 70, 43, 16, 70, 46, 4, 96, 17, 0, 255, 126]
abbrev dktX5_cycle_2 : List UInt8 := dkwX5_cycle_2 ++ dktX5_cycle_3
def dkwX5_cycle_1 : List UInt8 := [180, 0, 7, 180, 0, 13, 76, 43, 16, 68, 46, 5, 126, 153, 0, 22, 43, 16, 70, 46, 43, 16, 71, 46]
abbrev dktX5_cycle_1 : List UInt8 := dkwX5_cycle_1 ++ dktX5_cycle_2
def dkwX5_cycle_0 : List UInt8 := [42, 42, 180, 0, 19, 4, 96, 17, 3, 255, 126, 181, 0, 19, 42, 182, 0, 23, 154, 0, 4, 177, 42]
abbrev dktX5_cycle_0 : List UInt8 := dkwX5_cycle_0 ++ dktX5_cycle_1
theorem dksX5_cycle_0 : cX5_cycle.data.toList.drop 0 = dktX5_cycle_0 := by decide +kernel
theorem dksX5_cycle_1 : cX5_cycle.data.toList.drop 23 = dktX5_cycle_1 := dk_seg dksX5_cycle_0 23 rfl rfl
theorem dksX5_cycle_2 : cX5_cycle.data.toList.drop 47 = dktX5_cycle_2 := dk_seg dksX5_cycle_1 24 rfl rfl
theorem dksX5_cycle_3 : cX5_cycle.data.toList.drop 71 = dktX5_cycle_3 := dk_seg dksX5_cycle_2 24 rfl rfl
theorem dksX5_cycle_4 : cX5_cycle.data.toList.drop 95 = dktX5_cycle_4 := dk_seg dksX5_cycle_3 24 rfl rfl
theorem dX5_cycle_0 : decode cX5_cycle 0 = .ok (.aload_n 0, 1) := dk_42 (dk_at dksX5_cycle_0 0 rfl rfl)
theorem dX5_cycle_1 : decode cX5_cycle 1 = .ok (.aload_n 0, 1) := dk_42 (dk_at dksX5_cycle_0 1 rfl rfl)
theorem dX5_cycle_2 : decode cX5_cycle 2 = .ok (.getfield 19, 3) := dk_180 0 19 (dk_at dksX5_cycle_0 2 rfl rfl)
theorem dX5_cycle_5 : decode cX5_cycle 5 = .ok (.iconst 1, 1) := dk_4 (dk_at dksX5_cycle_0 5 rfl rfl)
theorem dX5_cycle_6 : decode cX5_cycle 6 = .ok (.iadd, 1) := dk_96 (dk_at dksX5_cycle_0 6 rfl rfl)
theorem dX5_cycle_7 : decode cX5_cycle 7 = .ok (.sipush 1023, 3) := dk_17 3 255 (dk_at dksX5_cycle_0 7 rfl rfl)
theorem dX5_cycle_10 : decode cX5_cycle 10 = .ok (.iand, 1) := dk_126 (dk_at dksX5_cycle_0 10 rfl rfl)
theorem dX5_cycle_11 : decode cX5_cycle 11 = .ok (.putfield 19, 3) := dk_181 0 19 (dk_at dksX5_cycle_0 11 rfl rfl)
theorem dX5_cycle_14 : decode cX5_cycle 14 = .ok (.aload_n 0, 1) := dk_42 (dk_at dksX5_cycle_0 14 rfl rfl)
theorem dX5_cycle_15 : decode cX5_cycle 15 = .ok (.invokevirtual 23, 3) := dk_182 0 23 (dk_at dksX5_cycle_0 15 rfl rfl)
theorem dX5_cycle_18 : decode cX5_cycle 18 = .ok (.ifCond .ne 4, 3) := dk_154 0 4 (dk_at dksX5_cycle_0 18 rfl rfl)
theorem dX5_cycle_21 : decode cX5_cycle 21 = .ok (.return_, 1) := dk_177 (dk_at dksX5_cycle_0 21 rfl rfl)
theorem dX5_cycle_22 : decode cX5_cycle 22 = .ok (.aload_n 0, 1) := dk_42 (dk_at dksX5_cycle_0 22 rfl rfl)
theorem dX5_cycle_23 : decode cX5_cycle 23 = .ok (.getfield 7, 3) := dk_180 0 7 (dk_at dksX5_cycle_1 0 rfl rfl)
theorem dX5_cycle_26 : decode cX5_cycle 26 = .ok (.getfield 13, 3) := dk_180 0 13 (dk_at dksX5_cycle_1 3 rfl rfl)
theorem dX5_cycle_29 : decode cX5_cycle 29 = .ok (.astore_n 1, 1) := dk_76 (dk_at dksX5_cycle_1 6 rfl rfl)
theorem dX5_cycle_30 : decode cX5_cycle 30 = .ok (.aload_n 1, 1) := dk_43 (dk_at dksX5_cycle_1 7 rfl rfl)
theorem dX5_cycle_31 : decode cX5_cycle 31 = .ok (.bipush 68, 2) := dk_16 68 (dk_at dksX5_cycle_1 8 rfl rfl)
theorem dX5_cycle_33 : decode cX5_cycle 33 = .ok (.iaload, 1) := dk_46 (dk_at dksX5_cycle_1 10 rfl rfl)
theorem dX5_cycle_34 : decode cX5_cycle 34 = .ok (.iconst 2, 1) := dk_5 (dk_at dksX5_cycle_1 11 rfl rfl)
theorem dX5_cycle_35 : decode cX5_cycle 35 = .ok (.iand, 1) := dk_126 (dk_at dksX5_cycle_1 12 rfl rfl)
theorem dX5_cycle_36 : decode cX5_cycle 36 = .ok (.ifCond .eq 22, 3) := dk_153 0 22 (dk_at dksX5_cycle_1 13 rfl rfl)
theorem dX5_cycle_39 : decode cX5_cycle 39 = .ok (.aload_n 1, 1) := dk_43 (dk_at dksX5_cycle_1 16 rfl rfl)
theorem dX5_cycle_40 : decode cX5_cycle 40 = .ok (.bipush 70, 2) := dk_16 70 (dk_at dksX5_cycle_1 17 rfl rfl)
theorem dX5_cycle_42 : decode cX5_cycle 42 = .ok (.iaload, 1) := dk_46 (dk_at dksX5_cycle_1 19 rfl rfl)
theorem dX5_cycle_43 : decode cX5_cycle 43 = .ok (.aload_n 1, 1) := dk_43 (dk_at dksX5_cycle_1 20 rfl rfl)
theorem dX5_cycle_44 : decode cX5_cycle 44 = .ok (.bipush 71, 2) := dk_16 71 (dk_at dksX5_cycle_1 21 rfl rfl)
theorem dX5_cycle_46 : decode cX5_cycle 46 = .ok (.iaload, 1) := dk_46 (dk_at dksX5_cycle_1 23 rfl rfl)
theorem dX5_cycle_47 : decode cX5_cycle 47 = .ok (.if_icmp .ne 11, 3) := dk_160 0 11 (dk_at dksX5_cycle_2 0 rfl rfl)
theorem dX5_cycle_50 : decode cX5_cycle 50 = .ok (.aload_n 1, 1) := dk_43 (dk_at dksX5_cycle_2 3 rfl rfl)
theorem dX5_cycle_51 : decode cX5_cycle 51 = .ok (.bipush 70, 2) := dk_16 70 (dk_at dksX5_cycle_2 4 rfl rfl)
theorem dX5_cycle_53 : decode cX5_cycle 53 = .ok (.iconst 0, 1) := dk_3 (dk_at dksX5_cycle_2 6 rfl rfl)
theorem dX5_cycle_54 : decode cX5_cycle 54 = .ok (.iastore, 1) := dk_79 (dk_at dksX5_cycle_2 7 rfl rfl)
theorem dX5_cycle_55 : decode cX5_cycle 55 = .ok (.goto 32, 3) := dk_167 0 32 (dk_at dksX5_cycle_2 8 rfl rfl)
theorem dX5_cycle_58 : decode cX5_cycle 58 = .ok (.aload_n 1, 1) := dk_43 (dk_at dksX5_cycle_2 11 rfl rfl)
theorem dX5_cycle_59 : decode cX5_cycle 59 = .ok (.bipush 70, 2) := dk_16 70 (dk_at dksX5_cycle_2 12 rfl rfl)
theorem dX5_cycle_61 : decode cX5_cycle 61 = .ok (.aload_n 1, 1) := dk_43 (dk_at dksX5_cycle_2 14 rfl rfl)
theorem dX5_cycle_62 : decode cX5_cycle 62 = .ok (.bipush 70, 2) := dk_16 70 (dk_at dksX5_cycle_2 15 rfl rfl)
theorem dX5_cycle_64 : decode cX5_cycle 64 = .ok (.iaload, 1) := dk_46 (dk_at dksX5_cycle_2 17 rfl rfl)
theorem dX5_cycle_65 : decode cX5_cycle 65 = .ok (.iconst 1, 1) := dk_4 (dk_at dksX5_cycle_2 18 rfl rfl)
theorem dX5_cycle_66 : decode cX5_cycle 66 = .ok (.iadd, 1) := dk_96 (dk_at dksX5_cycle_2 19 rfl rfl)
theorem dX5_cycle_67 : decode cX5_cycle 67 = .ok (.sipush 255, 3) := dk_17 0 255 (dk_at dksX5_cycle_2 20 rfl rfl)
theorem dX5_cycle_70 : decode cX5_cycle 70 = .ok (.iand, 1) := dk_126 (dk_at dksX5_cycle_2 23 rfl rfl)
theorem dX5_cycle_71 : decode cX5_cycle 71 = .ok (.iastore, 1) := dk_79 (dk_at dksX5_cycle_3 0 rfl rfl)
theorem dX5_cycle_72 : decode cX5_cycle 72 = .ok (.aload_n 1, 1) := dk_43 (dk_at dksX5_cycle_3 1 rfl rfl)
theorem dX5_cycle_73 : decode cX5_cycle 73 = .ok (.bipush 70, 2) := dk_16 70 (dk_at dksX5_cycle_3 2 rfl rfl)
theorem dX5_cycle_75 : decode cX5_cycle 75 = .ok (.iaload, 1) := dk_46 (dk_at dksX5_cycle_3 4 rfl rfl)
theorem dX5_cycle_76 : decode cX5_cycle 76 = .ok (.ifCond .ne 11, 3) := dk_154 0 11 (dk_at dksX5_cycle_3 5 rfl rfl)
theorem dX5_cycle_79 : decode cX5_cycle 79 = .ok (.aload_n 1, 1) := dk_43 (dk_at dksX5_cycle_3 8 rfl rfl)
theorem dX5_cycle_80 : decode cX5_cycle 80 = .ok (.bipush 53, 2) := dk_16 53 (dk_at dksX5_cycle_3 9 rfl rfl)
theorem dX5_cycle_82 : decode cX5_cycle 82 = .ok (.dup2, 1) := dk_92 (dk_at dksX5_cycle_3 11 rfl rfl)
theorem dX5_cycle_83 : decode cX5_cycle 83 = .ok (.iaload, 1) := dk_46 (dk_at dksX5_cycle_3 12 rfl rfl)
theorem dX5_cycle_84 : decode cX5_cycle 84 = .ok (.iconst 1, 1) := dk_4 (dk_at dksX5_cycle_3 13 rfl rfl)
theorem dX5_cycle_85 : decode cX5_cycle 85 = .ok (.ior, 1) := dk_128 (dk_at dksX5_cycle_3 14 rfl rfl)
theorem dX5_cycle_86 : decode cX5_cycle 86 = .ok (.iastore, 1) := dk_79 (dk_at dksX5_cycle_3 15 rfl rfl)
theorem dX5_cycle_87 : decode cX5_cycle 87 = .ok (.aload_n 1, 1) := dk_43 (dk_at dksX5_cycle_3 16 rfl rfl)
theorem dX5_cycle_88 : decode cX5_cycle 88 = .ok (.bipush 70, 2) := dk_16 70 (dk_at dksX5_cycle_3 17 rfl rfl)
theorem dX5_cycle_90 : decode cX5_cycle 90 = .ok (.iaload, 1) := dk_46 (dk_at dksX5_cycle_3 19 rfl rfl)
theorem dX5_cycle_91 : decode cX5_cycle 91 = .ok (.aload_n 1, 1) := dk_43 (dk_at dksX5_cycle_3 20 rfl rfl)
theorem dX5_cycle_92 : decode cX5_cycle 92 = .ok (.bipush 71, 2) := dk_16 71 (dk_at dksX5_cycle_3 21 rfl rfl)
theorem dX5_cycle_94 : decode cX5_cycle 94 = .ok (.iaload, 1) := dk_46 (dk_at dksX5_cycle_3 23 rfl rfl)
theorem dX5_cycle_95 : decode cX5_cycle 95 = .ok (.if_icmp .ne 11, 3) := dk_160 0 11 (dk_at dksX5_cycle_4 0 rfl rfl)
theorem dX5_cycle_98 : decode cX5_cycle 98 = .ok (.aload_n 1, 1) := dk_43 (dk_at dksX5_cycle_4 3 rfl rfl)
theorem dX5_cycle_99 : decode cX5_cycle 99 = .ok (.bipush 53, 2) := dk_16 53 (dk_at dksX5_cycle_4 4 rfl rfl)
theorem dX5_cycle_101 : decode cX5_cycle 101 = .ok (.dup2, 1) := dk_92 (dk_at dksX5_cycle_4 6 rfl rfl)
theorem dX5_cycle_102 : decode cX5_cycle 102 = .ok (.iaload, 1) := dk_46 (dk_at dksX5_cycle_4 7 rfl rfl)
theorem dX5_cycle_103 : decode cX5_cycle 103 = .ok (.iconst 2, 1) := dk_5 (dk_at dksX5_cycle_4 8 rfl rfl)
theorem dX5_cycle_104 : decode cX5_cycle 104 = .ok (.ior, 1) := dk_128 (dk_at dksX5_cycle_4 9 rfl rfl)
theorem dX5_cycle_105 : decode cX5_cycle 105 = .ok (.iastore, 1) := dk_79 (dk_at dksX5_cycle_4 10 rfl rfl)
theorem dX5_cycle_106 : decode cX5_cycle 106 = .ok (.return_, 1) := dk_177 (dk_at dksX5_cycle_4 11 rfl rfl)
abbrev cX5_ticks : ByteArray := prog_9_method_3_code
def yX5_ticks : MethodName := ⟨RX5, "ticks", "()Z"⟩
def dkwX5_ticks_4 : List UInt8 := [167, 0, 4, 3, 172, 42, 180, 0, 19, 154, 0, 7, 4, 167, 0, 4, 3, 172, 3, 172]
abbrev dktX5_ticks_4 : List UInt8 := dkwX5_ticks_4 ++ []
def dkwX5_ticks_3 : List UInt8 := [126, 154, 0, 7, 4, 167, 0, 4, 3, 172, 42, 180, 0, 19, 17, 0, 255, 126, 154, 0, 7, 4]
abbrev dktX5_ticks_3 : List UInt8 := dkwX5_ticks_3 ++ dktX5_ticks_4
def dkwX5_ticks_2 : List UInt8 := [4, 172, 42, 180, 0, 19, 16, 7, 126, 154, 0, 7, 4, 167, 0, 4, 3, 172, 42, 180, 0, 19, 16, 63]
abbrev dktX5_ticks_2 : List UInt8 := dkwX5_ticks_2 ++ dktX5_ticks_3
def dkwX5_ticks_1 : List UInt8 := [170, 0, 0, 0, 0, 0, 99, 0, 0, 0, 1, 0, 0, 0, 5, 0, 0, 0, 35, 0, 0, 0, 37, 0, 0, 0, 53, 0, 0, 0, 69, 0, 0, 0, 86]
abbrev dktX5_ticks_1 : List UInt8 := dkwX5_ticks_1 ++ dktX5_ticks_2
def dkwX5_ticks_0 : List UInt8 := [42, 180, 0, 7, 180, 0, 13, 16, 69, 46, 16, 7, 126]
abbrev dktX5_ticks_0 : List UInt8 := dkwX5_ticks_0 ++ dktX5_ticks_1
theorem dksX5_ticks_0 : cX5_ticks.data.toList.drop 0 = dktX5_ticks_0 := by decide +kernel
theorem dksX5_ticks_1 : cX5_ticks.data.toList.drop 13 = dktX5_ticks_1 := dk_seg dksX5_ticks_0 13 rfl rfl
theorem dksX5_ticks_2 : cX5_ticks.data.toList.drop 48 = dktX5_ticks_2 := dk_seg dksX5_ticks_1 35 rfl rfl
theorem dksX5_ticks_3 : cX5_ticks.data.toList.drop 72 = dktX5_ticks_3 := dk_seg dksX5_ticks_2 24 rfl rfl
theorem dksX5_ticks_4 : cX5_ticks.data.toList.drop 94 = dktX5_ticks_4 := dk_seg dksX5_ticks_3 22 rfl rfl
theorem dX5_ticks_0 : decode cX5_ticks 0 = .ok (.aload_n 0, 1) := dk_42 (dk_at dksX5_ticks_0 0 rfl rfl)
theorem dX5_ticks_1 : decode cX5_ticks 1 = .ok (.getfield 7, 3) := dk_180 0 7 (dk_at dksX5_ticks_0 1 rfl rfl)
theorem dX5_ticks_4 : decode cX5_ticks 4 = .ok (.getfield 13, 3) := dk_180 0 13 (dk_at dksX5_ticks_0 4 rfl rfl)
theorem dX5_ticks_7 : decode cX5_ticks 7 = .ok (.bipush 69, 2) := dk_16 69 (dk_at dksX5_ticks_0 7 rfl rfl)
theorem dX5_ticks_9 : decode cX5_ticks 9 = .ok (.iaload, 1) := dk_46 (dk_at dksX5_ticks_0 9 rfl rfl)
theorem dX5_ticks_10 : decode cX5_ticks 10 = .ok (.bipush 7, 2) := dk_16 7 (dk_at dksX5_ticks_0 10 rfl rfl)
theorem dX5_ticks_12 : decode cX5_ticks 12 = .ok (.iand, 1) := dk_126 (dk_at dksX5_ticks_0 12 rfl rfl)
theorem dX5_ticks_13 : decode cX5_ticks 13 = .ok (.tableswitch 99 1 5 #[35, 37, 53, 69, 86], 35) := by decide +kernel
theorem dX5_ticks_48 : decode cX5_ticks 48 = .ok (.iconst 1, 1) := dk_4 (dk_at dksX5_ticks_2 0 rfl rfl)
theorem dX5_ticks_49 : decode cX5_ticks 49 = .ok (.ireturn, 1) := dk_172 (dk_at dksX5_ticks_2 1 rfl rfl)
theorem dX5_ticks_50 : decode cX5_ticks 50 = .ok (.aload_n 0, 1) := dk_42 (dk_at dksX5_ticks_2 2 rfl rfl)
theorem dX5_ticks_51 : decode cX5_ticks 51 = .ok (.getfield 19, 3) := dk_180 0 19 (dk_at dksX5_ticks_2 3 rfl rfl)
theorem dX5_ticks_54 : decode cX5_ticks 54 = .ok (.bipush 7, 2) := dk_16 7 (dk_at dksX5_ticks_2 6 rfl rfl)
theorem dX5_ticks_56 : decode cX5_ticks 56 = .ok (.iand, 1) := dk_126 (dk_at dksX5_ticks_2 8 rfl rfl)
theorem dX5_ticks_57 : decode cX5_ticks 57 = .ok (.ifCond .ne 7, 3) := dk_154 0 7 (dk_at dksX5_ticks_2 9 rfl rfl)
theorem dX5_ticks_60 : decode cX5_ticks 60 = .ok (.iconst 1, 1) := dk_4 (dk_at dksX5_ticks_2 12 rfl rfl)
theorem dX5_ticks_61 : decode cX5_ticks 61 = .ok (.goto 4, 3) := dk_167 0 4 (dk_at dksX5_ticks_2 13 rfl rfl)
theorem dX5_ticks_64 : decode cX5_ticks 64 = .ok (.iconst 0, 1) := dk_3 (dk_at dksX5_ticks_2 16 rfl rfl)
theorem dX5_ticks_65 : decode cX5_ticks 65 = .ok (.ireturn, 1) := dk_172 (dk_at dksX5_ticks_2 17 rfl rfl)
theorem dX5_ticks_66 : decode cX5_ticks 66 = .ok (.aload_n 0, 1) := dk_42 (dk_at dksX5_ticks_2 18 rfl rfl)
theorem dX5_ticks_67 : decode cX5_ticks 67 = .ok (.getfield 19, 3) := dk_180 0 19 (dk_at dksX5_ticks_2 19 rfl rfl)
theorem dX5_ticks_70 : decode cX5_ticks 70 = .ok (.bipush 63, 2) := dk_16 63 (dk_at dksX5_ticks_2 22 rfl rfl)
theorem dX5_ticks_72 : decode cX5_ticks 72 = .ok (.iand, 1) := dk_126 (dk_at dksX5_ticks_3 0 rfl rfl)
theorem dX5_ticks_73 : decode cX5_ticks 73 = .ok (.ifCond .ne 7, 3) := dk_154 0 7 (dk_at dksX5_ticks_3 1 rfl rfl)
theorem dX5_ticks_76 : decode cX5_ticks 76 = .ok (.iconst 1, 1) := dk_4 (dk_at dksX5_ticks_3 4 rfl rfl)
theorem dX5_ticks_77 : decode cX5_ticks 77 = .ok (.goto 4, 3) := dk_167 0 4 (dk_at dksX5_ticks_3 5 rfl rfl)
theorem dX5_ticks_80 : decode cX5_ticks 80 = .ok (.iconst 0, 1) := dk_3 (dk_at dksX5_ticks_3 8 rfl rfl)
theorem dX5_ticks_81 : decode cX5_ticks 81 = .ok (.ireturn, 1) := dk_172 (dk_at dksX5_ticks_3 9 rfl rfl)
theorem dX5_ticks_82 : decode cX5_ticks 82 = .ok (.aload_n 0, 1) := dk_42 (dk_at dksX5_ticks_3 10 rfl rfl)
theorem dX5_ticks_83 : decode cX5_ticks 83 = .ok (.getfield 19, 3) := dk_180 0 19 (dk_at dksX5_ticks_3 11 rfl rfl)
theorem dX5_ticks_86 : decode cX5_ticks 86 = .ok (.sipush 255, 3) := dk_17 0 255 (dk_at dksX5_ticks_3 14 rfl rfl)
theorem dX5_ticks_89 : decode cX5_ticks 89 = .ok (.iand, 1) := dk_126 (dk_at dksX5_ticks_3 17 rfl rfl)
theorem dX5_ticks_90 : decode cX5_ticks 90 = .ok (.ifCond .ne 7, 3) := dk_154 0 7 (dk_at dksX5_ticks_3 18 rfl rfl)
theorem dX5_ticks_93 : decode cX5_ticks 93 = .ok (.iconst 1, 1) := dk_4 (dk_at dksX5_ticks_3 21 rfl rfl)
theorem dX5_ticks_94 : decode cX5_ticks 94 = .ok (.goto 4, 3) := dk_167 0 4 (dk_at dksX5_ticks_4 0 rfl rfl)
theorem dX5_ticks_97 : decode cX5_ticks 97 = .ok (.iconst 0, 1) := dk_3 (dk_at dksX5_ticks_4 3 rfl rfl)
theorem dX5_ticks_98 : decode cX5_ticks 98 = .ok (.ireturn, 1) := dk_172 (dk_at dksX5_ticks_4 4 rfl rfl)
theorem dX5_ticks_99 : decode cX5_ticks 99 = .ok (.aload_n 0, 1) := dk_42 (dk_at dksX5_ticks_4 5 rfl rfl)
theorem dX5_ticks_100 : decode cX5_ticks 100 = .ok (.getfield 19, 3) := dk_180 0 19 (dk_at dksX5_ticks_4 6 rfl rfl)
theorem dX5_ticks_103 : decode cX5_ticks 103 = .ok (.ifCond .ne 7, 3) := dk_154 0 7 (dk_at dksX5_ticks_4 9 rfl rfl)
theorem dX5_ticks_106 : decode cX5_ticks 106 = .ok (.iconst 1, 1) := dk_4 (dk_at dksX5_ticks_4 12 rfl rfl)
theorem dX5_ticks_107 : decode cX5_ticks 107 = .ok (.goto 4, 3) := dk_167 0 4 (dk_at dksX5_ticks_4 13 rfl rfl)
theorem dX5_ticks_110 : decode cX5_ticks 110 = .ok (.iconst 0, 1) := dk_3 (dk_at dksX5_ticks_4 16 rfl rfl)
theorem dX5_ticks_111 : decode cX5_ticks 111 = .ok (.ireturn, 1) := dk_172 (dk_at dksX5_ticks_4 17 rfl rfl)
theorem dX5_ticks_112 : decode cX5_ticks 112 = .ok (.iconst 0, 1) := dk_3 (dk_at dksX5_ticks_4 18 rfl rfl)
theorem dX5_ticks_113 : decode cX5_ticks 113 = .ok (.ireturn, 1) := dk_172 (dk_at dksX5_ticks_4 19 rfl rfl)
theorem q110 : (Jvm.Cond.initialized "FlashBoard$Timer") ∈ lw_all := lw_g (lw_at lw_m1 5 rfl) rfl
theorem q161 : (Jvm.Cond.fieldLink "FlashBoard$Timer" (7 : Nat) "FlashBoard$Timer" "core" "LFlashBoard$Core;") ∈ lw_all := lw_g (lw_at lw_m1 56 rfl) rfl
theorem q162 : (Jvm.Cond.sameField "FlashBoard$Timer" "FlashBoard$Unit" "core" "LFlashBoard$Core;") ∈ lw_all := lw_g (lw_at lw_m1 57 rfl) rfl
theorem q180 : (Jvm.Cond.instantiable "FlashBoard$Timer" (2 : Nat)) ∈ lw_all := lw_g (lw_at lw_m1 75 rfl) rfl
theorem q182 : (Jvm.Cond.instanceMethod ({ cls := "FlashBoard$Timer", name := "<init>", desc := "(LFlashBoard$Core;)V" } : Jvm.MethodName)) ∈ lw_all := lw_g (lw_at lw_m1 77 rfl) rfl
theorem q183 : (Jvm.Cond.code ({ cls := "FlashBoard$Timer", name := "<init>", desc := "(LFlashBoard$Core;)V" } : Jvm.MethodName) prog_9_method_1_code (2 : Nat) (Option.none : Option Jvm.ClassFile.FieldType)) ∈ lw_all := lw_g (lw_at lw_m1 78 rfl) rfl
theorem q184 : (Jvm.Cond.methodLink "FlashBoard$Timer" (1 : Nat) ({ cls := "FlashBoard$Unit", name := "<init>", desc := "(LFlashBoard$Core;)V" } : Jvm.MethodName)) ∈ lw_all := lw_g (lw_at lw_m1 79 rfl) rfl
theorem q185 : (Jvm.Cond.fieldLink "FlashBoard$Timer" (19 : Nat) "FlashBoard$Timer" "prescaler" "I") ∈ lw_all := lw_g (lw_at lw_m1 80 rfl) rfl
theorem q187 : (Jvm.Cond.lays "FlashBoard$Timer" "FlashBoard$Timer" "prescaler" "I") ∈ lw_all := lw_g (lw_at lw_m1 82 rfl) rfl
theorem q188 : (Jvm.Cond.soleField "FlashBoard$Timer" "prescaler") ∈ lw_all := lw_g (lw_at lw_m1 83 rfl) rfl
theorem q189 : (Jvm.Cond.laysFinal "FlashBoard$Timer" "FlashBoard$Unit" "core" "LFlashBoard$Core;") ∈ lw_all := lw_g (lw_at lw_m1 84 rfl) rfl
theorem q190 : (Jvm.Cond.superclass "FlashBoard$Timer" "FlashBoard$Unit") ∈ lw_all := lw_g (lw_at lw_m1 85 rfl) rfl
theorem q482 : (Jvm.Cond.selects "FlashBoard$Timer" ({ cls := "FlashBoard$Unit", name := "clear", desc := "()V" } : Jvm.MethodName) ({ cls := "FlashBoard$Timer", name := "clear", desc := "()V" } : Jvm.MethodName)) ∈ lw_all := lw_g (lw_at lw_m2 137 rfl) rfl
theorem q483 : (Jvm.Cond.instanceMethod ({ cls := "FlashBoard$Timer", name := "clear", desc := "()V" } : Jvm.MethodName)) ∈ lw_all := lw_g (lw_at lw_m2 138 rfl) rfl
theorem q484 : (Jvm.Cond.code ({ cls := "FlashBoard$Timer", name := "clear", desc := "()V" } : Jvm.MethodName) prog_9_method_5_code (1 : Nat) (Option.none : Option Jvm.ClassFile.FieldType)) ∈ lw_all := lw_g (lw_at lw_m2 139 rfl) rfl
theorem q490 : (Jvm.Cond.fieldLinkNest "FlashBoard$Timer" (13 : Nat) "FlashBoard$Core" "data" "[I" "FlashBoard") ∈ lw_tbl := lw_at lw_m2 145 rfl
theorem q635 : (Jvm.Cond.selects "FlashBoard$Timer" ({ cls := "FlashBoard$Unit", name := "store", desc := "(II)V" } : Jvm.MethodName) ({ cls := "FlashBoard$Timer", name := "store", desc := "(II)V" } : Jvm.MethodName)) ∈ lw_all := lw_g (lw_at lw_m3 50 rfl) rfl
theorem q636 : (Jvm.Cond.instanceMethod ({ cls := "FlashBoard$Timer", name := "store", desc := "(II)V" } : Jvm.MethodName)) ∈ lw_all := lw_g (lw_at lw_m3 51 rfl) rfl
theorem q637 : (Jvm.Cond.code ({ cls := "FlashBoard$Timer", name := "store", desc := "(II)V" } : Jvm.MethodName) prog_9_method_2_code (3 : Nat) (Option.none : Option Jvm.ClassFile.FieldType)) ∈ lw_all := lw_g (lw_at lw_m3 52 rfl) rfl
theorem q747 : (Jvm.Cond.selects "FlashBoard$Timer" ({ cls := "FlashBoard$Unit", name := "load", desc := "(I)I" } : Jvm.MethodName) ({ cls := "FlashBoard$Unit", name := "load", desc := "(I)I" } : Jvm.MethodName)) ∈ lw_all := lw_g (lw_at lw_m3 162 rfl) rfl
theorem q847 : (Jvm.Cond.instanceMethod ({ cls := "FlashBoard$Timer", name := "cycle", desc := "()V" } : Jvm.MethodName)) ∈ lw_all := lw_g (lw_at lw_m4 22 rfl) rfl
theorem q848 : (Jvm.Cond.selects "FlashBoard$Timer" ({ cls := "FlashBoard$Timer", name := "cycle", desc := "()V" } : Jvm.MethodName) ({ cls := "FlashBoard$Timer", name := "cycle", desc := "()V" } : Jvm.MethodName)) ∈ lw_all := lw_g (lw_at lw_m4 23 rfl) rfl
theorem q849 : (Jvm.Cond.code ({ cls := "FlashBoard$Timer", name := "cycle", desc := "()V" } : Jvm.MethodName) prog_9_method_4_code (2 : Nat) (Option.none : Option Jvm.ClassFile.FieldType)) ∈ lw_all := lw_g (lw_at lw_m4 24 rfl) rfl
theorem q850 : (Jvm.Cond.methodLink "FlashBoard$Timer" (23 : Nat) ({ cls := "FlashBoard$Timer", name := "ticks", desc := "()Z" } : Jvm.MethodName)) ∈ lw_all := lw_g (lw_at lw_m4 25 rfl) rfl
theorem q851 : (Jvm.Cond.privateMethod ({ cls := "FlashBoard$Timer", name := "ticks", desc := "()Z" } : Jvm.MethodName)) ∈ lw_tbl := lw_at lw_m4 26 rfl
theorem q852 : (Jvm.Cond.instanceMethod ({ cls := "FlashBoard$Timer", name := "ticks", desc := "()Z" } : Jvm.MethodName)) ∈ lw_all := lw_g (lw_at lw_m4 27 rfl) rfl
theorem q853 : (Jvm.Cond.code ({ cls := "FlashBoard$Timer", name := "ticks", desc := "()Z" } : Jvm.MethodName) prog_9_method_3_code (1 : Nat) (Option.some Jvm.ClassFile.FieldType.boolean)) ∈ lw_all := lw_g (lw_at lw_m4 28 rfl) rfl
theorem q1641 : (Jvm.Cond.castable "FlashBoard$Timer" "java/lang/Object") ∈ lw_tbl := lw_at lw_m7 96 rfl
theorem q1656 : (Jvm.Cond.castable "FlashBoard$Timer" "FlashBoard$Unit") ∈ lw_tbl := lw_at lw_m7 111 rfl
theorem in_X5 : ∀ w ∈ wsX50, w ∈ lw_all := lw_in wsX50 [189, 187] (by decide +kernel) (by decide +kernel)

/-! FlashBoard$Line -/
set_option maxRecDepth 100000
def RX6 : String := "FlashBoard$Line"
def TX6 : u_T := fun k => match k with
  | 0 => ("FlashBoard$Unit", "core", "LFlashBoard$Core;", true)
  | 1 => ("FlashBoard$Line", "next", "I", false)
  | 2 => ("FlashBoard$Line", "sent", "I", false)
  | 3 => ("FlashBoard$Line", "sending", "I", false)
  | 4 => ("FlashBoard$Line", "comes", "I", false)
  | 5 => ("FlashBoard$Line", "coming", "I", false)
  | 6 => ("FlashBoard$Line", "first", "I", false)
  | 7 => ("FlashBoard$Line", "second", "I", false)
  | 8 => ("FlashBoard$Line", "received", "I", false)
  | 9 => ("FlashBoard$Line", "isLost", "Z", false)
  | 10 => ("FlashBoard$Line", "isAllSent", "Z", false)
  | 11 => ("FlashBoard$Line", "isFast", "Z", false)
  | 12 => ("FlashBoard$Line", "waiting", "[I", true)
  | 13 => ("FlashBoard$Line", "kept", "[I", true)
  | 14 => ("FlashBoard$Line", "from", "I", false)
  | 15 => ("FlashBoard$Line", "many", "I", false)
  | _ => ("FlashBoard$Line", "had", "I", false)
def tyX6 : Nat → FieldType := fun k => match k with
  | 0 => .object "FlashBoard$Core"
  | 1 => .int
  | 2 => .int
  | 3 => .int
  | 4 => .int
  | 5 => .int
  | 6 => .int
  | 7 => .int
  | 8 => .int
  | 9 => .boolean
  | 10 => .boolean
  | 11 => .boolean
  | 12 => .array .int
  | 13 => .array .int
  | 14 => .int
  | 15 => .int
  | _ => .int
abbrev wsX60 : List Cond := u_ws RX6 TX6 17
set_option maxRecDepth 100000 in
theorem nmX6 : ∀ a, a < 17 → ∀ b, b < 17 → a ≠ b → (TX6 a).2.1 ≠ (TX6 b).2.1 := by decide +kernel
set_option maxRecDepth 100000 in
theorem tyX6_ok : ∀ k, k < 17 → parseFieldDescriptor (TX6 k).2.2.1 = some (tyX6 k) := by decide +kernel
abbrev cX6_init : ByteArray := prog_7_method_1_code
def yX6_init : MethodName := ⟨RX6, "<init>", "(LFlashBoard$Core;)V"⟩
def dkwX6_init_1 : List UInt8 := [188, 10, 181, 0, 19, 177]
abbrev dktX6_init_1 : List UInt8 := dkwX6_init_1 ++ []
def dkwX6_init_0 : List UInt8 := [42, 43, 183, 0, 3, 42, 2, 181, 0, 9, 42, 17, 1, 44, 188, 10, 181, 0, 15, 42, 17, 3, 232]
abbrev dktX6_init_0 : List UInt8 := dkwX6_init_0 ++ dktX6_init_1
theorem dksX6_init_0 : cX6_init.data.toList.drop 0 = dktX6_init_0 := by decide +kernel
theorem dksX6_init_1 : cX6_init.data.toList.drop 23 = dktX6_init_1 := dk_seg dksX6_init_0 23 rfl rfl
theorem dX6_init_0 : decode cX6_init 0 = .ok (.aload_n 0, 1) := dk_42 (dk_at dksX6_init_0 0 rfl rfl)
theorem dX6_init_1 : decode cX6_init 1 = .ok (.aload_n 1, 1) := dk_43 (dk_at dksX6_init_0 1 rfl rfl)
theorem dX6_init_2 : decode cX6_init 2 = .ok (.invokespecial 3, 3) := dk_183 0 3 (dk_at dksX6_init_0 2 rfl rfl)
theorem dX6_init_5 : decode cX6_init 5 = .ok (.aload_n 0, 1) := dk_42 (dk_at dksX6_init_0 5 rfl rfl)
theorem dX6_init_6 : decode cX6_init 6 = .ok (.iconst (-1), 1) := dk_2 (dk_at dksX6_init_0 6 rfl rfl)
theorem dX6_init_7 : decode cX6_init 7 = .ok (.putfield 9, 3) := dk_181 0 9 (dk_at dksX6_init_0 7 rfl rfl)
theorem dX6_init_10 : decode cX6_init 10 = .ok (.aload_n 0, 1) := dk_42 (dk_at dksX6_init_0 10 rfl rfl)
theorem dX6_init_11 : decode cX6_init 11 = .ok (.sipush 300, 3) := dk_17 1 44 (dk_at dksX6_init_0 11 rfl rfl)
theorem dX6_init_14 : decode cX6_init 14 = .ok (.newarray .int, 2) := dk_188_10 (dk_at dksX6_init_0 14 rfl rfl)
theorem dX6_init_16 : decode cX6_init 16 = .ok (.putfield 15, 3) := dk_181 0 15 (dk_at dksX6_init_0 16 rfl rfl)
theorem dX6_init_19 : decode cX6_init 19 = .ok (.aload_n 0, 1) := dk_42 (dk_at dksX6_init_0 19 rfl rfl)
theorem dX6_init_20 : decode cX6_init 20 = .ok (.sipush 1000, 3) := dk_17 3 232 (dk_at dksX6_init_0 20 rfl rfl)
theorem dX6_init_23 : decode cX6_init 23 = .ok (.newarray .int, 2) := dk_188_10 (dk_at dksX6_init_1 0 rfl rfl)
theorem dX6_init_25 : decode cX6_init 25 = .ok (.putfield 19, 3) := dk_181 0 19 (dk_at dksX6_init_1 2 rfl rfl)
theorem dX6_init_28 : decode cX6_init 28 = .ok (.return_, 1) := dk_177 (dk_at dksX6_init_1 5 rfl rfl)
abbrev cX6_clear : ByteArray := prog_7_method_9_code
def yX6_clear : MethodName := ⟨RX6, "clear", "()V"⟩
def dkwX6_clear_1 : List UInt8 := [181, 0, 35, 42, 3, 181, 0, 39, 42, 3, 181, 0, 42, 177]
abbrev dktX6_clear_1 : List UInt8 := dkwX6_clear_1 ++ []
def dkwX6_clear_0 : List UInt8 := [42, 2, 181, 0, 9, 42, 3, 181, 0, 54, 42, 3, 181, 0, 70, 42, 3, 181, 0, 26, 42, 3]
abbrev dktX6_clear_0 : List UInt8 := dkwX6_clear_0 ++ dktX6_clear_1
theorem dksX6_clear_0 : cX6_clear.data.toList.drop 0 = dktX6_clear_0 := by decide +kernel
theorem dksX6_clear_1 : cX6_clear.data.toList.drop 22 = dktX6_clear_1 := dk_seg dksX6_clear_0 22 rfl rfl
theorem dX6_clear_0 : decode cX6_clear 0 = .ok (.aload_n 0, 1) := dk_42 (dk_at dksX6_clear_0 0 rfl rfl)
theorem dX6_clear_1 : decode cX6_clear 1 = .ok (.iconst (-1), 1) := dk_2 (dk_at dksX6_clear_0 1 rfl rfl)
theorem dX6_clear_2 : decode cX6_clear 2 = .ok (.putfield 9, 3) := dk_181 0 9 (dk_at dksX6_clear_0 2 rfl rfl)
theorem dX6_clear_5 : decode cX6_clear 5 = .ok (.aload_n 0, 1) := dk_42 (dk_at dksX6_clear_0 5 rfl rfl)
theorem dX6_clear_6 : decode cX6_clear 6 = .ok (.iconst 0, 1) := dk_3 (dk_at dksX6_clear_0 6 rfl rfl)
theorem dX6_clear_7 : decode cX6_clear 7 = .ok (.putfield 54, 3) := dk_181 0 54 (dk_at dksX6_clear_0 7 rfl rfl)
theorem dX6_clear_10 : decode cX6_clear 10 = .ok (.aload_n 0, 1) := dk_42 (dk_at dksX6_clear_0 10 rfl rfl)
theorem dX6_clear_11 : decode cX6_clear 11 = .ok (.iconst 0, 1) := dk_3 (dk_at dksX6_clear_0 11 rfl rfl)
theorem dX6_clear_12 : decode cX6_clear 12 = .ok (.putfield 70, 3) := dk_181 0 70 (dk_at dksX6_clear_0 12 rfl rfl)
theorem dX6_clear_15 : decode cX6_clear 15 = .ok (.aload_n 0, 1) := dk_42 (dk_at dksX6_clear_0 15 rfl rfl)
theorem dX6_clear_16 : decode cX6_clear 16 = .ok (.iconst 0, 1) := dk_3 (dk_at dksX6_clear_0 16 rfl rfl)
theorem dX6_clear_17 : decode cX6_clear 17 = .ok (.putfield 26, 3) := dk_181 0 26 (dk_at dksX6_clear_0 17 rfl rfl)
theorem dX6_clear_20 : decode cX6_clear 20 = .ok (.aload_n 0, 1) := dk_42 (dk_at dksX6_clear_0 20 rfl rfl)
theorem dX6_clear_21 : decode cX6_clear 21 = .ok (.iconst 0, 1) := dk_3 (dk_at dksX6_clear_0 21 rfl rfl)
theorem dX6_clear_22 : decode cX6_clear 22 = .ok (.putfield 35, 3) := dk_181 0 35 (dk_at dksX6_clear_1 0 rfl rfl)
theorem dX6_clear_25 : decode cX6_clear 25 = .ok (.aload_n 0, 1) := dk_42 (dk_at dksX6_clear_1 3 rfl rfl)
theorem dX6_clear_26 : decode cX6_clear 26 = .ok (.iconst 0, 1) := dk_3 (dk_at dksX6_clear_1 4 rfl rfl)
theorem dX6_clear_27 : decode cX6_clear 27 = .ok (.putfield 39, 3) := dk_181 0 39 (dk_at dksX6_clear_1 5 rfl rfl)
theorem dX6_clear_30 : decode cX6_clear 30 = .ok (.aload_n 0, 1) := dk_42 (dk_at dksX6_clear_1 8 rfl rfl)
theorem dX6_clear_31 : decode cX6_clear 31 = .ok (.iconst 0, 1) := dk_3 (dk_at dksX6_clear_1 9 rfl rfl)
theorem dX6_clear_32 : decode cX6_clear 32 = .ok (.putfield 42, 3) := dk_181 0 42 (dk_at dksX6_clear_1 10 rfl rfl)
theorem dX6_clear_35 : decode cX6_clear 35 = .ok (.return_, 1) := dk_177 (dk_at dksX6_clear_1 13 rfl rfl)
abbrev cX6_state : ByteArray := prog_7_method_3_code
def yX6_state : MethodName := ⟨RX6, "state", "()I"⟩
def dkwX6_state_2 : List UInt8 := [153, 0, 8, 16, 8, 167, 0, 4, 3, 128, 42, 180, 0, 42, 153, 0, 7, 5, 167, 0, 4, 3, 128, 172]
abbrev dktX6_state_2 : List UInt8 := dkwX6_state_2 ++ []
def dkwX6_state_1 : List UInt8 := [167, 0, 4, 3, 128, 42, 180, 0, 9, 156, 0, 8, 16, 32, 167, 0, 4, 3, 128, 42, 180, 0, 35]
abbrev dktX6_state_1 : List UInt8 := dkwX6_state_1 ++ dktX6_state_2
def dkwX6_state_0 : List UInt8 := [42, 180, 0, 26, 158, 0, 9, 17, 0, 128, 167, 0, 4, 3, 42, 180, 0, 39, 153, 0, 8, 16, 64]
abbrev dktX6_state_0 : List UInt8 := dkwX6_state_0 ++ dktX6_state_1
theorem dksX6_state_0 : cX6_state.data.toList.drop 0 = dktX6_state_0 := by decide +kernel
theorem dksX6_state_1 : cX6_state.data.toList.drop 23 = dktX6_state_1 := dk_seg dksX6_state_0 23 rfl rfl
theorem dksX6_state_2 : cX6_state.data.toList.drop 46 = dktX6_state_2 := dk_seg dksX6_state_1 23 rfl rfl
theorem dX6_state_0 : decode cX6_state 0 = .ok (.aload_n 0, 1) := dk_42 (dk_at dksX6_state_0 0 rfl rfl)
theorem dX6_state_1 : decode cX6_state 1 = .ok (.getfield 26, 3) := dk_180 0 26 (dk_at dksX6_state_0 1 rfl rfl)
theorem dX6_state_4 : decode cX6_state 4 = .ok (.ifCond .le 9, 3) := dk_158 0 9 (dk_at dksX6_state_0 4 rfl rfl)
theorem dX6_state_7 : decode cX6_state 7 = .ok (.sipush 128, 3) := dk_17 0 128 (dk_at dksX6_state_0 7 rfl rfl)
theorem dX6_state_10 : decode cX6_state 10 = .ok (.goto 4, 3) := dk_167 0 4 (dk_at dksX6_state_0 10 rfl rfl)
theorem dX6_state_13 : decode cX6_state 13 = .ok (.iconst 0, 1) := dk_3 (dk_at dksX6_state_0 13 rfl rfl)
theorem dX6_state_14 : decode cX6_state 14 = .ok (.aload_n 0, 1) := dk_42 (dk_at dksX6_state_0 14 rfl rfl)
theorem dX6_state_15 : decode cX6_state 15 = .ok (.getfield 39, 3) := dk_180 0 39 (dk_at dksX6_state_0 15 rfl rfl)
theorem dX6_state_18 : decode cX6_state 18 = .ok (.ifCond .eq 8, 3) := dk_153 0 8 (dk_at dksX6_state_0 18 rfl rfl)
theorem dX6_state_21 : decode cX6_state 21 = .ok (.bipush 64, 2) := dk_16 64 (dk_at dksX6_state_0 21 rfl rfl)
theorem dX6_state_23 : decode cX6_state 23 = .ok (.goto 4, 3) := dk_167 0 4 (dk_at dksX6_state_1 0 rfl rfl)
theorem dX6_state_26 : decode cX6_state 26 = .ok (.iconst 0, 1) := dk_3 (dk_at dksX6_state_1 3 rfl rfl)
theorem dX6_state_27 : decode cX6_state 27 = .ok (.ior, 1) := dk_128 (dk_at dksX6_state_1 4 rfl rfl)
theorem dX6_state_28 : decode cX6_state 28 = .ok (.aload_n 0, 1) := dk_42 (dk_at dksX6_state_1 5 rfl rfl)
theorem dX6_state_29 : decode cX6_state 29 = .ok (.getfield 9, 3) := dk_180 0 9 (dk_at dksX6_state_1 6 rfl rfl)
theorem dX6_state_32 : decode cX6_state 32 = .ok (.ifCond .ge 8, 3) := dk_156 0 8 (dk_at dksX6_state_1 9 rfl rfl)
theorem dX6_state_35 : decode cX6_state 35 = .ok (.bipush 32, 2) := dk_16 32 (dk_at dksX6_state_1 12 rfl rfl)
theorem dX6_state_37 : decode cX6_state 37 = .ok (.goto 4, 3) := dk_167 0 4 (dk_at dksX6_state_1 14 rfl rfl)
theorem dX6_state_40 : decode cX6_state 40 = .ok (.iconst 0, 1) := dk_3 (dk_at dksX6_state_1 17 rfl rfl)
theorem dX6_state_41 : decode cX6_state 41 = .ok (.ior, 1) := dk_128 (dk_at dksX6_state_1 18 rfl rfl)
theorem dX6_state_42 : decode cX6_state 42 = .ok (.aload_n 0, 1) := dk_42 (dk_at dksX6_state_1 19 rfl rfl)
theorem dX6_state_43 : decode cX6_state 43 = .ok (.getfield 35, 3) := dk_180 0 35 (dk_at dksX6_state_1 20 rfl rfl)
theorem dX6_state_46 : decode cX6_state 46 = .ok (.ifCond .eq 8, 3) := dk_153 0 8 (dk_at dksX6_state_2 0 rfl rfl)
theorem dX6_state_49 : decode cX6_state 49 = .ok (.bipush 8, 2) := dk_16 8 (dk_at dksX6_state_2 3 rfl rfl)
theorem dX6_state_51 : decode cX6_state 51 = .ok (.goto 4, 3) := dk_167 0 4 (dk_at dksX6_state_2 5 rfl rfl)
theorem dX6_state_54 : decode cX6_state 54 = .ok (.iconst 0, 1) := dk_3 (dk_at dksX6_state_2 8 rfl rfl)
theorem dX6_state_55 : decode cX6_state 55 = .ok (.ior, 1) := dk_128 (dk_at dksX6_state_2 9 rfl rfl)
theorem dX6_state_56 : decode cX6_state 56 = .ok (.aload_n 0, 1) := dk_42 (dk_at dksX6_state_2 10 rfl rfl)
theorem dX6_state_57 : decode cX6_state 57 = .ok (.getfield 42, 3) := dk_180 0 42 (dk_at dksX6_state_2 11 rfl rfl)
theorem dX6_state_60 : decode cX6_state 60 = .ok (.ifCond .eq 7, 3) := dk_153 0 7 (dk_at dksX6_state_2 14 rfl rfl)
theorem dX6_state_63 : decode cX6_state 63 = .ok (.iconst 2, 1) := dk_5 (dk_at dksX6_state_2 17 rfl rfl)
theorem dX6_state_64 : decode cX6_state 64 = .ok (.goto 4, 3) := dk_167 0 4 (dk_at dksX6_state_2 18 rfl rfl)
theorem dX6_state_67 : decode cX6_state 67 = .ok (.iconst 0, 1) := dk_3 (dk_at dksX6_state_2 21 rfl rfl)
theorem dX6_state_68 : decode cX6_state 68 = .ok (.ior, 1) := dk_128 (dk_at dksX6_state_2 22 rfl rfl)
theorem dX6_state_69 : decode cX6_state 69 = .ok (.ireturn, 1) := dk_172 (dk_at dksX6_state_2 23 rfl rfl)
abbrev cX6_store : ByteArray := prog_7_method_4_code
def yX6_store : MethodName := ⟨RX6, "store", "(II)V"⟩
def dkwX6_store_4 : List UInt8 := [156, 0, 8, 42, 28, 181, 0, 9, 177]
abbrev dktX6_store_4 : List UInt8 := dkwX6_store_4 ++ []
def dkwX6_store_3 : List UInt8 := [167, 0, 32, 42, 180, 0, 45, 180, 0, 49, 17, 0, 193, 46, 16, 8, 126, 153, 0, 15, 42, 180, 0, 9]
abbrev dktX6_store_3 : List UInt8 := dkwX6_store_3 ++ dktX6_store_4
def dkwX6_store_2 : List UInt8 := [180, 0, 45, 180, 0, 49, 17, 0, 193, 28, 79, 28, 16, 8, 126, 154, 0, 40, 42, 2, 181, 0, 9]
abbrev dktX6_store_2 : List UInt8 := dkwX6_store_2 ++ dktX6_store_3
def dkwX6_store_1 : List UInt8 := [16, 64, 126, 153, 0, 74, 42, 3, 181, 0, 39, 167, 0, 66, 27, 17, 0, 193, 160, 0, 30, 42]
abbrev dktX6_store_1 : List UInt8 := dkwX6_store_1 ++ dktX6_store_2
def dkwX6_store_0 : List UInt8 := [27, 17, 0, 192, 160, 0, 33, 42, 28, 5, 126, 153, 0, 7, 4, 167, 0, 4, 3, 181, 0, 42, 28]
abbrev dktX6_store_0 : List UInt8 := dkwX6_store_0 ++ dktX6_store_1
theorem dksX6_store_0 : cX6_store.data.toList.drop 0 = dktX6_store_0 := by decide +kernel
theorem dksX6_store_1 : cX6_store.data.toList.drop 23 = dktX6_store_1 := dk_seg dksX6_store_0 23 rfl rfl
theorem dksX6_store_2 : cX6_store.data.toList.drop 45 = dktX6_store_2 := dk_seg dksX6_store_1 22 rfl rfl
theorem dksX6_store_3 : cX6_store.data.toList.drop 68 = dktX6_store_3 := dk_seg dksX6_store_2 23 rfl rfl
theorem dksX6_store_4 : cX6_store.data.toList.drop 92 = dktX6_store_4 := dk_seg dksX6_store_3 24 rfl rfl
theorem dX6_store_0 : decode cX6_store 0 = .ok (.iload_n 1, 1) := dk_27 (dk_at dksX6_store_0 0 rfl rfl)
theorem dX6_store_1 : decode cX6_store 1 = .ok (.sipush 192, 3) := dk_17 0 192 (dk_at dksX6_store_0 1 rfl rfl)
theorem dX6_store_4 : decode cX6_store 4 = .ok (.if_icmp .ne 33, 3) := dk_160 0 33 (dk_at dksX6_store_0 4 rfl rfl)
theorem dX6_store_7 : decode cX6_store 7 = .ok (.aload_n 0, 1) := dk_42 (dk_at dksX6_store_0 7 rfl rfl)
theorem dX6_store_8 : decode cX6_store 8 = .ok (.iload_n 2, 1) := dk_28 (dk_at dksX6_store_0 8 rfl rfl)
theorem dX6_store_9 : decode cX6_store 9 = .ok (.iconst 2, 1) := dk_5 (dk_at dksX6_store_0 9 rfl rfl)
theorem dX6_store_10 : decode cX6_store 10 = .ok (.iand, 1) := dk_126 (dk_at dksX6_store_0 10 rfl rfl)
theorem dX6_store_11 : decode cX6_store 11 = .ok (.ifCond .eq 7, 3) := dk_153 0 7 (dk_at dksX6_store_0 11 rfl rfl)
theorem dX6_store_14 : decode cX6_store 14 = .ok (.iconst 1, 1) := dk_4 (dk_at dksX6_store_0 14 rfl rfl)
theorem dX6_store_15 : decode cX6_store 15 = .ok (.goto 4, 3) := dk_167 0 4 (dk_at dksX6_store_0 15 rfl rfl)
theorem dX6_store_18 : decode cX6_store 18 = .ok (.iconst 0, 1) := dk_3 (dk_at dksX6_store_0 18 rfl rfl)
theorem dX6_store_19 : decode cX6_store 19 = .ok (.putfield 42, 3) := dk_181 0 42 (dk_at dksX6_store_0 19 rfl rfl)
theorem dX6_store_22 : decode cX6_store 22 = .ok (.iload_n 2, 1) := dk_28 (dk_at dksX6_store_0 22 rfl rfl)
theorem dX6_store_23 : decode cX6_store 23 = .ok (.bipush 64, 2) := dk_16 64 (dk_at dksX6_store_1 0 rfl rfl)
theorem dX6_store_25 : decode cX6_store 25 = .ok (.iand, 1) := dk_126 (dk_at dksX6_store_1 2 rfl rfl)
theorem dX6_store_26 : decode cX6_store 26 = .ok (.ifCond .eq 74, 3) := dk_153 0 74 (dk_at dksX6_store_1 3 rfl rfl)
theorem dX6_store_29 : decode cX6_store 29 = .ok (.aload_n 0, 1) := dk_42 (dk_at dksX6_store_1 6 rfl rfl)
theorem dX6_store_30 : decode cX6_store 30 = .ok (.iconst 0, 1) := dk_3 (dk_at dksX6_store_1 7 rfl rfl)
theorem dX6_store_31 : decode cX6_store 31 = .ok (.putfield 39, 3) := dk_181 0 39 (dk_at dksX6_store_1 8 rfl rfl)
theorem dX6_store_34 : decode cX6_store 34 = .ok (.goto 66, 3) := dk_167 0 66 (dk_at dksX6_store_1 11 rfl rfl)
theorem dX6_store_37 : decode cX6_store 37 = .ok (.iload_n 1, 1) := dk_27 (dk_at dksX6_store_1 14 rfl rfl)
theorem dX6_store_38 : decode cX6_store 38 = .ok (.sipush 193, 3) := dk_17 0 193 (dk_at dksX6_store_1 15 rfl rfl)
theorem dX6_store_41 : decode cX6_store 41 = .ok (.if_icmp .ne 30, 3) := dk_160 0 30 (dk_at dksX6_store_1 18 rfl rfl)
theorem dX6_store_44 : decode cX6_store 44 = .ok (.aload_n 0, 1) := dk_42 (dk_at dksX6_store_1 21 rfl rfl)
theorem dX6_store_45 : decode cX6_store 45 = .ok (.getfield 45, 3) := dk_180 0 45 (dk_at dksX6_store_2 0 rfl rfl)
theorem dX6_store_48 : decode cX6_store 48 = .ok (.getfield 49, 3) := dk_180 0 49 (dk_at dksX6_store_2 3 rfl rfl)
theorem dX6_store_51 : decode cX6_store 51 = .ok (.sipush 193, 3) := dk_17 0 193 (dk_at dksX6_store_2 6 rfl rfl)
theorem dX6_store_54 : decode cX6_store 54 = .ok (.iload_n 2, 1) := dk_28 (dk_at dksX6_store_2 9 rfl rfl)
theorem dX6_store_55 : decode cX6_store 55 = .ok (.iastore, 1) := dk_79 (dk_at dksX6_store_2 10 rfl rfl)
theorem dX6_store_56 : decode cX6_store 56 = .ok (.iload_n 2, 1) := dk_28 (dk_at dksX6_store_2 11 rfl rfl)
theorem dX6_store_57 : decode cX6_store 57 = .ok (.bipush 8, 2) := dk_16 8 (dk_at dksX6_store_2 12 rfl rfl)
theorem dX6_store_59 : decode cX6_store 59 = .ok (.iand, 1) := dk_126 (dk_at dksX6_store_2 14 rfl rfl)
theorem dX6_store_60 : decode cX6_store 60 = .ok (.ifCond .ne 40, 3) := dk_154 0 40 (dk_at dksX6_store_2 15 rfl rfl)
theorem dX6_store_63 : decode cX6_store 63 = .ok (.aload_n 0, 1) := dk_42 (dk_at dksX6_store_2 18 rfl rfl)
theorem dX6_store_64 : decode cX6_store 64 = .ok (.iconst (-1), 1) := dk_2 (dk_at dksX6_store_2 19 rfl rfl)
theorem dX6_store_65 : decode cX6_store 65 = .ok (.putfield 9, 3) := dk_181 0 9 (dk_at dksX6_store_2 20 rfl rfl)
theorem dX6_store_68 : decode cX6_store 68 = .ok (.goto 32, 3) := dk_167 0 32 (dk_at dksX6_store_3 0 rfl rfl)
theorem dX6_store_71 : decode cX6_store 71 = .ok (.aload_n 0, 1) := dk_42 (dk_at dksX6_store_3 3 rfl rfl)
theorem dX6_store_72 : decode cX6_store 72 = .ok (.getfield 45, 3) := dk_180 0 45 (dk_at dksX6_store_3 4 rfl rfl)
theorem dX6_store_75 : decode cX6_store 75 = .ok (.getfield 49, 3) := dk_180 0 49 (dk_at dksX6_store_3 7 rfl rfl)
theorem dX6_store_78 : decode cX6_store 78 = .ok (.sipush 193, 3) := dk_17 0 193 (dk_at dksX6_store_3 10 rfl rfl)
theorem dX6_store_81 : decode cX6_store 81 = .ok (.iaload, 1) := dk_46 (dk_at dksX6_store_3 13 rfl rfl)
theorem dX6_store_82 : decode cX6_store 82 = .ok (.bipush 8, 2) := dk_16 8 (dk_at dksX6_store_3 14 rfl rfl)
theorem dX6_store_84 : decode cX6_store 84 = .ok (.iand, 1) := dk_126 (dk_at dksX6_store_3 16 rfl rfl)
theorem dX6_store_85 : decode cX6_store 85 = .ok (.ifCond .eq 15, 3) := dk_153 0 15 (dk_at dksX6_store_3 17 rfl rfl)
theorem dX6_store_88 : decode cX6_store 88 = .ok (.aload_n 0, 1) := dk_42 (dk_at dksX6_store_3 20 rfl rfl)
theorem dX6_store_89 : decode cX6_store 89 = .ok (.getfield 9, 3) := dk_180 0 9 (dk_at dksX6_store_3 21 rfl rfl)
theorem dX6_store_92 : decode cX6_store 92 = .ok (.ifCond .ge 8, 3) := dk_156 0 8 (dk_at dksX6_store_4 0 rfl rfl)
theorem dX6_store_95 : decode cX6_store 95 = .ok (.aload_n 0, 1) := dk_42 (dk_at dksX6_store_4 3 rfl rfl)
theorem dX6_store_96 : decode cX6_store 96 = .ok (.iload_n 2, 1) := dk_28 (dk_at dksX6_store_4 4 rfl rfl)
theorem dX6_store_97 : decode cX6_store 97 = .ok (.putfield 9, 3) := dk_181 0 9 (dk_at dksX6_store_4 5 rfl rfl)
theorem dX6_store_100 : decode cX6_store 100 = .ok (.return_, 1) := dk_177 (dk_at dksX6_store_4 8 rfl rfl)
abbrev cX6_load : ByteArray := prog_7_method_2_code
def yX6_load : MethodName := ⟨RX6, "load", "(I)I"⟩
def dkwX6_load_2 : List UInt8 := [89, 180, 0, 26, 4, 100, 181, 0, 26, 42, 3, 181, 0, 35, 28, 172]
abbrev dktX6_load_2 : List UInt8 := dkwX6_load_2 ++ []
def dkwX6_load_1 : List UInt8 := [180, 0, 29, 167, 0, 4, 3, 61, 42, 180, 0, 26, 158, 0, 21, 42, 42, 180, 0, 32, 181, 0, 29, 42]
abbrev dktX6_load_1 : List UInt8 := dkwX6_load_1 ++ dktX6_load_2
def dkwX6_load_0 : List UInt8 := [42, 182, 0, 22, 61, 27, 17, 0, 192, 160, 0, 5, 28, 172, 42, 180, 0, 26, 158, 0, 10, 42]
abbrev dktX6_load_0 : List UInt8 := dkwX6_load_0 ++ dktX6_load_1
theorem dksX6_load_0 : cX6_load.data.toList.drop 0 = dktX6_load_0 := by decide +kernel
theorem dksX6_load_1 : cX6_load.data.toList.drop 22 = dktX6_load_1 := dk_seg dksX6_load_0 22 rfl rfl
theorem dksX6_load_2 : cX6_load.data.toList.drop 46 = dktX6_load_2 := dk_seg dksX6_load_1 24 rfl rfl
theorem dX6_load_0 : decode cX6_load 0 = .ok (.aload_n 0, 1) := dk_42 (dk_at dksX6_load_0 0 rfl rfl)
theorem dX6_load_1 : decode cX6_load 1 = .ok (.invokevirtual 22, 3) := dk_182 0 22 (dk_at dksX6_load_0 1 rfl rfl)
theorem dX6_load_4 : decode cX6_load 4 = .ok (.istore_n 2, 1) := dk_61 (dk_at dksX6_load_0 4 rfl rfl)
theorem dX6_load_5 : decode cX6_load 5 = .ok (.iload_n 1, 1) := dk_27 (dk_at dksX6_load_0 5 rfl rfl)
theorem dX6_load_6 : decode cX6_load 6 = .ok (.sipush 192, 3) := dk_17 0 192 (dk_at dksX6_load_0 6 rfl rfl)
theorem dX6_load_9 : decode cX6_load 9 = .ok (.if_icmp .ne 5, 3) := dk_160 0 5 (dk_at dksX6_load_0 9 rfl rfl)
theorem dX6_load_12 : decode cX6_load 12 = .ok (.iload_n 2, 1) := dk_28 (dk_at dksX6_load_0 12 rfl rfl)
theorem dX6_load_13 : decode cX6_load 13 = .ok (.ireturn, 1) := dk_172 (dk_at dksX6_load_0 13 rfl rfl)
theorem dX6_load_14 : decode cX6_load 14 = .ok (.aload_n 0, 1) := dk_42 (dk_at dksX6_load_0 14 rfl rfl)
theorem dX6_load_15 : decode cX6_load 15 = .ok (.getfield 26, 3) := dk_180 0 26 (dk_at dksX6_load_0 15 rfl rfl)
theorem dX6_load_18 : decode cX6_load 18 = .ok (.ifCond .le 10, 3) := dk_158 0 10 (dk_at dksX6_load_0 18 rfl rfl)
theorem dX6_load_21 : decode cX6_load 21 = .ok (.aload_n 0, 1) := dk_42 (dk_at dksX6_load_0 21 rfl rfl)
theorem dX6_load_22 : decode cX6_load 22 = .ok (.getfield 29, 3) := dk_180 0 29 (dk_at dksX6_load_1 0 rfl rfl)
theorem dX6_load_25 : decode cX6_load 25 = .ok (.goto 4, 3) := dk_167 0 4 (dk_at dksX6_load_1 3 rfl rfl)
theorem dX6_load_28 : decode cX6_load 28 = .ok (.iconst 0, 1) := dk_3 (dk_at dksX6_load_1 6 rfl rfl)
theorem dX6_load_29 : decode cX6_load 29 = .ok (.istore_n 2, 1) := dk_61 (dk_at dksX6_load_1 7 rfl rfl)
theorem dX6_load_30 : decode cX6_load 30 = .ok (.aload_n 0, 1) := dk_42 (dk_at dksX6_load_1 8 rfl rfl)
theorem dX6_load_31 : decode cX6_load 31 = .ok (.getfield 26, 3) := dk_180 0 26 (dk_at dksX6_load_1 9 rfl rfl)
theorem dX6_load_34 : decode cX6_load 34 = .ok (.ifCond .le 21, 3) := dk_158 0 21 (dk_at dksX6_load_1 12 rfl rfl)
theorem dX6_load_37 : decode cX6_load 37 = .ok (.aload_n 0, 1) := dk_42 (dk_at dksX6_load_1 15 rfl rfl)
theorem dX6_load_38 : decode cX6_load 38 = .ok (.aload_n 0, 1) := dk_42 (dk_at dksX6_load_1 16 rfl rfl)
theorem dX6_load_39 : decode cX6_load 39 = .ok (.getfield 32, 3) := dk_180 0 32 (dk_at dksX6_load_1 17 rfl rfl)
theorem dX6_load_42 : decode cX6_load 42 = .ok (.putfield 29, 3) := dk_181 0 29 (dk_at dksX6_load_1 20 rfl rfl)
theorem dX6_load_45 : decode cX6_load 45 = .ok (.aload_n 0, 1) := dk_42 (dk_at dksX6_load_1 23 rfl rfl)
theorem dX6_load_46 : decode cX6_load 46 = .ok (.dup, 1) := dk_89 (dk_at dksX6_load_2 0 rfl rfl)
theorem dX6_load_47 : decode cX6_load 47 = .ok (.getfield 26, 3) := dk_180 0 26 (dk_at dksX6_load_2 1 rfl rfl)
theorem dX6_load_50 : decode cX6_load 50 = .ok (.iconst 1, 1) := dk_4 (dk_at dksX6_load_2 4 rfl rfl)
theorem dX6_load_51 : decode cX6_load 51 = .ok (.isub, 1) := dk_100 (dk_at dksX6_load_2 5 rfl rfl)
theorem dX6_load_52 : decode cX6_load 52 = .ok (.putfield 26, 3) := dk_181 0 26 (dk_at dksX6_load_2 6 rfl rfl)
theorem dX6_load_55 : decode cX6_load 55 = .ok (.aload_n 0, 1) := dk_42 (dk_at dksX6_load_2 9 rfl rfl)
theorem dX6_load_56 : decode cX6_load 56 = .ok (.iconst 0, 1) := dk_3 (dk_at dksX6_load_2 10 rfl rfl)
theorem dX6_load_57 : decode cX6_load 57 = .ok (.putfield 35, 3) := dk_181 0 35 (dk_at dksX6_load_2 11 rfl rfl)
theorem dX6_load_60 : decode cX6_load 60 = .ok (.iload_n 2, 1) := dk_28 (dk_at dksX6_load_2 14 rfl rfl)
theorem dX6_load_61 : decode cX6_load 61 = .ok (.ireturn, 1) := dk_172 (dk_at dksX6_load_2 15 rfl rfl)
abbrev cX6_cycle : ByteArray := prog_7_method_6_code
def yX6_cycle : MethodName := ⟨RX6, "cycle", "()V"⟩
def dkwX6_cycle_4 : List UInt8 := [156, 0, 8, 42, 4, 181, 0, 39, 42, 182, 0, 66, 177]
abbrev dktX6_cycle_4 : List UInt8 := dkwX6_cycle_4 ++ []
def dkwX6_cycle_3 : List UInt8 := [180, 0, 63, 42, 180, 0, 57, 79, 42, 89, 180, 0, 63, 4, 96, 181, 0, 63, 42, 180, 0, 9]
abbrev dktX6_cycle_3 : List UInt8 := dkwX6_cycle_3 ++ dktX6_cycle_4
def dkwX6_cycle_2 : List UInt8 := [42, 180, 0, 54, 154, 0, 48, 42, 180, 0, 63, 17, 3, 232, 162, 0, 16, 42, 180, 0, 19, 42]
abbrev dktX6_cycle_2 : List UInt8 := dkwX6_cycle_2 ++ dktX6_cycle_3
def dkwX6_cycle_1 : List UInt8 := [181, 0, 9, 42, 42, 182, 0, 60, 181, 0, 54, 167, 0, 65, 42, 89, 180, 0, 54, 4, 100, 181, 0, 54]
abbrev dktX6_cycle_1 : List UInt8 := dkwX6_cycle_1 ++ dktX6_cycle_2
def dkwX6_cycle_0 : List UInt8 := [42, 180, 0, 54, 154, 0, 34, 42, 180, 0, 9, 155, 0, 89, 42, 42, 180, 0, 9, 181, 0, 57, 42, 2]
abbrev dktX6_cycle_0 : List UInt8 := dkwX6_cycle_0 ++ dktX6_cycle_1
theorem dksX6_cycle_0 : cX6_cycle.data.toList.drop 0 = dktX6_cycle_0 := by decide +kernel
theorem dksX6_cycle_1 : cX6_cycle.data.toList.drop 24 = dktX6_cycle_1 := dk_seg dksX6_cycle_0 24 rfl rfl
theorem dksX6_cycle_2 : cX6_cycle.data.toList.drop 48 = dktX6_cycle_2 := dk_seg dksX6_cycle_1 24 rfl rfl
theorem dksX6_cycle_3 : cX6_cycle.data.toList.drop 70 = dktX6_cycle_3 := dk_seg dksX6_cycle_2 22 rfl rfl
theorem dksX6_cycle_4 : cX6_cycle.data.toList.drop 92 = dktX6_cycle_4 := dk_seg dksX6_cycle_3 22 rfl rfl
theorem dX6_cycle_0 : decode cX6_cycle 0 = .ok (.aload_n 0, 1) := dk_42 (dk_at dksX6_cycle_0 0 rfl rfl)
theorem dX6_cycle_1 : decode cX6_cycle 1 = .ok (.getfield 54, 3) := dk_180 0 54 (dk_at dksX6_cycle_0 1 rfl rfl)
theorem dX6_cycle_4 : decode cX6_cycle 4 = .ok (.ifCond .ne 34, 3) := dk_154 0 34 (dk_at dksX6_cycle_0 4 rfl rfl)
theorem dX6_cycle_7 : decode cX6_cycle 7 = .ok (.aload_n 0, 1) := dk_42 (dk_at dksX6_cycle_0 7 rfl rfl)
theorem dX6_cycle_8 : decode cX6_cycle 8 = .ok (.getfield 9, 3) := dk_180 0 9 (dk_at dksX6_cycle_0 8 rfl rfl)
theorem dX6_cycle_11 : decode cX6_cycle 11 = .ok (.ifCond .lt 89, 3) := dk_155 0 89 (dk_at dksX6_cycle_0 11 rfl rfl)
theorem dX6_cycle_14 : decode cX6_cycle 14 = .ok (.aload_n 0, 1) := dk_42 (dk_at dksX6_cycle_0 14 rfl rfl)
theorem dX6_cycle_15 : decode cX6_cycle 15 = .ok (.aload_n 0, 1) := dk_42 (dk_at dksX6_cycle_0 15 rfl rfl)
theorem dX6_cycle_16 : decode cX6_cycle 16 = .ok (.getfield 9, 3) := dk_180 0 9 (dk_at dksX6_cycle_0 16 rfl rfl)
theorem dX6_cycle_19 : decode cX6_cycle 19 = .ok (.putfield 57, 3) := dk_181 0 57 (dk_at dksX6_cycle_0 19 rfl rfl)
theorem dX6_cycle_22 : decode cX6_cycle 22 = .ok (.aload_n 0, 1) := dk_42 (dk_at dksX6_cycle_0 22 rfl rfl)
theorem dX6_cycle_23 : decode cX6_cycle 23 = .ok (.iconst (-1), 1) := dk_2 (dk_at dksX6_cycle_0 23 rfl rfl)
theorem dX6_cycle_24 : decode cX6_cycle 24 = .ok (.putfield 9, 3) := dk_181 0 9 (dk_at dksX6_cycle_1 0 rfl rfl)
theorem dX6_cycle_27 : decode cX6_cycle 27 = .ok (.aload_n 0, 1) := dk_42 (dk_at dksX6_cycle_1 3 rfl rfl)
theorem dX6_cycle_28 : decode cX6_cycle 28 = .ok (.aload_n 0, 1) := dk_42 (dk_at dksX6_cycle_1 4 rfl rfl)
theorem dX6_cycle_29 : decode cX6_cycle 29 = .ok (.invokevirtual 60, 3) := dk_182 0 60 (dk_at dksX6_cycle_1 5 rfl rfl)
theorem dX6_cycle_32 : decode cX6_cycle 32 = .ok (.putfield 54, 3) := dk_181 0 54 (dk_at dksX6_cycle_1 8 rfl rfl)
theorem dX6_cycle_35 : decode cX6_cycle 35 = .ok (.goto 65, 3) := dk_167 0 65 (dk_at dksX6_cycle_1 11 rfl rfl)
theorem dX6_cycle_38 : decode cX6_cycle 38 = .ok (.aload_n 0, 1) := dk_42 (dk_at dksX6_cycle_1 14 rfl rfl)
theorem dX6_cycle_39 : decode cX6_cycle 39 = .ok (.dup, 1) := dk_89 (dk_at dksX6_cycle_1 15 rfl rfl)
theorem dX6_cycle_40 : decode cX6_cycle 40 = .ok (.getfield 54, 3) := dk_180 0 54 (dk_at dksX6_cycle_1 16 rfl rfl)
theorem dX6_cycle_43 : decode cX6_cycle 43 = .ok (.iconst 1, 1) := dk_4 (dk_at dksX6_cycle_1 19 rfl rfl)
theorem dX6_cycle_44 : decode cX6_cycle 44 = .ok (.isub, 1) := dk_100 (dk_at dksX6_cycle_1 20 rfl rfl)
theorem dX6_cycle_45 : decode cX6_cycle 45 = .ok (.putfield 54, 3) := dk_181 0 54 (dk_at dksX6_cycle_1 21 rfl rfl)
theorem dX6_cycle_48 : decode cX6_cycle 48 = .ok (.aload_n 0, 1) := dk_42 (dk_at dksX6_cycle_2 0 rfl rfl)
theorem dX6_cycle_49 : decode cX6_cycle 49 = .ok (.getfield 54, 3) := dk_180 0 54 (dk_at dksX6_cycle_2 1 rfl rfl)
theorem dX6_cycle_52 : decode cX6_cycle 52 = .ok (.ifCond .ne 48, 3) := dk_154 0 48 (dk_at dksX6_cycle_2 4 rfl rfl)
theorem dX6_cycle_55 : decode cX6_cycle 55 = .ok (.aload_n 0, 1) := dk_42 (dk_at dksX6_cycle_2 7 rfl rfl)
theorem dX6_cycle_56 : decode cX6_cycle 56 = .ok (.getfield 63, 3) := dk_180 0 63 (dk_at dksX6_cycle_2 8 rfl rfl)
theorem dX6_cycle_59 : decode cX6_cycle 59 = .ok (.sipush 1000, 3) := dk_17 3 232 (dk_at dksX6_cycle_2 11 rfl rfl)
theorem dX6_cycle_62 : decode cX6_cycle 62 = .ok (.if_icmp .ge 16, 3) := dk_162 0 16 (dk_at dksX6_cycle_2 14 rfl rfl)
theorem dX6_cycle_65 : decode cX6_cycle 65 = .ok (.aload_n 0, 1) := dk_42 (dk_at dksX6_cycle_2 17 rfl rfl)
theorem dX6_cycle_66 : decode cX6_cycle 66 = .ok (.getfield 19, 3) := dk_180 0 19 (dk_at dksX6_cycle_2 18 rfl rfl)
theorem dX6_cycle_69 : decode cX6_cycle 69 = .ok (.aload_n 0, 1) := dk_42 (dk_at dksX6_cycle_2 21 rfl rfl)
theorem dX6_cycle_70 : decode cX6_cycle 70 = .ok (.getfield 63, 3) := dk_180 0 63 (dk_at dksX6_cycle_3 0 rfl rfl)
theorem dX6_cycle_73 : decode cX6_cycle 73 = .ok (.aload_n 0, 1) := dk_42 (dk_at dksX6_cycle_3 3 rfl rfl)
theorem dX6_cycle_74 : decode cX6_cycle 74 = .ok (.getfield 57, 3) := dk_180 0 57 (dk_at dksX6_cycle_3 4 rfl rfl)
theorem dX6_cycle_77 : decode cX6_cycle 77 = .ok (.iastore, 1) := dk_79 (dk_at dksX6_cycle_3 7 rfl rfl)
theorem dX6_cycle_78 : decode cX6_cycle 78 = .ok (.aload_n 0, 1) := dk_42 (dk_at dksX6_cycle_3 8 rfl rfl)
theorem dX6_cycle_79 : decode cX6_cycle 79 = .ok (.dup, 1) := dk_89 (dk_at dksX6_cycle_3 9 rfl rfl)
theorem dX6_cycle_80 : decode cX6_cycle 80 = .ok (.getfield 63, 3) := dk_180 0 63 (dk_at dksX6_cycle_3 10 rfl rfl)
theorem dX6_cycle_83 : decode cX6_cycle 83 = .ok (.iconst 1, 1) := dk_4 (dk_at dksX6_cycle_3 13 rfl rfl)
theorem dX6_cycle_84 : decode cX6_cycle 84 = .ok (.iadd, 1) := dk_96 (dk_at dksX6_cycle_3 14 rfl rfl)
theorem dX6_cycle_85 : decode cX6_cycle 85 = .ok (.putfield 63, 3) := dk_181 0 63 (dk_at dksX6_cycle_3 15 rfl rfl)
theorem dX6_cycle_88 : decode cX6_cycle 88 = .ok (.aload_n 0, 1) := dk_42 (dk_at dksX6_cycle_3 18 rfl rfl)
theorem dX6_cycle_89 : decode cX6_cycle 89 = .ok (.getfield 9, 3) := dk_180 0 9 (dk_at dksX6_cycle_3 19 rfl rfl)
theorem dX6_cycle_92 : decode cX6_cycle 92 = .ok (.ifCond .ge 8, 3) := dk_156 0 8 (dk_at dksX6_cycle_4 0 rfl rfl)
theorem dX6_cycle_95 : decode cX6_cycle 95 = .ok (.aload_n 0, 1) := dk_42 (dk_at dksX6_cycle_4 3 rfl rfl)
theorem dX6_cycle_96 : decode cX6_cycle 96 = .ok (.iconst 1, 1) := dk_4 (dk_at dksX6_cycle_4 4 rfl rfl)
theorem dX6_cycle_97 : decode cX6_cycle 97 = .ok (.putfield 39, 3) := dk_181 0 39 (dk_at dksX6_cycle_4 5 rfl rfl)
theorem dX6_cycle_100 : decode cX6_cycle 100 = .ok (.aload_n 0, 1) := dk_42 (dk_at dksX6_cycle_4 8 rfl rfl)
theorem dX6_cycle_101 : decode cX6_cycle 101 = .ok (.invokevirtual 66, 3) := dk_182 0 66 (dk_at dksX6_cycle_4 9 rfl rfl)
theorem dX6_cycle_104 : decode cX6_cycle 104 = .ok (.return_, 1) := dk_177 (dk_at dksX6_cycle_4 12 rfl rfl)
abbrev cX6_frame : ByteArray := prog_7_method_5_code
def yX6_frame : MethodName := ⟨RX6, "frame", "()I"⟩
def dkwX6_frame_2 : List UInt8 := [180, 0, 42, 153, 0, 8, 16, 80, 167, 0, 6, 17, 0, 160, 96, 172]
abbrev dktX6_frame_2 : List UInt8 := dkwX6_frame_2 ++ []
def dkwX6_frame_1 : List UInt8 := [17, 0, 196, 46, 128, 42, 180, 0, 42, 153, 0, 8, 16, 80, 167, 0, 6, 17, 0, 160, 104, 42]
abbrev dktX6_frame_1 : List UInt8 := dkwX6_frame_1 ++ dktX6_frame_2
def dkwX6_frame_0 : List UInt8 := [42, 180, 0, 45, 180, 0, 49, 17, 0, 197, 46, 16, 15, 126, 16, 8, 120, 42, 180, 0, 45, 180, 0, 49]
abbrev dktX6_frame_0 : List UInt8 := dkwX6_frame_0 ++ dktX6_frame_1
theorem dksX6_frame_0 : cX6_frame.data.toList.drop 0 = dktX6_frame_0 := by decide +kernel
theorem dksX6_frame_1 : cX6_frame.data.toList.drop 24 = dktX6_frame_1 := dk_seg dksX6_frame_0 24 rfl rfl
theorem dksX6_frame_2 : cX6_frame.data.toList.drop 46 = dktX6_frame_2 := dk_seg dksX6_frame_1 22 rfl rfl
theorem dX6_frame_0 : decode cX6_frame 0 = .ok (.aload_n 0, 1) := dk_42 (dk_at dksX6_frame_0 0 rfl rfl)
theorem dX6_frame_1 : decode cX6_frame 1 = .ok (.getfield 45, 3) := dk_180 0 45 (dk_at dksX6_frame_0 1 rfl rfl)
theorem dX6_frame_4 : decode cX6_frame 4 = .ok (.getfield 49, 3) := dk_180 0 49 (dk_at dksX6_frame_0 4 rfl rfl)
theorem dX6_frame_7 : decode cX6_frame 7 = .ok (.sipush 197, 3) := dk_17 0 197 (dk_at dksX6_frame_0 7 rfl rfl)
theorem dX6_frame_10 : decode cX6_frame 10 = .ok (.iaload, 1) := dk_46 (dk_at dksX6_frame_0 10 rfl rfl)
theorem dX6_frame_11 : decode cX6_frame 11 = .ok (.bipush 15, 2) := dk_16 15 (dk_at dksX6_frame_0 11 rfl rfl)
theorem dX6_frame_13 : decode cX6_frame 13 = .ok (.iand, 1) := dk_126 (dk_at dksX6_frame_0 13 rfl rfl)
theorem dX6_frame_14 : decode cX6_frame 14 = .ok (.bipush 8, 2) := dk_16 8 (dk_at dksX6_frame_0 14 rfl rfl)
theorem dX6_frame_16 : decode cX6_frame 16 = .ok (.ishl, 1) := dk_120 (dk_at dksX6_frame_0 16 rfl rfl)
theorem dX6_frame_17 : decode cX6_frame 17 = .ok (.aload_n 0, 1) := dk_42 (dk_at dksX6_frame_0 17 rfl rfl)
theorem dX6_frame_18 : decode cX6_frame 18 = .ok (.getfield 45, 3) := dk_180 0 45 (dk_at dksX6_frame_0 18 rfl rfl)
theorem dX6_frame_21 : decode cX6_frame 21 = .ok (.getfield 49, 3) := dk_180 0 49 (dk_at dksX6_frame_0 21 rfl rfl)
theorem dX6_frame_24 : decode cX6_frame 24 = .ok (.sipush 196, 3) := dk_17 0 196 (dk_at dksX6_frame_1 0 rfl rfl)
theorem dX6_frame_27 : decode cX6_frame 27 = .ok (.iaload, 1) := dk_46 (dk_at dksX6_frame_1 3 rfl rfl)
theorem dX6_frame_28 : decode cX6_frame 28 = .ok (.ior, 1) := dk_128 (dk_at dksX6_frame_1 4 rfl rfl)
theorem dX6_frame_29 : decode cX6_frame 29 = .ok (.aload_n 0, 1) := dk_42 (dk_at dksX6_frame_1 5 rfl rfl)
theorem dX6_frame_30 : decode cX6_frame 30 = .ok (.getfield 42, 3) := dk_180 0 42 (dk_at dksX6_frame_1 6 rfl rfl)
theorem dX6_frame_33 : decode cX6_frame 33 = .ok (.ifCond .eq 8, 3) := dk_153 0 8 (dk_at dksX6_frame_1 9 rfl rfl)
theorem dX6_frame_36 : decode cX6_frame 36 = .ok (.bipush 80, 2) := dk_16 80 (dk_at dksX6_frame_1 12 rfl rfl)
theorem dX6_frame_38 : decode cX6_frame 38 = .ok (.goto 6, 3) := dk_167 0 6 (dk_at dksX6_frame_1 14 rfl rfl)
theorem dX6_frame_41 : decode cX6_frame 41 = .ok (.sipush 160, 3) := dk_17 0 160 (dk_at dksX6_frame_1 17 rfl rfl)
theorem dX6_frame_44 : decode cX6_frame 44 = .ok (.imul, 1) := dk_104 (dk_at dksX6_frame_1 20 rfl rfl)
theorem dX6_frame_45 : decode cX6_frame 45 = .ok (.aload_n 0, 1) := dk_42 (dk_at dksX6_frame_1 21 rfl rfl)
theorem dX6_frame_46 : decode cX6_frame 46 = .ok (.getfield 42, 3) := dk_180 0 42 (dk_at dksX6_frame_2 0 rfl rfl)
theorem dX6_frame_49 : decode cX6_frame 49 = .ok (.ifCond .eq 8, 3) := dk_153 0 8 (dk_at dksX6_frame_2 3 rfl rfl)
theorem dX6_frame_52 : decode cX6_frame 52 = .ok (.bipush 80, 2) := dk_16 80 (dk_at dksX6_frame_2 6 rfl rfl)
theorem dX6_frame_54 : decode cX6_frame 54 = .ok (.goto 6, 3) := dk_167 0 6 (dk_at dksX6_frame_2 8 rfl rfl)
theorem dX6_frame_57 : decode cX6_frame 57 = .ok (.sipush 160, 3) := dk_17 0 160 (dk_at dksX6_frame_2 11 rfl rfl)
theorem dX6_frame_60 : decode cX6_frame 60 = .ok (.iadd, 1) := dk_96 (dk_at dksX6_frame_2 14 rfl rfl)
theorem dX6_frame_61 : decode cX6_frame 61 = .ok (.ireturn, 1) := dk_172 (dk_at dksX6_frame_2 15 rfl rfl)
abbrev cX6_receive : ByteArray := prog_7_method_7_code
def yX6_receive : MethodName := ⟨RX6, "receive", "()V"⟩
def dkwX6_receive_6 : List UInt8 := [96, 181, 0, 26, 177]
abbrev dktX6_receive_6 : List UInt8 := dkwX6_receive_6 ++ []
def dkwX6_receive_5 : List UInt8 := [42, 180, 0, 79, 181, 0, 29, 167, 0, 11, 42, 42, 180, 0, 79, 181, 0, 32, 42, 89, 180, 0, 26, 4]
abbrev dktX6_receive_5 : List UInt8 := dkwX6_receive_5 ++ dktX6_receive_6
def dkwX6_receive_4 : List UInt8 := [42, 180, 0, 26, 5, 160, 0, 11, 42, 4, 181, 0, 35, 167, 0, 39, 42, 180, 0, 26, 154, 0, 14, 42]
abbrev dktX6_receive_4 : List UInt8 := dkwX6_receive_4 ++ dktX6_receive_5
def dkwX6_receive_3 : List UInt8 := [180, 0, 70, 157, 0, 20, 42, 180, 0, 45, 180, 0, 49, 17, 0, 193, 46, 16, 16, 126, 154, 0, 4, 177]
abbrev dktX6_receive_3 : List UInt8 := dkwX6_receive_3 ++ dktX6_receive_4
def dkwX6_receive_2 : List UInt8 := [100, 181, 0, 73, 42, 42, 182, 0, 60, 181, 0, 70, 177, 42, 89, 180, 0, 70, 4, 100, 181, 0, 70, 42]
abbrev dktX6_receive_2 : List UInt8 := dkwX6_receive_2 ++ dktX6_receive_3
def dkwX6_receive_1 : List UInt8 := [46, 181, 0, 79, 42, 42, 180, 0, 76, 4, 96, 17, 1, 44, 112, 181, 0, 76, 42, 89, 180, 0, 73, 4]
abbrev dktX6_receive_1 : List UInt8 := dkwX6_receive_1 ++ dktX6_receive_2
def dkwX6_receive_0 : List UInt8 := [42, 180, 0, 70, 154, 0, 57, 42, 180, 0, 73, 154, 0, 4, 177, 42, 42, 180, 0, 15, 42, 180, 0, 76]
abbrev dktX6_receive_0 : List UInt8 := dkwX6_receive_0 ++ dktX6_receive_1
theorem dksX6_receive_0 : cX6_receive.data.toList.drop 0 = dktX6_receive_0 := by decide +kernel
theorem dksX6_receive_1 : cX6_receive.data.toList.drop 24 = dktX6_receive_1 := dk_seg dksX6_receive_0 24 rfl rfl
theorem dksX6_receive_2 : cX6_receive.data.toList.drop 48 = dktX6_receive_2 := dk_seg dksX6_receive_1 24 rfl rfl
theorem dksX6_receive_3 : cX6_receive.data.toList.drop 72 = dktX6_receive_3 := dk_seg dksX6_receive_2 24 rfl rfl
theorem dksX6_receive_4 : cX6_receive.data.toList.drop 96 = dktX6_receive_4 := dk_seg dksX6_receive_3 24 rfl rfl
theorem dksX6_receive_5 : cX6_receive.data.toList.drop 120 = dktX6_receive_5 := dk_seg dksX6_receive_4 24 rfl rfl
theorem dksX6_receive_6 : cX6_receive.data.toList.drop 144 = dktX6_receive_6 := dk_seg dksX6_receive_5 24 rfl rfl
theorem dX6_receive_0 : decode cX6_receive 0 = .ok (.aload_n 0, 1) := dk_42 (dk_at dksX6_receive_0 0 rfl rfl)
theorem dX6_receive_1 : decode cX6_receive 1 = .ok (.getfield 70, 3) := dk_180 0 70 (dk_at dksX6_receive_0 1 rfl rfl)
theorem dX6_receive_4 : decode cX6_receive 4 = .ok (.ifCond .ne 57, 3) := dk_154 0 57 (dk_at dksX6_receive_0 4 rfl rfl)
theorem dX6_receive_7 : decode cX6_receive 7 = .ok (.aload_n 0, 1) := dk_42 (dk_at dksX6_receive_0 7 rfl rfl)
theorem dX6_receive_8 : decode cX6_receive 8 = .ok (.getfield 73, 3) := dk_180 0 73 (dk_at dksX6_receive_0 8 rfl rfl)
theorem dX6_receive_11 : decode cX6_receive 11 = .ok (.ifCond .ne 4, 3) := dk_154 0 4 (dk_at dksX6_receive_0 11 rfl rfl)
theorem dX6_receive_14 : decode cX6_receive 14 = .ok (.return_, 1) := dk_177 (dk_at dksX6_receive_0 14 rfl rfl)
theorem dX6_receive_15 : decode cX6_receive 15 = .ok (.aload_n 0, 1) := dk_42 (dk_at dksX6_receive_0 15 rfl rfl)
theorem dX6_receive_16 : decode cX6_receive 16 = .ok (.aload_n 0, 1) := dk_42 (dk_at dksX6_receive_0 16 rfl rfl)
theorem dX6_receive_17 : decode cX6_receive 17 = .ok (.getfield 15, 3) := dk_180 0 15 (dk_at dksX6_receive_0 17 rfl rfl)
theorem dX6_receive_20 : decode cX6_receive 20 = .ok (.aload_n 0, 1) := dk_42 (dk_at dksX6_receive_0 20 rfl rfl)
theorem dX6_receive_21 : decode cX6_receive 21 = .ok (.getfield 76, 3) := dk_180 0 76 (dk_at dksX6_receive_0 21 rfl rfl)
theorem dX6_receive_24 : decode cX6_receive 24 = .ok (.iaload, 1) := dk_46 (dk_at dksX6_receive_1 0 rfl rfl)
theorem dX6_receive_25 : decode cX6_receive 25 = .ok (.putfield 79, 3) := dk_181 0 79 (dk_at dksX6_receive_1 1 rfl rfl)
theorem dX6_receive_28 : decode cX6_receive 28 = .ok (.aload_n 0, 1) := dk_42 (dk_at dksX6_receive_1 4 rfl rfl)
theorem dX6_receive_29 : decode cX6_receive 29 = .ok (.aload_n 0, 1) := dk_42 (dk_at dksX6_receive_1 5 rfl rfl)
theorem dX6_receive_30 : decode cX6_receive 30 = .ok (.getfield 76, 3) := dk_180 0 76 (dk_at dksX6_receive_1 6 rfl rfl)
theorem dX6_receive_33 : decode cX6_receive 33 = .ok (.iconst 1, 1) := dk_4 (dk_at dksX6_receive_1 9 rfl rfl)
theorem dX6_receive_34 : decode cX6_receive 34 = .ok (.iadd, 1) := dk_96 (dk_at dksX6_receive_1 10 rfl rfl)
theorem dX6_receive_35 : decode cX6_receive 35 = .ok (.sipush 300, 3) := dk_17 1 44 (dk_at dksX6_receive_1 11 rfl rfl)
theorem dX6_receive_38 : decode cX6_receive 38 = .ok (.irem, 1) := dk_112 (dk_at dksX6_receive_1 14 rfl rfl)
theorem dX6_receive_39 : decode cX6_receive 39 = .ok (.putfield 76, 3) := dk_181 0 76 (dk_at dksX6_receive_1 15 rfl rfl)
theorem dX6_receive_42 : decode cX6_receive 42 = .ok (.aload_n 0, 1) := dk_42 (dk_at dksX6_receive_1 18 rfl rfl)
theorem dX6_receive_43 : decode cX6_receive 43 = .ok (.dup, 1) := dk_89 (dk_at dksX6_receive_1 19 rfl rfl)
theorem dX6_receive_44 : decode cX6_receive 44 = .ok (.getfield 73, 3) := dk_180 0 73 (dk_at dksX6_receive_1 20 rfl rfl)
theorem dX6_receive_47 : decode cX6_receive 47 = .ok (.iconst 1, 1) := dk_4 (dk_at dksX6_receive_1 23 rfl rfl)
theorem dX6_receive_48 : decode cX6_receive 48 = .ok (.isub, 1) := dk_100 (dk_at dksX6_receive_2 0 rfl rfl)
theorem dX6_receive_49 : decode cX6_receive 49 = .ok (.putfield 73, 3) := dk_181 0 73 (dk_at dksX6_receive_2 1 rfl rfl)
theorem dX6_receive_52 : decode cX6_receive 52 = .ok (.aload_n 0, 1) := dk_42 (dk_at dksX6_receive_2 4 rfl rfl)
theorem dX6_receive_53 : decode cX6_receive 53 = .ok (.aload_n 0, 1) := dk_42 (dk_at dksX6_receive_2 5 rfl rfl)
theorem dX6_receive_54 : decode cX6_receive 54 = .ok (.invokevirtual 60, 3) := dk_182 0 60 (dk_at dksX6_receive_2 6 rfl rfl)
theorem dX6_receive_57 : decode cX6_receive 57 = .ok (.putfield 70, 3) := dk_181 0 70 (dk_at dksX6_receive_2 9 rfl rfl)
theorem dX6_receive_60 : decode cX6_receive 60 = .ok (.return_, 1) := dk_177 (dk_at dksX6_receive_2 12 rfl rfl)
theorem dX6_receive_61 : decode cX6_receive 61 = .ok (.aload_n 0, 1) := dk_42 (dk_at dksX6_receive_2 13 rfl rfl)
theorem dX6_receive_62 : decode cX6_receive 62 = .ok (.dup, 1) := dk_89 (dk_at dksX6_receive_2 14 rfl rfl)
theorem dX6_receive_63 : decode cX6_receive 63 = .ok (.getfield 70, 3) := dk_180 0 70 (dk_at dksX6_receive_2 15 rfl rfl)
theorem dX6_receive_66 : decode cX6_receive 66 = .ok (.iconst 1, 1) := dk_4 (dk_at dksX6_receive_2 18 rfl rfl)
theorem dX6_receive_67 : decode cX6_receive 67 = .ok (.isub, 1) := dk_100 (dk_at dksX6_receive_2 19 rfl rfl)
theorem dX6_receive_68 : decode cX6_receive 68 = .ok (.putfield 70, 3) := dk_181 0 70 (dk_at dksX6_receive_2 20 rfl rfl)
theorem dX6_receive_71 : decode cX6_receive 71 = .ok (.aload_n 0, 1) := dk_42 (dk_at dksX6_receive_2 23 rfl rfl)
theorem dX6_receive_72 : decode cX6_receive 72 = .ok (.getfield 70, 3) := dk_180 0 70 (dk_at dksX6_receive_3 0 rfl rfl)
theorem dX6_receive_75 : decode cX6_receive 75 = .ok (.ifCond .gt 20, 3) := dk_157 0 20 (dk_at dksX6_receive_3 3 rfl rfl)
theorem dX6_receive_78 : decode cX6_receive 78 = .ok (.aload_n 0, 1) := dk_42 (dk_at dksX6_receive_3 6 rfl rfl)
theorem dX6_receive_79 : decode cX6_receive 79 = .ok (.getfield 45, 3) := dk_180 0 45 (dk_at dksX6_receive_3 7 rfl rfl)
theorem dX6_receive_82 : decode cX6_receive 82 = .ok (.getfield 49, 3) := dk_180 0 49 (dk_at dksX6_receive_3 10 rfl rfl)
theorem dX6_receive_85 : decode cX6_receive 85 = .ok (.sipush 193, 3) := dk_17 0 193 (dk_at dksX6_receive_3 13 rfl rfl)
theorem dX6_receive_88 : decode cX6_receive 88 = .ok (.iaload, 1) := dk_46 (dk_at dksX6_receive_3 16 rfl rfl)
theorem dX6_receive_89 : decode cX6_receive 89 = .ok (.bipush 16, 2) := dk_16 16 (dk_at dksX6_receive_3 17 rfl rfl)
theorem dX6_receive_91 : decode cX6_receive 91 = .ok (.iand, 1) := dk_126 (dk_at dksX6_receive_3 19 rfl rfl)
theorem dX6_receive_92 : decode cX6_receive 92 = .ok (.ifCond .ne 4, 3) := dk_154 0 4 (dk_at dksX6_receive_3 20 rfl rfl)
theorem dX6_receive_95 : decode cX6_receive 95 = .ok (.return_, 1) := dk_177 (dk_at dksX6_receive_3 23 rfl rfl)
theorem dX6_receive_96 : decode cX6_receive 96 = .ok (.aload_n 0, 1) := dk_42 (dk_at dksX6_receive_4 0 rfl rfl)
theorem dX6_receive_97 : decode cX6_receive 97 = .ok (.getfield 26, 3) := dk_180 0 26 (dk_at dksX6_receive_4 1 rfl rfl)
theorem dX6_receive_100 : decode cX6_receive 100 = .ok (.iconst 2, 1) := dk_5 (dk_at dksX6_receive_4 4 rfl rfl)
theorem dX6_receive_101 : decode cX6_receive 101 = .ok (.if_icmp .ne 11, 3) := dk_160 0 11 (dk_at dksX6_receive_4 5 rfl rfl)
theorem dX6_receive_104 : decode cX6_receive 104 = .ok (.aload_n 0, 1) := dk_42 (dk_at dksX6_receive_4 8 rfl rfl)
theorem dX6_receive_105 : decode cX6_receive 105 = .ok (.iconst 1, 1) := dk_4 (dk_at dksX6_receive_4 9 rfl rfl)
theorem dX6_receive_106 : decode cX6_receive 106 = .ok (.putfield 35, 3) := dk_181 0 35 (dk_at dksX6_receive_4 10 rfl rfl)
theorem dX6_receive_109 : decode cX6_receive 109 = .ok (.goto 39, 3) := dk_167 0 39 (dk_at dksX6_receive_4 13 rfl rfl)
theorem dX6_receive_112 : decode cX6_receive 112 = .ok (.aload_n 0, 1) := dk_42 (dk_at dksX6_receive_4 16 rfl rfl)
theorem dX6_receive_113 : decode cX6_receive 113 = .ok (.getfield 26, 3) := dk_180 0 26 (dk_at dksX6_receive_4 17 rfl rfl)
theorem dX6_receive_116 : decode cX6_receive 116 = .ok (.ifCond .ne 14, 3) := dk_154 0 14 (dk_at dksX6_receive_4 20 rfl rfl)
theorem dX6_receive_119 : decode cX6_receive 119 = .ok (.aload_n 0, 1) := dk_42 (dk_at dksX6_receive_4 23 rfl rfl)
theorem dX6_receive_120 : decode cX6_receive 120 = .ok (.aload_n 0, 1) := dk_42 (dk_at dksX6_receive_5 0 rfl rfl)
theorem dX6_receive_121 : decode cX6_receive 121 = .ok (.getfield 79, 3) := dk_180 0 79 (dk_at dksX6_receive_5 1 rfl rfl)
theorem dX6_receive_124 : decode cX6_receive 124 = .ok (.putfield 29, 3) := dk_181 0 29 (dk_at dksX6_receive_5 4 rfl rfl)
theorem dX6_receive_127 : decode cX6_receive 127 = .ok (.goto 11, 3) := dk_167 0 11 (dk_at dksX6_receive_5 7 rfl rfl)
theorem dX6_receive_130 : decode cX6_receive 130 = .ok (.aload_n 0, 1) := dk_42 (dk_at dksX6_receive_5 10 rfl rfl)
theorem dX6_receive_131 : decode cX6_receive 131 = .ok (.aload_n 0, 1) := dk_42 (dk_at dksX6_receive_5 11 rfl rfl)
theorem dX6_receive_132 : decode cX6_receive 132 = .ok (.getfield 79, 3) := dk_180 0 79 (dk_at dksX6_receive_5 12 rfl rfl)
theorem dX6_receive_135 : decode cX6_receive 135 = .ok (.putfield 32, 3) := dk_181 0 32 (dk_at dksX6_receive_5 15 rfl rfl)
theorem dX6_receive_138 : decode cX6_receive 138 = .ok (.aload_n 0, 1) := dk_42 (dk_at dksX6_receive_5 18 rfl rfl)
theorem dX6_receive_139 : decode cX6_receive 139 = .ok (.dup, 1) := dk_89 (dk_at dksX6_receive_5 19 rfl rfl)
theorem dX6_receive_140 : decode cX6_receive 140 = .ok (.getfield 26, 3) := dk_180 0 26 (dk_at dksX6_receive_5 20 rfl rfl)
theorem dX6_receive_143 : decode cX6_receive 143 = .ok (.iconst 1, 1) := dk_4 (dk_at dksX6_receive_5 23 rfl rfl)
theorem dX6_receive_144 : decode cX6_receive 144 = .ok (.iadd, 1) := dk_96 (dk_at dksX6_receive_6 0 rfl rfl)
theorem dX6_receive_145 : decode cX6_receive 145 = .ok (.putfield 26, 3) := dk_181 0 26 (dk_at dksX6_receive_6 1 rfl rfl)
theorem dX6_receive_148 : decode cX6_receive 148 = .ok (.return_, 1) := dk_177 (dk_at dksX6_receive_6 4 rfl rfl)
abbrev cX6_add : ByteArray := prog_7_method_8_code
def yX6_add : MethodName := ⟨RX6, "add", "(I)I"⟩
def dkwX6_add_2 : List UInt8 := [180, 0, 73, 172]
abbrev dktX6_add_2 : List UInt8 := dkwX6_add_2 ++ []
def dkwX6_add_1 : List UInt8 := [96, 17, 1, 44, 112, 27, 17, 0, 255, 126, 79, 42, 89, 180, 0, 73, 4, 96, 181, 0, 73, 42]
abbrev dktX6_add_1 : List UInt8 := dkwX6_add_1 ++ dktX6_add_2
def dkwX6_add_0 : List UInt8 := [42, 180, 0, 73, 17, 1, 44, 160, 0, 5, 2, 172, 42, 180, 0, 15, 42, 180, 0, 76, 42, 180, 0, 73]
abbrev dktX6_add_0 : List UInt8 := dkwX6_add_0 ++ dktX6_add_1
theorem dksX6_add_0 : cX6_add.data.toList.drop 0 = dktX6_add_0 := by decide +kernel
theorem dksX6_add_1 : cX6_add.data.toList.drop 24 = dktX6_add_1 := dk_seg dksX6_add_0 24 rfl rfl
theorem dksX6_add_2 : cX6_add.data.toList.drop 46 = dktX6_add_2 := dk_seg dksX6_add_1 22 rfl rfl
theorem dX6_add_0 : decode cX6_add 0 = .ok (.aload_n 0, 1) := dk_42 (dk_at dksX6_add_0 0 rfl rfl)
theorem dX6_add_1 : decode cX6_add 1 = .ok (.getfield 73, 3) := dk_180 0 73 (dk_at dksX6_add_0 1 rfl rfl)
theorem dX6_add_4 : decode cX6_add 4 = .ok (.sipush 300, 3) := dk_17 1 44 (dk_at dksX6_add_0 4 rfl rfl)
theorem dX6_add_7 : decode cX6_add 7 = .ok (.if_icmp .ne 5, 3) := dk_160 0 5 (dk_at dksX6_add_0 7 rfl rfl)
theorem dX6_add_10 : decode cX6_add 10 = .ok (.iconst (-1), 1) := dk_2 (dk_at dksX6_add_0 10 rfl rfl)
theorem dX6_add_11 : decode cX6_add 11 = .ok (.ireturn, 1) := dk_172 (dk_at dksX6_add_0 11 rfl rfl)
theorem dX6_add_12 : decode cX6_add 12 = .ok (.aload_n 0, 1) := dk_42 (dk_at dksX6_add_0 12 rfl rfl)
theorem dX6_add_13 : decode cX6_add 13 = .ok (.getfield 15, 3) := dk_180 0 15 (dk_at dksX6_add_0 13 rfl rfl)
theorem dX6_add_16 : decode cX6_add 16 = .ok (.aload_n 0, 1) := dk_42 (dk_at dksX6_add_0 16 rfl rfl)
theorem dX6_add_17 : decode cX6_add 17 = .ok (.getfield 76, 3) := dk_180 0 76 (dk_at dksX6_add_0 17 rfl rfl)
theorem dX6_add_20 : decode cX6_add 20 = .ok (.aload_n 0, 1) := dk_42 (dk_at dksX6_add_0 20 rfl rfl)
theorem dX6_add_21 : decode cX6_add 21 = .ok (.getfield 73, 3) := dk_180 0 73 (dk_at dksX6_add_0 21 rfl rfl)
theorem dX6_add_24 : decode cX6_add 24 = .ok (.iadd, 1) := dk_96 (dk_at dksX6_add_1 0 rfl rfl)
theorem dX6_add_25 : decode cX6_add 25 = .ok (.sipush 300, 3) := dk_17 1 44 (dk_at dksX6_add_1 1 rfl rfl)
theorem dX6_add_28 : decode cX6_add 28 = .ok (.irem, 1) := dk_112 (dk_at dksX6_add_1 4 rfl rfl)
theorem dX6_add_29 : decode cX6_add 29 = .ok (.iload_n 1, 1) := dk_27 (dk_at dksX6_add_1 5 rfl rfl)
theorem dX6_add_30 : decode cX6_add 30 = .ok (.sipush 255, 3) := dk_17 0 255 (dk_at dksX6_add_1 6 rfl rfl)
theorem dX6_add_33 : decode cX6_add 33 = .ok (.iand, 1) := dk_126 (dk_at dksX6_add_1 9 rfl rfl)
theorem dX6_add_34 : decode cX6_add 34 = .ok (.iastore, 1) := dk_79 (dk_at dksX6_add_1 10 rfl rfl)
theorem dX6_add_35 : decode cX6_add 35 = .ok (.aload_n 0, 1) := dk_42 (dk_at dksX6_add_1 11 rfl rfl)
theorem dX6_add_36 : decode cX6_add 36 = .ok (.dup, 1) := dk_89 (dk_at dksX6_add_1 12 rfl rfl)
theorem dX6_add_37 : decode cX6_add 37 = .ok (.getfield 73, 3) := dk_180 0 73 (dk_at dksX6_add_1 13 rfl rfl)
theorem dX6_add_40 : decode cX6_add 40 = .ok (.iconst 1, 1) := dk_4 (dk_at dksX6_add_1 16 rfl rfl)
theorem dX6_add_41 : decode cX6_add 41 = .ok (.iadd, 1) := dk_96 (dk_at dksX6_add_1 17 rfl rfl)
theorem dX6_add_42 : decode cX6_add 42 = .ok (.putfield 73, 3) := dk_181 0 73 (dk_at dksX6_add_1 18 rfl rfl)
theorem dX6_add_45 : decode cX6_add 45 = .ok (.aload_n 0, 1) := dk_42 (dk_at dksX6_add_1 21 rfl rfl)
theorem dX6_add_46 : decode cX6_add 46 = .ok (.getfield 73, 3) := dk_180 0 73 (dk_at dksX6_add_2 0 rfl rfl)
theorem dX6_add_49 : decode cX6_add 49 = .ok (.ireturn, 1) := dk_172 (dk_at dksX6_add_2 3 rfl rfl)
theorem q111 : (Jvm.Cond.initialized "FlashBoard$Line") ∈ lw_all := lw_g (lw_at lw_m1 6 rfl) rfl
theorem q171 : (Jvm.Cond.fieldLink "FlashBoard$Line" (45 : Nat) "FlashBoard$Line" "core" "LFlashBoard$Core;") ∈ lw_all := lw_g (lw_at lw_m1 66 rfl) rfl
theorem q172 : (Jvm.Cond.sameField "FlashBoard$Line" "FlashBoard$Unit" "core" "LFlashBoard$Core;") ∈ lw_all := lw_g (lw_at lw_m1 67 rfl) rfl
theorem q192 : (Jvm.Cond.instantiable "FlashBoard$Line" (17 : Nat)) ∈ lw_all := lw_g (lw_at lw_m1 87 rfl) rfl
theorem q194 : (Jvm.Cond.instanceMethod ({ cls := "FlashBoard$Line", name := "<init>", desc := "(LFlashBoard$Core;)V" } : Jvm.MethodName)) ∈ lw_all := lw_g (lw_at lw_m1 89 rfl) rfl
theorem q195 : (Jvm.Cond.code ({ cls := "FlashBoard$Line", name := "<init>", desc := "(LFlashBoard$Core;)V" } : Jvm.MethodName) prog_7_method_1_code (2 : Nat) (Option.none : Option Jvm.ClassFile.FieldType)) ∈ lw_all := lw_g (lw_at lw_m1 90 rfl) rfl
theorem q196 : (Jvm.Cond.methodLink "FlashBoard$Line" (3 : Nat) ({ cls := "FlashBoard$Unit", name := "<init>", desc := "(LFlashBoard$Core;)V" } : Jvm.MethodName)) ∈ lw_all := lw_g (lw_at lw_m1 91 rfl) rfl
theorem q197 : (Jvm.Cond.fieldLink "FlashBoard$Line" (9 : Nat) "FlashBoard$Line" "next" "I") ∈ lw_all := lw_g (lw_at lw_m1 92 rfl) rfl
theorem q198 : (Jvm.Cond.fieldLink "FlashBoard$Line" (57 : Nat) "FlashBoard$Line" "sent" "I") ∈ lw_all := lw_g (lw_at lw_m1 93 rfl) rfl
theorem q199 : (Jvm.Cond.fieldLink "FlashBoard$Line" (54 : Nat) "FlashBoard$Line" "sending" "I") ∈ lw_all := lw_g (lw_at lw_m1 94 rfl) rfl
theorem q201 : (Jvm.Cond.fieldLink "FlashBoard$Line" (79 : Nat) "FlashBoard$Line" "comes" "I") ∈ lw_all := lw_g (lw_at lw_m1 96 rfl) rfl
theorem q202 : (Jvm.Cond.fieldLink "FlashBoard$Line" (70 : Nat) "FlashBoard$Line" "coming" "I") ∈ lw_all := lw_g (lw_at lw_m1 97 rfl) rfl
theorem q204 : (Jvm.Cond.fieldLink "FlashBoard$Line" (29 : Nat) "FlashBoard$Line" "first" "I") ∈ lw_all := lw_g (lw_at lw_m1 99 rfl) rfl
theorem q206 : (Jvm.Cond.fieldLink "FlashBoard$Line" (32 : Nat) "FlashBoard$Line" "second" "I") ∈ lw_all := lw_g (lw_at lw_m1 101 rfl) rfl
theorem q207 : (Jvm.Cond.fieldLink "FlashBoard$Line" (26 : Nat) "FlashBoard$Line" "received" "I") ∈ lw_all := lw_g (lw_at lw_m1 102 rfl) rfl
theorem q209 : (Jvm.Cond.fieldLink "FlashBoard$Line" (35 : Nat) "FlashBoard$Line" "isLost" "Z") ∈ lw_all := lw_g (lw_at lw_m1 104 rfl) rfl
theorem q210 : (Jvm.Cond.fieldLink "FlashBoard$Line" (39 : Nat) "FlashBoard$Line" "isAllSent" "Z") ∈ lw_all := lw_g (lw_at lw_m1 105 rfl) rfl
theorem q212 : (Jvm.Cond.fieldLink "FlashBoard$Line" (42 : Nat) "FlashBoard$Line" "isFast" "Z") ∈ lw_all := lw_g (lw_at lw_m1 107 rfl) rfl
theorem q213 : (Jvm.Cond.fieldLink "FlashBoard$Line" (15 : Nat) "FlashBoard$Line" "waiting" "[I") ∈ lw_all := lw_g (lw_at lw_m1 108 rfl) rfl
theorem q214 : (Jvm.Cond.fieldLink "FlashBoard$Line" (19 : Nat) "FlashBoard$Line" "kept" "[I") ∈ lw_all := lw_g (lw_at lw_m1 109 rfl) rfl
theorem q216 : (Jvm.Cond.fieldLink "FlashBoard$Line" (76 : Nat) "FlashBoard$Line" "from" "I") ∈ lw_all := lw_g (lw_at lw_m1 111 rfl) rfl
theorem q217 : (Jvm.Cond.fieldLink "FlashBoard$Line" (73 : Nat) "FlashBoard$Line" "many" "I") ∈ lw_all := lw_g (lw_at lw_m1 112 rfl) rfl
theorem q219 : (Jvm.Cond.fieldLink "FlashBoard$Line" (63 : Nat) "FlashBoard$Line" "had" "I") ∈ lw_all := lw_g (lw_at lw_m1 114 rfl) rfl
theorem q221 : (Jvm.Cond.lays "FlashBoard$Line" "FlashBoard$Line" "next" "I") ∈ lw_all := lw_g (lw_at lw_m1 116 rfl) rfl
theorem q222 : (Jvm.Cond.soleField "FlashBoard$Line" "next") ∈ lw_all := lw_g (lw_at lw_m1 117 rfl) rfl
theorem q223 : (Jvm.Cond.lays "FlashBoard$Line" "FlashBoard$Line" "sent" "I") ∈ lw_all := lw_g (lw_at lw_m1 118 rfl) rfl
theorem q224 : (Jvm.Cond.soleField "FlashBoard$Line" "sent") ∈ lw_all := lw_g (lw_at lw_m1 119 rfl) rfl
theorem q225 : (Jvm.Cond.lays "FlashBoard$Line" "FlashBoard$Line" "sending" "I") ∈ lw_all := lw_g (lw_at lw_m1 120 rfl) rfl
theorem q226 : (Jvm.Cond.soleField "FlashBoard$Line" "sending") ∈ lw_all := lw_g (lw_at lw_m1 121 rfl) rfl
theorem q227 : (Jvm.Cond.lays "FlashBoard$Line" "FlashBoard$Line" "comes" "I") ∈ lw_all := lw_g (lw_at lw_m1 122 rfl) rfl
theorem q228 : (Jvm.Cond.soleField "FlashBoard$Line" "comes") ∈ lw_all := lw_g (lw_at lw_m1 123 rfl) rfl
theorem q229 : (Jvm.Cond.lays "FlashBoard$Line" "FlashBoard$Line" "coming" "I") ∈ lw_all := lw_g (lw_at lw_m1 124 rfl) rfl
theorem q230 : (Jvm.Cond.soleField "FlashBoard$Line" "coming") ∈ lw_all := lw_g (lw_at lw_m1 125 rfl) rfl
theorem q231 : (Jvm.Cond.lays "FlashBoard$Line" "FlashBoard$Line" "first" "I") ∈ lw_all := lw_g (lw_at lw_m1 126 rfl) rfl
theorem q232 : (Jvm.Cond.soleField "FlashBoard$Line" "first") ∈ lw_all := lw_g (lw_at lw_m1 127 rfl) rfl
theorem q233 : (Jvm.Cond.lays "FlashBoard$Line" "FlashBoard$Line" "second" "I") ∈ lw_all := lw_g (lw_at lw_m1 128 rfl) rfl
theorem q234 : (Jvm.Cond.soleField "FlashBoard$Line" "second") ∈ lw_all := lw_g (lw_at lw_m1 129 rfl) rfl
theorem q235 : (Jvm.Cond.lays "FlashBoard$Line" "FlashBoard$Line" "received" "I") ∈ lw_all := lw_g (lw_at lw_m1 130 rfl) rfl
theorem q236 : (Jvm.Cond.soleField "FlashBoard$Line" "received") ∈ lw_all := lw_g (lw_at lw_m1 131 rfl) rfl
theorem q237 : (Jvm.Cond.lays "FlashBoard$Line" "FlashBoard$Line" "isLost" "Z") ∈ lw_all := lw_g (lw_at lw_m1 132 rfl) rfl
theorem q238 : (Jvm.Cond.soleField "FlashBoard$Line" "isLost") ∈ lw_all := lw_g (lw_at lw_m1 133 rfl) rfl
theorem q239 : (Jvm.Cond.lays "FlashBoard$Line" "FlashBoard$Line" "isAllSent" "Z") ∈ lw_all := lw_g (lw_at lw_m1 134 rfl) rfl
theorem q240 : (Jvm.Cond.soleField "FlashBoard$Line" "isAllSent") ∈ lw_all := lw_g (lw_at lw_m1 135 rfl) rfl
theorem q241 : (Jvm.Cond.lays "FlashBoard$Line" "FlashBoard$Line" "isFast" "Z") ∈ lw_all := lw_g (lw_at lw_m1 136 rfl) rfl
theorem q242 : (Jvm.Cond.soleField "FlashBoard$Line" "isFast") ∈ lw_all := lw_g (lw_at lw_m1 137 rfl) rfl
theorem q243 : (Jvm.Cond.laysFinal "FlashBoard$Line" "FlashBoard$Line" "waiting" "[I") ∈ lw_all := lw_g (lw_at lw_m1 138 rfl) rfl
theorem q244 : (Jvm.Cond.soleField "FlashBoard$Line" "waiting") ∈ lw_all := lw_g (lw_at lw_m1 139 rfl) rfl
theorem q245 : (Jvm.Cond.laysFinal "FlashBoard$Line" "FlashBoard$Line" "kept" "[I") ∈ lw_all := lw_g (lw_at lw_m1 140 rfl) rfl
theorem q246 : (Jvm.Cond.soleField "FlashBoard$Line" "kept") ∈ lw_all := lw_g (lw_at lw_m1 141 rfl) rfl
theorem q247 : (Jvm.Cond.lays "FlashBoard$Line" "FlashBoard$Line" "from" "I") ∈ lw_all := lw_g (lw_at lw_m1 142 rfl) rfl
theorem q248 : (Jvm.Cond.soleField "FlashBoard$Line" "from") ∈ lw_all := lw_g (lw_at lw_m1 143 rfl) rfl
theorem q249 : (Jvm.Cond.lays "FlashBoard$Line" "FlashBoard$Line" "many" "I") ∈ lw_all := lw_g (lw_at lw_m1 144 rfl) rfl
theorem q250 : (Jvm.Cond.soleField "FlashBoard$Line" "many") ∈ lw_all := lw_g (lw_at lw_m1 145 rfl) rfl
theorem q251 : (Jvm.Cond.lays "FlashBoard$Line" "FlashBoard$Line" "had" "I") ∈ lw_all := lw_g (lw_at lw_m1 146 rfl) rfl
theorem q252 : (Jvm.Cond.soleField "FlashBoard$Line" "had") ∈ lw_all := lw_g (lw_at lw_m1 147 rfl) rfl
theorem q253 : (Jvm.Cond.laysFinal "FlashBoard$Line" "FlashBoard$Unit" "core" "LFlashBoard$Core;") ∈ lw_all := lw_g (lw_at lw_m1 148 rfl) rfl
theorem q254 : (Jvm.Cond.superclass "FlashBoard$Line" "FlashBoard$Unit") ∈ lw_all := lw_g (lw_at lw_m1 149 rfl) rfl
theorem q476 : (Jvm.Cond.selects "FlashBoard$Line" ({ cls := "FlashBoard$Unit", name := "clear", desc := "()V" } : Jvm.MethodName) ({ cls := "FlashBoard$Line", name := "clear", desc := "()V" } : Jvm.MethodName)) ∈ lw_all := lw_g (lw_at lw_m2 131 rfl) rfl
theorem q477 : (Jvm.Cond.instanceMethod ({ cls := "FlashBoard$Line", name := "clear", desc := "()V" } : Jvm.MethodName)) ∈ lw_all := lw_g (lw_at lw_m2 132 rfl) rfl
theorem q478 : (Jvm.Cond.code ({ cls := "FlashBoard$Line", name := "clear", desc := "()V" } : Jvm.MethodName) prog_7_method_9_code (1 : Nat) (Option.none : Option Jvm.ClassFile.FieldType)) ∈ lw_all := lw_g (lw_at lw_m2 133 rfl) rfl
theorem q496 : (Jvm.Cond.fieldLinkNest "FlashBoard$Line" (49 : Nat) "FlashBoard$Core" "data" "[I" "FlashBoard") ∈ lw_tbl := lw_at lw_m2 151 rfl
theorem q593 : (Jvm.Cond.instanceMethod ({ cls := "FlashBoard$Line", name := "state", desc := "()I" } : Jvm.MethodName)) ∈ lw_all := lw_g (lw_at lw_m3 8 rfl) rfl
theorem q594 : (Jvm.Cond.selects "FlashBoard$Line" ({ cls := "FlashBoard$Line", name := "state", desc := "()I" } : Jvm.MethodName) ({ cls := "FlashBoard$Line", name := "state", desc := "()I" } : Jvm.MethodName)) ∈ lw_all := lw_g (lw_at lw_m3 9 rfl) rfl
theorem q595 : (Jvm.Cond.code ({ cls := "FlashBoard$Line", name := "state", desc := "()I" } : Jvm.MethodName) prog_7_method_3_code (1 : Nat) (Option.some Jvm.ClassFile.FieldType.int)) ∈ lw_all := lw_g (lw_at lw_m3 10 rfl) rfl
theorem q629 : (Jvm.Cond.selects "FlashBoard$Line" ({ cls := "FlashBoard$Unit", name := "store", desc := "(II)V" } : Jvm.MethodName) ({ cls := "FlashBoard$Line", name := "store", desc := "(II)V" } : Jvm.MethodName)) ∈ lw_all := lw_g (lw_at lw_m3 44 rfl) rfl
theorem q630 : (Jvm.Cond.instanceMethod ({ cls := "FlashBoard$Line", name := "store", desc := "(II)V" } : Jvm.MethodName)) ∈ lw_all := lw_g (lw_at lw_m3 45 rfl) rfl
theorem q631 : (Jvm.Cond.code ({ cls := "FlashBoard$Line", name := "store", desc := "(II)V" } : Jvm.MethodName) prog_7_method_4_code (3 : Nat) (Option.none : Option Jvm.ClassFile.FieldType)) ∈ lw_all := lw_g (lw_at lw_m3 46 rfl) rfl
theorem q740 : (Jvm.Cond.selects "FlashBoard$Line" ({ cls := "FlashBoard$Unit", name := "load", desc := "(I)I" } : Jvm.MethodName) ({ cls := "FlashBoard$Line", name := "load", desc := "(I)I" } : Jvm.MethodName)) ∈ lw_all := lw_g (lw_at lw_m3 155 rfl) rfl
theorem q741 : (Jvm.Cond.instanceMethod ({ cls := "FlashBoard$Line", name := "load", desc := "(I)I" } : Jvm.MethodName)) ∈ lw_all := lw_g (lw_at lw_m3 156 rfl) rfl
theorem q742 : (Jvm.Cond.code ({ cls := "FlashBoard$Line", name := "load", desc := "(I)I" } : Jvm.MethodName) prog_7_method_2_code (3 : Nat) (Option.some Jvm.ClassFile.FieldType.int)) ∈ lw_all := lw_g (lw_at lw_m3 157 rfl) rfl
theorem q743 : (Jvm.Cond.methodLink "FlashBoard$Line" (22 : Nat) ({ cls := "FlashBoard$Line", name := "state", desc := "()I" } : Jvm.MethodName)) ∈ lw_all := lw_g (lw_at lw_m3 158 rfl) rfl
theorem q855 : (Jvm.Cond.instanceMethod ({ cls := "FlashBoard$Line", name := "cycle", desc := "()V" } : Jvm.MethodName)) ∈ lw_all := lw_g (lw_at lw_m4 30 rfl) rfl
theorem q856 : (Jvm.Cond.selects "FlashBoard$Line" ({ cls := "FlashBoard$Line", name := "cycle", desc := "()V" } : Jvm.MethodName) ({ cls := "FlashBoard$Line", name := "cycle", desc := "()V" } : Jvm.MethodName)) ∈ lw_all := lw_g (lw_at lw_m4 31 rfl) rfl
theorem q857 : (Jvm.Cond.code ({ cls := "FlashBoard$Line", name := "cycle", desc := "()V" } : Jvm.MethodName) prog_7_method_6_code (1 : Nat) (Option.none : Option Jvm.ClassFile.FieldType)) ∈ lw_all := lw_g (lw_at lw_m4 32 rfl) rfl
theorem q858 : (Jvm.Cond.methodLink "FlashBoard$Line" (60 : Nat) ({ cls := "FlashBoard$Line", name := "frame", desc := "()I" } : Jvm.MethodName)) ∈ lw_all := lw_g (lw_at lw_m4 33 rfl) rfl
theorem q859 : (Jvm.Cond.privateMethod ({ cls := "FlashBoard$Line", name := "frame", desc := "()I" } : Jvm.MethodName)) ∈ lw_tbl := lw_at lw_m4 34 rfl
theorem q860 : (Jvm.Cond.instanceMethod ({ cls := "FlashBoard$Line", name := "frame", desc := "()I" } : Jvm.MethodName)) ∈ lw_all := lw_g (lw_at lw_m4 35 rfl) rfl
theorem q861 : (Jvm.Cond.code ({ cls := "FlashBoard$Line", name := "frame", desc := "()I" } : Jvm.MethodName) prog_7_method_5_code (1 : Nat) (Option.some Jvm.ClassFile.FieldType.int)) ∈ lw_all := lw_g (lw_at lw_m4 36 rfl) rfl
theorem q862 : (Jvm.Cond.methodLink "FlashBoard$Line" (66 : Nat) ({ cls := "FlashBoard$Line", name := "receive", desc := "()V" } : Jvm.MethodName)) ∈ lw_all := lw_g (lw_at lw_m4 37 rfl) rfl
theorem q863 : (Jvm.Cond.privateMethod ({ cls := "FlashBoard$Line", name := "receive", desc := "()V" } : Jvm.MethodName)) ∈ lw_tbl := lw_at lw_m4 38 rfl
theorem q864 : (Jvm.Cond.instanceMethod ({ cls := "FlashBoard$Line", name := "receive", desc := "()V" } : Jvm.MethodName)) ∈ lw_all := lw_g (lw_at lw_m4 39 rfl) rfl
theorem q865 : (Jvm.Cond.code ({ cls := "FlashBoard$Line", name := "receive", desc := "()V" } : Jvm.MethodName) prog_7_method_7_code (1 : Nat) (Option.none : Option Jvm.ClassFile.FieldType)) ∈ lw_all := lw_g (lw_at lw_m4 40 rfl) rfl
theorem q878 : (Jvm.Cond.instanceMethod ({ cls := "FlashBoard$Line", name := "add", desc := "(I)I" } : Jvm.MethodName)) ∈ lw_all := lw_g (lw_at lw_m4 53 rfl) rfl
theorem q879 : (Jvm.Cond.selects "FlashBoard$Line" ({ cls := "FlashBoard$Line", name := "add", desc := "(I)I" } : Jvm.MethodName) ({ cls := "FlashBoard$Line", name := "add", desc := "(I)I" } : Jvm.MethodName)) ∈ lw_all := lw_g (lw_at lw_m4 54 rfl) rfl
theorem q880 : (Jvm.Cond.code ({ cls := "FlashBoard$Line", name := "add", desc := "(I)I" } : Jvm.MethodName) prog_7_method_8_code (2 : Nat) (Option.some Jvm.ClassFile.FieldType.int)) ∈ lw_all := lw_g (lw_at lw_m4 55 rfl) rfl
theorem q1642 : (Jvm.Cond.castable "FlashBoard$Line" "java/lang/Object") ∈ lw_tbl := lw_at lw_m7 97 rfl
theorem q1657 : (Jvm.Cond.castable "FlashBoard$Line" "FlashBoard$Unit") ∈ lw_tbl := lw_at lw_m7 112 rfl
theorem in_X6 : ∀ w ∈ wsX60, w ∈ lw_all := lw_in wsX60 [253, 221, 223, 225, 227, 229, 231, 233, 235, 237, 239, 241, 243, 245, 247, 249, 251] (by decide +kernel) (by decide +kernel)

/-! FlashBoard$Eeprom -/
set_option maxRecDepth 100000
def RX7 : String := "FlashBoard$Eeprom"
def TX7 : u_T := fun k => match k with
  | 0 => ("FlashBoard$Unit", "core", "LFlashBoard$Core;", true)
  | 1 => ("FlashBoard$Eeprom", "bytes", "[I", true)
  | 2 => ("FlashBoard$Eeprom", "window", "I", false)
  | _ => ("FlashBoard$Eeprom", "writes", "I", false)
def tyX7 : Nat → FieldType := fun k => match k with
  | 0 => .object "FlashBoard$Core"
  | 1 => .array .int
  | 2 => .int
  | _ => .int
abbrev wsX70 : List Cond := u_ws RX7 TX7 4
theorem nmX7 : ∀ a, a < 4 → ∀ b, b < 4 → a ≠ b → (TX7 a).2.1 ≠ (TX7 b).2.1 := by decide +kernel
theorem tyX7_ok : ∀ k, k < 4 → parseFieldDescriptor (TX7 k).2.2.1 = some (tyX7 k) := by decide +kernel
abbrev cX7_init : ByteArray := prog_4_method_1_code
def yX7_init : MethodName := ⟨RX7, "<init>", "(LFlashBoard$Core;)V"⟩
def dkwX7_init_1 : List UInt8 := [180, 0, 7, 28, 17, 0, 255, 79, 132, 2, 1, 167, 255, 237, 177]
abbrev dktX7_init_1 : List UInt8 := dkwX7_init_1 ++ []
def dkwX7_init_0 : List UInt8 := [42, 43, 183, 0, 1, 42, 17, 1, 0, 188, 10, 181, 0, 7, 3, 61, 28, 17, 1, 0, 162, 0, 18, 42]
abbrev dktX7_init_0 : List UInt8 := dkwX7_init_0 ++ dktX7_init_1
theorem dksX7_init_0 : cX7_init.data.toList.drop 0 = dktX7_init_0 := by decide +kernel
theorem dksX7_init_1 : cX7_init.data.toList.drop 24 = dktX7_init_1 := dk_seg dksX7_init_0 24 rfl rfl
theorem dX7_init_0 : decode cX7_init 0 = .ok (.aload_n 0, 1) := dk_42 (dk_at dksX7_init_0 0 rfl rfl)
theorem dX7_init_1 : decode cX7_init 1 = .ok (.aload_n 1, 1) := dk_43 (dk_at dksX7_init_0 1 rfl rfl)
theorem dX7_init_2 : decode cX7_init 2 = .ok (.invokespecial 1, 3) := dk_183 0 1 (dk_at dksX7_init_0 2 rfl rfl)
theorem dX7_init_5 : decode cX7_init 5 = .ok (.aload_n 0, 1) := dk_42 (dk_at dksX7_init_0 5 rfl rfl)
theorem dX7_init_6 : decode cX7_init 6 = .ok (.sipush 256, 3) := dk_17 1 0 (dk_at dksX7_init_0 6 rfl rfl)
theorem dX7_init_9 : decode cX7_init 9 = .ok (.newarray .int, 2) := dk_188_10 (dk_at dksX7_init_0 9 rfl rfl)
theorem dX7_init_11 : decode cX7_init 11 = .ok (.putfield 7, 3) := dk_181 0 7 (dk_at dksX7_init_0 11 rfl rfl)
theorem dX7_init_14 : decode cX7_init 14 = .ok (.iconst 0, 1) := dk_3 (dk_at dksX7_init_0 14 rfl rfl)
theorem dX7_init_15 : decode cX7_init 15 = .ok (.istore_n 2, 1) := dk_61 (dk_at dksX7_init_0 15 rfl rfl)
theorem dX7_init_16 : decode cX7_init 16 = .ok (.iload_n 2, 1) := dk_28 (dk_at dksX7_init_0 16 rfl rfl)
theorem dX7_init_17 : decode cX7_init 17 = .ok (.sipush 256, 3) := dk_17 1 0 (dk_at dksX7_init_0 17 rfl rfl)
theorem dX7_init_20 : decode cX7_init 20 = .ok (.if_icmp .ge 18, 3) := dk_162 0 18 (dk_at dksX7_init_0 20 rfl rfl)
theorem dX7_init_23 : decode cX7_init 23 = .ok (.aload_n 0, 1) := dk_42 (dk_at dksX7_init_0 23 rfl rfl)
theorem dX7_init_24 : decode cX7_init 24 = .ok (.getfield 7, 3) := dk_180 0 7 (dk_at dksX7_init_1 0 rfl rfl)
theorem dX7_init_27 : decode cX7_init 27 = .ok (.iload_n 2, 1) := dk_28 (dk_at dksX7_init_1 3 rfl rfl)
theorem dX7_init_28 : decode cX7_init 28 = .ok (.sipush 255, 3) := dk_17 0 255 (dk_at dksX7_init_1 4 rfl rfl)
theorem dX7_init_31 : decode cX7_init 31 = .ok (.iastore, 1) := dk_79 (dk_at dksX7_init_1 7 rfl rfl)
theorem dX7_init_32 : decode cX7_init 32 = .ok (.iinc 2 1, 3) := dk_132 2 1 (dk_at dksX7_init_1 8 rfl rfl)
theorem dX7_init_35 : decode cX7_init 35 = .ok (.goto (-19), 3) := dk_167 255 237 (dk_at dksX7_init_1 11 rfl rfl)
theorem dX7_init_38 : decode cX7_init 38 = .ok (.return_, 1) := dk_177 (dk_at dksX7_init_1 14 rfl rfl)
abbrev cX7_clear : ByteArray := prog_4_method_5_code
def yX7_clear : MethodName := ⟨RX7, "clear", "()V"⟩
def dkwX7_clear_0 : List UInt8 := [42, 3, 181, 0, 22, 42, 3, 181, 0, 26, 177]
abbrev dktX7_clear_0 : List UInt8 := dkwX7_clear_0 ++ []
theorem dksX7_clear_0 : cX7_clear.data.toList.drop 0 = dktX7_clear_0 := by decide +kernel
theorem dX7_clear_0 : decode cX7_clear 0 = .ok (.aload_n 0, 1) := dk_42 (dk_at dksX7_clear_0 0 rfl rfl)
theorem dX7_clear_1 : decode cX7_clear 1 = .ok (.iconst 0, 1) := dk_3 (dk_at dksX7_clear_0 1 rfl rfl)
theorem dX7_clear_2 : decode cX7_clear 2 = .ok (.putfield 22, 3) := dk_181 0 22 (dk_at dksX7_clear_0 2 rfl rfl)
theorem dX7_clear_5 : decode cX7_clear 5 = .ok (.aload_n 0, 1) := dk_42 (dk_at dksX7_clear_0 5 rfl rfl)
theorem dX7_clear_6 : decode cX7_clear 6 = .ok (.iconst 0, 1) := dk_3 (dk_at dksX7_clear_0 6 rfl rfl)
theorem dX7_clear_7 : decode cX7_clear 7 = .ok (.putfield 26, 3) := dk_181 0 26 (dk_at dksX7_clear_0 7 rfl rfl)
theorem dX7_clear_10 : decode cX7_clear 10 = .ok (.return_, 1) := dk_177 (dk_at dksX7_clear_0 10 rfl rfl)
abbrev cX7_store : ByteArray := prog_4_method_3_code
def yX7_store : MethodName := ⟨RX7, "store", "(II)V"⟩
def dkwX7_store_7 : List UInt8 := [96, 181, 0, 29, 177]
abbrev dktX7_store_7 : List UInt8 := dkwX7_store_7 ++ []
def dkwX7_store_6 : List UInt8 := [180, 0, 7, 42, 180, 0, 13, 180, 0, 17, 16, 65, 46, 46, 79, 42, 180, 0, 13, 89, 180, 0, 29, 7]
abbrev dktX7_store_6 : List UInt8 := dkwX7_store_6 ++ dktX7_store_7
def dkwX7_store_5 : List UInt8 := [4, 126, 153, 0, 48, 42, 180, 0, 26, 154, 0, 41, 42, 180, 0, 13, 180, 0, 17, 16, 64, 42]
abbrev dktX7_store_5 : List UInt8 := dkwX7_store_5 ++ dktX7_store_6
def dkwX7_store_4 : List UInt8 := [42, 180, 0, 13, 180, 0, 17, 16, 64, 46, 79, 42, 17, 13, 72, 181, 0, 26, 42, 3, 181, 0, 22, 28]
abbrev dktX7_store_4 : List UInt8 := dkwX7_store_4 ++ dktX7_store_5
def dkwX7_store_3 : List UInt8 := [153, 0, 47, 42, 180, 0, 26, 154, 0, 40, 42, 180, 0, 7, 42, 180, 0, 13, 180, 0, 17, 16, 65, 46]
abbrev dktX7_store_3 : List UInt8 := dkwX7_store_3 ++ dktX7_store_4
def dkwX7_store_2 : List UInt8 := [16, 8, 126, 79, 28, 7, 126, 153, 0, 8, 42, 7, 181, 0, 22, 28, 5, 126, 153, 0, 51, 29]
abbrev dktX7_store_2 : List UInt8 := dkwX7_store_2 ++ dktX7_store_3
def dkwX7_store_1 : List UInt8 := [42, 180, 0, 22, 158, 0, 7, 4, 167, 0, 4, 3, 62, 42, 180, 0, 13, 180, 0, 17, 16, 63, 28]
abbrev dktX7_store_1 : List UInt8 := dkwX7_store_1 ++ dktX7_store_2
def dkwX7_store_0 : List UInt8 := [27, 16, 63, 159, 0, 21, 42, 180, 0, 26, 154, 0, 13, 42, 180, 0, 13, 180, 0, 17, 27, 28, 79, 177]
abbrev dktX7_store_0 : List UInt8 := dkwX7_store_0 ++ dktX7_store_1
theorem dksX7_store_0 : cX7_store.data.toList.drop 0 = dktX7_store_0 := by decide +kernel
theorem dksX7_store_1 : cX7_store.data.toList.drop 24 = dktX7_store_1 := dk_seg dksX7_store_0 24 rfl rfl
theorem dksX7_store_2 : cX7_store.data.toList.drop 47 = dktX7_store_2 := dk_seg dksX7_store_1 23 rfl rfl
theorem dksX7_store_3 : cX7_store.data.toList.drop 69 = dktX7_store_3 := dk_seg dksX7_store_2 22 rfl rfl
theorem dksX7_store_4 : cX7_store.data.toList.drop 93 = dktX7_store_4 := dk_seg dksX7_store_3 24 rfl rfl
theorem dksX7_store_5 : cX7_store.data.toList.drop 117 = dktX7_store_5 := dk_seg dksX7_store_4 24 rfl rfl
theorem dksX7_store_6 : cX7_store.data.toList.drop 139 = dktX7_store_6 := dk_seg dksX7_store_5 22 rfl rfl
theorem dksX7_store_7 : cX7_store.data.toList.drop 163 = dktX7_store_7 := dk_seg dksX7_store_6 24 rfl rfl
theorem dX7_store_0 : decode cX7_store 0 = .ok (.iload_n 1, 1) := dk_27 (dk_at dksX7_store_0 0 rfl rfl)
theorem dX7_store_1 : decode cX7_store 1 = .ok (.bipush 63, 2) := dk_16 63 (dk_at dksX7_store_0 1 rfl rfl)
theorem dX7_store_3 : decode cX7_store 3 = .ok (.if_icmp .eq 21, 3) := dk_159 0 21 (dk_at dksX7_store_0 3 rfl rfl)
theorem dX7_store_6 : decode cX7_store 6 = .ok (.aload_n 0, 1) := dk_42 (dk_at dksX7_store_0 6 rfl rfl)
theorem dX7_store_7 : decode cX7_store 7 = .ok (.getfield 26, 3) := dk_180 0 26 (dk_at dksX7_store_0 7 rfl rfl)
theorem dX7_store_10 : decode cX7_store 10 = .ok (.ifCond .ne 13, 3) := dk_154 0 13 (dk_at dksX7_store_0 10 rfl rfl)
theorem dX7_store_13 : decode cX7_store 13 = .ok (.aload_n 0, 1) := dk_42 (dk_at dksX7_store_0 13 rfl rfl)
theorem dX7_store_14 : decode cX7_store 14 = .ok (.getfield 13, 3) := dk_180 0 13 (dk_at dksX7_store_0 14 rfl rfl)
theorem dX7_store_17 : decode cX7_store 17 = .ok (.getfield 17, 3) := dk_180 0 17 (dk_at dksX7_store_0 17 rfl rfl)
theorem dX7_store_20 : decode cX7_store 20 = .ok (.iload_n 1, 1) := dk_27 (dk_at dksX7_store_0 20 rfl rfl)
theorem dX7_store_21 : decode cX7_store 21 = .ok (.iload_n 2, 1) := dk_28 (dk_at dksX7_store_0 21 rfl rfl)
theorem dX7_store_22 : decode cX7_store 22 = .ok (.iastore, 1) := dk_79 (dk_at dksX7_store_0 22 rfl rfl)
theorem dX7_store_23 : decode cX7_store 23 = .ok (.return_, 1) := dk_177 (dk_at dksX7_store_0 23 rfl rfl)
theorem dX7_store_24 : decode cX7_store 24 = .ok (.aload_n 0, 1) := dk_42 (dk_at dksX7_store_1 0 rfl rfl)
theorem dX7_store_25 : decode cX7_store 25 = .ok (.getfield 22, 3) := dk_180 0 22 (dk_at dksX7_store_1 1 rfl rfl)
theorem dX7_store_28 : decode cX7_store 28 = .ok (.ifCond .le 7, 3) := dk_158 0 7 (dk_at dksX7_store_1 4 rfl rfl)
theorem dX7_store_31 : decode cX7_store 31 = .ok (.iconst 1, 1) := dk_4 (dk_at dksX7_store_1 7 rfl rfl)
theorem dX7_store_32 : decode cX7_store 32 = .ok (.goto 4, 3) := dk_167 0 4 (dk_at dksX7_store_1 8 rfl rfl)
theorem dX7_store_35 : decode cX7_store 35 = .ok (.iconst 0, 1) := dk_3 (dk_at dksX7_store_1 11 rfl rfl)
theorem dX7_store_36 : decode cX7_store 36 = .ok (.istore_n 3, 1) := dk_62 (dk_at dksX7_store_1 12 rfl rfl)
theorem dX7_store_37 : decode cX7_store 37 = .ok (.aload_n 0, 1) := dk_42 (dk_at dksX7_store_1 13 rfl rfl)
theorem dX7_store_38 : decode cX7_store 38 = .ok (.getfield 13, 3) := dk_180 0 13 (dk_at dksX7_store_1 14 rfl rfl)
theorem dX7_store_41 : decode cX7_store 41 = .ok (.getfield 17, 3) := dk_180 0 17 (dk_at dksX7_store_1 17 rfl rfl)
theorem dX7_store_44 : decode cX7_store 44 = .ok (.bipush 63, 2) := dk_16 63 (dk_at dksX7_store_1 20 rfl rfl)
theorem dX7_store_46 : decode cX7_store 46 = .ok (.iload_n 2, 1) := dk_28 (dk_at dksX7_store_1 22 rfl rfl)
theorem dX7_store_47 : decode cX7_store 47 = .ok (.bipush 8, 2) := dk_16 8 (dk_at dksX7_store_2 0 rfl rfl)
theorem dX7_store_49 : decode cX7_store 49 = .ok (.iand, 1) := dk_126 (dk_at dksX7_store_2 2 rfl rfl)
theorem dX7_store_50 : decode cX7_store 50 = .ok (.iastore, 1) := dk_79 (dk_at dksX7_store_2 3 rfl rfl)
theorem dX7_store_51 : decode cX7_store 51 = .ok (.iload_n 2, 1) := dk_28 (dk_at dksX7_store_2 4 rfl rfl)
theorem dX7_store_52 : decode cX7_store 52 = .ok (.iconst 4, 1) := dk_7 (dk_at dksX7_store_2 5 rfl rfl)
theorem dX7_store_53 : decode cX7_store 53 = .ok (.iand, 1) := dk_126 (dk_at dksX7_store_2 6 rfl rfl)
theorem dX7_store_54 : decode cX7_store 54 = .ok (.ifCond .eq 8, 3) := dk_153 0 8 (dk_at dksX7_store_2 7 rfl rfl)
theorem dX7_store_57 : decode cX7_store 57 = .ok (.aload_n 0, 1) := dk_42 (dk_at dksX7_store_2 10 rfl rfl)
theorem dX7_store_58 : decode cX7_store 58 = .ok (.iconst 4, 1) := dk_7 (dk_at dksX7_store_2 11 rfl rfl)
theorem dX7_store_59 : decode cX7_store 59 = .ok (.putfield 22, 3) := dk_181 0 22 (dk_at dksX7_store_2 12 rfl rfl)
theorem dX7_store_62 : decode cX7_store 62 = .ok (.iload_n 2, 1) := dk_28 (dk_at dksX7_store_2 15 rfl rfl)
theorem dX7_store_63 : decode cX7_store 63 = .ok (.iconst 2, 1) := dk_5 (dk_at dksX7_store_2 16 rfl rfl)
theorem dX7_store_64 : decode cX7_store 64 = .ok (.iand, 1) := dk_126 (dk_at dksX7_store_2 17 rfl rfl)
theorem dX7_store_65 : decode cX7_store 65 = .ok (.ifCond .eq 51, 3) := dk_153 0 51 (dk_at dksX7_store_2 18 rfl rfl)
theorem dX7_store_68 : decode cX7_store 68 = .ok (.iload_n 3, 1) := dk_29 (dk_at dksX7_store_2 21 rfl rfl)
theorem dX7_store_69 : decode cX7_store 69 = .ok (.ifCond .eq 47, 3) := dk_153 0 47 (dk_at dksX7_store_3 0 rfl rfl)
theorem dX7_store_72 : decode cX7_store 72 = .ok (.aload_n 0, 1) := dk_42 (dk_at dksX7_store_3 3 rfl rfl)
theorem dX7_store_73 : decode cX7_store 73 = .ok (.getfield 26, 3) := dk_180 0 26 (dk_at dksX7_store_3 4 rfl rfl)
theorem dX7_store_76 : decode cX7_store 76 = .ok (.ifCond .ne 40, 3) := dk_154 0 40 (dk_at dksX7_store_3 7 rfl rfl)
theorem dX7_store_79 : decode cX7_store 79 = .ok (.aload_n 0, 1) := dk_42 (dk_at dksX7_store_3 10 rfl rfl)
theorem dX7_store_80 : decode cX7_store 80 = .ok (.getfield 7, 3) := dk_180 0 7 (dk_at dksX7_store_3 11 rfl rfl)
theorem dX7_store_83 : decode cX7_store 83 = .ok (.aload_n 0, 1) := dk_42 (dk_at dksX7_store_3 14 rfl rfl)
theorem dX7_store_84 : decode cX7_store 84 = .ok (.getfield 13, 3) := dk_180 0 13 (dk_at dksX7_store_3 15 rfl rfl)
theorem dX7_store_87 : decode cX7_store 87 = .ok (.getfield 17, 3) := dk_180 0 17 (dk_at dksX7_store_3 18 rfl rfl)
theorem dX7_store_90 : decode cX7_store 90 = .ok (.bipush 65, 2) := dk_16 65 (dk_at dksX7_store_3 21 rfl rfl)
theorem dX7_store_92 : decode cX7_store 92 = .ok (.iaload, 1) := dk_46 (dk_at dksX7_store_3 23 rfl rfl)
theorem dX7_store_93 : decode cX7_store 93 = .ok (.aload_n 0, 1) := dk_42 (dk_at dksX7_store_4 0 rfl rfl)
theorem dX7_store_94 : decode cX7_store 94 = .ok (.getfield 13, 3) := dk_180 0 13 (dk_at dksX7_store_4 1 rfl rfl)
theorem dX7_store_97 : decode cX7_store 97 = .ok (.getfield 17, 3) := dk_180 0 17 (dk_at dksX7_store_4 4 rfl rfl)
theorem dX7_store_100 : decode cX7_store 100 = .ok (.bipush 64, 2) := dk_16 64 (dk_at dksX7_store_4 7 rfl rfl)
theorem dX7_store_102 : decode cX7_store 102 = .ok (.iaload, 1) := dk_46 (dk_at dksX7_store_4 9 rfl rfl)
theorem dX7_store_103 : decode cX7_store 103 = .ok (.iastore, 1) := dk_79 (dk_at dksX7_store_4 10 rfl rfl)
theorem dX7_store_104 : decode cX7_store 104 = .ok (.aload_n 0, 1) := dk_42 (dk_at dksX7_store_4 11 rfl rfl)
theorem dX7_store_105 : decode cX7_store 105 = .ok (.sipush 3400, 3) := dk_17 13 72 (dk_at dksX7_store_4 12 rfl rfl)
theorem dX7_store_108 : decode cX7_store 108 = .ok (.putfield 26, 3) := dk_181 0 26 (dk_at dksX7_store_4 15 rfl rfl)
theorem dX7_store_111 : decode cX7_store 111 = .ok (.aload_n 0, 1) := dk_42 (dk_at dksX7_store_4 18 rfl rfl)
theorem dX7_store_112 : decode cX7_store 112 = .ok (.iconst 0, 1) := dk_3 (dk_at dksX7_store_4 19 rfl rfl)
theorem dX7_store_113 : decode cX7_store 113 = .ok (.putfield 22, 3) := dk_181 0 22 (dk_at dksX7_store_4 20 rfl rfl)
theorem dX7_store_116 : decode cX7_store 116 = .ok (.iload_n 2, 1) := dk_28 (dk_at dksX7_store_4 23 rfl rfl)
theorem dX7_store_117 : decode cX7_store 117 = .ok (.iconst 1, 1) := dk_4 (dk_at dksX7_store_5 0 rfl rfl)
theorem dX7_store_118 : decode cX7_store 118 = .ok (.iand, 1) := dk_126 (dk_at dksX7_store_5 1 rfl rfl)
theorem dX7_store_119 : decode cX7_store 119 = .ok (.ifCond .eq 48, 3) := dk_153 0 48 (dk_at dksX7_store_5 2 rfl rfl)
theorem dX7_store_122 : decode cX7_store 122 = .ok (.aload_n 0, 1) := dk_42 (dk_at dksX7_store_5 5 rfl rfl)
theorem dX7_store_123 : decode cX7_store 123 = .ok (.getfield 26, 3) := dk_180 0 26 (dk_at dksX7_store_5 6 rfl rfl)
theorem dX7_store_126 : decode cX7_store 126 = .ok (.ifCond .ne 41, 3) := dk_154 0 41 (dk_at dksX7_store_5 9 rfl rfl)
theorem dX7_store_129 : decode cX7_store 129 = .ok (.aload_n 0, 1) := dk_42 (dk_at dksX7_store_5 12 rfl rfl)
theorem dX7_store_130 : decode cX7_store 130 = .ok (.getfield 13, 3) := dk_180 0 13 (dk_at dksX7_store_5 13 rfl rfl)
theorem dX7_store_133 : decode cX7_store 133 = .ok (.getfield 17, 3) := dk_180 0 17 (dk_at dksX7_store_5 16 rfl rfl)
theorem dX7_store_136 : decode cX7_store 136 = .ok (.bipush 64, 2) := dk_16 64 (dk_at dksX7_store_5 19 rfl rfl)
theorem dX7_store_138 : decode cX7_store 138 = .ok (.aload_n 0, 1) := dk_42 (dk_at dksX7_store_5 21 rfl rfl)
theorem dX7_store_139 : decode cX7_store 139 = .ok (.getfield 7, 3) := dk_180 0 7 (dk_at dksX7_store_6 0 rfl rfl)
theorem dX7_store_142 : decode cX7_store 142 = .ok (.aload_n 0, 1) := dk_42 (dk_at dksX7_store_6 3 rfl rfl)
theorem dX7_store_143 : decode cX7_store 143 = .ok (.getfield 13, 3) := dk_180 0 13 (dk_at dksX7_store_6 4 rfl rfl)
theorem dX7_store_146 : decode cX7_store 146 = .ok (.getfield 17, 3) := dk_180 0 17 (dk_at dksX7_store_6 7 rfl rfl)
theorem dX7_store_149 : decode cX7_store 149 = .ok (.bipush 65, 2) := dk_16 65 (dk_at dksX7_store_6 10 rfl rfl)
theorem dX7_store_151 : decode cX7_store 151 = .ok (.iaload, 1) := dk_46 (dk_at dksX7_store_6 12 rfl rfl)
theorem dX7_store_152 : decode cX7_store 152 = .ok (.iaload, 1) := dk_46 (dk_at dksX7_store_6 13 rfl rfl)
theorem dX7_store_153 : decode cX7_store 153 = .ok (.iastore, 1) := dk_79 (dk_at dksX7_store_6 14 rfl rfl)
theorem dX7_store_154 : decode cX7_store 154 = .ok (.aload_n 0, 1) := dk_42 (dk_at dksX7_store_6 15 rfl rfl)
theorem dX7_store_155 : decode cX7_store 155 = .ok (.getfield 13, 3) := dk_180 0 13 (dk_at dksX7_store_6 16 rfl rfl)
theorem dX7_store_158 : decode cX7_store 158 = .ok (.dup, 1) := dk_89 (dk_at dksX7_store_6 19 rfl rfl)
theorem dX7_store_159 : decode cX7_store 159 = .ok (.getfield 29, 3) := dk_180 0 29 (dk_at dksX7_store_6 20 rfl rfl)
theorem dX7_store_162 : decode cX7_store 162 = .ok (.iconst 4, 1) := dk_7 (dk_at dksX7_store_6 23 rfl rfl)
theorem dX7_store_163 : decode cX7_store 163 = .ok (.iadd, 1) := dk_96 (dk_at dksX7_store_7 0 rfl rfl)
theorem dX7_store_164 : decode cX7_store 164 = .ok (.putfield 29, 3) := dk_181 0 29 (dk_at dksX7_store_7 1 rfl rfl)
theorem dX7_store_167 : decode cX7_store 167 = .ok (.return_, 1) := dk_177 (dk_at dksX7_store_7 4 rfl rfl)
abbrev cX7_load : ByteArray := prog_4_method_2_code
def yX7_load : MethodName := ⟨RX7, "load", "(I)I"⟩
def dkwX7_load_2 : List UInt8 := [167, 0, 12, 42, 180, 0, 13, 180, 0, 17, 27, 46, 172]
abbrev dktX7_load_2 : List UInt8 := dkwX7_load_2 ++ []
def dkwX7_load_1 : List UInt8 := [158, 0, 7, 7, 167, 0, 4, 3, 128, 42, 180, 0, 26, 158, 0, 7, 5, 167, 0, 4, 3, 128]
abbrev dktX7_load_1 : List UInt8 := dkwX7_load_1 ++ dktX7_load_2
def dkwX7_load_0 : List UInt8 := [27, 16, 63, 160, 0, 45, 42, 180, 0, 13, 180, 0, 17, 16, 63, 46, 16, 8, 126, 42, 180, 0, 22]
abbrev dktX7_load_0 : List UInt8 := dkwX7_load_0 ++ dktX7_load_1
theorem dksX7_load_0 : cX7_load.data.toList.drop 0 = dktX7_load_0 := by decide +kernel
theorem dksX7_load_1 : cX7_load.data.toList.drop 23 = dktX7_load_1 := dk_seg dksX7_load_0 23 rfl rfl
theorem dksX7_load_2 : cX7_load.data.toList.drop 45 = dktX7_load_2 := dk_seg dksX7_load_1 22 rfl rfl
theorem dX7_load_0 : decode cX7_load 0 = .ok (.iload_n 1, 1) := dk_27 (dk_at dksX7_load_0 0 rfl rfl)
theorem dX7_load_1 : decode cX7_load 1 = .ok (.bipush 63, 2) := dk_16 63 (dk_at dksX7_load_0 1 rfl rfl)
theorem dX7_load_3 : decode cX7_load 3 = .ok (.if_icmp .ne 45, 3) := dk_160 0 45 (dk_at dksX7_load_0 3 rfl rfl)
theorem dX7_load_6 : decode cX7_load 6 = .ok (.aload_n 0, 1) := dk_42 (dk_at dksX7_load_0 6 rfl rfl)
theorem dX7_load_7 : decode cX7_load 7 = .ok (.getfield 13, 3) := dk_180 0 13 (dk_at dksX7_load_0 7 rfl rfl)
theorem dX7_load_10 : decode cX7_load 10 = .ok (.getfield 17, 3) := dk_180 0 17 (dk_at dksX7_load_0 10 rfl rfl)
theorem dX7_load_13 : decode cX7_load 13 = .ok (.bipush 63, 2) := dk_16 63 (dk_at dksX7_load_0 13 rfl rfl)
theorem dX7_load_15 : decode cX7_load 15 = .ok (.iaload, 1) := dk_46 (dk_at dksX7_load_0 15 rfl rfl)
theorem dX7_load_16 : decode cX7_load 16 = .ok (.bipush 8, 2) := dk_16 8 (dk_at dksX7_load_0 16 rfl rfl)
theorem dX7_load_18 : decode cX7_load 18 = .ok (.iand, 1) := dk_126 (dk_at dksX7_load_0 18 rfl rfl)
theorem dX7_load_19 : decode cX7_load 19 = .ok (.aload_n 0, 1) := dk_42 (dk_at dksX7_load_0 19 rfl rfl)
theorem dX7_load_20 : decode cX7_load 20 = .ok (.getfield 22, 3) := dk_180 0 22 (dk_at dksX7_load_0 20 rfl rfl)
theorem dX7_load_23 : decode cX7_load 23 = .ok (.ifCond .le 7, 3) := dk_158 0 7 (dk_at dksX7_load_1 0 rfl rfl)
theorem dX7_load_26 : decode cX7_load 26 = .ok (.iconst 4, 1) := dk_7 (dk_at dksX7_load_1 3 rfl rfl)
theorem dX7_load_27 : decode cX7_load 27 = .ok (.goto 4, 3) := dk_167 0 4 (dk_at dksX7_load_1 4 rfl rfl)
theorem dX7_load_30 : decode cX7_load 30 = .ok (.iconst 0, 1) := dk_3 (dk_at dksX7_load_1 7 rfl rfl)
theorem dX7_load_31 : decode cX7_load 31 = .ok (.ior, 1) := dk_128 (dk_at dksX7_load_1 8 rfl rfl)
theorem dX7_load_32 : decode cX7_load 32 = .ok (.aload_n 0, 1) := dk_42 (dk_at dksX7_load_1 9 rfl rfl)
theorem dX7_load_33 : decode cX7_load 33 = .ok (.getfield 26, 3) := dk_180 0 26 (dk_at dksX7_load_1 10 rfl rfl)
theorem dX7_load_36 : decode cX7_load 36 = .ok (.ifCond .le 7, 3) := dk_158 0 7 (dk_at dksX7_load_1 13 rfl rfl)
theorem dX7_load_39 : decode cX7_load 39 = .ok (.iconst 2, 1) := dk_5 (dk_at dksX7_load_1 16 rfl rfl)
theorem dX7_load_40 : decode cX7_load 40 = .ok (.goto 4, 3) := dk_167 0 4 (dk_at dksX7_load_1 17 rfl rfl)
theorem dX7_load_43 : decode cX7_load 43 = .ok (.iconst 0, 1) := dk_3 (dk_at dksX7_load_1 20 rfl rfl)
theorem dX7_load_44 : decode cX7_load 44 = .ok (.ior, 1) := dk_128 (dk_at dksX7_load_1 21 rfl rfl)
theorem dX7_load_45 : decode cX7_load 45 = .ok (.goto 12, 3) := dk_167 0 12 (dk_at dksX7_load_2 0 rfl rfl)
theorem dX7_load_48 : decode cX7_load 48 = .ok (.aload_n 0, 1) := dk_42 (dk_at dksX7_load_2 3 rfl rfl)
theorem dX7_load_49 : decode cX7_load 49 = .ok (.getfield 13, 3) := dk_180 0 13 (dk_at dksX7_load_2 4 rfl rfl)
theorem dX7_load_52 : decode cX7_load 52 = .ok (.getfield 17, 3) := dk_180 0 17 (dk_at dksX7_load_2 7 rfl rfl)
theorem dX7_load_55 : decode cX7_load 55 = .ok (.iload_n 1, 1) := dk_27 (dk_at dksX7_load_2 10 rfl rfl)
theorem dX7_load_56 : decode cX7_load 56 = .ok (.iaload, 1) := dk_46 (dk_at dksX7_load_2 11 rfl rfl)
theorem dX7_load_57 : decode cX7_load 57 = .ok (.ireturn, 1) := dk_172 (dk_at dksX7_load_2 12 rfl rfl)
abbrev cX7_cycle : ByteArray := prog_4_method_4_code
def yX7_cycle : MethodName := ⟨RX7, "cycle", "()V"⟩
def dkwX7_cycle_1 : List UInt8 := [42, 89, 180, 0, 26, 4, 100, 181, 0, 26, 177]
abbrev dktX7_cycle_1 : List UInt8 := dkwX7_cycle_1 ++ []
def dkwX7_cycle_0 : List UInt8 := [42, 180, 0, 22, 158, 0, 13, 42, 89, 180, 0, 22, 4, 100, 181, 0, 22, 42, 180, 0, 26, 158, 0, 13]
abbrev dktX7_cycle_0 : List UInt8 := dkwX7_cycle_0 ++ dktX7_cycle_1
theorem dksX7_cycle_0 : cX7_cycle.data.toList.drop 0 = dktX7_cycle_0 := by decide +kernel
theorem dksX7_cycle_1 : cX7_cycle.data.toList.drop 24 = dktX7_cycle_1 := dk_seg dksX7_cycle_0 24 rfl rfl
theorem dX7_cycle_0 : decode cX7_cycle 0 = .ok (.aload_n 0, 1) := dk_42 (dk_at dksX7_cycle_0 0 rfl rfl)
theorem dX7_cycle_1 : decode cX7_cycle 1 = .ok (.getfield 22, 3) := dk_180 0 22 (dk_at dksX7_cycle_0 1 rfl rfl)
theorem dX7_cycle_4 : decode cX7_cycle 4 = .ok (.ifCond .le 13, 3) := dk_158 0 13 (dk_at dksX7_cycle_0 4 rfl rfl)
theorem dX7_cycle_7 : decode cX7_cycle 7 = .ok (.aload_n 0, 1) := dk_42 (dk_at dksX7_cycle_0 7 rfl rfl)
theorem dX7_cycle_8 : decode cX7_cycle 8 = .ok (.dup, 1) := dk_89 (dk_at dksX7_cycle_0 8 rfl rfl)
theorem dX7_cycle_9 : decode cX7_cycle 9 = .ok (.getfield 22, 3) := dk_180 0 22 (dk_at dksX7_cycle_0 9 rfl rfl)
theorem dX7_cycle_12 : decode cX7_cycle 12 = .ok (.iconst 1, 1) := dk_4 (dk_at dksX7_cycle_0 12 rfl rfl)
theorem dX7_cycle_13 : decode cX7_cycle 13 = .ok (.isub, 1) := dk_100 (dk_at dksX7_cycle_0 13 rfl rfl)
theorem dX7_cycle_14 : decode cX7_cycle 14 = .ok (.putfield 22, 3) := dk_181 0 22 (dk_at dksX7_cycle_0 14 rfl rfl)
theorem dX7_cycle_17 : decode cX7_cycle 17 = .ok (.aload_n 0, 1) := dk_42 (dk_at dksX7_cycle_0 17 rfl rfl)
theorem dX7_cycle_18 : decode cX7_cycle 18 = .ok (.getfield 26, 3) := dk_180 0 26 (dk_at dksX7_cycle_0 18 rfl rfl)
theorem dX7_cycle_21 : decode cX7_cycle 21 = .ok (.ifCond .le 13, 3) := dk_158 0 13 (dk_at dksX7_cycle_0 21 rfl rfl)
theorem dX7_cycle_24 : decode cX7_cycle 24 = .ok (.aload_n 0, 1) := dk_42 (dk_at dksX7_cycle_1 0 rfl rfl)
theorem dX7_cycle_25 : decode cX7_cycle 25 = .ok (.dup, 1) := dk_89 (dk_at dksX7_cycle_1 1 rfl rfl)
theorem dX7_cycle_26 : decode cX7_cycle 26 = .ok (.getfield 26, 3) := dk_180 0 26 (dk_at dksX7_cycle_1 2 rfl rfl)
theorem dX7_cycle_29 : decode cX7_cycle 29 = .ok (.iconst 1, 1) := dk_4 (dk_at dksX7_cycle_1 5 rfl rfl)
theorem dX7_cycle_30 : decode cX7_cycle 30 = .ok (.isub, 1) := dk_100 (dk_at dksX7_cycle_1 6 rfl rfl)
theorem dX7_cycle_31 : decode cX7_cycle 31 = .ok (.putfield 26, 3) := dk_181 0 26 (dk_at dksX7_cycle_1 7 rfl rfl)
theorem dX7_cycle_34 : decode cX7_cycle 34 = .ok (.return_, 1) := dk_177 (dk_at dksX7_cycle_1 10 rfl rfl)
theorem q112 : (Jvm.Cond.initialized "FlashBoard$Eeprom") ∈ lw_all := lw_g (lw_at lw_m1 7 rfl) rfl
theorem q167 : (Jvm.Cond.fieldLink "FlashBoard$Eeprom" (13 : Nat) "FlashBoard$Eeprom" "core" "LFlashBoard$Core;") ∈ lw_all := lw_g (lw_at lw_m1 62 rfl) rfl
theorem q168 : (Jvm.Cond.sameField "FlashBoard$Eeprom" "FlashBoard$Unit" "core" "LFlashBoard$Core;") ∈ lw_all := lw_g (lw_at lw_m1 63 rfl) rfl
theorem q256 : (Jvm.Cond.instantiable "FlashBoard$Eeprom" (4 : Nat)) ∈ lw_all := lw_g (lw_at lw_m1 151 rfl) rfl
theorem q258 : (Jvm.Cond.instanceMethod ({ cls := "FlashBoard$Eeprom", name := "<init>", desc := "(LFlashBoard$Core;)V" } : Jvm.MethodName)) ∈ lw_all := lw_g (lw_at lw_m1 153 rfl) rfl
theorem q259 : (Jvm.Cond.code ({ cls := "FlashBoard$Eeprom", name := "<init>", desc := "(LFlashBoard$Core;)V" } : Jvm.MethodName) prog_4_method_1_code (3 : Nat) (Option.none : Option Jvm.ClassFile.FieldType)) ∈ lw_all := lw_g (lw_at lw_m1 154 rfl) rfl
theorem q260 : (Jvm.Cond.methodLink "FlashBoard$Eeprom" (1 : Nat) ({ cls := "FlashBoard$Unit", name := "<init>", desc := "(LFlashBoard$Core;)V" } : Jvm.MethodName)) ∈ lw_all := lw_g (lw_at lw_m1 155 rfl) rfl
theorem q261 : (Jvm.Cond.fieldLink "FlashBoard$Eeprom" (7 : Nat) "FlashBoard$Eeprom" "bytes" "[I") ∈ lw_all := lw_g (lw_at lw_m1 156 rfl) rfl
theorem q263 : (Jvm.Cond.fieldLink "FlashBoard$Eeprom" (22 : Nat) "FlashBoard$Eeprom" "window" "I") ∈ lw_all := lw_g (lw_at lw_m1 158 rfl) rfl
theorem q265 : (Jvm.Cond.fieldLink "FlashBoard$Eeprom" (26 : Nat) "FlashBoard$Eeprom" "writes" "I") ∈ lw_all := lw_g (lw_at lw_m1 160 rfl) rfl
theorem q268 : (Jvm.Cond.laysFinal "FlashBoard$Eeprom" "FlashBoard$Eeprom" "bytes" "[I") ∈ lw_all := lw_g (lw_at lw_m1 163 rfl) rfl
theorem q269 : (Jvm.Cond.soleField "FlashBoard$Eeprom" "bytes") ∈ lw_all := lw_g (lw_at lw_m1 164 rfl) rfl
theorem q270 : (Jvm.Cond.lays "FlashBoard$Eeprom" "FlashBoard$Eeprom" "window" "I") ∈ lw_all := lw_g (lw_at lw_m1 165 rfl) rfl
theorem q271 : (Jvm.Cond.soleField "FlashBoard$Eeprom" "window") ∈ lw_all := lw_g (lw_at lw_m1 166 rfl) rfl
theorem q272 : (Jvm.Cond.lays "FlashBoard$Eeprom" "FlashBoard$Eeprom" "writes" "I") ∈ lw_all := lw_g (lw_at lw_m1 167 rfl) rfl
theorem q273 : (Jvm.Cond.soleField "FlashBoard$Eeprom" "writes") ∈ lw_all := lw_g (lw_at lw_m1 168 rfl) rfl
theorem q274 : (Jvm.Cond.laysFinal "FlashBoard$Eeprom" "FlashBoard$Unit" "core" "LFlashBoard$Core;") ∈ lw_all := lw_g (lw_at lw_m1 169 rfl) rfl
theorem q275 : (Jvm.Cond.superclass "FlashBoard$Eeprom" "FlashBoard$Unit") ∈ lw_all := lw_g (lw_at lw_m1 170 rfl) rfl
theorem q467 : (Jvm.Cond.selects "FlashBoard$Eeprom" ({ cls := "FlashBoard$Unit", name := "clear", desc := "()V" } : Jvm.MethodName) ({ cls := "FlashBoard$Eeprom", name := "clear", desc := "()V" } : Jvm.MethodName)) ∈ lw_all := lw_g (lw_at lw_m2 122 rfl) rfl
theorem q468 : (Jvm.Cond.instanceMethod ({ cls := "FlashBoard$Eeprom", name := "clear", desc := "()V" } : Jvm.MethodName)) ∈ lw_all := lw_g (lw_at lw_m2 123 rfl) rfl
theorem q469 : (Jvm.Cond.code ({ cls := "FlashBoard$Eeprom", name := "clear", desc := "()V" } : Jvm.MethodName) prog_4_method_5_code (1 : Nat) (Option.none : Option Jvm.ClassFile.FieldType)) ∈ lw_all := lw_g (lw_at lw_m2 124 rfl) rfl
theorem q494 : (Jvm.Cond.fieldLinkNest "FlashBoard$Eeprom" (17 : Nat) "FlashBoard$Core" "data" "[I" "FlashBoard") ∈ lw_tbl := lw_at lw_m2 149 rfl
theorem q515 : (Jvm.Cond.fieldLinkNest "FlashBoard$Eeprom" (29 : Nat) "FlashBoard$Core" "more" "I" "FlashBoard") ∈ lw_tbl := lw_at lw_m2 170 rfl
theorem q622 : (Jvm.Cond.selects "FlashBoard$Eeprom" ({ cls := "FlashBoard$Unit", name := "store", desc := "(II)V" } : Jvm.MethodName) ({ cls := "FlashBoard$Eeprom", name := "store", desc := "(II)V" } : Jvm.MethodName)) ∈ lw_all := lw_g (lw_at lw_m3 37 rfl) rfl
theorem q623 : (Jvm.Cond.instanceMethod ({ cls := "FlashBoard$Eeprom", name := "store", desc := "(II)V" } : Jvm.MethodName)) ∈ lw_all := lw_g (lw_at lw_m3 38 rfl) rfl
theorem q624 : (Jvm.Cond.code ({ cls := "FlashBoard$Eeprom", name := "store", desc := "(II)V" } : Jvm.MethodName) prog_4_method_3_code (4 : Nat) (Option.none : Option Jvm.ClassFile.FieldType)) ∈ lw_all := lw_g (lw_at lw_m3 39 rfl) rfl
theorem q735 : (Jvm.Cond.selects "FlashBoard$Eeprom" ({ cls := "FlashBoard$Unit", name := "load", desc := "(I)I" } : Jvm.MethodName) ({ cls := "FlashBoard$Eeprom", name := "load", desc := "(I)I" } : Jvm.MethodName)) ∈ lw_all := lw_g (lw_at lw_m3 150 rfl) rfl
theorem q736 : (Jvm.Cond.instanceMethod ({ cls := "FlashBoard$Eeprom", name := "load", desc := "(I)I" } : Jvm.MethodName)) ∈ lw_all := lw_g (lw_at lw_m3 151 rfl) rfl
theorem q737 : (Jvm.Cond.code ({ cls := "FlashBoard$Eeprom", name := "load", desc := "(I)I" } : Jvm.MethodName) prog_4_method_2_code (2 : Nat) (Option.some Jvm.ClassFile.FieldType.int)) ∈ lw_all := lw_g (lw_at lw_m3 152 rfl) rfl
theorem q843 : (Jvm.Cond.instanceMethod ({ cls := "FlashBoard$Eeprom", name := "cycle", desc := "()V" } : Jvm.MethodName)) ∈ lw_all := lw_g (lw_at lw_m4 18 rfl) rfl
theorem q844 : (Jvm.Cond.selects "FlashBoard$Eeprom" ({ cls := "FlashBoard$Eeprom", name := "cycle", desc := "()V" } : Jvm.MethodName) ({ cls := "FlashBoard$Eeprom", name := "cycle", desc := "()V" } : Jvm.MethodName)) ∈ lw_all := lw_g (lw_at lw_m4 19 rfl) rfl
theorem q845 : (Jvm.Cond.code ({ cls := "FlashBoard$Eeprom", name := "cycle", desc := "()V" } : Jvm.MethodName) prog_4_method_4_code (1 : Nat) (Option.none : Option Jvm.ClassFile.FieldType)) ∈ lw_all := lw_g (lw_at lw_m4 20 rfl) rfl
theorem q1643 : (Jvm.Cond.castable "FlashBoard$Eeprom" "java/lang/Object") ∈ lw_tbl := lw_at lw_m7 98 rfl
theorem q1658 : (Jvm.Cond.castable "FlashBoard$Eeprom" "FlashBoard$Unit") ∈ lw_tbl := lw_at lw_m7 113 rfl
theorem in_X7 : ∀ w ∈ wsX70, w ∈ lw_all := lw_in wsX70 [274, 268, 270, 272] (by decide +kernel) (by decide +kernel)

/-! FlashBoard$Watchdog -/
set_option maxRecDepth 100000
def RX8 : String := "FlashBoard$Watchdog"
def TX8 : u_T := fun k => match k with
  | 0 => ("FlashBoard$Unit", "core", "LFlashBoard$Core;", true)
  | 1 => ("FlashBoard$Watchdog", "window", "I", false)
  | _ => ("FlashBoard$Watchdog", "count", "I", false)
def tyX8 : Nat → FieldType := fun k => match k with
  | 0 => .object "FlashBoard$Core"
  | 1 => .int
  | _ => .int
abbrev wsX80 : List Cond := u_ws RX8 TX8 3
theorem nmX8 : ∀ a, a < 3 → ∀ b, b < 3 → a ≠ b → (TX8 a).2.1 ≠ (TX8 b).2.1 := by decide +kernel
theorem tyX8_ok : ∀ k, k < 3 → parseFieldDescriptor (TX8 k).2.2.1 = some (tyX8 k) := by decide +kernel
abbrev cX8_init : ByteArray := prog_11_method_1_code
def yX8_init : MethodName := ⟨RX8, "<init>", "(LFlashBoard$Core;)V"⟩
def dkwX8_init_0 : List UInt8 := [42, 43, 183, 0, 1, 177]
abbrev dktX8_init_0 : List UInt8 := dkwX8_init_0 ++ []
theorem dksX8_init_0 : cX8_init.data.toList.drop 0 = dktX8_init_0 := by decide +kernel
theorem dX8_init_0 : decode cX8_init 0 = .ok (.aload_n 0, 1) := dk_42 (dk_at dksX8_init_0 0 rfl rfl)
theorem dX8_init_1 : decode cX8_init 1 = .ok (.aload_n 1, 1) := dk_43 (dk_at dksX8_init_0 1 rfl rfl)
theorem dX8_init_2 : decode cX8_init 2 = .ok (.invokespecial 1, 3) := dk_183 0 1 (dk_at dksX8_init_0 2 rfl rfl)
theorem dX8_init_5 : decode cX8_init 5 = .ok (.return_, 1) := dk_177 (dk_at dksX8_init_0 5 rfl rfl)
abbrev cX8_clear : ByteArray := prog_11_method_5_code
def yX8_clear : MethodName := ⟨RX8, "clear", "()V"⟩
def dkwX8_clear_0 : List UInt8 := [42, 3, 181, 0, 19, 42, 3, 181, 0, 23, 177]
abbrev dktX8_clear_0 : List UInt8 := dkwX8_clear_0 ++ []
theorem dksX8_clear_0 : cX8_clear.data.toList.drop 0 = dktX8_clear_0 := by decide +kernel
theorem dX8_clear_0 : decode cX8_clear 0 = .ok (.aload_n 0, 1) := dk_42 (dk_at dksX8_clear_0 0 rfl rfl)
theorem dX8_clear_1 : decode cX8_clear 1 = .ok (.iconst 0, 1) := dk_3 (dk_at dksX8_clear_0 1 rfl rfl)
theorem dX8_clear_2 : decode cX8_clear 2 = .ok (.putfield 19, 3) := dk_181 0 19 (dk_at dksX8_clear_0 2 rfl rfl)
theorem dX8_clear_5 : decode cX8_clear 5 = .ok (.aload_n 0, 1) := dk_42 (dk_at dksX8_clear_0 5 rfl rfl)
theorem dX8_clear_6 : decode cX8_clear 6 = .ok (.iconst 0, 1) := dk_3 (dk_at dksX8_clear_0 6 rfl rfl)
theorem dX8_clear_7 : decode cX8_clear 7 = .ok (.putfield 23, 3) := dk_181 0 23 (dk_at dksX8_clear_0 7 rfl rfl)
theorem dX8_clear_10 : decode cX8_clear 10 = .ok (.return_, 1) := dk_177 (dk_at dksX8_clear_0 10 rfl rfl)
abbrev cX8_store : ByteArray := prog_11_method_2_code
def yX8_store : MethodName := ⟨RX8, "store", "(II)V"⟩
def dkwX8_store_4 : List UInt8 := [7, 181, 0, 19, 42, 180, 0, 7, 180, 0, 13, 16, 96, 29, 79, 177]
abbrev dktX8_store_4 : List UInt8 := dkwX8_store_4 ++ []
def dkwX8_store_3 : List UInt8 := [62, 42, 3, 181, 0, 19, 167, 0, 22, 28, 16, 24, 126, 16, 24, 160, 0, 13, 29, 16, 16, 128, 62, 42]
abbrev dktX8_store_3 : List UInt8 := dkwX8_store_3 ++ dktX8_store_4
def dkwX8_store_2 : List UInt8 := [29, 17, 0, 192, 126, 28, 16, 47, 126, 128, 42, 180, 0, 7, 180, 0, 13, 16, 84, 46, 16, 8, 126, 128]
abbrev dktX8_store_2 : List UInt8 := dkwX8_store_2 ++ dktX8_store_3
def dkwX8_store_1 : List UInt8 := [29, 16, 191, 126, 28, 16, 64, 126, 128, 62, 29, 16, 16, 126, 153, 0, 43, 28, 16, 16, 126, 154, 0, 36]
abbrev dktX8_store_1 : List UInt8 := dkwX8_store_1 ++ dktX8_store_2
def dkwX8_store_0 : List UInt8 := [42, 180, 0, 7, 180, 0, 13, 16, 96, 46, 62, 28, 17, 0, 128, 126, 153, 0, 8, 29, 16, 127, 126, 62]
abbrev dktX8_store_0 : List UInt8 := dkwX8_store_0 ++ dktX8_store_1
theorem dksX8_store_0 : cX8_store.data.toList.drop 0 = dktX8_store_0 := by decide +kernel
theorem dksX8_store_1 : cX8_store.data.toList.drop 24 = dktX8_store_1 := dk_seg dksX8_store_0 24 rfl rfl
theorem dksX8_store_2 : cX8_store.data.toList.drop 48 = dktX8_store_2 := dk_seg dksX8_store_1 24 rfl rfl
theorem dksX8_store_3 : cX8_store.data.toList.drop 72 = dktX8_store_3 := dk_seg dksX8_store_2 24 rfl rfl
theorem dksX8_store_4 : cX8_store.data.toList.drop 96 = dktX8_store_4 := dk_seg dksX8_store_3 24 rfl rfl
theorem dX8_store_0 : decode cX8_store 0 = .ok (.aload_n 0, 1) := dk_42 (dk_at dksX8_store_0 0 rfl rfl)
theorem dX8_store_1 : decode cX8_store 1 = .ok (.getfield 7, 3) := dk_180 0 7 (dk_at dksX8_store_0 1 rfl rfl)
theorem dX8_store_4 : decode cX8_store 4 = .ok (.getfield 13, 3) := dk_180 0 13 (dk_at dksX8_store_0 4 rfl rfl)
theorem dX8_store_7 : decode cX8_store 7 = .ok (.bipush 96, 2) := dk_16 96 (dk_at dksX8_store_0 7 rfl rfl)
theorem dX8_store_9 : decode cX8_store 9 = .ok (.iaload, 1) := dk_46 (dk_at dksX8_store_0 9 rfl rfl)
theorem dX8_store_10 : decode cX8_store 10 = .ok (.istore_n 3, 1) := dk_62 (dk_at dksX8_store_0 10 rfl rfl)
theorem dX8_store_11 : decode cX8_store 11 = .ok (.iload_n 2, 1) := dk_28 (dk_at dksX8_store_0 11 rfl rfl)
theorem dX8_store_12 : decode cX8_store 12 = .ok (.sipush 128, 3) := dk_17 0 128 (dk_at dksX8_store_0 12 rfl rfl)
theorem dX8_store_15 : decode cX8_store 15 = .ok (.iand, 1) := dk_126 (dk_at dksX8_store_0 15 rfl rfl)
theorem dX8_store_16 : decode cX8_store 16 = .ok (.ifCond .eq 8, 3) := dk_153 0 8 (dk_at dksX8_store_0 16 rfl rfl)
theorem dX8_store_19 : decode cX8_store 19 = .ok (.iload_n 3, 1) := dk_29 (dk_at dksX8_store_0 19 rfl rfl)
theorem dX8_store_20 : decode cX8_store 20 = .ok (.bipush 127, 2) := dk_16 127 (dk_at dksX8_store_0 20 rfl rfl)
theorem dX8_store_22 : decode cX8_store 22 = .ok (.iand, 1) := dk_126 (dk_at dksX8_store_0 22 rfl rfl)
theorem dX8_store_23 : decode cX8_store 23 = .ok (.istore_n 3, 1) := dk_62 (dk_at dksX8_store_0 23 rfl rfl)
theorem dX8_store_24 : decode cX8_store 24 = .ok (.iload_n 3, 1) := dk_29 (dk_at dksX8_store_1 0 rfl rfl)
theorem dX8_store_25 : decode cX8_store 25 = .ok (.bipush (-65), 2) := dk_16 191 (dk_at dksX8_store_1 1 rfl rfl)
theorem dX8_store_27 : decode cX8_store 27 = .ok (.iand, 1) := dk_126 (dk_at dksX8_store_1 3 rfl rfl)
theorem dX8_store_28 : decode cX8_store 28 = .ok (.iload_n 2, 1) := dk_28 (dk_at dksX8_store_1 4 rfl rfl)
theorem dX8_store_29 : decode cX8_store 29 = .ok (.bipush 64, 2) := dk_16 64 (dk_at dksX8_store_1 5 rfl rfl)
theorem dX8_store_31 : decode cX8_store 31 = .ok (.iand, 1) := dk_126 (dk_at dksX8_store_1 7 rfl rfl)
theorem dX8_store_32 : decode cX8_store 32 = .ok (.ior, 1) := dk_128 (dk_at dksX8_store_1 8 rfl rfl)
theorem dX8_store_33 : decode cX8_store 33 = .ok (.istore_n 3, 1) := dk_62 (dk_at dksX8_store_1 9 rfl rfl)
theorem dX8_store_34 : decode cX8_store 34 = .ok (.iload_n 3, 1) := dk_29 (dk_at dksX8_store_1 10 rfl rfl)
theorem dX8_store_35 : decode cX8_store 35 = .ok (.bipush 16, 2) := dk_16 16 (dk_at dksX8_store_1 11 rfl rfl)
theorem dX8_store_37 : decode cX8_store 37 = .ok (.iand, 1) := dk_126 (dk_at dksX8_store_1 13 rfl rfl)
theorem dX8_store_38 : decode cX8_store 38 = .ok (.ifCond .eq 43, 3) := dk_153 0 43 (dk_at dksX8_store_1 14 rfl rfl)
theorem dX8_store_41 : decode cX8_store 41 = .ok (.iload_n 2, 1) := dk_28 (dk_at dksX8_store_1 17 rfl rfl)
theorem dX8_store_42 : decode cX8_store 42 = .ok (.bipush 16, 2) := dk_16 16 (dk_at dksX8_store_1 18 rfl rfl)
theorem dX8_store_44 : decode cX8_store 44 = .ok (.iand, 1) := dk_126 (dk_at dksX8_store_1 20 rfl rfl)
theorem dX8_store_45 : decode cX8_store 45 = .ok (.ifCond .ne 36, 3) := dk_154 0 36 (dk_at dksX8_store_1 21 rfl rfl)
theorem dX8_store_48 : decode cX8_store 48 = .ok (.iload_n 3, 1) := dk_29 (dk_at dksX8_store_2 0 rfl rfl)
theorem dX8_store_49 : decode cX8_store 49 = .ok (.sipush 192, 3) := dk_17 0 192 (dk_at dksX8_store_2 1 rfl rfl)
theorem dX8_store_52 : decode cX8_store 52 = .ok (.iand, 1) := dk_126 (dk_at dksX8_store_2 4 rfl rfl)
theorem dX8_store_53 : decode cX8_store 53 = .ok (.iload_n 2, 1) := dk_28 (dk_at dksX8_store_2 5 rfl rfl)
theorem dX8_store_54 : decode cX8_store 54 = .ok (.bipush 47, 2) := dk_16 47 (dk_at dksX8_store_2 6 rfl rfl)
theorem dX8_store_56 : decode cX8_store 56 = .ok (.iand, 1) := dk_126 (dk_at dksX8_store_2 8 rfl rfl)
theorem dX8_store_57 : decode cX8_store 57 = .ok (.ior, 1) := dk_128 (dk_at dksX8_store_2 9 rfl rfl)
theorem dX8_store_58 : decode cX8_store 58 = .ok (.aload_n 0, 1) := dk_42 (dk_at dksX8_store_2 10 rfl rfl)
theorem dX8_store_59 : decode cX8_store 59 = .ok (.getfield 7, 3) := dk_180 0 7 (dk_at dksX8_store_2 11 rfl rfl)
theorem dX8_store_62 : decode cX8_store 62 = .ok (.getfield 13, 3) := dk_180 0 13 (dk_at dksX8_store_2 14 rfl rfl)
theorem dX8_store_65 : decode cX8_store 65 = .ok (.bipush 84, 2) := dk_16 84 (dk_at dksX8_store_2 17 rfl rfl)
theorem dX8_store_67 : decode cX8_store 67 = .ok (.iaload, 1) := dk_46 (dk_at dksX8_store_2 19 rfl rfl)
theorem dX8_store_68 : decode cX8_store 68 = .ok (.bipush 8, 2) := dk_16 8 (dk_at dksX8_store_2 20 rfl rfl)
theorem dX8_store_70 : decode cX8_store 70 = .ok (.iand, 1) := dk_126 (dk_at dksX8_store_2 22 rfl rfl)
theorem dX8_store_71 : decode cX8_store 71 = .ok (.ior, 1) := dk_128 (dk_at dksX8_store_2 23 rfl rfl)
theorem dX8_store_72 : decode cX8_store 72 = .ok (.istore_n 3, 1) := dk_62 (dk_at dksX8_store_3 0 rfl rfl)
theorem dX8_store_73 : decode cX8_store 73 = .ok (.aload_n 0, 1) := dk_42 (dk_at dksX8_store_3 1 rfl rfl)
theorem dX8_store_74 : decode cX8_store 74 = .ok (.iconst 0, 1) := dk_3 (dk_at dksX8_store_3 2 rfl rfl)
theorem dX8_store_75 : decode cX8_store 75 = .ok (.putfield 19, 3) := dk_181 0 19 (dk_at dksX8_store_3 3 rfl rfl)
theorem dX8_store_78 : decode cX8_store 78 = .ok (.goto 22, 3) := dk_167 0 22 (dk_at dksX8_store_3 6 rfl rfl)
theorem dX8_store_81 : decode cX8_store 81 = .ok (.iload_n 2, 1) := dk_28 (dk_at dksX8_store_3 9 rfl rfl)
theorem dX8_store_82 : decode cX8_store 82 = .ok (.bipush 24, 2) := dk_16 24 (dk_at dksX8_store_3 10 rfl rfl)
theorem dX8_store_84 : decode cX8_store 84 = .ok (.iand, 1) := dk_126 (dk_at dksX8_store_3 12 rfl rfl)
theorem dX8_store_85 : decode cX8_store 85 = .ok (.bipush 24, 2) := dk_16 24 (dk_at dksX8_store_3 13 rfl rfl)
theorem dX8_store_87 : decode cX8_store 87 = .ok (.if_icmp .ne 13, 3) := dk_160 0 13 (dk_at dksX8_store_3 15 rfl rfl)
theorem dX8_store_90 : decode cX8_store 90 = .ok (.iload_n 3, 1) := dk_29 (dk_at dksX8_store_3 18 rfl rfl)
theorem dX8_store_91 : decode cX8_store 91 = .ok (.bipush 16, 2) := dk_16 16 (dk_at dksX8_store_3 19 rfl rfl)
theorem dX8_store_93 : decode cX8_store 93 = .ok (.ior, 1) := dk_128 (dk_at dksX8_store_3 21 rfl rfl)
theorem dX8_store_94 : decode cX8_store 94 = .ok (.istore_n 3, 1) := dk_62 (dk_at dksX8_store_3 22 rfl rfl)
theorem dX8_store_95 : decode cX8_store 95 = .ok (.aload_n 0, 1) := dk_42 (dk_at dksX8_store_3 23 rfl rfl)
theorem dX8_store_96 : decode cX8_store 96 = .ok (.iconst 4, 1) := dk_7 (dk_at dksX8_store_4 0 rfl rfl)
theorem dX8_store_97 : decode cX8_store 97 = .ok (.putfield 19, 3) := dk_181 0 19 (dk_at dksX8_store_4 1 rfl rfl)
theorem dX8_store_100 : decode cX8_store 100 = .ok (.aload_n 0, 1) := dk_42 (dk_at dksX8_store_4 4 rfl rfl)
theorem dX8_store_101 : decode cX8_store 101 = .ok (.getfield 7, 3) := dk_180 0 7 (dk_at dksX8_store_4 5 rfl rfl)
theorem dX8_store_104 : decode cX8_store 104 = .ok (.getfield 13, 3) := dk_180 0 13 (dk_at dksX8_store_4 8 rfl rfl)
theorem dX8_store_107 : decode cX8_store 107 = .ok (.bipush 96, 2) := dk_16 96 (dk_at dksX8_store_4 11 rfl rfl)
theorem dX8_store_109 : decode cX8_store 109 = .ok (.iload_n 3, 1) := dk_29 (dk_at dksX8_store_4 13 rfl rfl)
theorem dX8_store_110 : decode cX8_store 110 = .ok (.iastore, 1) := dk_79 (dk_at dksX8_store_4 14 rfl rfl)
theorem dX8_store_111 : decode cX8_store 111 = .ok (.return_, 1) := dk_177 (dk_at dksX8_store_4 15 rfl rfl)
abbrev cX8_shorter : ByteArray := prog_11_method_3_code
def yX8_shorter : MethodName := ⟨RX8, "shorter", "()V"⟩
def dkwX8_shorter_1 : List UInt8 := [154, 0, 18, 42, 180, 0, 7, 180, 0, 13, 16, 96, 92, 46, 16, 239, 126, 79, 177]
abbrev dktX8_shorter_1 : List UInt8 := dkwX8_shorter_1 ++ []
def dkwX8_shorter_0 : List UInt8 := [42, 180, 0, 19, 154, 0, 4, 177, 42, 89, 180, 0, 19, 4, 100, 181, 0, 19, 42, 180, 0, 19]
abbrev dktX8_shorter_0 : List UInt8 := dkwX8_shorter_0 ++ dktX8_shorter_1
theorem dksX8_shorter_0 : cX8_shorter.data.toList.drop 0 = dktX8_shorter_0 := by decide +kernel
theorem dksX8_shorter_1 : cX8_shorter.data.toList.drop 22 = dktX8_shorter_1 := dk_seg dksX8_shorter_0 22 rfl rfl
theorem dX8_shorter_0 : decode cX8_shorter 0 = .ok (.aload_n 0, 1) := dk_42 (dk_at dksX8_shorter_0 0 rfl rfl)
theorem dX8_shorter_1 : decode cX8_shorter 1 = .ok (.getfield 19, 3) := dk_180 0 19 (dk_at dksX8_shorter_0 1 rfl rfl)
theorem dX8_shorter_4 : decode cX8_shorter 4 = .ok (.ifCond .ne 4, 3) := dk_154 0 4 (dk_at dksX8_shorter_0 4 rfl rfl)
theorem dX8_shorter_7 : decode cX8_shorter 7 = .ok (.return_, 1) := dk_177 (dk_at dksX8_shorter_0 7 rfl rfl)
theorem dX8_shorter_8 : decode cX8_shorter 8 = .ok (.aload_n 0, 1) := dk_42 (dk_at dksX8_shorter_0 8 rfl rfl)
theorem dX8_shorter_9 : decode cX8_shorter 9 = .ok (.dup, 1) := dk_89 (dk_at dksX8_shorter_0 9 rfl rfl)
theorem dX8_shorter_10 : decode cX8_shorter 10 = .ok (.getfield 19, 3) := dk_180 0 19 (dk_at dksX8_shorter_0 10 rfl rfl)
theorem dX8_shorter_13 : decode cX8_shorter 13 = .ok (.iconst 1, 1) := dk_4 (dk_at dksX8_shorter_0 13 rfl rfl)
theorem dX8_shorter_14 : decode cX8_shorter 14 = .ok (.isub, 1) := dk_100 (dk_at dksX8_shorter_0 14 rfl rfl)
theorem dX8_shorter_15 : decode cX8_shorter 15 = .ok (.putfield 19, 3) := dk_181 0 19 (dk_at dksX8_shorter_0 15 rfl rfl)
theorem dX8_shorter_18 : decode cX8_shorter 18 = .ok (.aload_n 0, 1) := dk_42 (dk_at dksX8_shorter_0 18 rfl rfl)
theorem dX8_shorter_19 : decode cX8_shorter 19 = .ok (.getfield 19, 3) := dk_180 0 19 (dk_at dksX8_shorter_0 19 rfl rfl)
theorem dX8_shorter_22 : decode cX8_shorter 22 = .ok (.ifCond .ne 18, 3) := dk_154 0 18 (dk_at dksX8_shorter_1 0 rfl rfl)
theorem dX8_shorter_25 : decode cX8_shorter 25 = .ok (.aload_n 0, 1) := dk_42 (dk_at dksX8_shorter_1 3 rfl rfl)
theorem dX8_shorter_26 : decode cX8_shorter 26 = .ok (.getfield 7, 3) := dk_180 0 7 (dk_at dksX8_shorter_1 4 rfl rfl)
theorem dX8_shorter_29 : decode cX8_shorter 29 = .ok (.getfield 13, 3) := dk_180 0 13 (dk_at dksX8_shorter_1 7 rfl rfl)
theorem dX8_shorter_32 : decode cX8_shorter 32 = .ok (.bipush 96, 2) := dk_16 96 (dk_at dksX8_shorter_1 10 rfl rfl)
theorem dX8_shorter_34 : decode cX8_shorter 34 = .ok (.dup2, 1) := dk_92 (dk_at dksX8_shorter_1 12 rfl rfl)
theorem dX8_shorter_35 : decode cX8_shorter 35 = .ok (.iaload, 1) := dk_46 (dk_at dksX8_shorter_1 13 rfl rfl)
theorem dX8_shorter_36 : decode cX8_shorter 36 = .ok (.bipush (-17), 2) := dk_16 239 (dk_at dksX8_shorter_1 14 rfl rfl)
theorem dX8_shorter_38 : decode cX8_shorter 38 = .ok (.iand, 1) := dk_126 (dk_at dksX8_shorter_1 16 rfl rfl)
theorem dX8_shorter_39 : decode cX8_shorter 39 = .ok (.iastore, 1) := dk_79 (dk_at dksX8_shorter_1 17 rfl rfl)
theorem dX8_shorter_40 : decode cX8_shorter 40 = .ok (.return_, 1) := dk_177 (dk_at dksX8_shorter_1 18 rfl rfl)
abbrev cX8_cycle : ByteArray := prog_11_method_4_code
def yX8_cycle : MethodName := ⟨RX8, "cycle", "()V"⟩
def dkwX8_cycle_4 : List UInt8 := [167, 0, 11, 42, 180, 0, 7, 4, 181, 0, 32, 177]
abbrev dktX8_cycle_4 : List UInt8 := dkwX8_cycle_4 ++ []
def dkwX8_cycle_3 : List UInt8 := [16, 64, 126, 153, 0, 22, 42, 180, 0, 7, 180, 0, 13, 16, 96, 92, 46, 17, 0, 128, 128, 79]
abbrev dktX8_cycle_3 : List UInt8 := dkwX8_cycle_3 ++ dktX8_cycle_4
def dkwX8_cycle_2 : List UInt8 := [184, 0, 26, 61, 42, 180, 0, 23, 17, 16, 0, 28, 120, 162, 0, 4, 177, 42, 3, 181, 0, 23, 27]
abbrev dktX8_cycle_2 : List UInt8 := dkwX8_cycle_2 ++ dktX8_cycle_3
def dkwX8_cycle_1 : List UInt8 := [42, 89, 180, 0, 23, 4, 96, 181, 0, 23, 16, 11, 27, 16, 32, 126, 5, 122, 27, 16, 7, 126, 128]
abbrev dktX8_cycle_1 : List UInt8 := dkwX8_cycle_1 ++ dktX8_cycle_2
def dkwX8_cycle_0 : List UInt8 := [42, 180, 0, 7, 180, 0, 13, 16, 96, 46, 60, 27, 16, 72, 126, 154, 0, 9, 42, 3, 181, 0, 23, 177]
abbrev dktX8_cycle_0 : List UInt8 := dkwX8_cycle_0 ++ dktX8_cycle_1
theorem dksX8_cycle_0 : cX8_cycle.data.toList.drop 0 = dktX8_cycle_0 := by decide +kernel
theorem dksX8_cycle_1 : cX8_cycle.data.toList.drop 24 = dktX8_cycle_1 := dk_seg dksX8_cycle_0 24 rfl rfl
theorem dksX8_cycle_2 : cX8_cycle.data.toList.drop 47 = dktX8_cycle_2 := dk_seg dksX8_cycle_1 23 rfl rfl
theorem dksX8_cycle_3 : cX8_cycle.data.toList.drop 70 = dktX8_cycle_3 := dk_seg dksX8_cycle_2 23 rfl rfl
theorem dksX8_cycle_4 : cX8_cycle.data.toList.drop 92 = dktX8_cycle_4 := dk_seg dksX8_cycle_3 22 rfl rfl
theorem dX8_cycle_0 : decode cX8_cycle 0 = .ok (.aload_n 0, 1) := dk_42 (dk_at dksX8_cycle_0 0 rfl rfl)
theorem dX8_cycle_1 : decode cX8_cycle 1 = .ok (.getfield 7, 3) := dk_180 0 7 (dk_at dksX8_cycle_0 1 rfl rfl)
theorem dX8_cycle_4 : decode cX8_cycle 4 = .ok (.getfield 13, 3) := dk_180 0 13 (dk_at dksX8_cycle_0 4 rfl rfl)
theorem dX8_cycle_7 : decode cX8_cycle 7 = .ok (.bipush 96, 2) := dk_16 96 (dk_at dksX8_cycle_0 7 rfl rfl)
theorem dX8_cycle_9 : decode cX8_cycle 9 = .ok (.iaload, 1) := dk_46 (dk_at dksX8_cycle_0 9 rfl rfl)
theorem dX8_cycle_10 : decode cX8_cycle 10 = .ok (.istore_n 1, 1) := dk_60 (dk_at dksX8_cycle_0 10 rfl rfl)
theorem dX8_cycle_11 : decode cX8_cycle 11 = .ok (.iload_n 1, 1) := dk_27 (dk_at dksX8_cycle_0 11 rfl rfl)
theorem dX8_cycle_12 : decode cX8_cycle 12 = .ok (.bipush 72, 2) := dk_16 72 (dk_at dksX8_cycle_0 12 rfl rfl)
theorem dX8_cycle_14 : decode cX8_cycle 14 = .ok (.iand, 1) := dk_126 (dk_at dksX8_cycle_0 14 rfl rfl)
theorem dX8_cycle_15 : decode cX8_cycle 15 = .ok (.ifCond .ne 9, 3) := dk_154 0 9 (dk_at dksX8_cycle_0 15 rfl rfl)
theorem dX8_cycle_18 : decode cX8_cycle 18 = .ok (.aload_n 0, 1) := dk_42 (dk_at dksX8_cycle_0 18 rfl rfl)
theorem dX8_cycle_19 : decode cX8_cycle 19 = .ok (.iconst 0, 1) := dk_3 (dk_at dksX8_cycle_0 19 rfl rfl)
theorem dX8_cycle_20 : decode cX8_cycle 20 = .ok (.putfield 23, 3) := dk_181 0 23 (dk_at dksX8_cycle_0 20 rfl rfl)
theorem dX8_cycle_23 : decode cX8_cycle 23 = .ok (.return_, 1) := dk_177 (dk_at dksX8_cycle_0 23 rfl rfl)
theorem dX8_cycle_24 : decode cX8_cycle 24 = .ok (.aload_n 0, 1) := dk_42 (dk_at dksX8_cycle_1 0 rfl rfl)
theorem dX8_cycle_25 : decode cX8_cycle 25 = .ok (.dup, 1) := dk_89 (dk_at dksX8_cycle_1 1 rfl rfl)
theorem dX8_cycle_26 : decode cX8_cycle 26 = .ok (.getfield 23, 3) := dk_180 0 23 (dk_at dksX8_cycle_1 2 rfl rfl)
theorem dX8_cycle_29 : decode cX8_cycle 29 = .ok (.iconst 1, 1) := dk_4 (dk_at dksX8_cycle_1 5 rfl rfl)
theorem dX8_cycle_30 : decode cX8_cycle 30 = .ok (.iadd, 1) := dk_96 (dk_at dksX8_cycle_1 6 rfl rfl)
theorem dX8_cycle_31 : decode cX8_cycle 31 = .ok (.putfield 23, 3) := dk_181 0 23 (dk_at dksX8_cycle_1 7 rfl rfl)
theorem dX8_cycle_34 : decode cX8_cycle 34 = .ok (.bipush 11, 2) := dk_16 11 (dk_at dksX8_cycle_1 10 rfl rfl)
theorem dX8_cycle_36 : decode cX8_cycle 36 = .ok (.iload_n 1, 1) := dk_27 (dk_at dksX8_cycle_1 12 rfl rfl)
theorem dX8_cycle_37 : decode cX8_cycle 37 = .ok (.bipush 32, 2) := dk_16 32 (dk_at dksX8_cycle_1 13 rfl rfl)
theorem dX8_cycle_39 : decode cX8_cycle 39 = .ok (.iand, 1) := dk_126 (dk_at dksX8_cycle_1 15 rfl rfl)
theorem dX8_cycle_40 : decode cX8_cycle 40 = .ok (.iconst 2, 1) := dk_5 (dk_at dksX8_cycle_1 16 rfl rfl)
theorem dX8_cycle_41 : decode cX8_cycle 41 = .ok (.ishr, 1) := dk_122 (dk_at dksX8_cycle_1 17 rfl rfl)
theorem dX8_cycle_42 : decode cX8_cycle 42 = .ok (.iload_n 1, 1) := dk_27 (dk_at dksX8_cycle_1 18 rfl rfl)
theorem dX8_cycle_43 : decode cX8_cycle 43 = .ok (.bipush 7, 2) := dk_16 7 (dk_at dksX8_cycle_1 19 rfl rfl)
theorem dX8_cycle_45 : decode cX8_cycle 45 = .ok (.iand, 1) := dk_126 (dk_at dksX8_cycle_1 21 rfl rfl)
theorem dX8_cycle_46 : decode cX8_cycle 46 = .ok (.ior, 1) := dk_128 (dk_at dksX8_cycle_1 22 rfl rfl)
theorem dX8_cycle_47 : decode cX8_cycle 47 = .ok (.invokestatic 26, 3) := dk_184 0 26 (dk_at dksX8_cycle_2 0 rfl rfl)
theorem dX8_cycle_50 : decode cX8_cycle 50 = .ok (.istore_n 2, 1) := dk_61 (dk_at dksX8_cycle_2 3 rfl rfl)
theorem dX8_cycle_51 : decode cX8_cycle 51 = .ok (.aload_n 0, 1) := dk_42 (dk_at dksX8_cycle_2 4 rfl rfl)
theorem dX8_cycle_52 : decode cX8_cycle 52 = .ok (.getfield 23, 3) := dk_180 0 23 (dk_at dksX8_cycle_2 5 rfl rfl)
theorem dX8_cycle_55 : decode cX8_cycle 55 = .ok (.sipush 4096, 3) := dk_17 16 0 (dk_at dksX8_cycle_2 8 rfl rfl)
theorem dX8_cycle_58 : decode cX8_cycle 58 = .ok (.iload_n 2, 1) := dk_28 (dk_at dksX8_cycle_2 11 rfl rfl)
theorem dX8_cycle_59 : decode cX8_cycle 59 = .ok (.ishl, 1) := dk_120 (dk_at dksX8_cycle_2 12 rfl rfl)
theorem dX8_cycle_60 : decode cX8_cycle 60 = .ok (.if_icmp .ge 4, 3) := dk_162 0 4 (dk_at dksX8_cycle_2 13 rfl rfl)
theorem dX8_cycle_63 : decode cX8_cycle 63 = .ok (.return_, 1) := dk_177 (dk_at dksX8_cycle_2 16 rfl rfl)
theorem dX8_cycle_64 : decode cX8_cycle 64 = .ok (.aload_n 0, 1) := dk_42 (dk_at dksX8_cycle_2 17 rfl rfl)
theorem dX8_cycle_65 : decode cX8_cycle 65 = .ok (.iconst 0, 1) := dk_3 (dk_at dksX8_cycle_2 18 rfl rfl)
theorem dX8_cycle_66 : decode cX8_cycle 66 = .ok (.putfield 23, 3) := dk_181 0 23 (dk_at dksX8_cycle_2 19 rfl rfl)
theorem dX8_cycle_69 : decode cX8_cycle 69 = .ok (.iload_n 1, 1) := dk_27 (dk_at dksX8_cycle_2 22 rfl rfl)
theorem dX8_cycle_70 : decode cX8_cycle 70 = .ok (.bipush 64, 2) := dk_16 64 (dk_at dksX8_cycle_3 0 rfl rfl)
theorem dX8_cycle_72 : decode cX8_cycle 72 = .ok (.iand, 1) := dk_126 (dk_at dksX8_cycle_3 2 rfl rfl)
theorem dX8_cycle_73 : decode cX8_cycle 73 = .ok (.ifCond .eq 22, 3) := dk_153 0 22 (dk_at dksX8_cycle_3 3 rfl rfl)
theorem dX8_cycle_76 : decode cX8_cycle 76 = .ok (.aload_n 0, 1) := dk_42 (dk_at dksX8_cycle_3 6 rfl rfl)
theorem dX8_cycle_77 : decode cX8_cycle 77 = .ok (.getfield 7, 3) := dk_180 0 7 (dk_at dksX8_cycle_3 7 rfl rfl)
theorem dX8_cycle_80 : decode cX8_cycle 80 = .ok (.getfield 13, 3) := dk_180 0 13 (dk_at dksX8_cycle_3 10 rfl rfl)
theorem dX8_cycle_83 : decode cX8_cycle 83 = .ok (.bipush 96, 2) := dk_16 96 (dk_at dksX8_cycle_3 13 rfl rfl)
theorem dX8_cycle_85 : decode cX8_cycle 85 = .ok (.dup2, 1) := dk_92 (dk_at dksX8_cycle_3 15 rfl rfl)
theorem dX8_cycle_86 : decode cX8_cycle 86 = .ok (.iaload, 1) := dk_46 (dk_at dksX8_cycle_3 16 rfl rfl)
theorem dX8_cycle_87 : decode cX8_cycle 87 = .ok (.sipush 128, 3) := dk_17 0 128 (dk_at dksX8_cycle_3 17 rfl rfl)
theorem dX8_cycle_90 : decode cX8_cycle 90 = .ok (.ior, 1) := dk_128 (dk_at dksX8_cycle_3 20 rfl rfl)
theorem dX8_cycle_91 : decode cX8_cycle 91 = .ok (.iastore, 1) := dk_79 (dk_at dksX8_cycle_3 21 rfl rfl)
theorem dX8_cycle_92 : decode cX8_cycle 92 = .ok (.goto 11, 3) := dk_167 0 11 (dk_at dksX8_cycle_4 0 rfl rfl)
theorem dX8_cycle_95 : decode cX8_cycle 95 = .ok (.aload_n 0, 1) := dk_42 (dk_at dksX8_cycle_4 3 rfl rfl)
theorem dX8_cycle_96 : decode cX8_cycle 96 = .ok (.getfield 7, 3) := dk_180 0 7 (dk_at dksX8_cycle_4 4 rfl rfl)
theorem dX8_cycle_99 : decode cX8_cycle 99 = .ok (.iconst 1, 1) := dk_4 (dk_at dksX8_cycle_4 7 rfl rfl)
theorem dX8_cycle_100 : decode cX8_cycle 100 = .ok (.putfield 32, 3) := dk_181 0 32 (dk_at dksX8_cycle_4 8 rfl rfl)
theorem dX8_cycle_103 : decode cX8_cycle 103 = .ok (.return_, 1) := dk_177 (dk_at dksX8_cycle_4 11 rfl rfl)
theorem q113 : (Jvm.Cond.initialized "FlashBoard$Watchdog") ∈ lw_all := lw_g (lw_at lw_m1 8 rfl) rfl
theorem q163 : (Jvm.Cond.fieldLink "FlashBoard$Watchdog" (7 : Nat) "FlashBoard$Watchdog" "core" "LFlashBoard$Core;") ∈ lw_all := lw_g (lw_at lw_m1 58 rfl) rfl
theorem q164 : (Jvm.Cond.sameField "FlashBoard$Watchdog" "FlashBoard$Unit" "core" "LFlashBoard$Core;") ∈ lw_all := lw_g (lw_at lw_m1 59 rfl) rfl
theorem q277 : (Jvm.Cond.instantiable "FlashBoard$Watchdog" (3 : Nat)) ∈ lw_all := lw_g (lw_at lw_m1 172 rfl) rfl
theorem q279 : (Jvm.Cond.instanceMethod ({ cls := "FlashBoard$Watchdog", name := "<init>", desc := "(LFlashBoard$Core;)V" } : Jvm.MethodName)) ∈ lw_all := lw_g (lw_at lw_m1 174 rfl) rfl
theorem q280 : (Jvm.Cond.code ({ cls := "FlashBoard$Watchdog", name := "<init>", desc := "(LFlashBoard$Core;)V" } : Jvm.MethodName) prog_11_method_1_code (2 : Nat) (Option.none : Option Jvm.ClassFile.FieldType)) ∈ lw_all := lw_g (lw_at lw_m1 175 rfl) rfl
theorem q281 : (Jvm.Cond.methodLink "FlashBoard$Watchdog" (1 : Nat) ({ cls := "FlashBoard$Unit", name := "<init>", desc := "(LFlashBoard$Core;)V" } : Jvm.MethodName)) ∈ lw_all := lw_g (lw_at lw_m1 176 rfl) rfl
theorem q282 : (Jvm.Cond.fieldLink "FlashBoard$Watchdog" (19 : Nat) "FlashBoard$Watchdog" "window" "I") ∈ lw_all := lw_g (lw_at lw_m1 177 rfl) rfl
theorem q284 : (Jvm.Cond.fieldLink "FlashBoard$Watchdog" (23 : Nat) "FlashBoard$Watchdog" "count" "I") ∈ lw_all := lw_g (lw_at lw_m1 179 rfl) rfl
theorem q287 : (Jvm.Cond.lays "FlashBoard$Watchdog" "FlashBoard$Watchdog" "window" "I") ∈ lw_all := lw_g (lw_at lw_m1 182 rfl) rfl
theorem q288 : (Jvm.Cond.soleField "FlashBoard$Watchdog" "window") ∈ lw_all := lw_g (lw_at lw_m1 183 rfl) rfl
theorem q289 : (Jvm.Cond.lays "FlashBoard$Watchdog" "FlashBoard$Watchdog" "count" "I") ∈ lw_all := lw_g (lw_at lw_m1 184 rfl) rfl
theorem q290 : (Jvm.Cond.soleField "FlashBoard$Watchdog" "count") ∈ lw_all := lw_g (lw_at lw_m1 185 rfl) rfl
theorem q291 : (Jvm.Cond.laysFinal "FlashBoard$Watchdog" "FlashBoard$Unit" "core" "LFlashBoard$Core;") ∈ lw_all := lw_g (lw_at lw_m1 186 rfl) rfl
theorem q292 : (Jvm.Cond.superclass "FlashBoard$Watchdog" "FlashBoard$Unit") ∈ lw_all := lw_g (lw_at lw_m1 187 rfl) rfl
theorem q485 : (Jvm.Cond.selects "FlashBoard$Watchdog" ({ cls := "FlashBoard$Unit", name := "clear", desc := "()V" } : Jvm.MethodName) ({ cls := "FlashBoard$Watchdog", name := "clear", desc := "()V" } : Jvm.MethodName)) ∈ lw_all := lw_g (lw_at lw_m2 140 rfl) rfl
theorem q486 : (Jvm.Cond.instanceMethod ({ cls := "FlashBoard$Watchdog", name := "clear", desc := "()V" } : Jvm.MethodName)) ∈ lw_all := lw_g (lw_at lw_m2 141 rfl) rfl
theorem q487 : (Jvm.Cond.code ({ cls := "FlashBoard$Watchdog", name := "clear", desc := "()V" } : Jvm.MethodName) prog_11_method_5_code (1 : Nat) (Option.none : Option Jvm.ClassFile.FieldType)) ∈ lw_all := lw_g (lw_at lw_m2 142 rfl) rfl
theorem q491 : (Jvm.Cond.fieldLinkNest "FlashBoard$Watchdog" (13 : Nat) "FlashBoard$Core" "data" "[I" "FlashBoard") ∈ lw_tbl := lw_at lw_m2 146 rfl
theorem q529 : (Jvm.Cond.fieldLinkNest "FlashBoard$Watchdog" (32 : Nat) "FlashBoard$Core" "isReset" "Z" "FlashBoard") ∈ lw_tbl := lw_at lw_m2 184 rfl
theorem q638 : (Jvm.Cond.selects "FlashBoard$Watchdog" ({ cls := "FlashBoard$Unit", name := "store", desc := "(II)V" } : Jvm.MethodName) ({ cls := "FlashBoard$Watchdog", name := "store", desc := "(II)V" } : Jvm.MethodName)) ∈ lw_all := lw_g (lw_at lw_m3 53 rfl) rfl
theorem q639 : (Jvm.Cond.instanceMethod ({ cls := "FlashBoard$Watchdog", name := "store", desc := "(II)V" } : Jvm.MethodName)) ∈ lw_all := lw_g (lw_at lw_m3 54 rfl) rfl
theorem q640 : (Jvm.Cond.code ({ cls := "FlashBoard$Watchdog", name := "store", desc := "(II)V" } : Jvm.MethodName) prog_11_method_2_code (4 : Nat) (Option.none : Option Jvm.ClassFile.FieldType)) ∈ lw_all := lw_g (lw_at lw_m3 55 rfl) rfl
theorem q748 : (Jvm.Cond.selects "FlashBoard$Watchdog" ({ cls := "FlashBoard$Unit", name := "load", desc := "(I)I" } : Jvm.MethodName) ({ cls := "FlashBoard$Unit", name := "load", desc := "(I)I" } : Jvm.MethodName)) ∈ lw_all := lw_g (lw_at lw_m3 163 rfl) rfl
theorem q835 : (Jvm.Cond.instanceMethod ({ cls := "FlashBoard$Watchdog", name := "shorter", desc := "()V" } : Jvm.MethodName)) ∈ lw_all := lw_g (lw_at lw_m4 10 rfl) rfl
theorem q836 : (Jvm.Cond.selects "FlashBoard$Watchdog" ({ cls := "FlashBoard$Watchdog", name := "shorter", desc := "()V" } : Jvm.MethodName) ({ cls := "FlashBoard$Watchdog", name := "shorter", desc := "()V" } : Jvm.MethodName)) ∈ lw_all := lw_g (lw_at lw_m4 11 rfl) rfl
theorem q837 : (Jvm.Cond.code ({ cls := "FlashBoard$Watchdog", name := "shorter", desc := "()V" } : Jvm.MethodName) prog_11_method_3_code (1 : Nat) (Option.none : Option Jvm.ClassFile.FieldType)) ∈ lw_all := lw_g (lw_at lw_m4 12 rfl) rfl
theorem q867 : (Jvm.Cond.instanceMethod ({ cls := "FlashBoard$Watchdog", name := "cycle", desc := "()V" } : Jvm.MethodName)) ∈ lw_all := lw_g (lw_at lw_m4 42 rfl) rfl
theorem q868 : (Jvm.Cond.selects "FlashBoard$Watchdog" ({ cls := "FlashBoard$Watchdog", name := "cycle", desc := "()V" } : Jvm.MethodName) ({ cls := "FlashBoard$Watchdog", name := "cycle", desc := "()V" } : Jvm.MethodName)) ∈ lw_all := lw_g (lw_at lw_m4 43 rfl) rfl
theorem q869 : (Jvm.Cond.code ({ cls := "FlashBoard$Watchdog", name := "cycle", desc := "()V" } : Jvm.MethodName) prog_11_method_4_code (3 : Nat) (Option.none : Option Jvm.ClassFile.FieldType)) ∈ lw_all := lw_g (lw_at lw_m4 44 rfl) rfl
theorem q870 : (Jvm.Cond.methodLink "FlashBoard$Watchdog" (26 : Nat) ({ cls := "java/lang/Math", name := "min", desc := "(II)I" } : Jvm.MethodName)) ∈ lw_all := lw_g (lw_at lw_m4 45 rfl) rfl
theorem q1644 : (Jvm.Cond.castable "FlashBoard$Watchdog" "java/lang/Object") ∈ lw_tbl := lw_at lw_m7 99 rfl
theorem q1659 : (Jvm.Cond.castable "FlashBoard$Watchdog" "FlashBoard$Unit") ∈ lw_tbl := lw_at lw_m7 114 rfl
theorem in_X8 : ∀ w ∈ wsX80, w ∈ lw_all := lw_in wsX80 [291, 287, 289] (by decide +kernel) (by decide +kernel)

/-! FlashBoard$Causes -/
set_option maxRecDepth 100000
def RX9 : String := "FlashBoard$Causes"
def TX9 : u_T := fun k => match k with
  | 0 => ("FlashBoard$Unit", "core", "LFlashBoard$Core;", true)
  | _ => ("FlashBoard$Causes", "window", "I", false)
def tyX9 : Nat → FieldType := fun k => match k with
  | 0 => .object "FlashBoard$Core"
  | _ => .int
abbrev wsX90 : List Cond := u_ws RX9 TX9 2
theorem nmX9 : ∀ a, a < 2 → ∀ b, b < 2 → a ≠ b → (TX9 a).2.1 ≠ (TX9 b).2.1 := by decide +kernel
theorem tyX9_ok : ∀ k, k < 2 → parseFieldDescriptor (TX9 k).2.2.1 = some (tyX9 k) := by decide +kernel
abbrev cX9_init : ByteArray := prog_2_method_1_code
def yX9_init : MethodName := ⟨RX9, "<init>", "(LFlashBoard$Core;)V"⟩
def dkwX9_init_0 : List UInt8 := [42, 43, 183, 0, 1, 177]
abbrev dktX9_init_0 : List UInt8 := dkwX9_init_0 ++ []
theorem dksX9_init_0 : cX9_init.data.toList.drop 0 = dktX9_init_0 := by decide +kernel
theorem dX9_init_0 : decode cX9_init 0 = .ok (.aload_n 0, 1) := dk_42 (dk_at dksX9_init_0 0 rfl rfl)
theorem dX9_init_1 : decode cX9_init 1 = .ok (.aload_n 1, 1) := dk_43 (dk_at dksX9_init_0 1 rfl rfl)
theorem dX9_init_2 : decode cX9_init 2 = .ok (.invokespecial 1, 3) := dk_183 0 1 (dk_at dksX9_init_0 2 rfl rfl)
theorem dX9_init_5 : decode cX9_init 5 = .ok (.return_, 1) := dk_177 (dk_at dksX9_init_0 5 rfl rfl)
abbrev cX9_clear : ByteArray := prog_2_method_4_code
def yX9_clear : MethodName := ⟨RX9, "clear", "()V"⟩
def dkwX9_clear_0 : List UInt8 := [42, 3, 181, 0, 19, 177]
abbrev dktX9_clear_0 : List UInt8 := dkwX9_clear_0 ++ []
theorem dksX9_clear_0 : cX9_clear.data.toList.drop 0 = dktX9_clear_0 := by decide +kernel
theorem dX9_clear_0 : decode cX9_clear 0 = .ok (.aload_n 0, 1) := dk_42 (dk_at dksX9_clear_0 0 rfl rfl)
theorem dX9_clear_1 : decode cX9_clear 1 = .ok (.iconst 0, 1) := dk_3 (dk_at dksX9_clear_0 1 rfl rfl)
theorem dX9_clear_2 : decode cX9_clear 2 = .ok (.putfield 19, 3) := dk_181 0 19 (dk_at dksX9_clear_0 2 rfl rfl)
theorem dX9_clear_5 : decode cX9_clear 5 = .ok (.return_, 1) := dk_177 (dk_at dksX9_clear_0 5 rfl rfl)
abbrev cX9_store : ByteArray := prog_2_method_2_code
def yX9_store : MethodName := ⟨RX9, "store", "(II)V"⟩
def dkwX9_store_3 : List UInt8 := [180, 0, 13, 27, 28, 5, 126, 79, 42, 3, 181, 0, 19, 177]
abbrev dktX9_store_3 : List UInt8 := dkwX9_store_3 ++ []
def dkwX9_store_2 : List UInt8 := [29, 4, 128, 79, 42, 7, 181, 0, 19, 167, 0, 26, 29, 4, 126, 153, 0, 20, 42, 180, 0, 7]
abbrev dktX9_store_2 : List UInt8 := dkwX9_store_2 ++ dktX9_store_3
def dkwX9_store_1 : List UInt8 := [29, 28, 16, 244, 128, 126, 79, 167, 0, 52, 28, 4, 126, 153, 0, 23, 42, 180, 0, 7, 180, 0, 13, 27]
abbrev dktX9_store_1 : List UInt8 := dkwX9_store_1 ++ dktX9_store_2
def dkwX9_store_0 : List UInt8 := [42, 180, 0, 7, 180, 0, 13, 27, 46, 62, 27, 16, 84, 160, 0, 21, 42, 180, 0, 7, 180, 0, 13, 27]
abbrev dktX9_store_0 : List UInt8 := dkwX9_store_0 ++ dktX9_store_1
theorem dksX9_store_0 : cX9_store.data.toList.drop 0 = dktX9_store_0 := by decide +kernel
theorem dksX9_store_1 : cX9_store.data.toList.drop 24 = dktX9_store_1 := dk_seg dksX9_store_0 24 rfl rfl
theorem dksX9_store_2 : cX9_store.data.toList.drop 48 = dktX9_store_2 := dk_seg dksX9_store_1 24 rfl rfl
theorem dksX9_store_3 : cX9_store.data.toList.drop 70 = dktX9_store_3 := dk_seg dksX9_store_2 22 rfl rfl
theorem dX9_store_0 : decode cX9_store 0 = .ok (.aload_n 0, 1) := dk_42 (dk_at dksX9_store_0 0 rfl rfl)
theorem dX9_store_1 : decode cX9_store 1 = .ok (.getfield 7, 3) := dk_180 0 7 (dk_at dksX9_store_0 1 rfl rfl)
theorem dX9_store_4 : decode cX9_store 4 = .ok (.getfield 13, 3) := dk_180 0 13 (dk_at dksX9_store_0 4 rfl rfl)
theorem dX9_store_7 : decode cX9_store 7 = .ok (.iload_n 1, 1) := dk_27 (dk_at dksX9_store_0 7 rfl rfl)
theorem dX9_store_8 : decode cX9_store 8 = .ok (.iaload, 1) := dk_46 (dk_at dksX9_store_0 8 rfl rfl)
theorem dX9_store_9 : decode cX9_store 9 = .ok (.istore_n 3, 1) := dk_62 (dk_at dksX9_store_0 9 rfl rfl)
theorem dX9_store_10 : decode cX9_store 10 = .ok (.iload_n 1, 1) := dk_27 (dk_at dksX9_store_0 10 rfl rfl)
theorem dX9_store_11 : decode cX9_store 11 = .ok (.bipush 84, 2) := dk_16 84 (dk_at dksX9_store_0 11 rfl rfl)
theorem dX9_store_13 : decode cX9_store 13 = .ok (.if_icmp .ne 21, 3) := dk_160 0 21 (dk_at dksX9_store_0 13 rfl rfl)
theorem dX9_store_16 : decode cX9_store 16 = .ok (.aload_n 0, 1) := dk_42 (dk_at dksX9_store_0 16 rfl rfl)
theorem dX9_store_17 : decode cX9_store 17 = .ok (.getfield 7, 3) := dk_180 0 7 (dk_at dksX9_store_0 17 rfl rfl)
theorem dX9_store_20 : decode cX9_store 20 = .ok (.getfield 13, 3) := dk_180 0 13 (dk_at dksX9_store_0 20 rfl rfl)
theorem dX9_store_23 : decode cX9_store 23 = .ok (.iload_n 1, 1) := dk_27 (dk_at dksX9_store_0 23 rfl rfl)
theorem dX9_store_24 : decode cX9_store 24 = .ok (.iload_n 3, 1) := dk_29 (dk_at dksX9_store_1 0 rfl rfl)
theorem dX9_store_25 : decode cX9_store 25 = .ok (.iload_n 2, 1) := dk_28 (dk_at dksX9_store_1 1 rfl rfl)
theorem dX9_store_26 : decode cX9_store 26 = .ok (.bipush (-12), 2) := dk_16 244 (dk_at dksX9_store_1 2 rfl rfl)
theorem dX9_store_28 : decode cX9_store 28 = .ok (.ior, 1) := dk_128 (dk_at dksX9_store_1 4 rfl rfl)
theorem dX9_store_29 : decode cX9_store 29 = .ok (.iand, 1) := dk_126 (dk_at dksX9_store_1 5 rfl rfl)
theorem dX9_store_30 : decode cX9_store 30 = .ok (.iastore, 1) := dk_79 (dk_at dksX9_store_1 6 rfl rfl)
theorem dX9_store_31 : decode cX9_store 31 = .ok (.goto 52, 3) := dk_167 0 52 (dk_at dksX9_store_1 7 rfl rfl)
theorem dX9_store_34 : decode cX9_store 34 = .ok (.iload_n 2, 1) := dk_28 (dk_at dksX9_store_1 10 rfl rfl)
theorem dX9_store_35 : decode cX9_store 35 = .ok (.iconst 1, 1) := dk_4 (dk_at dksX9_store_1 11 rfl rfl)
theorem dX9_store_36 : decode cX9_store 36 = .ok (.iand, 1) := dk_126 (dk_at dksX9_store_1 12 rfl rfl)
theorem dX9_store_37 : decode cX9_store 37 = .ok (.ifCond .eq 23, 3) := dk_153 0 23 (dk_at dksX9_store_1 13 rfl rfl)
theorem dX9_store_40 : decode cX9_store 40 = .ok (.aload_n 0, 1) := dk_42 (dk_at dksX9_store_1 16 rfl rfl)
theorem dX9_store_41 : decode cX9_store 41 = .ok (.getfield 7, 3) := dk_180 0 7 (dk_at dksX9_store_1 17 rfl rfl)
theorem dX9_store_44 : decode cX9_store 44 = .ok (.getfield 13, 3) := dk_180 0 13 (dk_at dksX9_store_1 20 rfl rfl)
theorem dX9_store_47 : decode cX9_store 47 = .ok (.iload_n 1, 1) := dk_27 (dk_at dksX9_store_1 23 rfl rfl)
theorem dX9_store_48 : decode cX9_store 48 = .ok (.iload_n 3, 1) := dk_29 (dk_at dksX9_store_2 0 rfl rfl)
theorem dX9_store_49 : decode cX9_store 49 = .ok (.iconst 1, 1) := dk_4 (dk_at dksX9_store_2 1 rfl rfl)
theorem dX9_store_50 : decode cX9_store 50 = .ok (.ior, 1) := dk_128 (dk_at dksX9_store_2 2 rfl rfl)
theorem dX9_store_51 : decode cX9_store 51 = .ok (.iastore, 1) := dk_79 (dk_at dksX9_store_2 3 rfl rfl)
theorem dX9_store_52 : decode cX9_store 52 = .ok (.aload_n 0, 1) := dk_42 (dk_at dksX9_store_2 4 rfl rfl)
theorem dX9_store_53 : decode cX9_store 53 = .ok (.iconst 4, 1) := dk_7 (dk_at dksX9_store_2 5 rfl rfl)
theorem dX9_store_54 : decode cX9_store 54 = .ok (.putfield 19, 3) := dk_181 0 19 (dk_at dksX9_store_2 6 rfl rfl)
theorem dX9_store_57 : decode cX9_store 57 = .ok (.goto 26, 3) := dk_167 0 26 (dk_at dksX9_store_2 9 rfl rfl)
theorem dX9_store_60 : decode cX9_store 60 = .ok (.iload_n 3, 1) := dk_29 (dk_at dksX9_store_2 12 rfl rfl)
theorem dX9_store_61 : decode cX9_store 61 = .ok (.iconst 1, 1) := dk_4 (dk_at dksX9_store_2 13 rfl rfl)
theorem dX9_store_62 : decode cX9_store 62 = .ok (.iand, 1) := dk_126 (dk_at dksX9_store_2 14 rfl rfl)
theorem dX9_store_63 : decode cX9_store 63 = .ok (.ifCond .eq 20, 3) := dk_153 0 20 (dk_at dksX9_store_2 15 rfl rfl)
theorem dX9_store_66 : decode cX9_store 66 = .ok (.aload_n 0, 1) := dk_42 (dk_at dksX9_store_2 18 rfl rfl)
theorem dX9_store_67 : decode cX9_store 67 = .ok (.getfield 7, 3) := dk_180 0 7 (dk_at dksX9_store_2 19 rfl rfl)
theorem dX9_store_70 : decode cX9_store 70 = .ok (.getfield 13, 3) := dk_180 0 13 (dk_at dksX9_store_3 0 rfl rfl)
theorem dX9_store_73 : decode cX9_store 73 = .ok (.iload_n 1, 1) := dk_27 (dk_at dksX9_store_3 3 rfl rfl)
theorem dX9_store_74 : decode cX9_store 74 = .ok (.iload_n 2, 1) := dk_28 (dk_at dksX9_store_3 4 rfl rfl)
theorem dX9_store_75 : decode cX9_store 75 = .ok (.iconst 2, 1) := dk_5 (dk_at dksX9_store_3 5 rfl rfl)
theorem dX9_store_76 : decode cX9_store 76 = .ok (.iand, 1) := dk_126 (dk_at dksX9_store_3 6 rfl rfl)
theorem dX9_store_77 : decode cX9_store 77 = .ok (.iastore, 1) := dk_79 (dk_at dksX9_store_3 7 rfl rfl)
theorem dX9_store_78 : decode cX9_store 78 = .ok (.aload_n 0, 1) := dk_42 (dk_at dksX9_store_3 8 rfl rfl)
theorem dX9_store_79 : decode cX9_store 79 = .ok (.iconst 0, 1) := dk_3 (dk_at dksX9_store_3 9 rfl rfl)
theorem dX9_store_80 : decode cX9_store 80 = .ok (.putfield 19, 3) := dk_181 0 19 (dk_at dksX9_store_3 10 rfl rfl)
theorem dX9_store_83 : decode cX9_store 83 = .ok (.return_, 1) := dk_177 (dk_at dksX9_store_3 13 rfl rfl)
abbrev cX9_cycle : ByteArray := prog_2_method_3_code
def yX9_cycle : MethodName := ⟨RX9, "cycle", "()V"⟩
def dkwX9_cycle_1 : List UInt8 := [154, 0, 17, 42, 180, 0, 7, 180, 0, 13, 16, 85, 92, 46, 5, 126, 79, 177]
abbrev dktX9_cycle_1 : List UInt8 := dkwX9_cycle_1 ++ []
def dkwX9_cycle_0 : List UInt8 := [42, 180, 0, 19, 154, 0, 4, 177, 42, 89, 180, 0, 19, 4, 100, 181, 0, 19, 42, 180, 0, 19]
abbrev dktX9_cycle_0 : List UInt8 := dkwX9_cycle_0 ++ dktX9_cycle_1
theorem dksX9_cycle_0 : cX9_cycle.data.toList.drop 0 = dktX9_cycle_0 := by decide +kernel
theorem dksX9_cycle_1 : cX9_cycle.data.toList.drop 22 = dktX9_cycle_1 := dk_seg dksX9_cycle_0 22 rfl rfl
theorem dX9_cycle_0 : decode cX9_cycle 0 = .ok (.aload_n 0, 1) := dk_42 (dk_at dksX9_cycle_0 0 rfl rfl)
theorem dX9_cycle_1 : decode cX9_cycle 1 = .ok (.getfield 19, 3) := dk_180 0 19 (dk_at dksX9_cycle_0 1 rfl rfl)
theorem dX9_cycle_4 : decode cX9_cycle 4 = .ok (.ifCond .ne 4, 3) := dk_154 0 4 (dk_at dksX9_cycle_0 4 rfl rfl)
theorem dX9_cycle_7 : decode cX9_cycle 7 = .ok (.return_, 1) := dk_177 (dk_at dksX9_cycle_0 7 rfl rfl)
theorem dX9_cycle_8 : decode cX9_cycle 8 = .ok (.aload_n 0, 1) := dk_42 (dk_at dksX9_cycle_0 8 rfl rfl)
theorem dX9_cycle_9 : decode cX9_cycle 9 = .ok (.dup, 1) := dk_89 (dk_at dksX9_cycle_0 9 rfl rfl)
theorem dX9_cycle_10 : decode cX9_cycle 10 = .ok (.getfield 19, 3) := dk_180 0 19 (dk_at dksX9_cycle_0 10 rfl rfl)
theorem dX9_cycle_13 : decode cX9_cycle 13 = .ok (.iconst 1, 1) := dk_4 (dk_at dksX9_cycle_0 13 rfl rfl)
theorem dX9_cycle_14 : decode cX9_cycle 14 = .ok (.isub, 1) := dk_100 (dk_at dksX9_cycle_0 14 rfl rfl)
theorem dX9_cycle_15 : decode cX9_cycle 15 = .ok (.putfield 19, 3) := dk_181 0 19 (dk_at dksX9_cycle_0 15 rfl rfl)
theorem dX9_cycle_18 : decode cX9_cycle 18 = .ok (.aload_n 0, 1) := dk_42 (dk_at dksX9_cycle_0 18 rfl rfl)
theorem dX9_cycle_19 : decode cX9_cycle 19 = .ok (.getfield 19, 3) := dk_180 0 19 (dk_at dksX9_cycle_0 19 rfl rfl)
theorem dX9_cycle_22 : decode cX9_cycle 22 = .ok (.ifCond .ne 17, 3) := dk_154 0 17 (dk_at dksX9_cycle_1 0 rfl rfl)
theorem dX9_cycle_25 : decode cX9_cycle 25 = .ok (.aload_n 0, 1) := dk_42 (dk_at dksX9_cycle_1 3 rfl rfl)
theorem dX9_cycle_26 : decode cX9_cycle 26 = .ok (.getfield 7, 3) := dk_180 0 7 (dk_at dksX9_cycle_1 4 rfl rfl)
theorem dX9_cycle_29 : decode cX9_cycle 29 = .ok (.getfield 13, 3) := dk_180 0 13 (dk_at dksX9_cycle_1 7 rfl rfl)
theorem dX9_cycle_32 : decode cX9_cycle 32 = .ok (.bipush 85, 2) := dk_16 85 (dk_at dksX9_cycle_1 10 rfl rfl)
theorem dX9_cycle_34 : decode cX9_cycle 34 = .ok (.dup2, 1) := dk_92 (dk_at dksX9_cycle_1 12 rfl rfl)
theorem dX9_cycle_35 : decode cX9_cycle 35 = .ok (.iaload, 1) := dk_46 (dk_at dksX9_cycle_1 13 rfl rfl)
theorem dX9_cycle_36 : decode cX9_cycle 36 = .ok (.iconst 2, 1) := dk_5 (dk_at dksX9_cycle_1 14 rfl rfl)
theorem dX9_cycle_37 : decode cX9_cycle 37 = .ok (.iand, 1) := dk_126 (dk_at dksX9_cycle_1 15 rfl rfl)
theorem dX9_cycle_38 : decode cX9_cycle 38 = .ok (.iastore, 1) := dk_79 (dk_at dksX9_cycle_1 16 rfl rfl)
theorem dX9_cycle_39 : decode cX9_cycle 39 = .ok (.return_, 1) := dk_177 (dk_at dksX9_cycle_1 17 rfl rfl)
theorem q114 : (Jvm.Cond.initialized "FlashBoard$Causes") ∈ lw_all := lw_g (lw_at lw_m1 9 rfl) rfl
theorem q159 : (Jvm.Cond.fieldLink "FlashBoard$Causes" (7 : Nat) "FlashBoard$Causes" "core" "LFlashBoard$Core;") ∈ lw_all := lw_g (lw_at lw_m1 54 rfl) rfl
theorem q160 : (Jvm.Cond.sameField "FlashBoard$Causes" "FlashBoard$Unit" "core" "LFlashBoard$Core;") ∈ lw_all := lw_g (lw_at lw_m1 55 rfl) rfl
theorem q294 : (Jvm.Cond.instantiable "FlashBoard$Causes" (2 : Nat)) ∈ lw_all := lw_g (lw_at lw_m1 189 rfl) rfl
theorem q296 : (Jvm.Cond.instanceMethod ({ cls := "FlashBoard$Causes", name := "<init>", desc := "(LFlashBoard$Core;)V" } : Jvm.MethodName)) ∈ lw_all := lw_g (lw_at lw_m1 191 rfl) rfl
theorem q297 : (Jvm.Cond.code ({ cls := "FlashBoard$Causes", name := "<init>", desc := "(LFlashBoard$Core;)V" } : Jvm.MethodName) prog_2_method_1_code (2 : Nat) (Option.none : Option Jvm.ClassFile.FieldType)) ∈ lw_all := lw_g (lw_at lw_m1 192 rfl) rfl
theorem q298 : (Jvm.Cond.methodLink "FlashBoard$Causes" (1 : Nat) ({ cls := "FlashBoard$Unit", name := "<init>", desc := "(LFlashBoard$Core;)V" } : Jvm.MethodName)) ∈ lw_all := lw_g (lw_at lw_m1 193 rfl) rfl
theorem q299 : (Jvm.Cond.fieldLink "FlashBoard$Causes" (19 : Nat) "FlashBoard$Causes" "window" "I") ∈ lw_all := lw_g (lw_at lw_m1 194 rfl) rfl
theorem q301 : (Jvm.Cond.lays "FlashBoard$Causes" "FlashBoard$Causes" "window" "I") ∈ lw_all := lw_g (lw_at lw_m1 196 rfl) rfl
theorem q302 : (Jvm.Cond.soleField "FlashBoard$Causes" "window") ∈ lw_all := lw_g (lw_at lw_m1 197 rfl) rfl
theorem q303 : (Jvm.Cond.laysFinal "FlashBoard$Causes" "FlashBoard$Unit" "core" "LFlashBoard$Core;") ∈ lw_all := lw_g (lw_at lw_m1 198 rfl) rfl
theorem q304 : (Jvm.Cond.superclass "FlashBoard$Causes" "FlashBoard$Unit") ∈ lw_all := lw_g (lw_at lw_m1 199 rfl) rfl
theorem q464 : (Jvm.Cond.selects "FlashBoard$Causes" ({ cls := "FlashBoard$Unit", name := "clear", desc := "()V" } : Jvm.MethodName) ({ cls := "FlashBoard$Causes", name := "clear", desc := "()V" } : Jvm.MethodName)) ∈ lw_all := lw_g (lw_at lw_m2 119 rfl) rfl
theorem q465 : (Jvm.Cond.instanceMethod ({ cls := "FlashBoard$Causes", name := "clear", desc := "()V" } : Jvm.MethodName)) ∈ lw_all := lw_g (lw_at lw_m2 120 rfl) rfl
theorem q466 : (Jvm.Cond.code ({ cls := "FlashBoard$Causes", name := "clear", desc := "()V" } : Jvm.MethodName) prog_2_method_4_code (1 : Nat) (Option.none : Option Jvm.ClassFile.FieldType)) ∈ lw_all := lw_g (lw_at lw_m2 121 rfl) rfl
theorem q489 : (Jvm.Cond.fieldLinkNest "FlashBoard$Causes" (13 : Nat) "FlashBoard$Core" "data" "[I" "FlashBoard") ∈ lw_tbl := lw_at lw_m2 144 rfl
theorem q619 : (Jvm.Cond.selects "FlashBoard$Causes" ({ cls := "FlashBoard$Unit", name := "store", desc := "(II)V" } : Jvm.MethodName) ({ cls := "FlashBoard$Causes", name := "store", desc := "(II)V" } : Jvm.MethodName)) ∈ lw_all := lw_g (lw_at lw_m3 34 rfl) rfl
theorem q620 : (Jvm.Cond.instanceMethod ({ cls := "FlashBoard$Causes", name := "store", desc := "(II)V" } : Jvm.MethodName)) ∈ lw_all := lw_g (lw_at lw_m3 35 rfl) rfl
theorem q621 : (Jvm.Cond.code ({ cls := "FlashBoard$Causes", name := "store", desc := "(II)V" } : Jvm.MethodName) prog_2_method_2_code (4 : Nat) (Option.none : Option Jvm.ClassFile.FieldType)) ∈ lw_all := lw_g (lw_at lw_m3 36 rfl) rfl
theorem q734 : (Jvm.Cond.selects "FlashBoard$Causes" ({ cls := "FlashBoard$Unit", name := "load", desc := "(I)I" } : Jvm.MethodName) ({ cls := "FlashBoard$Unit", name := "load", desc := "(I)I" } : Jvm.MethodName)) ∈ lw_all := lw_g (lw_at lw_m3 149 rfl) rfl
theorem q839 : (Jvm.Cond.instanceMethod ({ cls := "FlashBoard$Causes", name := "cycle", desc := "()V" } : Jvm.MethodName)) ∈ lw_all := lw_g (lw_at lw_m4 14 rfl) rfl
theorem q840 : (Jvm.Cond.selects "FlashBoard$Causes" ({ cls := "FlashBoard$Causes", name := "cycle", desc := "()V" } : Jvm.MethodName) ({ cls := "FlashBoard$Causes", name := "cycle", desc := "()V" } : Jvm.MethodName)) ∈ lw_all := lw_g (lw_at lw_m4 15 rfl) rfl
theorem q841 : (Jvm.Cond.code ({ cls := "FlashBoard$Causes", name := "cycle", desc := "()V" } : Jvm.MethodName) prog_2_method_3_code (1 : Nat) (Option.none : Option Jvm.ClassFile.FieldType)) ∈ lw_all := lw_g (lw_at lw_m4 16 rfl) rfl
theorem q1645 : (Jvm.Cond.castable "FlashBoard$Causes" "java/lang/Object") ∈ lw_tbl := lw_at lw_m7 100 rfl
theorem q1660 : (Jvm.Cond.castable "FlashBoard$Causes" "FlashBoard$Unit") ∈ lw_tbl := lw_at lw_m7 115 rfl
theorem in_X9 : ∀ w ∈ wsX90, w ∈ lw_all := lw_in wsX90 [303, 301] (by decide +kernel) (by decide +kernel)

theorem q116 : (Jvm.Cond.initialized "java/lang/System") ∈ lw_all := lw_g (lw_at lw_m1 11 rfl) rfl
set_option maxRecDepth 100000
theorem q416 : (Jvm.Cond.static ({ cls := "java/lang/System", name := "arraycopy", desc := "(Ljava/lang/Object;ILjava/lang/Object;II)V" } : Jvm.MethodName)) ∈ lw_all := lw_g (lw_at lw_m2 71 rfl) rfl
theorem q417 : (Jvm.Cond.native ({ cls := "java/lang/System", name := "arraycopy", desc := "(Ljava/lang/Object;ILjava/lang/Object;II)V" } : Jvm.MethodName)) ∈ lw_all := lw_g (lw_at lw_m2 72 rfl) rfl

theorem q146 : (Jvm.Cond.arrayOver (Jvm.ClassFile.FieldType.object "FlashBoard$Unit")) ∈ lw_tbl := lw_at lw_m1 41 rfl
set_option maxRecDepth 100000
theorem q178 : (Jvm.Cond.arrayClass Jvm.ClassFile.FieldType.int) ∈ lw_all := lw_g (lw_at lw_m1 73 rfl) rfl
theorem q448 : (Jvm.Cond.arrayClass Jvm.ClassFile.FieldType.char) ∈ lw_all := lw_g (lw_at lw_m2 103 rfl) rfl
theorem q1041 : (Jvm.Cond.arrayClass Jvm.ClassFile.FieldType.byte) ∈ lw_all := lw_g (lw_at lw_m4 216 rfl) rfl
theorem q1313 : (Jvm.Cond.arrayClass Jvm.ClassFile.FieldType.boolean) ∈ lw_all := lw_g (lw_at lw_m6 8 rfl) rfl
theorem q1635 : (Jvm.Cond.arrayClass Jvm.ClassFile.FieldType.long) ∈ lw_all := lw_g (lw_at lw_m7 90 rfl) rfl
