/-! PaperMill -/
set_option maxRecDepth 100000
def RX1 : String := "PaperMill"
def TX1 : u_T := fun k => match k with
  | 0 => ("PaperMill", "state", "LPaperMill$State;", false)
  | 1 => ("PaperMill", "snapshot", "LPaperMill$State;", false)
  | 2 => ("PaperMill", "history", "Ljava/util/ArrayDeque;", true)
  | _ => ("PaperMill", "buffer", "Ljava/lang/StringBuilder;", true)
def tyX1 : Nat → FieldType := fun k => match k with
  | 0 => .object "PaperMill$State"
  | 1 => .object "PaperMill$State"
  | 2 => .object "java/util/ArrayDeque"
  | _ => .object "java/lang/StringBuilder"
abbrev wsX10 : List Cond := u_ws RX1 TX1 4
theorem nmX1 : ∀ a, a < 4 → ∀ b, b < 4 → a ≠ b → (TX1 a).2.1 ≠ (TX1 b).2.1 := by decide +kernel
theorem tyX1_ok : ∀ k, k < 4 → parseFieldDescriptor (TX1 k).2.2.1 = some (tyX1 k) := by decide +kernel
abbrev cX1_init : ByteArray := prog_1_method_6_code
def yX1_init : MethodName := ⟨RX1, "<init>", "()V"⟩
def dkwX1_init_1 : List UInt8 := [187, 0, 65, 89, 183, 0, 67, 181, 0, 68, 177]
abbrev dktX1_init_1 : List UInt8 := dkwX1_init_1 ++ []
def dkwX1_init_0 : List UInt8 := [42, 183, 0, 42, 42, 184, 0, 48, 181, 0, 54, 42, 187, 0, 58, 89, 183, 0, 60, 181, 0, 61, 42]
abbrev dktX1_init_0 : List UInt8 := dkwX1_init_0 ++ dktX1_init_1
theorem dksX1_init_0 : cX1_init.data.toList.drop 0 = dktX1_init_0 := by decide +kernel
theorem dksX1_init_1 : cX1_init.data.toList.drop 23 = dktX1_init_1 := dk_seg dksX1_init_0 23 rfl rfl
theorem dX1_init_0 : decode cX1_init 0 = .ok (.aload_n 0, 1) := dk_42 (dk_at dksX1_init_0 0 rfl rfl)
theorem dX1_init_1 : decode cX1_init 1 = .ok (.invokespecial 42, 3) := dk_183 0 42 (dk_at dksX1_init_0 1 rfl rfl)
theorem dX1_init_4 : decode cX1_init 4 = .ok (.aload_n 0, 1) := dk_42 (dk_at dksX1_init_0 4 rfl rfl)
theorem dX1_init_5 : decode cX1_init 5 = .ok (.invokestatic 48, 3) := dk_184 0 48 (dk_at dksX1_init_0 5 rfl rfl)
theorem dX1_init_8 : decode cX1_init 8 = .ok (.putfield 54, 3) := dk_181 0 54 (dk_at dksX1_init_0 8 rfl rfl)
theorem dX1_init_11 : decode cX1_init 11 = .ok (.aload_n 0, 1) := dk_42 (dk_at dksX1_init_0 11 rfl rfl)
theorem dX1_init_12 : decode cX1_init 12 = .ok (.new 58, 3) := dk_187 0 58 (dk_at dksX1_init_0 12 rfl rfl)
theorem dX1_init_15 : decode cX1_init 15 = .ok (.dup, 1) := dk_89 (dk_at dksX1_init_0 15 rfl rfl)
theorem dX1_init_16 : decode cX1_init 16 = .ok (.invokespecial 60, 3) := dk_183 0 60 (dk_at dksX1_init_0 16 rfl rfl)
theorem dX1_init_19 : decode cX1_init 19 = .ok (.putfield 61, 3) := dk_181 0 61 (dk_at dksX1_init_0 19 rfl rfl)
theorem dX1_init_22 : decode cX1_init 22 = .ok (.aload_n 0, 1) := dk_42 (dk_at dksX1_init_0 22 rfl rfl)
theorem dX1_init_23 : decode cX1_init 23 = .ok (.new 65, 3) := dk_187 0 65 (dk_at dksX1_init_1 0 rfl rfl)
theorem dX1_init_26 : decode cX1_init 26 = .ok (.dup, 1) := dk_89 (dk_at dksX1_init_1 3 rfl rfl)
theorem dX1_init_27 : decode cX1_init 27 = .ok (.invokespecial 67, 3) := dk_183 0 67 (dk_at dksX1_init_1 4 rfl rfl)
theorem dX1_init_30 : decode cX1_init 30 = .ok (.putfield 68, 3) := dk_181 0 68 (dk_at dksX1_init_1 7 rfl rfl)
theorem dX1_init_33 : decode cX1_init 33 = .ok (.return_, 1) := dk_177 (dk_at dksX1_init_1 10 rfl rfl)
abbrev cX1_bales : ByteArray := prog_1_method_39_code
def yX1_bales : MethodName := ⟨RX1, "bales", "()I"⟩
def dkwX1_bales_0 : List UInt8 := [42, 180, 0, 54, 180, 0, 116, 185, 0, 119, 1, 0, 172]
abbrev dktX1_bales_0 : List UInt8 := dkwX1_bales_0 ++ []
theorem dksX1_bales_0 : cX1_bales.data.toList.drop 0 = dktX1_bales_0 := by decide +kernel
theorem dX1_bales_0 : decode cX1_bales 0 = .ok (.aload_n 0, 1) := dk_42 (dk_at dksX1_bales_0 0 rfl rfl)
theorem dX1_bales_1 : decode cX1_bales 1 = .ok (.getfield 54, 3) := dk_180 0 54 (dk_at dksX1_bales_0 1 rfl rfl)
theorem dX1_bales_4 : decode cX1_bales 4 = .ok (.getfield 116, 3) := dk_180 0 116 (dk_at dksX1_bales_0 4 rfl rfl)
theorem dX1_bales_7 : decode cX1_bales 7 = .ok (.invokeinterface 119 1, 5) := by decide +kernel
theorem dX1_bales_12 : decode cX1_bales 12 = .ok (.ireturn, 1) := dk_172 (dk_at dksX1_bales_0 12 rfl rfl)
abbrev cX1_recipeDepth : ByteArray := prog_1_method_47_code
def yX1_recipeDepth : MethodName := ⟨RX1, "recipeDepth", "()I"⟩
def dkwX1_recipeDepth_0 : List UInt8 := [42, 180, 0, 54, 180, 1, 69, 184, 0, 32, 172]
abbrev dktX1_recipeDepth_0 : List UInt8 := dkwX1_recipeDepth_0 ++ []
theorem dksX1_recipeDepth_0 : cX1_recipeDepth.data.toList.drop 0 = dktX1_recipeDepth_0 := by decide +kernel
theorem dX1_recipeDepth_0 : decode cX1_recipeDepth 0 = .ok (.aload_n 0, 1) := dk_42 (dk_at dksX1_recipeDepth_0 0 rfl rfl)
theorem dX1_recipeDepth_1 : decode cX1_recipeDepth 1 = .ok (.getfield 54, 3) := dk_180 0 54 (dk_at dksX1_recipeDepth_0 1 rfl rfl)
theorem dX1_recipeDepth_4 : decode cX1_recipeDepth 4 = .ok (.getfield 325, 3) := dk_180 1 69 (dk_at dksX1_recipeDepth_0 4 rfl rfl)
theorem dX1_recipeDepth_7 : decode cX1_recipeDepth 7 = .ok (.invokestatic 32, 3) := dk_184 0 32 (dk_at dksX1_recipeDepth_0 7 rfl rfl)
theorem dX1_recipeDepth_10 : decode cX1_recipeDepth 10 = .ok (.ireturn, 1) := dk_172 (dk_at dksX1_recipeDepth_0 10 rfl rfl)
abbrev cX1_depth : ByteArray := prog_1_method_3_code
def yX1_depth : MethodName := ⟨RX1, "depth", "(LPaperMill$Mix;)I"⟩
def dkwX1_depth_2 : List UInt8 := [29, 172, 4, 42, 192, 0, 24, 180, 0, 29, 184, 0, 32, 96, 172]
abbrev dktX1_depth_2 : List UInt8 := dkwX1_depth_2 ++ []
def dkwX1_depth_1 : List UInt8 := [180, 0, 14, 184, 0, 32, 61, 43, 180, 0, 21, 184, 0, 32, 62, 28, 29, 164, 0, 7, 28, 167, 0, 4]
abbrev dktX1_depth_1 : List UInt8 := dkwX1_depth_1 ++ dktX1_depth_2
def dkwX1_depth_0 : List UInt8 := [42, 193, 0, 3, 153, 0, 5, 3, 172, 42, 193, 0, 12, 153, 0, 35, 42, 192, 0, 12, 76, 43]
abbrev dktX1_depth_0 : List UInt8 := dkwX1_depth_0 ++ dktX1_depth_1
theorem dksX1_depth_0 : cX1_depth.data.toList.drop 0 = dktX1_depth_0 := by decide +kernel
theorem dksX1_depth_1 : cX1_depth.data.toList.drop 22 = dktX1_depth_1 := dk_seg dksX1_depth_0 22 rfl rfl
theorem dksX1_depth_2 : cX1_depth.data.toList.drop 46 = dktX1_depth_2 := dk_seg dksX1_depth_1 24 rfl rfl
theorem dX1_depth_0 : decode cX1_depth 0 = .ok (.aload_n 0, 1) := dk_42 (dk_at dksX1_depth_0 0 rfl rfl)
theorem dX1_depth_1 : decode cX1_depth 1 = .ok (.instanceof 3, 3) := dk_193 0 3 (dk_at dksX1_depth_0 1 rfl rfl)
theorem dX1_depth_4 : decode cX1_depth 4 = .ok (.ifCond .eq 5, 3) := dk_153 0 5 (dk_at dksX1_depth_0 4 rfl rfl)
theorem dX1_depth_7 : decode cX1_depth 7 = .ok (.iconst 0, 1) := dk_3 (dk_at dksX1_depth_0 7 rfl rfl)
theorem dX1_depth_8 : decode cX1_depth 8 = .ok (.ireturn, 1) := dk_172 (dk_at dksX1_depth_0 8 rfl rfl)
theorem dX1_depth_9 : decode cX1_depth 9 = .ok (.aload_n 0, 1) := dk_42 (dk_at dksX1_depth_0 9 rfl rfl)
theorem dX1_depth_10 : decode cX1_depth 10 = .ok (.instanceof 12, 3) := dk_193 0 12 (dk_at dksX1_depth_0 10 rfl rfl)
theorem dX1_depth_13 : decode cX1_depth 13 = .ok (.ifCond .eq 35, 3) := dk_153 0 35 (dk_at dksX1_depth_0 13 rfl rfl)
theorem dX1_depth_16 : decode cX1_depth 16 = .ok (.aload_n 0, 1) := dk_42 (dk_at dksX1_depth_0 16 rfl rfl)
theorem dX1_depth_17 : decode cX1_depth 17 = .ok (.checkcast 12, 3) := dk_192 0 12 (dk_at dksX1_depth_0 17 rfl rfl)
theorem dX1_depth_20 : decode cX1_depth 20 = .ok (.astore_n 1, 1) := dk_76 (dk_at dksX1_depth_0 20 rfl rfl)
theorem dX1_depth_21 : decode cX1_depth 21 = .ok (.aload_n 1, 1) := dk_43 (dk_at dksX1_depth_0 21 rfl rfl)
theorem dX1_depth_22 : decode cX1_depth 22 = .ok (.getfield 14, 3) := dk_180 0 14 (dk_at dksX1_depth_1 0 rfl rfl)
theorem dX1_depth_25 : decode cX1_depth 25 = .ok (.invokestatic 32, 3) := dk_184 0 32 (dk_at dksX1_depth_1 3 rfl rfl)
theorem dX1_depth_28 : decode cX1_depth 28 = .ok (.istore_n 2, 1) := dk_61 (dk_at dksX1_depth_1 6 rfl rfl)
theorem dX1_depth_29 : decode cX1_depth 29 = .ok (.aload_n 1, 1) := dk_43 (dk_at dksX1_depth_1 7 rfl rfl)
theorem dX1_depth_30 : decode cX1_depth 30 = .ok (.getfield 21, 3) := dk_180 0 21 (dk_at dksX1_depth_1 8 rfl rfl)
theorem dX1_depth_33 : decode cX1_depth 33 = .ok (.invokestatic 32, 3) := dk_184 0 32 (dk_at dksX1_depth_1 11 rfl rfl)
theorem dX1_depth_36 : decode cX1_depth 36 = .ok (.istore_n 3, 1) := dk_62 (dk_at dksX1_depth_1 14 rfl rfl)
theorem dX1_depth_37 : decode cX1_depth 37 = .ok (.iload_n 2, 1) := dk_28 (dk_at dksX1_depth_1 15 rfl rfl)
theorem dX1_depth_38 : decode cX1_depth 38 = .ok (.iload_n 3, 1) := dk_29 (dk_at dksX1_depth_1 16 rfl rfl)
theorem dX1_depth_39 : decode cX1_depth 39 = .ok (.if_icmp .le 7, 3) := dk_164 0 7 (dk_at dksX1_depth_1 17 rfl rfl)
theorem dX1_depth_42 : decode cX1_depth 42 = .ok (.iload_n 2, 1) := dk_28 (dk_at dksX1_depth_1 20 rfl rfl)
theorem dX1_depth_43 : decode cX1_depth 43 = .ok (.goto 4, 3) := dk_167 0 4 (dk_at dksX1_depth_1 21 rfl rfl)
theorem dX1_depth_46 : decode cX1_depth 46 = .ok (.iload_n 3, 1) := dk_29 (dk_at dksX1_depth_2 0 rfl rfl)
theorem dX1_depth_47 : decode cX1_depth 47 = .ok (.ireturn, 1) := dk_172 (dk_at dksX1_depth_2 1 rfl rfl)
theorem dX1_depth_48 : decode cX1_depth 48 = .ok (.iconst 1, 1) := dk_4 (dk_at dksX1_depth_2 2 rfl rfl)
theorem dX1_depth_49 : decode cX1_depth 49 = .ok (.aload_n 0, 1) := dk_42 (dk_at dksX1_depth_2 3 rfl rfl)
theorem dX1_depth_50 : decode cX1_depth 50 = .ok (.checkcast 24, 3) := dk_192 0 24 (dk_at dksX1_depth_2 4 rfl rfl)
theorem dX1_depth_53 : decode cX1_depth 53 = .ok (.getfield 29, 3) := dk_180 0 29 (dk_at dksX1_depth_2 7 rfl rfl)
theorem dX1_depth_56 : decode cX1_depth 56 = .ok (.invokestatic 32, 3) := dk_184 0 32 (dk_at dksX1_depth_2 10 rfl rfl)
theorem dX1_depth_59 : decode cX1_depth 59 = .ok (.iadd, 1) := dk_96 (dk_at dksX1_depth_2 13 rfl rfl)
theorem dX1_depth_60 : decode cX1_depth 60 = .ok (.ireturn, 1) := dk_172 (dk_at dksX1_depth_2 14 rfl rfl)
abbrev cX1_piles : ByteArray := prog_1_method_59_code
def yX1_piles : MethodName := ⟨RX1, "piles", "()I"⟩
def dkwX1_piles_0 : List UInt8 := [42, 180, 0, 54, 180, 0, 132, 185, 0, 119, 1, 0, 172]
abbrev dktX1_piles_0 : List UInt8 := dkwX1_piles_0 ++ []
theorem dksX1_piles_0 : cX1_piles.data.toList.drop 0 = dktX1_piles_0 := by decide +kernel
theorem dX1_piles_0 : decode cX1_piles 0 = .ok (.aload_n 0, 1) := dk_42 (dk_at dksX1_piles_0 0 rfl rfl)
theorem dX1_piles_1 : decode cX1_piles 1 = .ok (.getfield 54, 3) := dk_180 0 54 (dk_at dksX1_piles_0 1 rfl rfl)
theorem dX1_piles_4 : decode cX1_piles 4 = .ok (.getfield 132, 3) := dk_180 0 132 (dk_at dksX1_piles_0 4 rfl rfl)
theorem dX1_piles_7 : decode cX1_piles 7 = .ok (.invokeinterface 119 1, 5) := by decide +kernel
theorem dX1_piles_12 : decode cX1_piles 12 = .ok (.ireturn, 1) := dk_172 (dk_at dksX1_piles_0 12 rfl rfl)
abbrev cX1_reams : ByteArray := prog_1_method_65_code
def yX1_reams : MethodName := ⟨RX1, "reams", "()I"⟩
def dkwX1_reams_0 : List UInt8 := [42, 180, 0, 54, 180, 0, 137, 185, 0, 119, 1, 0, 172]
abbrev dktX1_reams_0 : List UInt8 := dkwX1_reams_0 ++ []
theorem dksX1_reams_0 : cX1_reams.data.toList.drop 0 = dktX1_reams_0 := by decide +kernel
theorem dX1_reams_0 : decode cX1_reams 0 = .ok (.aload_n 0, 1) := dk_42 (dk_at dksX1_reams_0 0 rfl rfl)
theorem dX1_reams_1 : decode cX1_reams 1 = .ok (.getfield 54, 3) := dk_180 0 54 (dk_at dksX1_reams_0 1 rfl rfl)
theorem dX1_reams_4 : decode cX1_reams 4 = .ok (.getfield 137, 3) := dk_180 0 137 (dk_at dksX1_reams_0 4 rfl rfl)
theorem dX1_reams_7 : decode cX1_reams 7 = .ok (.invokeinterface 119 1, 5) := by decide +kernel
theorem dX1_reams_12 : decode cX1_reams 12 = .ok (.ireturn, 1) := dk_172 (dk_at dksX1_reams_0 12 rfl rfl)
abbrev cX1_day : ByteArray := prog_1_method_68_code
def yX1_day : MethodName := ⟨RX1, "day", "()I"⟩
def dkwX1_day_0 : List UInt8 := [42, 180, 0, 54, 180, 0, 171, 172]
abbrev dktX1_day_0 : List UInt8 := dkwX1_day_0 ++ []
theorem dksX1_day_0 : cX1_day.data.toList.drop 0 = dktX1_day_0 := by decide +kernel
theorem dX1_day_0 : decode cX1_day 0 = .ok (.aload_n 0, 1) := dk_42 (dk_at dksX1_day_0 0 rfl rfl)
theorem dX1_day_1 : decode cX1_day 1 = .ok (.getfield 54, 3) := dk_180 0 54 (dk_at dksX1_day_0 1 rfl rfl)
theorem dX1_day_4 : decode cX1_day 4 = .ok (.getfield 171, 3) := dk_180 0 171 (dk_at dksX1_day_0 4 rfl rfl)
theorem dX1_day_7 : decode cX1_day 7 = .ok (.ireturn, 1) := dk_172 (dk_at dksX1_day_0 7 rfl rfl)
abbrev cX1_purse : ByteArray := prog_1_method_69_code
def yX1_purse : MethodName := ⟨RX1, "purse", "()I"⟩
def dkwX1_purse_0 : List UInt8 := [42, 180, 0, 54, 180, 0, 164, 172]
abbrev dktX1_purse_0 : List UInt8 := dkwX1_purse_0 ++ []
theorem dksX1_purse_0 : cX1_purse.data.toList.drop 0 = dktX1_purse_0 := by decide +kernel
theorem dX1_purse_0 : decode cX1_purse 0 = .ok (.aload_n 0, 1) := dk_42 (dk_at dksX1_purse_0 0 rfl rfl)
theorem dX1_purse_1 : decode cX1_purse 1 = .ok (.getfield 54, 3) := dk_180 0 54 (dk_at dksX1_purse_0 1 rfl rfl)
theorem dX1_purse_4 : decode cX1_purse 4 = .ok (.getfield 164, 3) := dk_180 0 164 (dk_at dksX1_purse_0 4 rfl rfl)
theorem dX1_purse_7 : decode cX1_purse 7 = .ok (.ireturn, 1) := dk_172 (dk_at dksX1_purse_0 7 rfl rfl)
abbrev cX1_unitsByPlaces : ByteArray := prog_1_method_70_code
def yX1_unitsByPlaces : MethodName := ⟨RX1, "unitsByPlaces", "()I"⟩
def dkwX1_unitsByPlaces_0 : List UInt8 := [42, 180, 0, 54, 182, 1, 105, 172]
abbrev dktX1_unitsByPlaces_0 : List UInt8 := dkwX1_unitsByPlaces_0 ++ []
theorem dksX1_unitsByPlaces_0 : cX1_unitsByPlaces.data.toList.drop 0 = dktX1_unitsByPlaces_0 := by decide +kernel
theorem dX1_unitsByPlaces_0 : decode cX1_unitsByPlaces 0 = .ok (.aload_n 0, 1) := dk_42 (dk_at dksX1_unitsByPlaces_0 0 rfl rfl)
theorem dX1_unitsByPlaces_1 : decode cX1_unitsByPlaces 1 = .ok (.getfield 54, 3) := dk_180 0 54 (dk_at dksX1_unitsByPlaces_0 1 rfl rfl)
theorem dX1_unitsByPlaces_4 : decode cX1_unitsByPlaces 4 = .ok (.invokevirtual 361, 3) := dk_182 1 105 (dk_at dksX1_unitsByPlaces_0 4 rfl rfl)
theorem dX1_unitsByPlaces_7 : decode cX1_unitsByPlaces 7 = .ok (.ireturn, 1) := dk_172 (dk_at dksX1_unitsByPlaces_0 7 rfl rfl)
abbrev cX1_unitsByAccount : ByteArray := prog_1_method_71_code
def yX1_unitsByAccount : MethodName := ⟨RX1, "unitsByAccount", "()I"⟩
def dkwX1_unitsByAccount_0 : List UInt8 := [42, 180, 0, 54, 182, 1, 108, 172]
abbrev dktX1_unitsByAccount_0 : List UInt8 := dkwX1_unitsByAccount_0 ++ []
theorem dksX1_unitsByAccount_0 : cX1_unitsByAccount.data.toList.drop 0 = dktX1_unitsByAccount_0 := by decide +kernel
theorem dX1_unitsByAccount_0 : decode cX1_unitsByAccount 0 = .ok (.aload_n 0, 1) := dk_42 (dk_at dksX1_unitsByAccount_0 0 rfl rfl)
theorem dX1_unitsByAccount_1 : decode cX1_unitsByAccount 1 = .ok (.getfield 54, 3) := dk_180 0 54 (dk_at dksX1_unitsByAccount_0 1 rfl rfl)
theorem dX1_unitsByAccount_4 : decode cX1_unitsByAccount 4 = .ok (.invokevirtual 364, 3) := dk_182 1 108 (dk_at dksX1_unitsByAccount_0 4 rfl rfl)
theorem dX1_unitsByAccount_7 : decode cX1_unitsByAccount 7 = .ok (.ireturn, 1) := dk_172 (dk_at dksX1_unitsByAccount_0 7 rfl rfl)
abbrev cX1_meanDamp : ByteArray := prog_1_method_72_code
def yX1_meanDamp : MethodName := ⟨RX1, "meanDamp", "()D"⟩
def dkwX1_meanDamp_3 : List UInt8 := [42, 180, 0, 54, 180, 0, 116, 185, 0, 119, 1, 0, 135, 111, 175]
abbrev dktX1_meanDamp_3 : List UInt8 := dkwX1_meanDamp_3 ++ []
def dkwX1_meanDamp_2 : List UInt8 := [167, 255, 215, 42, 180, 0, 54, 180, 0, 116, 185, 1, 111, 1, 0, 153, 0, 7, 14, 167, 0, 19, 27, 135]
abbrev dktX1_meanDamp_2 : List UInt8 := dkwX1_meanDamp_2 ++ dktX1_meanDamp_3
def dkwX1_meanDamp_1 : List UInt8 := [180, 0, 54, 180, 0, 116, 28, 185, 0, 108, 2, 0, 192, 0, 120, 180, 1, 53, 96, 60, 132, 2, 1]
abbrev dktX1_meanDamp_1 : List UInt8 := dkwX1_meanDamp_1 ++ dktX1_meanDamp_2
def dkwX1_meanDamp_0 : List UInt8 := [3, 60, 3, 61, 28, 42, 180, 0, 54, 180, 0, 116, 185, 0, 119, 1, 0, 162, 0, 31, 27, 42]
abbrev dktX1_meanDamp_0 : List UInt8 := dkwX1_meanDamp_0 ++ dktX1_meanDamp_1
theorem dksX1_meanDamp_0 : cX1_meanDamp.data.toList.drop 0 = dktX1_meanDamp_0 := by decide +kernel
theorem dksX1_meanDamp_1 : cX1_meanDamp.data.toList.drop 22 = dktX1_meanDamp_1 := dk_seg dksX1_meanDamp_0 22 rfl rfl
theorem dksX1_meanDamp_2 : cX1_meanDamp.data.toList.drop 45 = dktX1_meanDamp_2 := dk_seg dksX1_meanDamp_1 23 rfl rfl
theorem dksX1_meanDamp_3 : cX1_meanDamp.data.toList.drop 69 = dktX1_meanDamp_3 := dk_seg dksX1_meanDamp_2 24 rfl rfl
theorem dX1_meanDamp_0 : decode cX1_meanDamp 0 = .ok (.iconst 0, 1) := dk_3 (dk_at dksX1_meanDamp_0 0 rfl rfl)
theorem dX1_meanDamp_1 : decode cX1_meanDamp 1 = .ok (.istore_n 1, 1) := dk_60 (dk_at dksX1_meanDamp_0 1 rfl rfl)
theorem dX1_meanDamp_2 : decode cX1_meanDamp 2 = .ok (.iconst 0, 1) := dk_3 (dk_at dksX1_meanDamp_0 2 rfl rfl)
theorem dX1_meanDamp_3 : decode cX1_meanDamp 3 = .ok (.istore_n 2, 1) := dk_61 (dk_at dksX1_meanDamp_0 3 rfl rfl)
theorem dX1_meanDamp_4 : decode cX1_meanDamp 4 = .ok (.iload_n 2, 1) := dk_28 (dk_at dksX1_meanDamp_0 4 rfl rfl)
theorem dX1_meanDamp_5 : decode cX1_meanDamp 5 = .ok (.aload_n 0, 1) := dk_42 (dk_at dksX1_meanDamp_0 5 rfl rfl)
theorem dX1_meanDamp_6 : decode cX1_meanDamp 6 = .ok (.getfield 54, 3) := dk_180 0 54 (dk_at dksX1_meanDamp_0 6 rfl rfl)
theorem dX1_meanDamp_9 : decode cX1_meanDamp 9 = .ok (.getfield 116, 3) := dk_180 0 116 (dk_at dksX1_meanDamp_0 9 rfl rfl)
theorem dX1_meanDamp_12 : decode cX1_meanDamp 12 = .ok (.invokeinterface 119 1, 5) := by decide +kernel
theorem dX1_meanDamp_17 : decode cX1_meanDamp 17 = .ok (.if_icmp .ge 31, 3) := dk_162 0 31 (dk_at dksX1_meanDamp_0 17 rfl rfl)
theorem dX1_meanDamp_20 : decode cX1_meanDamp 20 = .ok (.iload_n 1, 1) := dk_27 (dk_at dksX1_meanDamp_0 20 rfl rfl)
theorem dX1_meanDamp_21 : decode cX1_meanDamp 21 = .ok (.aload_n 0, 1) := dk_42 (dk_at dksX1_meanDamp_0 21 rfl rfl)
theorem dX1_meanDamp_22 : decode cX1_meanDamp 22 = .ok (.getfield 54, 3) := dk_180 0 54 (dk_at dksX1_meanDamp_1 0 rfl rfl)
theorem dX1_meanDamp_25 : decode cX1_meanDamp 25 = .ok (.getfield 116, 3) := dk_180 0 116 (dk_at dksX1_meanDamp_1 3 rfl rfl)
theorem dX1_meanDamp_28 : decode cX1_meanDamp 28 = .ok (.iload_n 2, 1) := dk_28 (dk_at dksX1_meanDamp_1 6 rfl rfl)
theorem dX1_meanDamp_29 : decode cX1_meanDamp 29 = .ok (.invokeinterface 108 2, 5) := by decide +kernel
theorem dX1_meanDamp_34 : decode cX1_meanDamp 34 = .ok (.checkcast 120, 3) := dk_192 0 120 (dk_at dksX1_meanDamp_1 12 rfl rfl)
theorem dX1_meanDamp_37 : decode cX1_meanDamp 37 = .ok (.getfield 309, 3) := dk_180 1 53 (dk_at dksX1_meanDamp_1 15 rfl rfl)
theorem dX1_meanDamp_40 : decode cX1_meanDamp 40 = .ok (.iadd, 1) := dk_96 (dk_at dksX1_meanDamp_1 18 rfl rfl)
theorem dX1_meanDamp_41 : decode cX1_meanDamp 41 = .ok (.istore_n 1, 1) := dk_60 (dk_at dksX1_meanDamp_1 19 rfl rfl)
theorem dX1_meanDamp_42 : decode cX1_meanDamp 42 = .ok (.iinc 2 1, 3) := dk_132 2 1 (dk_at dksX1_meanDamp_1 20 rfl rfl)
theorem dX1_meanDamp_45 : decode cX1_meanDamp 45 = .ok (.goto (-41), 3) := dk_167 255 215 (dk_at dksX1_meanDamp_2 0 rfl rfl)
theorem dX1_meanDamp_48 : decode cX1_meanDamp 48 = .ok (.aload_n 0, 1) := dk_42 (dk_at dksX1_meanDamp_2 3 rfl rfl)
theorem dX1_meanDamp_49 : decode cX1_meanDamp 49 = .ok (.getfield 54, 3) := dk_180 0 54 (dk_at dksX1_meanDamp_2 4 rfl rfl)
theorem dX1_meanDamp_52 : decode cX1_meanDamp 52 = .ok (.getfield 116, 3) := dk_180 0 116 (dk_at dksX1_meanDamp_2 7 rfl rfl)
theorem dX1_meanDamp_55 : decode cX1_meanDamp 55 = .ok (.invokeinterface 367 1, 5) := by decide +kernel
theorem dX1_meanDamp_60 : decode cX1_meanDamp 60 = .ok (.ifCond .eq 7, 3) := dk_153 0 7 (dk_at dksX1_meanDamp_2 15 rfl rfl)
theorem dX1_meanDamp_63 : decode cX1_meanDamp 63 = .ok (.dconst 0, 1) := dk_14 (dk_at dksX1_meanDamp_2 18 rfl rfl)
theorem dX1_meanDamp_64 : decode cX1_meanDamp 64 = .ok (.goto 19, 3) := dk_167 0 19 (dk_at dksX1_meanDamp_2 19 rfl rfl)
theorem dX1_meanDamp_67 : decode cX1_meanDamp 67 = .ok (.iload_n 1, 1) := dk_27 (dk_at dksX1_meanDamp_2 22 rfl rfl)
theorem dX1_meanDamp_68 : decode cX1_meanDamp 68 = .ok (.i2d, 1) := dk_135 (dk_at dksX1_meanDamp_2 23 rfl rfl)
theorem dX1_meanDamp_69 : decode cX1_meanDamp 69 = .ok (.aload_n 0, 1) := dk_42 (dk_at dksX1_meanDamp_3 0 rfl rfl)
theorem dX1_meanDamp_70 : decode cX1_meanDamp 70 = .ok (.getfield 54, 3) := dk_180 0 54 (dk_at dksX1_meanDamp_3 1 rfl rfl)
theorem dX1_meanDamp_73 : decode cX1_meanDamp 73 = .ok (.getfield 116, 3) := dk_180 0 116 (dk_at dksX1_meanDamp_3 4 rfl rfl)
theorem dX1_meanDamp_76 : decode cX1_meanDamp 76 = .ok (.invokeinterface 119 1, 5) := by decide +kernel
theorem dX1_meanDamp_81 : decode cX1_meanDamp 81 = .ok (.i2d, 1) := dk_135 (dk_at dksX1_meanDamp_3 12 rfl rfl)
theorem dX1_meanDamp_82 : decode cX1_meanDamp 82 = .ok (.ddiv, 1) := dk_111 (dk_at dksX1_meanDamp_3 13 rfl rfl)
theorem dX1_meanDamp_83 : decode cX1_meanDamp 83 = .ok (.dreturn, 1) := dk_175 (dk_at dksX1_meanDamp_3 14 rfl rfl)
abbrev cX1_daysUntilMould : ByteArray := prog_1_method_73_code
def yX1_daysUntilMould : MethodName := ⟨RX1, "daysUntilMould", "()I"⟩
def dkwX1_daysUntilMould_2 : List UInt8 := [180, 1, 112, 160, 0, 7, 2, 167, 0, 4, 28, 172]
abbrev dktX1_daysUntilMould_2 : List UInt8 := dkwX1_daysUntilMould_2 ++ []
def dkwX1_daysUntilMould_1 : List UInt8 := [28, 16, 60, 162, 0, 13, 43, 182, 1, 115, 132, 2, 1, 167, 255, 229, 43, 180, 1, 112, 42, 180, 0, 54]
abbrev dktX1_daysUntilMould_1 : List UInt8 := dkwX1_daysUntilMould_1 ++ dktX1_daysUntilMould_2
def dkwX1_daysUntilMould_0 : List UInt8 := [42, 180, 0, 54, 182, 0, 80, 76, 3, 61, 43, 180, 1, 112, 42, 180, 0, 54, 180, 1, 112, 160, 0, 19]
abbrev dktX1_daysUntilMould_0 : List UInt8 := dkwX1_daysUntilMould_0 ++ dktX1_daysUntilMould_1
theorem dksX1_daysUntilMould_0 : cX1_daysUntilMould.data.toList.drop 0 = dktX1_daysUntilMould_0 := by decide +kernel
theorem dksX1_daysUntilMould_1 : cX1_daysUntilMould.data.toList.drop 24 = dktX1_daysUntilMould_1 := dk_seg dksX1_daysUntilMould_0 24 rfl rfl
theorem dksX1_daysUntilMould_2 : cX1_daysUntilMould.data.toList.drop 48 = dktX1_daysUntilMould_2 := dk_seg dksX1_daysUntilMould_1 24 rfl rfl
theorem dX1_daysUntilMould_0 : decode cX1_daysUntilMould 0 = .ok (.aload_n 0, 1) := dk_42 (dk_at dksX1_daysUntilMould_0 0 rfl rfl)
theorem dX1_daysUntilMould_1 : decode cX1_daysUntilMould 1 = .ok (.getfield 54, 3) := dk_180 0 54 (dk_at dksX1_daysUntilMould_0 1 rfl rfl)
theorem dX1_daysUntilMould_4 : decode cX1_daysUntilMould 4 = .ok (.invokevirtual 80, 3) := dk_182 0 80 (dk_at dksX1_daysUntilMould_0 4 rfl rfl)
theorem dX1_daysUntilMould_7 : decode cX1_daysUntilMould 7 = .ok (.astore_n 1, 1) := dk_76 (dk_at dksX1_daysUntilMould_0 7 rfl rfl)
theorem dX1_daysUntilMould_8 : decode cX1_daysUntilMould 8 = .ok (.iconst 0, 1) := dk_3 (dk_at dksX1_daysUntilMould_0 8 rfl rfl)
theorem dX1_daysUntilMould_9 : decode cX1_daysUntilMould 9 = .ok (.istore_n 2, 1) := dk_61 (dk_at dksX1_daysUntilMould_0 9 rfl rfl)
theorem dX1_daysUntilMould_10 : decode cX1_daysUntilMould 10 = .ok (.aload_n 1, 1) := dk_43 (dk_at dksX1_daysUntilMould_0 10 rfl rfl)
theorem dX1_daysUntilMould_11 : decode cX1_daysUntilMould 11 = .ok (.getfield 368, 3) := dk_180 1 112 (dk_at dksX1_daysUntilMould_0 11 rfl rfl)
theorem dX1_daysUntilMould_14 : decode cX1_daysUntilMould 14 = .ok (.aload_n 0, 1) := dk_42 (dk_at dksX1_daysUntilMould_0 14 rfl rfl)
theorem dX1_daysUntilMould_15 : decode cX1_daysUntilMould 15 = .ok (.getfield 54, 3) := dk_180 0 54 (dk_at dksX1_daysUntilMould_0 15 rfl rfl)
theorem dX1_daysUntilMould_18 : decode cX1_daysUntilMould 18 = .ok (.getfield 368, 3) := dk_180 1 112 (dk_at dksX1_daysUntilMould_0 18 rfl rfl)
theorem dX1_daysUntilMould_21 : decode cX1_daysUntilMould 21 = .ok (.if_icmp .ne 19, 3) := dk_160 0 19 (dk_at dksX1_daysUntilMould_0 21 rfl rfl)
theorem dX1_daysUntilMould_24 : decode cX1_daysUntilMould 24 = .ok (.iload_n 2, 1) := dk_28 (dk_at dksX1_daysUntilMould_1 0 rfl rfl)
theorem dX1_daysUntilMould_25 : decode cX1_daysUntilMould 25 = .ok (.bipush 60, 2) := dk_16 60 (dk_at dksX1_daysUntilMould_1 1 rfl rfl)
theorem dX1_daysUntilMould_27 : decode cX1_daysUntilMould 27 = .ok (.if_icmp .ge 13, 3) := dk_162 0 13 (dk_at dksX1_daysUntilMould_1 3 rfl rfl)
theorem dX1_daysUntilMould_30 : decode cX1_daysUntilMould 30 = .ok (.aload_n 1, 1) := dk_43 (dk_at dksX1_daysUntilMould_1 6 rfl rfl)
theorem dX1_daysUntilMould_31 : decode cX1_daysUntilMould 31 = .ok (.invokevirtual 371, 3) := dk_182 1 115 (dk_at dksX1_daysUntilMould_1 7 rfl rfl)
theorem dX1_daysUntilMould_34 : decode cX1_daysUntilMould 34 = .ok (.iinc 2 1, 3) := dk_132 2 1 (dk_at dksX1_daysUntilMould_1 10 rfl rfl)
theorem dX1_daysUntilMould_37 : decode cX1_daysUntilMould 37 = .ok (.goto (-27), 3) := dk_167 255 229 (dk_at dksX1_daysUntilMould_1 13 rfl rfl)
theorem dX1_daysUntilMould_40 : decode cX1_daysUntilMould 40 = .ok (.aload_n 1, 1) := dk_43 (dk_at dksX1_daysUntilMould_1 16 rfl rfl)
theorem dX1_daysUntilMould_41 : decode cX1_daysUntilMould 41 = .ok (.getfield 368, 3) := dk_180 1 112 (dk_at dksX1_daysUntilMould_1 17 rfl rfl)
theorem dX1_daysUntilMould_44 : decode cX1_daysUntilMould 44 = .ok (.aload_n 0, 1) := dk_42 (dk_at dksX1_daysUntilMould_1 20 rfl rfl)
theorem dX1_daysUntilMould_45 : decode cX1_daysUntilMould 45 = .ok (.getfield 54, 3) := dk_180 0 54 (dk_at dksX1_daysUntilMould_1 21 rfl rfl)
theorem dX1_daysUntilMould_48 : decode cX1_daysUntilMould 48 = .ok (.getfield 368, 3) := dk_180 1 112 (dk_at dksX1_daysUntilMould_2 0 rfl rfl)
theorem dX1_daysUntilMould_51 : decode cX1_daysUntilMould 51 = .ok (.if_icmp .ne 7, 3) := dk_160 0 7 (dk_at dksX1_daysUntilMould_2 3 rfl rfl)
theorem dX1_daysUntilMould_54 : decode cX1_daysUntilMould 54 = .ok (.iconst (-1), 1) := dk_2 (dk_at dksX1_daysUntilMould_2 6 rfl rfl)
theorem dX1_daysUntilMould_55 : decode cX1_daysUntilMould 55 = .ok (.goto 4, 3) := dk_167 0 4 (dk_at dksX1_daysUntilMould_2 7 rfl rfl)
theorem dX1_daysUntilMould_58 : decode cX1_daysUntilMould 58 = .ok (.iload_n 2, 1) := dk_28 (dk_at dksX1_daysUntilMould_2 10 rfl rfl)
theorem dX1_daysUntilMould_59 : decode cX1_daysUntilMould 59 = .ok (.ireturn, 1) := dk_172 (dk_at dksX1_daysUntilMould_2 11 rfl rfl)
abbrev cX1_clearText : ByteArray := prog_1_method_76_code
def yX1_clearText : MethodName := ⟨RX1, "clearText", "()I"⟩
def dkwX1_clearText_0 : List UInt8 := [42, 180, 0, 68, 182, 1, 118, 60, 42, 180, 0, 68, 3, 182, 1, 125, 27, 172]
abbrev dktX1_clearText_0 : List UInt8 := dkwX1_clearText_0 ++ []
theorem dksX1_clearText_0 : cX1_clearText.data.toList.drop 0 = dktX1_clearText_0 := by decide +kernel
theorem dX1_clearText_0 : decode cX1_clearText 0 = .ok (.aload_n 0, 1) := dk_42 (dk_at dksX1_clearText_0 0 rfl rfl)
theorem dX1_clearText_1 : decode cX1_clearText 1 = .ok (.getfield 68, 3) := dk_180 0 68 (dk_at dksX1_clearText_0 1 rfl rfl)
theorem dX1_clearText_4 : decode cX1_clearText 4 = .ok (.invokevirtual 374, 3) := dk_182 1 118 (dk_at dksX1_clearText_0 4 rfl rfl)
theorem dX1_clearText_7 : decode cX1_clearText 7 = .ok (.istore_n 1, 1) := dk_60 (dk_at dksX1_clearText_0 7 rfl rfl)
theorem dX1_clearText_8 : decode cX1_clearText 8 = .ok (.aload_n 0, 1) := dk_42 (dk_at dksX1_clearText_0 8 rfl rfl)
theorem dX1_clearText_9 : decode cX1_clearText 9 = .ok (.getfield 68, 3) := dk_180 0 68 (dk_at dksX1_clearText_0 9 rfl rfl)
theorem dX1_clearText_12 : decode cX1_clearText 12 = .ok (.iconst 0, 1) := dk_3 (dk_at dksX1_clearText_0 12 rfl rfl)
theorem dX1_clearText_13 : decode cX1_clearText 13 = .ok (.invokevirtual 381, 3) := dk_182 1 125 (dk_at dksX1_clearText_0 13 rfl rfl)
theorem dX1_clearText_16 : decode cX1_clearText 16 = .ok (.iload_n 1, 1) := dk_27 (dk_at dksX1_clearText_0 16 rfl rfl)
theorem dX1_clearText_17 : decode cX1_clearText 17 = .ok (.ireturn, 1) := dk_172 (dk_at dksX1_clearText_0 17 rfl rfl)
abbrev cX1_errorPosition : ByteArray := prog_1_method_77_code
def yX1_errorPosition : MethodName := ⟨RX1, "errorPosition", "()I"⟩
def dkwX1_errorPosition_0 : List UInt8 := [187, 1, 128, 89, 42, 183, 1, 130, 76, 43, 182, 1, 133, 87, 43, 180, 1, 136, 172]
abbrev dktX1_errorPosition_0 : List UInt8 := dkwX1_errorPosition_0 ++ []
theorem dksX1_errorPosition_0 : cX1_errorPosition.data.toList.drop 0 = dktX1_errorPosition_0 := by decide +kernel
theorem dX1_errorPosition_0 : decode cX1_errorPosition 0 = .ok (.new 384, 3) := dk_187 1 128 (dk_at dksX1_errorPosition_0 0 rfl rfl)
theorem dX1_errorPosition_3 : decode cX1_errorPosition 3 = .ok (.dup, 1) := dk_89 (dk_at dksX1_errorPosition_0 3 rfl rfl)
theorem dX1_errorPosition_4 : decode cX1_errorPosition 4 = .ok (.aload_n 0, 1) := dk_42 (dk_at dksX1_errorPosition_0 4 rfl rfl)
theorem dX1_errorPosition_5 : decode cX1_errorPosition 5 = .ok (.invokespecial 386, 3) := dk_183 1 130 (dk_at dksX1_errorPosition_0 5 rfl rfl)
theorem dX1_errorPosition_8 : decode cX1_errorPosition 8 = .ok (.astore_n 1, 1) := dk_76 (dk_at dksX1_errorPosition_0 8 rfl rfl)
theorem dX1_errorPosition_9 : decode cX1_errorPosition 9 = .ok (.aload_n 1, 1) := dk_43 (dk_at dksX1_errorPosition_0 9 rfl rfl)
theorem dX1_errorPosition_10 : decode cX1_errorPosition 10 = .ok (.invokevirtual 389, 3) := dk_182 1 133 (dk_at dksX1_errorPosition_0 10 rfl rfl)
theorem dX1_errorPosition_13 : decode cX1_errorPosition 13 = .ok (.pop, 1) := dk_87 (dk_at dksX1_errorPosition_0 13 rfl rfl)
theorem dX1_errorPosition_14 : decode cX1_errorPosition 14 = .ok (.aload_n 1, 1) := dk_43 (dk_at dksX1_errorPosition_0 14 rfl rfl)
theorem dX1_errorPosition_15 : decode cX1_errorPosition 15 = .ok (.getfield 392, 3) := dk_180 1 136 (dk_at dksX1_errorPosition_0 15 rfl rfl)
theorem dX1_errorPosition_18 : decode cX1_errorPosition 18 = .ok (.ireturn, 1) := dk_172 (dk_at dksX1_errorPosition_0 18 rfl rfl)
abbrev cX1_first : ByteArray := prog_1_method_5_code
def yX1_first : MethodName := ⟨RX1, "first", "([LPaperMill$Reason;)I"⟩
def dkwX1_first_1 : List UInt8 := [132, 1, 1, 167, 255, 232, 3, 172]
abbrev dktX1_first_1 : List UInt8 := dkwX1_first_1 ++ []
def dkwX1_first_0 : List UInt8 := [3, 60, 27, 42, 190, 162, 0, 24, 42, 27, 50, 185, 0, 36, 1, 0, 153, 0, 7, 27, 4, 96, 172]
abbrev dktX1_first_0 : List UInt8 := dkwX1_first_0 ++ dktX1_first_1
theorem dksX1_first_0 : cX1_first.data.toList.drop 0 = dktX1_first_0 := by decide +kernel
theorem dksX1_first_1 : cX1_first.data.toList.drop 23 = dktX1_first_1 := dk_seg dksX1_first_0 23 rfl rfl
theorem dX1_first_0 : decode cX1_first 0 = .ok (.iconst 0, 1) := dk_3 (dk_at dksX1_first_0 0 rfl rfl)
theorem dX1_first_1 : decode cX1_first 1 = .ok (.istore_n 1, 1) := dk_60 (dk_at dksX1_first_0 1 rfl rfl)
theorem dX1_first_2 : decode cX1_first 2 = .ok (.iload_n 1, 1) := dk_27 (dk_at dksX1_first_0 2 rfl rfl)
theorem dX1_first_3 : decode cX1_first 3 = .ok (.aload_n 0, 1) := dk_42 (dk_at dksX1_first_0 3 rfl rfl)
theorem dX1_first_4 : decode cX1_first 4 = .ok (.arraylength, 1) := dk_190 (dk_at dksX1_first_0 4 rfl rfl)
theorem dX1_first_5 : decode cX1_first 5 = .ok (.if_icmp .ge 24, 3) := dk_162 0 24 (dk_at dksX1_first_0 5 rfl rfl)
theorem dX1_first_8 : decode cX1_first 8 = .ok (.aload_n 0, 1) := dk_42 (dk_at dksX1_first_0 8 rfl rfl)
theorem dX1_first_9 : decode cX1_first 9 = .ok (.iload_n 1, 1) := dk_27 (dk_at dksX1_first_0 9 rfl rfl)
theorem dX1_first_10 : decode cX1_first 10 = .ok (.aaload, 1) := dk_50 (dk_at dksX1_first_0 10 rfl rfl)
theorem dX1_first_11 : decode cX1_first 11 = .ok (.invokeinterface 36 1, 5) := by decide +kernel
theorem dX1_first_16 : decode cX1_first 16 = .ok (.ifCond .eq 7, 3) := dk_153 0 7 (dk_at dksX1_first_0 16 rfl rfl)
theorem dX1_first_19 : decode cX1_first 19 = .ok (.iload_n 1, 1) := dk_27 (dk_at dksX1_first_0 19 rfl rfl)
theorem dX1_first_20 : decode cX1_first 20 = .ok (.iconst 1, 1) := dk_4 (dk_at dksX1_first_0 20 rfl rfl)
theorem dX1_first_21 : decode cX1_first 21 = .ok (.iadd, 1) := dk_96 (dk_at dksX1_first_0 21 rfl rfl)
theorem dX1_first_22 : decode cX1_first 22 = .ok (.ireturn, 1) := dk_172 (dk_at dksX1_first_0 22 rfl rfl)
theorem dX1_first_23 : decode cX1_first 23 = .ok (.iinc 1 1, 3) := dk_132 1 1 (dk_at dksX1_first_1 0 rfl rfl)
theorem dX1_first_26 : decode cX1_first 26 = .ok (.goto (-24), 3) := dk_167 255 232 (dk_at dksX1_first_1 3 rfl rfl)
theorem dX1_first_29 : decode cX1_first 29 = .ok (.iconst 0, 1) := dk_3 (dk_at dksX1_first_1 6 rfl rfl)
theorem dX1_first_30 : decode cX1_first 30 = .ok (.ireturn, 1) := dk_172 (dk_at dksX1_first_1 7 rfl rfl)
abbrev cX1_shares : ByteArray := prog_1_method_4_code
def yX1_shares : MethodName := ⟨RX1, "shares", "(LPaperMill$Mix;I)[I"⟩
def dkwX1_shares_6 : List UInt8 := [4, 96, 79, 45, 21, 6, 2, 79, 132, 5, 255, 167, 255, 197, 44, 176]
abbrev dktX1_shares_6 : List UInt8 := dkwX1_shares_6 ++ []
def dkwX1_shares_5 : List UInt8 := [46, 164, 0, 8, 21, 7, 167, 0, 5, 21, 6, 54, 6, 132, 7, 1, 167, 255, 227, 44, 21, 6, 92, 46]
abbrev dktX1_shares_5 : List UInt8 := dkwX1_shares_5 ++ dktX1_shares_6
def dkwX1_shares_4 : List UInt8 := [21, 5, 158, 0, 60, 3, 54, 6, 4, 54, 7, 21, 7, 7, 162, 0, 29, 45, 21, 7, 46, 45, 21, 6]
abbrev dktX1_shares_4 : List UInt8 := dkwX1_shares_4 ++ dktX1_shares_5
def dkwX1_shares_3 : List UInt8 := [21, 6, 21, 7, 21, 4, 112, 79, 21, 5, 44, 21, 6, 46, 100, 54, 5, 132, 6, 1, 167, 255, 210]
abbrev dktX1_shares_3 : List UInt8 := dkwX1_shares_3 ++ dktX1_shares_4
def dkwX1_shares_2 : List UInt8 := [162, 0, 46, 27, 42, 21, 6, 184, 0, 18, 104, 54, 7, 44, 21, 6, 21, 7, 21, 4, 108, 79, 45]
abbrev dktX1_shares_2 : List UInt8 := dkwX1_shares_2 ++ dktX1_shares_3
def dkwX1_shares_1 : List UInt8 := [21, 5, 184, 0, 18, 96, 54, 4, 132, 5, 1, 167, 255, 236, 27, 54, 5, 3, 54, 6, 21, 6, 7]
abbrev dktX1_shares_1 : List UInt8 := dkwX1_shares_1 ++ dktX1_shares_2
def dkwX1_shares_0 : List UInt8 := [7, 188, 10, 77, 7, 188, 10, 78, 3, 54, 4, 3, 54, 5, 21, 5, 7, 162, 0, 20, 21, 4, 42]
abbrev dktX1_shares_0 : List UInt8 := dkwX1_shares_0 ++ dktX1_shares_1
theorem dksX1_shares_0 : cX1_shares.data.toList.drop 0 = dktX1_shares_0 := by decide +kernel
theorem dksX1_shares_1 : cX1_shares.data.toList.drop 23 = dktX1_shares_1 := dk_seg dksX1_shares_0 23 rfl rfl
theorem dksX1_shares_2 : cX1_shares.data.toList.drop 46 = dktX1_shares_2 := dk_seg dksX1_shares_1 23 rfl rfl
theorem dksX1_shares_3 : cX1_shares.data.toList.drop 69 = dktX1_shares_3 := dk_seg dksX1_shares_2 23 rfl rfl
theorem dksX1_shares_4 : cX1_shares.data.toList.drop 92 = dktX1_shares_4 := dk_seg dksX1_shares_3 23 rfl rfl
theorem dksX1_shares_5 : cX1_shares.data.toList.drop 116 = dktX1_shares_5 := dk_seg dksX1_shares_4 24 rfl rfl
theorem dksX1_shares_6 : cX1_shares.data.toList.drop 140 = dktX1_shares_6 := dk_seg dksX1_shares_5 24 rfl rfl
theorem dX1_shares_0 : decode cX1_shares 0 = .ok (.iconst 4, 1) := dk_7 (dk_at dksX1_shares_0 0 rfl rfl)
theorem dX1_shares_1 : decode cX1_shares 1 = .ok (.newarray .int, 2) := dk_188_10 (dk_at dksX1_shares_0 1 rfl rfl)
theorem dX1_shares_3 : decode cX1_shares 3 = .ok (.astore_n 2, 1) := dk_77 (dk_at dksX1_shares_0 3 rfl rfl)
theorem dX1_shares_4 : decode cX1_shares 4 = .ok (.iconst 4, 1) := dk_7 (dk_at dksX1_shares_0 4 rfl rfl)
theorem dX1_shares_5 : decode cX1_shares 5 = .ok (.newarray .int, 2) := dk_188_10 (dk_at dksX1_shares_0 5 rfl rfl)
theorem dX1_shares_7 : decode cX1_shares 7 = .ok (.astore_n 3, 1) := dk_78 (dk_at dksX1_shares_0 7 rfl rfl)
theorem dX1_shares_8 : decode cX1_shares 8 = .ok (.iconst 0, 1) := dk_3 (dk_at dksX1_shares_0 8 rfl rfl)
theorem dX1_shares_9 : decode cX1_shares 9 = .ok (.istore 4, 2) := dk_54 4 (dk_at dksX1_shares_0 9 rfl rfl)
theorem dX1_shares_11 : decode cX1_shares 11 = .ok (.iconst 0, 1) := dk_3 (dk_at dksX1_shares_0 11 rfl rfl)
theorem dX1_shares_12 : decode cX1_shares 12 = .ok (.istore 5, 2) := dk_54 5 (dk_at dksX1_shares_0 12 rfl rfl)
theorem dX1_shares_14 : decode cX1_shares 14 = .ok (.iload 5, 2) := dk_21 5 (dk_at dksX1_shares_0 14 rfl rfl)
theorem dX1_shares_16 : decode cX1_shares 16 = .ok (.iconst 4, 1) := dk_7 (dk_at dksX1_shares_0 16 rfl rfl)
theorem dX1_shares_17 : decode cX1_shares 17 = .ok (.if_icmp .ge 20, 3) := dk_162 0 20 (dk_at dksX1_shares_0 17 rfl rfl)
theorem dX1_shares_20 : decode cX1_shares 20 = .ok (.iload 4, 2) := dk_21 4 (dk_at dksX1_shares_0 20 rfl rfl)
theorem dX1_shares_22 : decode cX1_shares 22 = .ok (.aload_n 0, 1) := dk_42 (dk_at dksX1_shares_0 22 rfl rfl)
theorem dX1_shares_23 : decode cX1_shares 23 = .ok (.iload 5, 2) := dk_21 5 (dk_at dksX1_shares_1 0 rfl rfl)
theorem dX1_shares_25 : decode cX1_shares 25 = .ok (.invokestatic 18, 3) := dk_184 0 18 (dk_at dksX1_shares_1 2 rfl rfl)
theorem dX1_shares_28 : decode cX1_shares 28 = .ok (.iadd, 1) := dk_96 (dk_at dksX1_shares_1 5 rfl rfl)
theorem dX1_shares_29 : decode cX1_shares 29 = .ok (.istore 4, 2) := dk_54 4 (dk_at dksX1_shares_1 6 rfl rfl)
theorem dX1_shares_31 : decode cX1_shares 31 = .ok (.iinc 5 1, 3) := dk_132 5 1 (dk_at dksX1_shares_1 8 rfl rfl)
theorem dX1_shares_34 : decode cX1_shares 34 = .ok (.goto (-20), 3) := dk_167 255 236 (dk_at dksX1_shares_1 11 rfl rfl)
theorem dX1_shares_37 : decode cX1_shares 37 = .ok (.iload_n 1, 1) := dk_27 (dk_at dksX1_shares_1 14 rfl rfl)
theorem dX1_shares_38 : decode cX1_shares 38 = .ok (.istore 5, 2) := dk_54 5 (dk_at dksX1_shares_1 15 rfl rfl)
theorem dX1_shares_40 : decode cX1_shares 40 = .ok (.iconst 0, 1) := dk_3 (dk_at dksX1_shares_1 17 rfl rfl)
theorem dX1_shares_41 : decode cX1_shares 41 = .ok (.istore 6, 2) := dk_54 6 (dk_at dksX1_shares_1 18 rfl rfl)
theorem dX1_shares_43 : decode cX1_shares 43 = .ok (.iload 6, 2) := dk_21 6 (dk_at dksX1_shares_1 20 rfl rfl)
theorem dX1_shares_45 : decode cX1_shares 45 = .ok (.iconst 4, 1) := dk_7 (dk_at dksX1_shares_1 22 rfl rfl)
theorem dX1_shares_46 : decode cX1_shares 46 = .ok (.if_icmp .ge 46, 3) := dk_162 0 46 (dk_at dksX1_shares_2 0 rfl rfl)
theorem dX1_shares_49 : decode cX1_shares 49 = .ok (.iload_n 1, 1) := dk_27 (dk_at dksX1_shares_2 3 rfl rfl)
theorem dX1_shares_50 : decode cX1_shares 50 = .ok (.aload_n 0, 1) := dk_42 (dk_at dksX1_shares_2 4 rfl rfl)
theorem dX1_shares_51 : decode cX1_shares 51 = .ok (.iload 6, 2) := dk_21 6 (dk_at dksX1_shares_2 5 rfl rfl)
theorem dX1_shares_53 : decode cX1_shares 53 = .ok (.invokestatic 18, 3) := dk_184 0 18 (dk_at dksX1_shares_2 7 rfl rfl)
theorem dX1_shares_56 : decode cX1_shares 56 = .ok (.imul, 1) := dk_104 (dk_at dksX1_shares_2 10 rfl rfl)
theorem dX1_shares_57 : decode cX1_shares 57 = .ok (.istore 7, 2) := dk_54 7 (dk_at dksX1_shares_2 11 rfl rfl)
theorem dX1_shares_59 : decode cX1_shares 59 = .ok (.aload_n 2, 1) := dk_44 (dk_at dksX1_shares_2 13 rfl rfl)
theorem dX1_shares_60 : decode cX1_shares 60 = .ok (.iload 6, 2) := dk_21 6 (dk_at dksX1_shares_2 14 rfl rfl)
theorem dX1_shares_62 : decode cX1_shares 62 = .ok (.iload 7, 2) := dk_21 7 (dk_at dksX1_shares_2 16 rfl rfl)
theorem dX1_shares_64 : decode cX1_shares 64 = .ok (.iload 4, 2) := dk_21 4 (dk_at dksX1_shares_2 18 rfl rfl)
theorem dX1_shares_66 : decode cX1_shares 66 = .ok (.idiv, 1) := dk_108 (dk_at dksX1_shares_2 20 rfl rfl)
theorem dX1_shares_67 : decode cX1_shares 67 = .ok (.iastore, 1) := dk_79 (dk_at dksX1_shares_2 21 rfl rfl)
theorem dX1_shares_68 : decode cX1_shares 68 = .ok (.aload_n 3, 1) := dk_45 (dk_at dksX1_shares_2 22 rfl rfl)
theorem dX1_shares_69 : decode cX1_shares 69 = .ok (.iload 6, 2) := dk_21 6 (dk_at dksX1_shares_3 0 rfl rfl)
theorem dX1_shares_71 : decode cX1_shares 71 = .ok (.iload 7, 2) := dk_21 7 (dk_at dksX1_shares_3 2 rfl rfl)
theorem dX1_shares_73 : decode cX1_shares 73 = .ok (.iload 4, 2) := dk_21 4 (dk_at dksX1_shares_3 4 rfl rfl)
theorem dX1_shares_75 : decode cX1_shares 75 = .ok (.irem, 1) := dk_112 (dk_at dksX1_shares_3 6 rfl rfl)
theorem dX1_shares_76 : decode cX1_shares 76 = .ok (.iastore, 1) := dk_79 (dk_at dksX1_shares_3 7 rfl rfl)
theorem dX1_shares_77 : decode cX1_shares 77 = .ok (.iload 5, 2) := dk_21 5 (dk_at dksX1_shares_3 8 rfl rfl)
theorem dX1_shares_79 : decode cX1_shares 79 = .ok (.aload_n 2, 1) := dk_44 (dk_at dksX1_shares_3 10 rfl rfl)
theorem dX1_shares_80 : decode cX1_shares 80 = .ok (.iload 6, 2) := dk_21 6 (dk_at dksX1_shares_3 11 rfl rfl)
theorem dX1_shares_82 : decode cX1_shares 82 = .ok (.iaload, 1) := dk_46 (dk_at dksX1_shares_3 13 rfl rfl)
theorem dX1_shares_83 : decode cX1_shares 83 = .ok (.isub, 1) := dk_100 (dk_at dksX1_shares_3 14 rfl rfl)
theorem dX1_shares_84 : decode cX1_shares 84 = .ok (.istore 5, 2) := dk_54 5 (dk_at dksX1_shares_3 15 rfl rfl)
theorem dX1_shares_86 : decode cX1_shares 86 = .ok (.iinc 6 1, 3) := dk_132 6 1 (dk_at dksX1_shares_3 17 rfl rfl)
theorem dX1_shares_89 : decode cX1_shares 89 = .ok (.goto (-46), 3) := dk_167 255 210 (dk_at dksX1_shares_3 20 rfl rfl)
theorem dX1_shares_92 : decode cX1_shares 92 = .ok (.iload 5, 2) := dk_21 5 (dk_at dksX1_shares_4 0 rfl rfl)
theorem dX1_shares_94 : decode cX1_shares 94 = .ok (.ifCond .le 60, 3) := dk_158 0 60 (dk_at dksX1_shares_4 2 rfl rfl)
theorem dX1_shares_97 : decode cX1_shares 97 = .ok (.iconst 0, 1) := dk_3 (dk_at dksX1_shares_4 5 rfl rfl)
theorem dX1_shares_98 : decode cX1_shares 98 = .ok (.istore 6, 2) := dk_54 6 (dk_at dksX1_shares_4 6 rfl rfl)
theorem dX1_shares_100 : decode cX1_shares 100 = .ok (.iconst 1, 1) := dk_4 (dk_at dksX1_shares_4 8 rfl rfl)
theorem dX1_shares_101 : decode cX1_shares 101 = .ok (.istore 7, 2) := dk_54 7 (dk_at dksX1_shares_4 9 rfl rfl)
theorem dX1_shares_103 : decode cX1_shares 103 = .ok (.iload 7, 2) := dk_21 7 (dk_at dksX1_shares_4 11 rfl rfl)
theorem dX1_shares_105 : decode cX1_shares 105 = .ok (.iconst 4, 1) := dk_7 (dk_at dksX1_shares_4 13 rfl rfl)
theorem dX1_shares_106 : decode cX1_shares 106 = .ok (.if_icmp .ge 29, 3) := dk_162 0 29 (dk_at dksX1_shares_4 14 rfl rfl)
theorem dX1_shares_109 : decode cX1_shares 109 = .ok (.aload_n 3, 1) := dk_45 (dk_at dksX1_shares_4 17 rfl rfl)
theorem dX1_shares_110 : decode cX1_shares 110 = .ok (.iload 7, 2) := dk_21 7 (dk_at dksX1_shares_4 18 rfl rfl)
theorem dX1_shares_112 : decode cX1_shares 112 = .ok (.iaload, 1) := dk_46 (dk_at dksX1_shares_4 20 rfl rfl)
theorem dX1_shares_113 : decode cX1_shares 113 = .ok (.aload_n 3, 1) := dk_45 (dk_at dksX1_shares_4 21 rfl rfl)
theorem dX1_shares_114 : decode cX1_shares 114 = .ok (.iload 6, 2) := dk_21 6 (dk_at dksX1_shares_4 22 rfl rfl)
theorem dX1_shares_116 : decode cX1_shares 116 = .ok (.iaload, 1) := dk_46 (dk_at dksX1_shares_5 0 rfl rfl)
theorem dX1_shares_117 : decode cX1_shares 117 = .ok (.if_icmp .le 8, 3) := dk_164 0 8 (dk_at dksX1_shares_5 1 rfl rfl)
theorem dX1_shares_120 : decode cX1_shares 120 = .ok (.iload 7, 2) := dk_21 7 (dk_at dksX1_shares_5 4 rfl rfl)
theorem dX1_shares_122 : decode cX1_shares 122 = .ok (.goto 5, 3) := dk_167 0 5 (dk_at dksX1_shares_5 6 rfl rfl)
theorem dX1_shares_125 : decode cX1_shares 125 = .ok (.iload 6, 2) := dk_21 6 (dk_at dksX1_shares_5 9 rfl rfl)
theorem dX1_shares_127 : decode cX1_shares 127 = .ok (.istore 6, 2) := dk_54 6 (dk_at dksX1_shares_5 11 rfl rfl)
theorem dX1_shares_129 : decode cX1_shares 129 = .ok (.iinc 7 1, 3) := dk_132 7 1 (dk_at dksX1_shares_5 13 rfl rfl)
theorem dX1_shares_132 : decode cX1_shares 132 = .ok (.goto (-29), 3) := dk_167 255 227 (dk_at dksX1_shares_5 16 rfl rfl)
theorem dX1_shares_135 : decode cX1_shares 135 = .ok (.aload_n 2, 1) := dk_44 (dk_at dksX1_shares_5 19 rfl rfl)
theorem dX1_shares_136 : decode cX1_shares 136 = .ok (.iload 6, 2) := dk_21 6 (dk_at dksX1_shares_5 20 rfl rfl)
theorem dX1_shares_138 : decode cX1_shares 138 = .ok (.dup2, 1) := dk_92 (dk_at dksX1_shares_5 22 rfl rfl)
theorem dX1_shares_139 : decode cX1_shares 139 = .ok (.iaload, 1) := dk_46 (dk_at dksX1_shares_5 23 rfl rfl)
theorem dX1_shares_140 : decode cX1_shares 140 = .ok (.iconst 1, 1) := dk_4 (dk_at dksX1_shares_6 0 rfl rfl)
theorem dX1_shares_141 : decode cX1_shares 141 = .ok (.iadd, 1) := dk_96 (dk_at dksX1_shares_6 1 rfl rfl)
theorem dX1_shares_142 : decode cX1_shares 142 = .ok (.iastore, 1) := dk_79 (dk_at dksX1_shares_6 2 rfl rfl)
theorem dX1_shares_143 : decode cX1_shares 143 = .ok (.aload_n 3, 1) := dk_45 (dk_at dksX1_shares_6 3 rfl rfl)
theorem dX1_shares_144 : decode cX1_shares 144 = .ok (.iload 6, 2) := dk_21 6 (dk_at dksX1_shares_6 4 rfl rfl)
theorem dX1_shares_146 : decode cX1_shares 146 = .ok (.iconst (-1), 1) := dk_2 (dk_at dksX1_shares_6 6 rfl rfl)
theorem dX1_shares_147 : decode cX1_shares 147 = .ok (.iastore, 1) := dk_79 (dk_at dksX1_shares_6 7 rfl rfl)
theorem dX1_shares_148 : decode cX1_shares 148 = .ok (.iinc 5 (-1), 3) := dk_132 5 255 (dk_at dksX1_shares_6 8 rfl rfl)
theorem dX1_shares_151 : decode cX1_shares 151 = .ok (.goto (-59), 3) := dk_167 255 197 (dk_at dksX1_shares_6 11 rfl rfl)
theorem dX1_shares_154 : decode cX1_shares 154 = .ok (.aload_n 2, 1) := dk_44 (dk_at dksX1_shares_6 14 rfl rfl)
theorem dX1_shares_155 : decode cX1_shares 155 = .ok (.areturn, 1) := dk_176 (dk_at dksX1_shares_6 15 rfl rfl)
abbrev cX1_parts : ByteArray := prog_1_method_2_code
def yX1_parts : MethodName := ⟨RX1, "parts", "(LPaperMill$Mix;I)I"⟩
def dkwX1_parts_3 : List UInt8 := [180, 0, 29, 27, 184, 0, 18, 104, 172]
abbrev dktX1_parts_3 : List UInt8 := dkwX1_parts_3 ++ []
def dkwX1_parts_2 : List UInt8 := [184, 0, 18, 44, 180, 0, 21, 27, 184, 0, 18, 96, 172, 42, 192, 0, 24, 77, 44, 180, 0, 26, 44]
abbrev dktX1_parts_2 : List UInt8 := dkwX1_parts_2 ++ dktX1_parts_3
def dkwX1_parts_1 : List UInt8 := [167, 0, 4, 3, 172, 42, 193, 0, 12, 153, 0, 26, 42, 192, 0, 12, 77, 44, 180, 0, 14, 27]
abbrev dktX1_parts_1 : List UInt8 := dkwX1_parts_1 ++ dktX1_parts_2
def dkwX1_parts_0 : List UInt8 := [42, 193, 0, 3, 153, 0, 25, 42, 192, 0, 3, 77, 44, 180, 0, 5, 27, 160, 0, 10, 44, 180, 0, 9]
abbrev dktX1_parts_0 : List UInt8 := dkwX1_parts_0 ++ dktX1_parts_1
theorem dksX1_parts_0 : cX1_parts.data.toList.drop 0 = dktX1_parts_0 := by decide +kernel
theorem dksX1_parts_1 : cX1_parts.data.toList.drop 24 = dktX1_parts_1 := dk_seg dksX1_parts_0 24 rfl rfl
theorem dksX1_parts_2 : cX1_parts.data.toList.drop 46 = dktX1_parts_2 := dk_seg dksX1_parts_1 22 rfl rfl
theorem dksX1_parts_3 : cX1_parts.data.toList.drop 69 = dktX1_parts_3 := dk_seg dksX1_parts_2 23 rfl rfl
theorem dX1_parts_0 : decode cX1_parts 0 = .ok (.aload_n 0, 1) := dk_42 (dk_at dksX1_parts_0 0 rfl rfl)
theorem dX1_parts_1 : decode cX1_parts 1 = .ok (.instanceof 3, 3) := dk_193 0 3 (dk_at dksX1_parts_0 1 rfl rfl)
theorem dX1_parts_4 : decode cX1_parts 4 = .ok (.ifCond .eq 25, 3) := dk_153 0 25 (dk_at dksX1_parts_0 4 rfl rfl)
theorem dX1_parts_7 : decode cX1_parts 7 = .ok (.aload_n 0, 1) := dk_42 (dk_at dksX1_parts_0 7 rfl rfl)
theorem dX1_parts_8 : decode cX1_parts 8 = .ok (.checkcast 3, 3) := dk_192 0 3 (dk_at dksX1_parts_0 8 rfl rfl)
theorem dX1_parts_11 : decode cX1_parts 11 = .ok (.astore_n 2, 1) := dk_77 (dk_at dksX1_parts_0 11 rfl rfl)
theorem dX1_parts_12 : decode cX1_parts 12 = .ok (.aload_n 2, 1) := dk_44 (dk_at dksX1_parts_0 12 rfl rfl)
theorem dX1_parts_13 : decode cX1_parts 13 = .ok (.getfield 5, 3) := dk_180 0 5 (dk_at dksX1_parts_0 13 rfl rfl)
theorem dX1_parts_16 : decode cX1_parts 16 = .ok (.iload_n 1, 1) := dk_27 (dk_at dksX1_parts_0 16 rfl rfl)
theorem dX1_parts_17 : decode cX1_parts 17 = .ok (.if_icmp .ne 10, 3) := dk_160 0 10 (dk_at dksX1_parts_0 17 rfl rfl)
theorem dX1_parts_20 : decode cX1_parts 20 = .ok (.aload_n 2, 1) := dk_44 (dk_at dksX1_parts_0 20 rfl rfl)
theorem dX1_parts_21 : decode cX1_parts 21 = .ok (.getfield 9, 3) := dk_180 0 9 (dk_at dksX1_parts_0 21 rfl rfl)
theorem dX1_parts_24 : decode cX1_parts 24 = .ok (.goto 4, 3) := dk_167 0 4 (dk_at dksX1_parts_1 0 rfl rfl)
theorem dX1_parts_27 : decode cX1_parts 27 = .ok (.iconst 0, 1) := dk_3 (dk_at dksX1_parts_1 3 rfl rfl)
theorem dX1_parts_28 : decode cX1_parts 28 = .ok (.ireturn, 1) := dk_172 (dk_at dksX1_parts_1 4 rfl rfl)
theorem dX1_parts_29 : decode cX1_parts 29 = .ok (.aload_n 0, 1) := dk_42 (dk_at dksX1_parts_1 5 rfl rfl)
theorem dX1_parts_30 : decode cX1_parts 30 = .ok (.instanceof 12, 3) := dk_193 0 12 (dk_at dksX1_parts_1 6 rfl rfl)
theorem dX1_parts_33 : decode cX1_parts 33 = .ok (.ifCond .eq 26, 3) := dk_153 0 26 (dk_at dksX1_parts_1 9 rfl rfl)
theorem dX1_parts_36 : decode cX1_parts 36 = .ok (.aload_n 0, 1) := dk_42 (dk_at dksX1_parts_1 12 rfl rfl)
theorem dX1_parts_37 : decode cX1_parts 37 = .ok (.checkcast 12, 3) := dk_192 0 12 (dk_at dksX1_parts_1 13 rfl rfl)
theorem dX1_parts_40 : decode cX1_parts 40 = .ok (.astore_n 2, 1) := dk_77 (dk_at dksX1_parts_1 16 rfl rfl)
theorem dX1_parts_41 : decode cX1_parts 41 = .ok (.aload_n 2, 1) := dk_44 (dk_at dksX1_parts_1 17 rfl rfl)
theorem dX1_parts_42 : decode cX1_parts 42 = .ok (.getfield 14, 3) := dk_180 0 14 (dk_at dksX1_parts_1 18 rfl rfl)
theorem dX1_parts_45 : decode cX1_parts 45 = .ok (.iload_n 1, 1) := dk_27 (dk_at dksX1_parts_1 21 rfl rfl)
theorem dX1_parts_46 : decode cX1_parts 46 = .ok (.invokestatic 18, 3) := dk_184 0 18 (dk_at dksX1_parts_2 0 rfl rfl)
theorem dX1_parts_49 : decode cX1_parts 49 = .ok (.aload_n 2, 1) := dk_44 (dk_at dksX1_parts_2 3 rfl rfl)
theorem dX1_parts_50 : decode cX1_parts 50 = .ok (.getfield 21, 3) := dk_180 0 21 (dk_at dksX1_parts_2 4 rfl rfl)
theorem dX1_parts_53 : decode cX1_parts 53 = .ok (.iload_n 1, 1) := dk_27 (dk_at dksX1_parts_2 7 rfl rfl)
theorem dX1_parts_54 : decode cX1_parts 54 = .ok (.invokestatic 18, 3) := dk_184 0 18 (dk_at dksX1_parts_2 8 rfl rfl)
theorem dX1_parts_57 : decode cX1_parts 57 = .ok (.iadd, 1) := dk_96 (dk_at dksX1_parts_2 11 rfl rfl)
theorem dX1_parts_58 : decode cX1_parts 58 = .ok (.ireturn, 1) := dk_172 (dk_at dksX1_parts_2 12 rfl rfl)
theorem dX1_parts_59 : decode cX1_parts 59 = .ok (.aload_n 0, 1) := dk_42 (dk_at dksX1_parts_2 13 rfl rfl)
theorem dX1_parts_60 : decode cX1_parts 60 = .ok (.checkcast 24, 3) := dk_192 0 24 (dk_at dksX1_parts_2 14 rfl rfl)
theorem dX1_parts_63 : decode cX1_parts 63 = .ok (.astore_n 2, 1) := dk_77 (dk_at dksX1_parts_2 17 rfl rfl)
theorem dX1_parts_64 : decode cX1_parts 64 = .ok (.aload_n 2, 1) := dk_44 (dk_at dksX1_parts_2 18 rfl rfl)
theorem dX1_parts_65 : decode cX1_parts 65 = .ok (.getfield 26, 3) := dk_180 0 26 (dk_at dksX1_parts_2 19 rfl rfl)
theorem dX1_parts_68 : decode cX1_parts 68 = .ok (.aload_n 2, 1) := dk_44 (dk_at dksX1_parts_2 22 rfl rfl)
theorem dX1_parts_69 : decode cX1_parts 69 = .ok (.getfield 29, 3) := dk_180 0 29 (dk_at dksX1_parts_3 0 rfl rfl)
theorem dX1_parts_72 : decode cX1_parts 72 = .ok (.iload_n 1, 1) := dk_27 (dk_at dksX1_parts_3 3 rfl rfl)
theorem dX1_parts_73 : decode cX1_parts 73 = .ok (.invokestatic 18, 3) := dk_184 0 18 (dk_at dksX1_parts_3 4 rfl rfl)
theorem dX1_parts_76 : decode cX1_parts 76 = .ok (.imul, 1) := dk_104 (dk_at dksX1_parts_3 7 rfl rfl)
theorem dX1_parts_77 : decode cX1_parts 77 = .ok (.ireturn, 1) := dk_172 (dk_at dksX1_parts_3 8 rfl rfl)
abbrev cX1_strength : ByteArray := prog_1_method_1_code
def yX1_strength : MethodName := ⟨RX1, "strength", "(I)I"⟩
def dkwX1_strength_2 : List UInt8 := [16, 50, 172, 16, 30, 172, 16, 60, 172, 16, 10, 172]
abbrev dktX1_strength_2 : List UInt8 := dkwX1_strength_2 ++ []
def dkwX1_strength_1 : List UInt8 := [170, 0, 0, 0, 0, 0, 36, 0, 0, 0, 0, 0, 0, 0, 2, 0, 0, 0, 27, 0, 0, 0, 30, 0, 0, 0, 33]
abbrev dktX1_strength_1 : List UInt8 := dkwX1_strength_1 ++ dktX1_strength_2
def dkwX1_strength_0 : List UInt8 := [26]
abbrev dktX1_strength_0 : List UInt8 := dkwX1_strength_0 ++ dktX1_strength_1
theorem dksX1_strength_0 : cX1_strength.data.toList.drop 0 = dktX1_strength_0 := by decide +kernel
theorem dksX1_strength_1 : cX1_strength.data.toList.drop 1 = dktX1_strength_1 := dk_seg dksX1_strength_0 1 rfl rfl
theorem dksX1_strength_2 : cX1_strength.data.toList.drop 28 = dktX1_strength_2 := dk_seg dksX1_strength_1 27 rfl rfl
theorem dX1_strength_0 : decode cX1_strength 0 = .ok (.iload_n 0, 1) := dk_26 (dk_at dksX1_strength_0 0 rfl rfl)
theorem dX1_strength_1 : decode cX1_strength 1 = .ok (.tableswitch 36 0 2 #[27, 30, 33], 27) := by decide +kernel
theorem dX1_strength_28 : decode cX1_strength 28 = .ok (.bipush 50, 2) := dk_16 50 (dk_at dksX1_strength_2 0 rfl rfl)
theorem dX1_strength_30 : decode cX1_strength 30 = .ok (.ireturn, 1) := dk_172 (dk_at dksX1_strength_2 2 rfl rfl)
theorem dX1_strength_31 : decode cX1_strength 31 = .ok (.bipush 30, 2) := dk_16 30 (dk_at dksX1_strength_2 3 rfl rfl)
theorem dX1_strength_33 : decode cX1_strength 33 = .ok (.ireturn, 1) := dk_172 (dk_at dksX1_strength_2 5 rfl rfl)
theorem dX1_strength_34 : decode cX1_strength 34 = .ok (.bipush 60, 2) := dk_16 60 (dk_at dksX1_strength_2 6 rfl rfl)
theorem dX1_strength_36 : decode cX1_strength 36 = .ok (.ireturn, 1) := dk_172 (dk_at dksX1_strength_2 8 rfl rfl)
theorem dX1_strength_37 : decode cX1_strength 37 = .ok (.bipush 10, 2) := dk_16 10 (dk_at dksX1_strength_2 9 rfl rfl)
theorem dX1_strength_39 : decode cX1_strength 39 = .ok (.ireturn, 1) := dk_172 (dk_at dksX1_strength_2 11 rfl rfl)
abbrev cX1_takeSnapshot : ByteArray := prog_1_method_80_code
def yX1_takeSnapshot : MethodName := ⟨RX1, "takeSnapshot", "()I"⟩
def dkwX1_takeSnapshot_0 : List UInt8 := [42, 42, 180, 0, 54, 182, 0, 80, 181, 1, 147, 42, 180, 0, 54, 180, 0, 171, 172]
abbrev dktX1_takeSnapshot_0 : List UInt8 := dkwX1_takeSnapshot_0 ++ []
theorem dksX1_takeSnapshot_0 : cX1_takeSnapshot.data.toList.drop 0 = dktX1_takeSnapshot_0 := by decide +kernel
theorem dX1_takeSnapshot_0 : decode cX1_takeSnapshot 0 = .ok (.aload_n 0, 1) := dk_42 (dk_at dksX1_takeSnapshot_0 0 rfl rfl)
theorem dX1_takeSnapshot_1 : decode cX1_takeSnapshot 1 = .ok (.aload_n 0, 1) := dk_42 (dk_at dksX1_takeSnapshot_0 1 rfl rfl)
theorem dX1_takeSnapshot_2 : decode cX1_takeSnapshot 2 = .ok (.getfield 54, 3) := dk_180 0 54 (dk_at dksX1_takeSnapshot_0 2 rfl rfl)
theorem dX1_takeSnapshot_5 : decode cX1_takeSnapshot 5 = .ok (.invokevirtual 80, 3) := dk_182 0 80 (dk_at dksX1_takeSnapshot_0 5 rfl rfl)
theorem dX1_takeSnapshot_8 : decode cX1_takeSnapshot 8 = .ok (.putfield 403, 3) := dk_181 1 147 (dk_at dksX1_takeSnapshot_0 8 rfl rfl)
theorem dX1_takeSnapshot_11 : decode cX1_takeSnapshot 11 = .ok (.aload_n 0, 1) := dk_42 (dk_at dksX1_takeSnapshot_0 11 rfl rfl)
theorem dX1_takeSnapshot_12 : decode cX1_takeSnapshot 12 = .ok (.getfield 54, 3) := dk_180 0 54 (dk_at dksX1_takeSnapshot_0 12 rfl rfl)
theorem dX1_takeSnapshot_15 : decode cX1_takeSnapshot 15 = .ok (.getfield 171, 3) := dk_180 0 171 (dk_at dksX1_takeSnapshot_0 15 rfl rfl)
theorem dX1_takeSnapshot_18 : decode cX1_takeSnapshot 18 = .ok (.ireturn, 1) := dk_172 (dk_at dksX1_takeSnapshot_0 18 rfl rfl)
abbrev cX1_deliver : ByteArray := prog_1_method_18_code
def yX1_deliver : MethodName := ⟨RX1, "deliver", "(IIII)I"⟩
def dkwX1_deliver_4 : List UInt8 := [21, 5, 164, 0, 8, 21, 5, 167, 0, 4, 2, 172]
abbrev dktX1_deliver_4 : List UInt8 := dkwX1_deliver_4 ++ []
def dkwX1_deliver_3 : List UInt8 := [180, 0, 54, 27, 28, 29, 21, 4, 182, 0, 153, 87, 42, 180, 0, 54, 180, 0, 116, 185, 0, 119, 1, 0]
abbrev dktX1_deliver_3 : List UInt8 := dkwX1_deliver_3 ++ dktX1_deliver_4
def dkwX1_deliver_2 : List UInt8 := [184, 0, 146, 42, 182, 0, 150, 42, 180, 0, 54, 180, 0, 116, 185, 0, 119, 1, 0, 54, 5, 42]
abbrev dktX1_deliver_2 : List UInt8 := dkwX1_deliver_2 ++ dktX1_deliver_3
def dkwX1_deliver_1 : List UInt8 := [16, 99, 184, 0, 96, 42, 180, 0, 54, 27, 29, 21, 4, 182, 0, 142, 154, 0, 7, 4, 167, 0, 4, 3]
abbrev dktX1_deliver_1 : List UInt8 := dkwX1_deliver_1 ++ dktX1_deliver_2
def dkwX1_deliver_0 : List UInt8 := [27, 7, 184, 0, 100, 28, 3, 6, 184, 0, 96, 29, 16, 10, 17, 1, 44, 184, 0, 96, 21, 4, 3]
abbrev dktX1_deliver_0 : List UInt8 := dkwX1_deliver_0 ++ dktX1_deliver_1
theorem dksX1_deliver_0 : cX1_deliver.data.toList.drop 0 = dktX1_deliver_0 := by decide +kernel
theorem dksX1_deliver_1 : cX1_deliver.data.toList.drop 23 = dktX1_deliver_1 := dk_seg dksX1_deliver_0 23 rfl rfl
theorem dksX1_deliver_2 : cX1_deliver.data.toList.drop 47 = dktX1_deliver_2 := dk_seg dksX1_deliver_1 24 rfl rfl
theorem dksX1_deliver_3 : cX1_deliver.data.toList.drop 69 = dktX1_deliver_3 := dk_seg dksX1_deliver_2 22 rfl rfl
theorem dksX1_deliver_4 : cX1_deliver.data.toList.drop 93 = dktX1_deliver_4 := dk_seg dksX1_deliver_3 24 rfl rfl
theorem dX1_deliver_0 : decode cX1_deliver 0 = .ok (.iload_n 1, 1) := dk_27 (dk_at dksX1_deliver_0 0 rfl rfl)
theorem dX1_deliver_1 : decode cX1_deliver 1 = .ok (.iconst 4, 1) := dk_7 (dk_at dksX1_deliver_0 1 rfl rfl)
theorem dX1_deliver_2 : decode cX1_deliver 2 = .ok (.invokestatic 100, 3) := dk_184 0 100 (dk_at dksX1_deliver_0 2 rfl rfl)
theorem dX1_deliver_5 : decode cX1_deliver 5 = .ok (.iload_n 2, 1) := dk_28 (dk_at dksX1_deliver_0 5 rfl rfl)
theorem dX1_deliver_6 : decode cX1_deliver 6 = .ok (.iconst 0, 1) := dk_3 (dk_at dksX1_deliver_0 6 rfl rfl)
theorem dX1_deliver_7 : decode cX1_deliver 7 = .ok (.iconst 3, 1) := dk_6 (dk_at dksX1_deliver_0 7 rfl rfl)
theorem dX1_deliver_8 : decode cX1_deliver 8 = .ok (.invokestatic 96, 3) := dk_184 0 96 (dk_at dksX1_deliver_0 8 rfl rfl)
theorem dX1_deliver_11 : decode cX1_deliver 11 = .ok (.iload_n 3, 1) := dk_29 (dk_at dksX1_deliver_0 11 rfl rfl)
theorem dX1_deliver_12 : decode cX1_deliver 12 = .ok (.bipush 10, 2) := dk_16 10 (dk_at dksX1_deliver_0 12 rfl rfl)
theorem dX1_deliver_14 : decode cX1_deliver 14 = .ok (.sipush 300, 3) := dk_17 1 44 (dk_at dksX1_deliver_0 14 rfl rfl)
theorem dX1_deliver_17 : decode cX1_deliver 17 = .ok (.invokestatic 96, 3) := dk_184 0 96 (dk_at dksX1_deliver_0 17 rfl rfl)
theorem dX1_deliver_20 : decode cX1_deliver 20 = .ok (.iload 4, 2) := dk_21 4 (dk_at dksX1_deliver_0 20 rfl rfl)
theorem dX1_deliver_22 : decode cX1_deliver 22 = .ok (.iconst 0, 1) := dk_3 (dk_at dksX1_deliver_0 22 rfl rfl)
theorem dX1_deliver_23 : decode cX1_deliver 23 = .ok (.bipush 99, 2) := dk_16 99 (dk_at dksX1_deliver_1 0 rfl rfl)
theorem dX1_deliver_25 : decode cX1_deliver 25 = .ok (.invokestatic 96, 3) := dk_184 0 96 (dk_at dksX1_deliver_1 2 rfl rfl)
theorem dX1_deliver_28 : decode cX1_deliver 28 = .ok (.aload_n 0, 1) := dk_42 (dk_at dksX1_deliver_1 5 rfl rfl)
theorem dX1_deliver_29 : decode cX1_deliver 29 = .ok (.getfield 54, 3) := dk_180 0 54 (dk_at dksX1_deliver_1 6 rfl rfl)
theorem dX1_deliver_32 : decode cX1_deliver 32 = .ok (.iload_n 1, 1) := dk_27 (dk_at dksX1_deliver_1 9 rfl rfl)
theorem dX1_deliver_33 : decode cX1_deliver 33 = .ok (.iload_n 3, 1) := dk_29 (dk_at dksX1_deliver_1 10 rfl rfl)
theorem dX1_deliver_34 : decode cX1_deliver 34 = .ok (.iload 4, 2) := dk_21 4 (dk_at dksX1_deliver_1 11 rfl rfl)
theorem dX1_deliver_36 : decode cX1_deliver 36 = .ok (.invokevirtual 142, 3) := dk_182 0 142 (dk_at dksX1_deliver_1 13 rfl rfl)
theorem dX1_deliver_39 : decode cX1_deliver 39 = .ok (.ifCond .ne 7, 3) := dk_154 0 7 (dk_at dksX1_deliver_1 16 rfl rfl)
theorem dX1_deliver_42 : decode cX1_deliver 42 = .ok (.iconst 1, 1) := dk_4 (dk_at dksX1_deliver_1 19 rfl rfl)
theorem dX1_deliver_43 : decode cX1_deliver 43 = .ok (.goto 4, 3) := dk_167 0 4 (dk_at dksX1_deliver_1 20 rfl rfl)
theorem dX1_deliver_46 : decode cX1_deliver 46 = .ok (.iconst 0, 1) := dk_3 (dk_at dksX1_deliver_1 23 rfl rfl)
theorem dX1_deliver_47 : decode cX1_deliver 47 = .ok (.invokestatic 146, 3) := dk_184 0 146 (dk_at dksX1_deliver_2 0 rfl rfl)
theorem dX1_deliver_50 : decode cX1_deliver 50 = .ok (.aload_n 0, 1) := dk_42 (dk_at dksX1_deliver_2 3 rfl rfl)
theorem dX1_deliver_51 : decode cX1_deliver 51 = .ok (.invokevirtual 150, 3) := dk_182 0 150 (dk_at dksX1_deliver_2 4 rfl rfl)
theorem dX1_deliver_54 : decode cX1_deliver 54 = .ok (.aload_n 0, 1) := dk_42 (dk_at dksX1_deliver_2 7 rfl rfl)
theorem dX1_deliver_55 : decode cX1_deliver 55 = .ok (.getfield 54, 3) := dk_180 0 54 (dk_at dksX1_deliver_2 8 rfl rfl)
theorem dX1_deliver_58 : decode cX1_deliver 58 = .ok (.getfield 116, 3) := dk_180 0 116 (dk_at dksX1_deliver_2 11 rfl rfl)
theorem dX1_deliver_61 : decode cX1_deliver 61 = .ok (.invokeinterface 119 1, 5) := by decide +kernel
theorem dX1_deliver_66 : decode cX1_deliver 66 = .ok (.istore 5, 2) := dk_54 5 (dk_at dksX1_deliver_2 19 rfl rfl)
theorem dX1_deliver_68 : decode cX1_deliver 68 = .ok (.aload_n 0, 1) := dk_42 (dk_at dksX1_deliver_2 21 rfl rfl)
theorem dX1_deliver_69 : decode cX1_deliver 69 = .ok (.getfield 54, 3) := dk_180 0 54 (dk_at dksX1_deliver_3 0 rfl rfl)
theorem dX1_deliver_72 : decode cX1_deliver 72 = .ok (.iload_n 1, 1) := dk_27 (dk_at dksX1_deliver_3 3 rfl rfl)
theorem dX1_deliver_73 : decode cX1_deliver 73 = .ok (.iload_n 2, 1) := dk_28 (dk_at dksX1_deliver_3 4 rfl rfl)
theorem dX1_deliver_74 : decode cX1_deliver 74 = .ok (.iload_n 3, 1) := dk_29 (dk_at dksX1_deliver_3 5 rfl rfl)
theorem dX1_deliver_75 : decode cX1_deliver 75 = .ok (.iload 4, 2) := dk_21 4 (dk_at dksX1_deliver_3 6 rfl rfl)
theorem dX1_deliver_77 : decode cX1_deliver 77 = .ok (.invokevirtual 153, 3) := dk_182 0 153 (dk_at dksX1_deliver_3 8 rfl rfl)
theorem dX1_deliver_80 : decode cX1_deliver 80 = .ok (.pop, 1) := dk_87 (dk_at dksX1_deliver_3 11 rfl rfl)
theorem dX1_deliver_81 : decode cX1_deliver 81 = .ok (.aload_n 0, 1) := dk_42 (dk_at dksX1_deliver_3 12 rfl rfl)
theorem dX1_deliver_82 : decode cX1_deliver 82 = .ok (.getfield 54, 3) := dk_180 0 54 (dk_at dksX1_deliver_3 13 rfl rfl)
theorem dX1_deliver_85 : decode cX1_deliver 85 = .ok (.getfield 116, 3) := dk_180 0 116 (dk_at dksX1_deliver_3 16 rfl rfl)
theorem dX1_deliver_88 : decode cX1_deliver 88 = .ok (.invokeinterface 119 1, 5) := by decide +kernel
theorem dX1_deliver_93 : decode cX1_deliver 93 = .ok (.iload 5, 2) := dk_21 5 (dk_at dksX1_deliver_4 0 rfl rfl)
theorem dX1_deliver_95 : decode cX1_deliver 95 = .ok (.if_icmp .le 8, 3) := dk_164 0 8 (dk_at dksX1_deliver_4 2 rfl rfl)
theorem dX1_deliver_98 : decode cX1_deliver 98 = .ok (.iload 5, 2) := dk_21 5 (dk_at dksX1_deliver_4 5 rfl rfl)
theorem dX1_deliver_100 : decode cX1_deliver 100 = .ok (.goto 4, 3) := dk_167 0 4 (dk_at dksX1_deliver_4 7 rfl rfl)
theorem dX1_deliver_103 : decode cX1_deliver 103 = .ok (.iconst (-1), 1) := dk_2 (dk_at dksX1_deliver_4 10 rfl rfl)
theorem dX1_deliver_104 : decode cX1_deliver 104 = .ok (.ireturn, 1) := dk_172 (dk_at dksX1_deliver_4 11 rfl rfl)
abbrev cX1_checkNumber : ByteArray := prog_1_method_8_code
def yX1_checkNumber : MethodName := ⟨RX1, "checkNumber", "(II)V"⟩
def dkwX1_checkNumber_0 : List UInt8 := [26, 155, 0, 8, 26, 27, 161, 0, 11, 187, 0, 87, 89, 183, 0, 89, 191, 177]
abbrev dktX1_checkNumber_0 : List UInt8 := dkwX1_checkNumber_0 ++ []
theorem dksX1_checkNumber_0 : cX1_checkNumber.data.toList.drop 0 = dktX1_checkNumber_0 := by decide +kernel
theorem dX1_checkNumber_0 : decode cX1_checkNumber 0 = .ok (.iload_n 0, 1) := dk_26 (dk_at dksX1_checkNumber_0 0 rfl rfl)
theorem dX1_checkNumber_1 : decode cX1_checkNumber 1 = .ok (.ifCond .lt 8, 3) := dk_155 0 8 (dk_at dksX1_checkNumber_0 1 rfl rfl)
theorem dX1_checkNumber_4 : decode cX1_checkNumber 4 = .ok (.iload_n 0, 1) := dk_26 (dk_at dksX1_checkNumber_0 4 rfl rfl)
theorem dX1_checkNumber_5 : decode cX1_checkNumber 5 = .ok (.iload_n 1, 1) := dk_27 (dk_at dksX1_checkNumber_0 5 rfl rfl)
theorem dX1_checkNumber_6 : decode cX1_checkNumber 6 = .ok (.if_icmp .lt 11, 3) := dk_161 0 11 (dk_at dksX1_checkNumber_0 6 rfl rfl)
theorem dX1_checkNumber_9 : decode cX1_checkNumber 9 = .ok (.new 87, 3) := dk_187 0 87 (dk_at dksX1_checkNumber_0 9 rfl rfl)
theorem dX1_checkNumber_12 : decode cX1_checkNumber 12 = .ok (.dup, 1) := dk_89 (dk_at dksX1_checkNumber_0 12 rfl rfl)
theorem dX1_checkNumber_13 : decode cX1_checkNumber 13 = .ok (.invokespecial 89, 3) := dk_183 0 89 (dk_at dksX1_checkNumber_0 13 rfl rfl)
theorem dX1_checkNumber_16 : decode cX1_checkNumber 16 = .ok (.athrow, 1) := dk_191 (dk_at dksX1_checkNumber_0 16 rfl rfl)
theorem dX1_checkNumber_17 : decode cX1_checkNumber 17 = .ok (.return_, 1) := dk_177 (dk_at dksX1_checkNumber_0 17 rfl rfl)
abbrev cX1_checkRange : ByteArray := prog_1_method_9_code
def yX1_checkRange : MethodName := ⟨RX1, "checkRange", "(III)V"⟩
def dkwX1_checkRange_0 : List UInt8 := [26, 27, 161, 0, 8, 26, 28, 164, 0, 11, 187, 0, 90, 89, 183, 0, 92, 191, 177]
abbrev dktX1_checkRange_0 : List UInt8 := dkwX1_checkRange_0 ++ []
theorem dksX1_checkRange_0 : cX1_checkRange.data.toList.drop 0 = dktX1_checkRange_0 := by decide +kernel
theorem dX1_checkRange_0 : decode cX1_checkRange 0 = .ok (.iload_n 0, 1) := dk_26 (dk_at dksX1_checkRange_0 0 rfl rfl)
theorem dX1_checkRange_1 : decode cX1_checkRange 1 = .ok (.iload_n 1, 1) := dk_27 (dk_at dksX1_checkRange_0 1 rfl rfl)
theorem dX1_checkRange_2 : decode cX1_checkRange 2 = .ok (.if_icmp .lt 8, 3) := dk_161 0 8 (dk_at dksX1_checkRange_0 2 rfl rfl)
theorem dX1_checkRange_5 : decode cX1_checkRange 5 = .ok (.iload_n 0, 1) := dk_26 (dk_at dksX1_checkRange_0 5 rfl rfl)
theorem dX1_checkRange_6 : decode cX1_checkRange 6 = .ok (.iload_n 2, 1) := dk_28 (dk_at dksX1_checkRange_0 6 rfl rfl)
theorem dX1_checkRange_7 : decode cX1_checkRange 7 = .ok (.if_icmp .le 11, 3) := dk_164 0 11 (dk_at dksX1_checkRange_0 7 rfl rfl)
theorem dX1_checkRange_10 : decode cX1_checkRange 10 = .ok (.new 90, 3) := dk_187 0 90 (dk_at dksX1_checkRange_0 10 rfl rfl)
theorem dX1_checkRange_13 : decode cX1_checkRange 13 = .ok (.dup, 1) := dk_89 (dk_at dksX1_checkRange_0 13 rfl rfl)
theorem dX1_checkRange_14 : decode cX1_checkRange 14 = .ok (.invokespecial 92, 3) := dk_183 0 92 (dk_at dksX1_checkRange_0 14 rfl rfl)
theorem dX1_checkRange_17 : decode cX1_checkRange 17 = .ok (.athrow, 1) := dk_191 (dk_at dksX1_checkRange_0 17 rfl rfl)
theorem dX1_checkRange_18 : decode cX1_checkRange 18 = .ok (.return_, 1) := dk_177 (dk_at dksX1_checkRange_0 18 rfl rfl)
abbrev cX1_checkState : ByteArray := prog_1_method_10_code
def yX1_checkState : MethodName := ⟨RX1, "checkState", "(Z)V"⟩
def dkwX1_checkState_0 : List UInt8 := [26, 154, 0, 11, 187, 0, 93, 89, 183, 0, 95, 191, 177]
abbrev dktX1_checkState_0 : List UInt8 := dkwX1_checkState_0 ++ []
theorem dksX1_checkState_0 : cX1_checkState.data.toList.drop 0 = dktX1_checkState_0 := by decide +kernel
theorem dX1_checkState_0 : decode cX1_checkState 0 = .ok (.iload_n 0, 1) := dk_26 (dk_at dksX1_checkState_0 0 rfl rfl)
theorem dX1_checkState_1 : decode cX1_checkState 1 = .ok (.ifCond .ne 11, 3) := dk_154 0 11 (dk_at dksX1_checkState_0 1 rfl rfl)
theorem dX1_checkState_4 : decode cX1_checkState 4 = .ok (.new 93, 3) := dk_187 0 93 (dk_at dksX1_checkState_0 4 rfl rfl)
theorem dX1_checkState_7 : decode cX1_checkState 7 = .ok (.dup, 1) := dk_89 (dk_at dksX1_checkState_0 7 rfl rfl)
theorem dX1_checkState_8 : decode cX1_checkState 8 = .ok (.invokespecial 95, 3) := dk_183 0 95 (dk_at dksX1_checkState_0 8 rfl rfl)
theorem dX1_checkState_11 : decode cX1_checkState 11 = .ok (.athrow, 1) := dk_191 (dk_at dksX1_checkState_0 11 rfl rfl)
theorem dX1_checkState_12 : decode cX1_checkState 12 = .ok (.return_, 1) := dk_177 (dk_at dksX1_checkState_0 12 rfl rfl)
abbrev cX1_save : ByteArray := prog_1_method_7_code
def yX1_save : MethodName := ⟨RX1, "save", "()V"⟩
def dkwX1_save_1 : List UInt8 := [180, 0, 54, 182, 0, 80, 182, 0, 83, 177]
abbrev dktX1_save_1 : List UInt8 := dkwX1_save_1 ++ []
def dkwX1_save_0 : List UInt8 := [42, 180, 0, 61, 182, 0, 72, 8, 160, 0, 11, 42, 180, 0, 61, 182, 0, 76, 87, 42, 180, 0, 61, 42]
abbrev dktX1_save_0 : List UInt8 := dkwX1_save_0 ++ dktX1_save_1
theorem dksX1_save_0 : cX1_save.data.toList.drop 0 = dktX1_save_0 := by decide +kernel
theorem dksX1_save_1 : cX1_save.data.toList.drop 24 = dktX1_save_1 := dk_seg dksX1_save_0 24 rfl rfl
theorem dX1_save_0 : decode cX1_save 0 = .ok (.aload_n 0, 1) := dk_42 (dk_at dksX1_save_0 0 rfl rfl)
theorem dX1_save_1 : decode cX1_save 1 = .ok (.getfield 61, 3) := dk_180 0 61 (dk_at dksX1_save_0 1 rfl rfl)
theorem dX1_save_4 : decode cX1_save 4 = .ok (.invokevirtual 72, 3) := dk_182 0 72 (dk_at dksX1_save_0 4 rfl rfl)
theorem dX1_save_7 : decode cX1_save 7 = .ok (.iconst 5, 1) := dk_8 (dk_at dksX1_save_0 7 rfl rfl)
theorem dX1_save_8 : decode cX1_save 8 = .ok (.if_icmp .ne 11, 3) := dk_160 0 11 (dk_at dksX1_save_0 8 rfl rfl)
theorem dX1_save_11 : decode cX1_save 11 = .ok (.aload_n 0, 1) := dk_42 (dk_at dksX1_save_0 11 rfl rfl)
theorem dX1_save_12 : decode cX1_save 12 = .ok (.getfield 61, 3) := dk_180 0 61 (dk_at dksX1_save_0 12 rfl rfl)
theorem dX1_save_15 : decode cX1_save 15 = .ok (.invokevirtual 76, 3) := dk_182 0 76 (dk_at dksX1_save_0 15 rfl rfl)
theorem dX1_save_18 : decode cX1_save 18 = .ok (.pop, 1) := dk_87 (dk_at dksX1_save_0 18 rfl rfl)
theorem dX1_save_19 : decode cX1_save 19 = .ok (.aload_n 0, 1) := dk_42 (dk_at dksX1_save_0 19 rfl rfl)
theorem dX1_save_20 : decode cX1_save 20 = .ok (.getfield 61, 3) := dk_180 0 61 (dk_at dksX1_save_0 20 rfl rfl)
theorem dX1_save_23 : decode cX1_save 23 = .ok (.aload_n 0, 1) := dk_42 (dk_at dksX1_save_0 23 rfl rfl)
theorem dX1_save_24 : decode cX1_save 24 = .ok (.getfield 54, 3) := dk_180 0 54 (dk_at dksX1_save_1 0 rfl rfl)
theorem dX1_save_27 : decode cX1_save 27 = .ok (.invokevirtual 80, 3) := dk_182 0 80 (dk_at dksX1_save_1 3 rfl rfl)
theorem dX1_save_30 : decode cX1_save 30 = .ok (.invokevirtual 83, 3) := dk_182 0 83 (dk_at dksX1_save_1 6 rfl rfl)
theorem dX1_save_33 : decode cX1_save 33 = .ok (.return_, 1) := dk_177 (dk_at dksX1_save_1 9 rfl rfl)
abbrev cX1_payToll : ByteArray := prog_1_method_19_code
def yX1_payToll : MethodName := ⟨RX1, "payToll", "(II)I"⟩
def dkwX1_payToll_3 : List UInt8 := [180, 0, 161, 172]
abbrev dktX1_payToll_3 : List UInt8 := dkwX1_payToll_3 ++ []
def dkwX1_payToll_2 : List UInt8 := [28, 100, 181, 0, 161, 42, 180, 0, 54, 89, 180, 0, 164, 28, 96, 181, 0, 164, 42, 27, 182, 0, 157]
abbrev dktX1_payToll_2 : List UInt8 := dkwX1_payToll_2 ++ dktX1_payToll_3
def dkwX1_payToll_1 : List UInt8 := [161, 0, 7, 4, 167, 0, 4, 3, 184, 0, 146, 42, 182, 0, 150, 42, 27, 182, 0, 157, 89, 180, 0, 161]
abbrev dktX1_payToll_1 : List UInt8 := dkwX1_payToll_1 ++ dktX1_payToll_2
def dkwX1_payToll_0 : List UInt8 := [27, 7, 184, 0, 100, 28, 4, 17, 1, 44, 184, 0, 96, 42, 27, 182, 0, 157, 180, 0, 161, 28]
abbrev dktX1_payToll_0 : List UInt8 := dkwX1_payToll_0 ++ dktX1_payToll_1
theorem dksX1_payToll_0 : cX1_payToll.data.toList.drop 0 = dktX1_payToll_0 := by decide +kernel
theorem dksX1_payToll_1 : cX1_payToll.data.toList.drop 22 = dktX1_payToll_1 := dk_seg dksX1_payToll_0 22 rfl rfl
theorem dksX1_payToll_2 : cX1_payToll.data.toList.drop 46 = dktX1_payToll_2 := dk_seg dksX1_payToll_1 24 rfl rfl
theorem dksX1_payToll_3 : cX1_payToll.data.toList.drop 69 = dktX1_payToll_3 := dk_seg dksX1_payToll_2 23 rfl rfl
theorem dX1_payToll_0 : decode cX1_payToll 0 = .ok (.iload_n 1, 1) := dk_27 (dk_at dksX1_payToll_0 0 rfl rfl)
theorem dX1_payToll_1 : decode cX1_payToll 1 = .ok (.iconst 4, 1) := dk_7 (dk_at dksX1_payToll_0 1 rfl rfl)
theorem dX1_payToll_2 : decode cX1_payToll 2 = .ok (.invokestatic 100, 3) := dk_184 0 100 (dk_at dksX1_payToll_0 2 rfl rfl)
theorem dX1_payToll_5 : decode cX1_payToll 5 = .ok (.iload_n 2, 1) := dk_28 (dk_at dksX1_payToll_0 5 rfl rfl)
theorem dX1_payToll_6 : decode cX1_payToll 6 = .ok (.iconst 1, 1) := dk_4 (dk_at dksX1_payToll_0 6 rfl rfl)
theorem dX1_payToll_7 : decode cX1_payToll 7 = .ok (.sipush 300, 3) := dk_17 1 44 (dk_at dksX1_payToll_0 7 rfl rfl)
theorem dX1_payToll_10 : decode cX1_payToll 10 = .ok (.invokestatic 96, 3) := dk_184 0 96 (dk_at dksX1_payToll_0 10 rfl rfl)
theorem dX1_payToll_13 : decode cX1_payToll 13 = .ok (.aload_n 0, 1) := dk_42 (dk_at dksX1_payToll_0 13 rfl rfl)
theorem dX1_payToll_14 : decode cX1_payToll 14 = .ok (.iload_n 1, 1) := dk_27 (dk_at dksX1_payToll_0 14 rfl rfl)
theorem dX1_payToll_15 : decode cX1_payToll 15 = .ok (.invokevirtual 157, 3) := dk_182 0 157 (dk_at dksX1_payToll_0 15 rfl rfl)
theorem dX1_payToll_18 : decode cX1_payToll 18 = .ok (.getfield 161, 3) := dk_180 0 161 (dk_at dksX1_payToll_0 18 rfl rfl)
theorem dX1_payToll_21 : decode cX1_payToll 21 = .ok (.iload_n 2, 1) := dk_28 (dk_at dksX1_payToll_0 21 rfl rfl)
theorem dX1_payToll_22 : decode cX1_payToll 22 = .ok (.if_icmp .lt 7, 3) := dk_161 0 7 (dk_at dksX1_payToll_1 0 rfl rfl)
theorem dX1_payToll_25 : decode cX1_payToll 25 = .ok (.iconst 1, 1) := dk_4 (dk_at dksX1_payToll_1 3 rfl rfl)
theorem dX1_payToll_26 : decode cX1_payToll 26 = .ok (.goto 4, 3) := dk_167 0 4 (dk_at dksX1_payToll_1 4 rfl rfl)
theorem dX1_payToll_29 : decode cX1_payToll 29 = .ok (.iconst 0, 1) := dk_3 (dk_at dksX1_payToll_1 7 rfl rfl)
theorem dX1_payToll_30 : decode cX1_payToll 30 = .ok (.invokestatic 146, 3) := dk_184 0 146 (dk_at dksX1_payToll_1 8 rfl rfl)
theorem dX1_payToll_33 : decode cX1_payToll 33 = .ok (.aload_n 0, 1) := dk_42 (dk_at dksX1_payToll_1 11 rfl rfl)
theorem dX1_payToll_34 : decode cX1_payToll 34 = .ok (.invokevirtual 150, 3) := dk_182 0 150 (dk_at dksX1_payToll_1 12 rfl rfl)
theorem dX1_payToll_37 : decode cX1_payToll 37 = .ok (.aload_n 0, 1) := dk_42 (dk_at dksX1_payToll_1 15 rfl rfl)
theorem dX1_payToll_38 : decode cX1_payToll 38 = .ok (.iload_n 1, 1) := dk_27 (dk_at dksX1_payToll_1 16 rfl rfl)
theorem dX1_payToll_39 : decode cX1_payToll 39 = .ok (.invokevirtual 157, 3) := dk_182 0 157 (dk_at dksX1_payToll_1 17 rfl rfl)
theorem dX1_payToll_42 : decode cX1_payToll 42 = .ok (.dup, 1) := dk_89 (dk_at dksX1_payToll_1 20 rfl rfl)
theorem dX1_payToll_43 : decode cX1_payToll 43 = .ok (.getfield 161, 3) := dk_180 0 161 (dk_at dksX1_payToll_1 21 rfl rfl)
theorem dX1_payToll_46 : decode cX1_payToll 46 = .ok (.iload_n 2, 1) := dk_28 (dk_at dksX1_payToll_2 0 rfl rfl)
theorem dX1_payToll_47 : decode cX1_payToll 47 = .ok (.isub, 1) := dk_100 (dk_at dksX1_payToll_2 1 rfl rfl)
theorem dX1_payToll_48 : decode cX1_payToll 48 = .ok (.putfield 161, 3) := dk_181 0 161 (dk_at dksX1_payToll_2 2 rfl rfl)
theorem dX1_payToll_51 : decode cX1_payToll 51 = .ok (.aload_n 0, 1) := dk_42 (dk_at dksX1_payToll_2 5 rfl rfl)
theorem dX1_payToll_52 : decode cX1_payToll 52 = .ok (.getfield 54, 3) := dk_180 0 54 (dk_at dksX1_payToll_2 6 rfl rfl)
theorem dX1_payToll_55 : decode cX1_payToll 55 = .ok (.dup, 1) := dk_89 (dk_at dksX1_payToll_2 9 rfl rfl)
theorem dX1_payToll_56 : decode cX1_payToll 56 = .ok (.getfield 164, 3) := dk_180 0 164 (dk_at dksX1_payToll_2 10 rfl rfl)
theorem dX1_payToll_59 : decode cX1_payToll 59 = .ok (.iload_n 2, 1) := dk_28 (dk_at dksX1_payToll_2 13 rfl rfl)
theorem dX1_payToll_60 : decode cX1_payToll 60 = .ok (.iadd, 1) := dk_96 (dk_at dksX1_payToll_2 14 rfl rfl)
theorem dX1_payToll_61 : decode cX1_payToll 61 = .ok (.putfield 164, 3) := dk_181 0 164 (dk_at dksX1_payToll_2 15 rfl rfl)
theorem dX1_payToll_64 : decode cX1_payToll 64 = .ok (.aload_n 0, 1) := dk_42 (dk_at dksX1_payToll_2 18 rfl rfl)
theorem dX1_payToll_65 : decode cX1_payToll 65 = .ok (.iload_n 1, 1) := dk_27 (dk_at dksX1_payToll_2 19 rfl rfl)
theorem dX1_payToll_66 : decode cX1_payToll 66 = .ok (.invokevirtual 157, 3) := dk_182 0 157 (dk_at dksX1_payToll_2 20 rfl rfl)
theorem dX1_payToll_69 : decode cX1_payToll 69 = .ok (.getfield 161, 3) := dk_180 0 161 (dk_at dksX1_payToll_3 0 rfl rfl)
theorem dX1_payToll_72 : decode cX1_payToll 72 = .ok (.ireturn, 1) := dk_172 (dk_at dksX1_payToll_3 3 rfl rfl)
abbrev cX1_carter : ByteArray := prog_1_method_12_code
def yX1_carter : MethodName := ⟨RX1, "carter", "(I)LPaperMill$Carter;"⟩
def dkwX1_carter_0 : List UInt8 := [27, 7, 184, 0, 100, 42, 180, 0, 54, 180, 0, 104, 27, 185, 0, 108, 2, 0, 192, 0, 114, 176]
abbrev dktX1_carter_0 : List UInt8 := dkwX1_carter_0 ++ []
theorem dksX1_carter_0 : cX1_carter.data.toList.drop 0 = dktX1_carter_0 := by decide +kernel
theorem dX1_carter_0 : decode cX1_carter 0 = .ok (.iload_n 1, 1) := dk_27 (dk_at dksX1_carter_0 0 rfl rfl)
theorem dX1_carter_1 : decode cX1_carter 1 = .ok (.iconst 4, 1) := dk_7 (dk_at dksX1_carter_0 1 rfl rfl)
theorem dX1_carter_2 : decode cX1_carter 2 = .ok (.invokestatic 100, 3) := dk_184 0 100 (dk_at dksX1_carter_0 2 rfl rfl)
theorem dX1_carter_5 : decode cX1_carter 5 = .ok (.aload_n 0, 1) := dk_42 (dk_at dksX1_carter_0 5 rfl rfl)
theorem dX1_carter_6 : decode cX1_carter 6 = .ok (.getfield 54, 3) := dk_180 0 54 (dk_at dksX1_carter_0 6 rfl rfl)
theorem dX1_carter_9 : decode cX1_carter 9 = .ok (.getfield 104, 3) := dk_180 0 104 (dk_at dksX1_carter_0 9 rfl rfl)
theorem dX1_carter_12 : decode cX1_carter 12 = .ok (.iload_n 1, 1) := dk_27 (dk_at dksX1_carter_0 12 rfl rfl)
theorem dX1_carter_13 : decode cX1_carter 13 = .ok (.invokeinterface 108 2, 5) := by decide +kernel
theorem dX1_carter_18 : decode cX1_carter 18 = .ok (.checkcast 114, 3) := dk_192 0 114 (dk_at dksX1_carter_0 18 rfl rfl)
theorem dX1_carter_21 : decode cX1_carter 21 = .ok (.areturn, 1) := dk_176 (dk_at dksX1_carter_0 21 rfl rfl)
abbrev cX1_givePass : ByteArray := prog_1_method_20_code
def yX1_givePass : MethodName := ⟨RX1, "givePass", "(II)I"⟩
def dkwX1_givePass_2 : List UInt8 := [181, 0, 161, 45, 42, 180, 0, 54, 180, 0, 171, 28, 96, 4, 100, 181, 0, 174, 45, 180, 0, 161, 172]
abbrev dktX1_givePass_2 : List UInt8 := dkwX1_givePass_2 ++ []
def dkwX1_givePass_1 : List UInt8 := [184, 0, 146, 42, 182, 0, 150, 42, 27, 182, 0, 157, 78, 45, 89, 180, 0, 161, 6, 28, 104, 96]
abbrev dktX1_givePass_1 : List UInt8 := dkwX1_givePass_1 ++ dktX1_givePass_2
def dkwX1_givePass_0 : List UInt8 := [27, 7, 184, 0, 100, 28, 4, 16, 30, 184, 0, 96, 42, 180, 0, 54, 27, 6, 28, 104, 182, 0, 167]
abbrev dktX1_givePass_0 : List UInt8 := dkwX1_givePass_0 ++ dktX1_givePass_1
theorem dksX1_givePass_0 : cX1_givePass.data.toList.drop 0 = dktX1_givePass_0 := by decide +kernel
theorem dksX1_givePass_1 : cX1_givePass.data.toList.drop 23 = dktX1_givePass_1 := dk_seg dksX1_givePass_0 23 rfl rfl
theorem dksX1_givePass_2 : cX1_givePass.data.toList.drop 45 = dktX1_givePass_2 := dk_seg dksX1_givePass_1 22 rfl rfl
theorem dX1_givePass_0 : decode cX1_givePass 0 = .ok (.iload_n 1, 1) := dk_27 (dk_at dksX1_givePass_0 0 rfl rfl)
theorem dX1_givePass_1 : decode cX1_givePass 1 = .ok (.iconst 4, 1) := dk_7 (dk_at dksX1_givePass_0 1 rfl rfl)
theorem dX1_givePass_2 : decode cX1_givePass 2 = .ok (.invokestatic 100, 3) := dk_184 0 100 (dk_at dksX1_givePass_0 2 rfl rfl)
theorem dX1_givePass_5 : decode cX1_givePass 5 = .ok (.iload_n 2, 1) := dk_28 (dk_at dksX1_givePass_0 5 rfl rfl)
theorem dX1_givePass_6 : decode cX1_givePass 6 = .ok (.iconst 1, 1) := dk_4 (dk_at dksX1_givePass_0 6 rfl rfl)
theorem dX1_givePass_7 : decode cX1_givePass 7 = .ok (.bipush 30, 2) := dk_16 30 (dk_at dksX1_givePass_0 7 rfl rfl)
theorem dX1_givePass_9 : decode cX1_givePass 9 = .ok (.invokestatic 96, 3) := dk_184 0 96 (dk_at dksX1_givePass_0 9 rfl rfl)
theorem dX1_givePass_12 : decode cX1_givePass 12 = .ok (.aload_n 0, 1) := dk_42 (dk_at dksX1_givePass_0 12 rfl rfl)
theorem dX1_givePass_13 : decode cX1_givePass 13 = .ok (.getfield 54, 3) := dk_180 0 54 (dk_at dksX1_givePass_0 13 rfl rfl)
theorem dX1_givePass_16 : decode cX1_givePass 16 = .ok (.iload_n 1, 1) := dk_27 (dk_at dksX1_givePass_0 16 rfl rfl)
theorem dX1_givePass_17 : decode cX1_givePass 17 = .ok (.iconst 3, 1) := dk_6 (dk_at dksX1_givePass_0 17 rfl rfl)
theorem dX1_givePass_18 : decode cX1_givePass 18 = .ok (.iload_n 2, 1) := dk_28 (dk_at dksX1_givePass_0 18 rfl rfl)
theorem dX1_givePass_19 : decode cX1_givePass 19 = .ok (.imul, 1) := dk_104 (dk_at dksX1_givePass_0 19 rfl rfl)
theorem dX1_givePass_20 : decode cX1_givePass 20 = .ok (.invokevirtual 167, 3) := dk_182 0 167 (dk_at dksX1_givePass_0 20 rfl rfl)
theorem dX1_givePass_23 : decode cX1_givePass 23 = .ok (.invokestatic 146, 3) := dk_184 0 146 (dk_at dksX1_givePass_1 0 rfl rfl)
theorem dX1_givePass_26 : decode cX1_givePass 26 = .ok (.aload_n 0, 1) := dk_42 (dk_at dksX1_givePass_1 3 rfl rfl)
theorem dX1_givePass_27 : decode cX1_givePass 27 = .ok (.invokevirtual 150, 3) := dk_182 0 150 (dk_at dksX1_givePass_1 4 rfl rfl)
theorem dX1_givePass_30 : decode cX1_givePass 30 = .ok (.aload_n 0, 1) := dk_42 (dk_at dksX1_givePass_1 7 rfl rfl)
theorem dX1_givePass_31 : decode cX1_givePass 31 = .ok (.iload_n 1, 1) := dk_27 (dk_at dksX1_givePass_1 8 rfl rfl)
theorem dX1_givePass_32 : decode cX1_givePass 32 = .ok (.invokevirtual 157, 3) := dk_182 0 157 (dk_at dksX1_givePass_1 9 rfl rfl)
theorem dX1_givePass_35 : decode cX1_givePass 35 = .ok (.astore_n 3, 1) := dk_78 (dk_at dksX1_givePass_1 12 rfl rfl)
theorem dX1_givePass_36 : decode cX1_givePass 36 = .ok (.aload_n 3, 1) := dk_45 (dk_at dksX1_givePass_1 13 rfl rfl)
theorem dX1_givePass_37 : decode cX1_givePass 37 = .ok (.dup, 1) := dk_89 (dk_at dksX1_givePass_1 14 rfl rfl)
theorem dX1_givePass_38 : decode cX1_givePass 38 = .ok (.getfield 161, 3) := dk_180 0 161 (dk_at dksX1_givePass_1 15 rfl rfl)
theorem dX1_givePass_41 : decode cX1_givePass 41 = .ok (.iconst 3, 1) := dk_6 (dk_at dksX1_givePass_1 18 rfl rfl)
theorem dX1_givePass_42 : decode cX1_givePass 42 = .ok (.iload_n 2, 1) := dk_28 (dk_at dksX1_givePass_1 19 rfl rfl)
theorem dX1_givePass_43 : decode cX1_givePass 43 = .ok (.imul, 1) := dk_104 (dk_at dksX1_givePass_1 20 rfl rfl)
theorem dX1_givePass_44 : decode cX1_givePass 44 = .ok (.iadd, 1) := dk_96 (dk_at dksX1_givePass_1 21 rfl rfl)
theorem dX1_givePass_45 : decode cX1_givePass 45 = .ok (.putfield 161, 3) := dk_181 0 161 (dk_at dksX1_givePass_2 0 rfl rfl)
theorem dX1_givePass_48 : decode cX1_givePass 48 = .ok (.aload_n 3, 1) := dk_45 (dk_at dksX1_givePass_2 3 rfl rfl)
theorem dX1_givePass_49 : decode cX1_givePass 49 = .ok (.aload_n 0, 1) := dk_42 (dk_at dksX1_givePass_2 4 rfl rfl)
theorem dX1_givePass_50 : decode cX1_givePass 50 = .ok (.getfield 54, 3) := dk_180 0 54 (dk_at dksX1_givePass_2 5 rfl rfl)
theorem dX1_givePass_53 : decode cX1_givePass 53 = .ok (.getfield 171, 3) := dk_180 0 171 (dk_at dksX1_givePass_2 8 rfl rfl)
theorem dX1_givePass_56 : decode cX1_givePass 56 = .ok (.iload_n 2, 1) := dk_28 (dk_at dksX1_givePass_2 11 rfl rfl)
theorem dX1_givePass_57 : decode cX1_givePass 57 = .ok (.iadd, 1) := dk_96 (dk_at dksX1_givePass_2 12 rfl rfl)
theorem dX1_givePass_58 : decode cX1_givePass 58 = .ok (.iconst 1, 1) := dk_4 (dk_at dksX1_givePass_2 13 rfl rfl)
theorem dX1_givePass_59 : decode cX1_givePass 59 = .ok (.isub, 1) := dk_100 (dk_at dksX1_givePass_2 14 rfl rfl)
theorem dX1_givePass_60 : decode cX1_givePass 60 = .ok (.putfield 174, 3) := dk_181 0 174 (dk_at dksX1_givePass_2 15 rfl rfl)
theorem dX1_givePass_63 : decode cX1_givePass 63 = .ok (.aload_n 3, 1) := dk_45 (dk_at dksX1_givePass_2 18 rfl rfl)
theorem dX1_givePass_64 : decode cX1_givePass 64 = .ok (.getfield 161, 3) := dk_180 0 161 (dk_at dksX1_givePass_2 19 rfl rfl)
theorem dX1_givePass_67 : decode cX1_givePass 67 = .ok (.ireturn, 1) := dk_172 (dk_at dksX1_givePass_2 22 rfl rfl)
abbrev cX1_setLimit : ByteArray := prog_1_method_21_code
def yX1_setLimit : MethodName := ⟨RX1, "setLimit", "(I)I"⟩
def dkwX1_setLimit_1 : List UInt8 := [181, 0, 177, 28, 172]
abbrev dktX1_setLimit_1 : List UInt8 := dkwX1_setLimit_1 ++ []
def dkwX1_setLimit_0 : List UInt8 := [27, 3, 16, 99, 184, 0, 96, 42, 182, 0, 150, 42, 180, 0, 54, 180, 0, 177, 61, 42, 180, 0, 54, 27]
abbrev dktX1_setLimit_0 : List UInt8 := dkwX1_setLimit_0 ++ dktX1_setLimit_1
theorem dksX1_setLimit_0 : cX1_setLimit.data.toList.drop 0 = dktX1_setLimit_0 := by decide +kernel
theorem dksX1_setLimit_1 : cX1_setLimit.data.toList.drop 24 = dktX1_setLimit_1 := dk_seg dksX1_setLimit_0 24 rfl rfl
theorem dX1_setLimit_0 : decode cX1_setLimit 0 = .ok (.iload_n 1, 1) := dk_27 (dk_at dksX1_setLimit_0 0 rfl rfl)
theorem dX1_setLimit_1 : decode cX1_setLimit 1 = .ok (.iconst 0, 1) := dk_3 (dk_at dksX1_setLimit_0 1 rfl rfl)
theorem dX1_setLimit_2 : decode cX1_setLimit 2 = .ok (.bipush 99, 2) := dk_16 99 (dk_at dksX1_setLimit_0 2 rfl rfl)
theorem dX1_setLimit_4 : decode cX1_setLimit 4 = .ok (.invokestatic 96, 3) := dk_184 0 96 (dk_at dksX1_setLimit_0 4 rfl rfl)
theorem dX1_setLimit_7 : decode cX1_setLimit 7 = .ok (.aload_n 0, 1) := dk_42 (dk_at dksX1_setLimit_0 7 rfl rfl)
theorem dX1_setLimit_8 : decode cX1_setLimit 8 = .ok (.invokevirtual 150, 3) := dk_182 0 150 (dk_at dksX1_setLimit_0 8 rfl rfl)
theorem dX1_setLimit_11 : decode cX1_setLimit 11 = .ok (.aload_n 0, 1) := dk_42 (dk_at dksX1_setLimit_0 11 rfl rfl)
theorem dX1_setLimit_12 : decode cX1_setLimit 12 = .ok (.getfield 54, 3) := dk_180 0 54 (dk_at dksX1_setLimit_0 12 rfl rfl)
theorem dX1_setLimit_15 : decode cX1_setLimit 15 = .ok (.getfield 177, 3) := dk_180 0 177 (dk_at dksX1_setLimit_0 15 rfl rfl)
theorem dX1_setLimit_18 : decode cX1_setLimit 18 = .ok (.istore_n 2, 1) := dk_61 (dk_at dksX1_setLimit_0 18 rfl rfl)
theorem dX1_setLimit_19 : decode cX1_setLimit 19 = .ok (.aload_n 0, 1) := dk_42 (dk_at dksX1_setLimit_0 19 rfl rfl)
theorem dX1_setLimit_20 : decode cX1_setLimit 20 = .ok (.getfield 54, 3) := dk_180 0 54 (dk_at dksX1_setLimit_0 20 rfl rfl)
theorem dX1_setLimit_23 : decode cX1_setLimit 23 = .ok (.iload_n 1, 1) := dk_27 (dk_at dksX1_setLimit_0 23 rfl rfl)
theorem dX1_setLimit_24 : decode cX1_setLimit 24 = .ok (.putfield 177, 3) := dk_181 0 177 (dk_at dksX1_setLimit_1 0 rfl rfl)
theorem dX1_setLimit_27 : decode cX1_setLimit 27 = .ok (.iload_n 2, 1) := dk_28 (dk_at dksX1_setLimit_1 3 rfl rfl)
theorem dX1_setLimit_28 : decode cX1_setLimit 28 = .ok (.ireturn, 1) := dk_172 (dk_at dksX1_setLimit_1 4 rfl rfl)
abbrev cX1_setStove : ByteArray := prog_1_method_22_code
def yX1_setStove : MethodName := ⟨RX1, "setStove", "(I)I"⟩
def dkwX1_setStove_1 : List UInt8 := [181, 0, 180, 28, 172]
abbrev dktX1_setStove_1 : List UInt8 := dkwX1_setStove_1 ++ []
def dkwX1_setStove_0 : List UInt8 := [27, 3, 6, 184, 0, 96, 42, 182, 0, 150, 42, 180, 0, 54, 180, 0, 180, 61, 42, 180, 0, 54, 27]
abbrev dktX1_setStove_0 : List UInt8 := dkwX1_setStove_0 ++ dktX1_setStove_1
theorem dksX1_setStove_0 : cX1_setStove.data.toList.drop 0 = dktX1_setStove_0 := by decide +kernel
theorem dksX1_setStove_1 : cX1_setStove.data.toList.drop 23 = dktX1_setStove_1 := dk_seg dksX1_setStove_0 23 rfl rfl
theorem dX1_setStove_0 : decode cX1_setStove 0 = .ok (.iload_n 1, 1) := dk_27 (dk_at dksX1_setStove_0 0 rfl rfl)
theorem dX1_setStove_1 : decode cX1_setStove 1 = .ok (.iconst 0, 1) := dk_3 (dk_at dksX1_setStove_0 1 rfl rfl)
theorem dX1_setStove_2 : decode cX1_setStove 2 = .ok (.iconst 3, 1) := dk_6 (dk_at dksX1_setStove_0 2 rfl rfl)
theorem dX1_setStove_3 : decode cX1_setStove 3 = .ok (.invokestatic 96, 3) := dk_184 0 96 (dk_at dksX1_setStove_0 3 rfl rfl)
theorem dX1_setStove_6 : decode cX1_setStove 6 = .ok (.aload_n 0, 1) := dk_42 (dk_at dksX1_setStove_0 6 rfl rfl)
theorem dX1_setStove_7 : decode cX1_setStove 7 = .ok (.invokevirtual 150, 3) := dk_182 0 150 (dk_at dksX1_setStove_0 7 rfl rfl)
theorem dX1_setStove_10 : decode cX1_setStove 10 = .ok (.aload_n 0, 1) := dk_42 (dk_at dksX1_setStove_0 10 rfl rfl)
theorem dX1_setStove_11 : decode cX1_setStove 11 = .ok (.getfield 54, 3) := dk_180 0 54 (dk_at dksX1_setStove_0 11 rfl rfl)
theorem dX1_setStove_14 : decode cX1_setStove 14 = .ok (.getfield 180, 3) := dk_180 0 180 (dk_at dksX1_setStove_0 14 rfl rfl)
theorem dX1_setStove_17 : decode cX1_setStove 17 = .ok (.istore_n 2, 1) := dk_61 (dk_at dksX1_setStove_0 17 rfl rfl)
theorem dX1_setStove_18 : decode cX1_setStove 18 = .ok (.aload_n 0, 1) := dk_42 (dk_at dksX1_setStove_0 18 rfl rfl)
theorem dX1_setStove_19 : decode cX1_setStove 19 = .ok (.getfield 54, 3) := dk_180 0 54 (dk_at dksX1_setStove_0 19 rfl rfl)
theorem dX1_setStove_22 : decode cX1_setStove 22 = .ok (.iload_n 1, 1) := dk_27 (dk_at dksX1_setStove_0 22 rfl rfl)
theorem dX1_setStove_23 : decode cX1_setStove 23 = .ok (.putfield 180, 3) := dk_181 0 180 (dk_at dksX1_setStove_1 0 rfl rfl)
theorem dX1_setStove_26 : decode cX1_setStove 26 = .ok (.iload_n 2, 1) := dk_28 (dk_at dksX1_setStove_1 3 rfl rfl)
theorem dX1_setStove_27 : decode cX1_setStove 27 = .ok (.ireturn, 1) := dk_172 (dk_at dksX1_setStove_1 4 rfl rfl)
abbrev cX1_moveBale : ByteArray := prog_1_method_23_code
def yX1_moveBale : MethodName := ⟨RX1, "moveBale", "(II)I"⟩
def dkwX1_moveBale_4 : List UInt8 := [172]
abbrev dktX1_moveBale_4 : List UInt8 := dkwX1_moveBale_4 ++ []
def dkwX1_moveBale_3 : List UInt8 := [4, 96, 42, 180, 0, 54, 180, 0, 116, 185, 0, 119, 1, 0, 162, 0, 9, 28, 4, 96, 167, 0, 4, 2]
abbrev dktX1_moveBale_3 : List UInt8 := dkwX1_moveBale_3 ++ dktX1_moveBale_4
def dkwX1_moveBale_2 : List UInt8 := [185, 0, 183, 2, 0, 192, 0, 120, 78, 42, 180, 0, 54, 180, 0, 116, 28, 45, 185, 0, 186, 3, 0, 28]
abbrev dktX1_moveBale_2 : List UInt8 := dkwX1_moveBale_2 ++ dktX1_moveBale_3
def dkwX1_moveBale_1 : List UInt8 := [185, 0, 119, 1, 0, 184, 0, 100, 42, 182, 0, 150, 42, 180, 0, 54, 180, 0, 116, 27]
abbrev dktX1_moveBale_1 : List UInt8 := dkwX1_moveBale_1 ++ dktX1_moveBale_2
def dkwX1_moveBale_0 : List UInt8 := [27, 42, 180, 0, 54, 180, 0, 116, 185, 0, 119, 1, 0, 184, 0, 100, 28, 42, 180, 0, 54, 180, 0, 116]
abbrev dktX1_moveBale_0 : List UInt8 := dkwX1_moveBale_0 ++ dktX1_moveBale_1
theorem dksX1_moveBale_0 : cX1_moveBale.data.toList.drop 0 = dktX1_moveBale_0 := by decide +kernel
theorem dksX1_moveBale_1 : cX1_moveBale.data.toList.drop 24 = dktX1_moveBale_1 := dk_seg dksX1_moveBale_0 24 rfl rfl
theorem dksX1_moveBale_2 : cX1_moveBale.data.toList.drop 44 = dktX1_moveBale_2 := dk_seg dksX1_moveBale_1 20 rfl rfl
theorem dksX1_moveBale_3 : cX1_moveBale.data.toList.drop 68 = dktX1_moveBale_3 := dk_seg dksX1_moveBale_2 24 rfl rfl
theorem dksX1_moveBale_4 : cX1_moveBale.data.toList.drop 92 = dktX1_moveBale_4 := dk_seg dksX1_moveBale_3 24 rfl rfl
theorem dX1_moveBale_0 : decode cX1_moveBale 0 = .ok (.iload_n 1, 1) := dk_27 (dk_at dksX1_moveBale_0 0 rfl rfl)
theorem dX1_moveBale_1 : decode cX1_moveBale 1 = .ok (.aload_n 0, 1) := dk_42 (dk_at dksX1_moveBale_0 1 rfl rfl)
theorem dX1_moveBale_2 : decode cX1_moveBale 2 = .ok (.getfield 54, 3) := dk_180 0 54 (dk_at dksX1_moveBale_0 2 rfl rfl)
theorem dX1_moveBale_5 : decode cX1_moveBale 5 = .ok (.getfield 116, 3) := dk_180 0 116 (dk_at dksX1_moveBale_0 5 rfl rfl)
theorem dX1_moveBale_8 : decode cX1_moveBale 8 = .ok (.invokeinterface 119 1, 5) := by decide +kernel
theorem dX1_moveBale_13 : decode cX1_moveBale 13 = .ok (.invokestatic 100, 3) := dk_184 0 100 (dk_at dksX1_moveBale_0 13 rfl rfl)
theorem dX1_moveBale_16 : decode cX1_moveBale 16 = .ok (.iload_n 2, 1) := dk_28 (dk_at dksX1_moveBale_0 16 rfl rfl)
theorem dX1_moveBale_17 : decode cX1_moveBale 17 = .ok (.aload_n 0, 1) := dk_42 (dk_at dksX1_moveBale_0 17 rfl rfl)
theorem dX1_moveBale_18 : decode cX1_moveBale 18 = .ok (.getfield 54, 3) := dk_180 0 54 (dk_at dksX1_moveBale_0 18 rfl rfl)
theorem dX1_moveBale_21 : decode cX1_moveBale 21 = .ok (.getfield 116, 3) := dk_180 0 116 (dk_at dksX1_moveBale_0 21 rfl rfl)
theorem dX1_moveBale_24 : decode cX1_moveBale 24 = .ok (.invokeinterface 119 1, 5) := by decide +kernel
theorem dX1_moveBale_29 : decode cX1_moveBale 29 = .ok (.invokestatic 100, 3) := dk_184 0 100 (dk_at dksX1_moveBale_1 5 rfl rfl)
theorem dX1_moveBale_32 : decode cX1_moveBale 32 = .ok (.aload_n 0, 1) := dk_42 (dk_at dksX1_moveBale_1 8 rfl rfl)
theorem dX1_moveBale_33 : decode cX1_moveBale 33 = .ok (.invokevirtual 150, 3) := dk_182 0 150 (dk_at dksX1_moveBale_1 9 rfl rfl)
theorem dX1_moveBale_36 : decode cX1_moveBale 36 = .ok (.aload_n 0, 1) := dk_42 (dk_at dksX1_moveBale_1 12 rfl rfl)
theorem dX1_moveBale_37 : decode cX1_moveBale 37 = .ok (.getfield 54, 3) := dk_180 0 54 (dk_at dksX1_moveBale_1 13 rfl rfl)
theorem dX1_moveBale_40 : decode cX1_moveBale 40 = .ok (.getfield 116, 3) := dk_180 0 116 (dk_at dksX1_moveBale_1 16 rfl rfl)
theorem dX1_moveBale_43 : decode cX1_moveBale 43 = .ok (.iload_n 1, 1) := dk_27 (dk_at dksX1_moveBale_1 19 rfl rfl)
theorem dX1_moveBale_44 : decode cX1_moveBale 44 = .ok (.invokeinterface 183 2, 5) := by decide +kernel
theorem dX1_moveBale_49 : decode cX1_moveBale 49 = .ok (.checkcast 120, 3) := dk_192 0 120 (dk_at dksX1_moveBale_2 5 rfl rfl)
theorem dX1_moveBale_52 : decode cX1_moveBale 52 = .ok (.astore_n 3, 1) := dk_78 (dk_at dksX1_moveBale_2 8 rfl rfl)
theorem dX1_moveBale_53 : decode cX1_moveBale 53 = .ok (.aload_n 0, 1) := dk_42 (dk_at dksX1_moveBale_2 9 rfl rfl)
theorem dX1_moveBale_54 : decode cX1_moveBale 54 = .ok (.getfield 54, 3) := dk_180 0 54 (dk_at dksX1_moveBale_2 10 rfl rfl)
theorem dX1_moveBale_57 : decode cX1_moveBale 57 = .ok (.getfield 116, 3) := dk_180 0 116 (dk_at dksX1_moveBale_2 13 rfl rfl)
theorem dX1_moveBale_60 : decode cX1_moveBale 60 = .ok (.iload_n 2, 1) := dk_28 (dk_at dksX1_moveBale_2 16 rfl rfl)
theorem dX1_moveBale_61 : decode cX1_moveBale 61 = .ok (.aload_n 3, 1) := dk_45 (dk_at dksX1_moveBale_2 17 rfl rfl)
theorem dX1_moveBale_62 : decode cX1_moveBale 62 = .ok (.invokeinterface 186 3, 5) := by decide +kernel
theorem dX1_moveBale_67 : decode cX1_moveBale 67 = .ok (.iload_n 2, 1) := dk_28 (dk_at dksX1_moveBale_2 23 rfl rfl)
theorem dX1_moveBale_68 : decode cX1_moveBale 68 = .ok (.iconst 1, 1) := dk_4 (dk_at dksX1_moveBale_3 0 rfl rfl)
theorem dX1_moveBale_69 : decode cX1_moveBale 69 = .ok (.iadd, 1) := dk_96 (dk_at dksX1_moveBale_3 1 rfl rfl)
theorem dX1_moveBale_70 : decode cX1_moveBale 70 = .ok (.aload_n 0, 1) := dk_42 (dk_at dksX1_moveBale_3 2 rfl rfl)
theorem dX1_moveBale_71 : decode cX1_moveBale 71 = .ok (.getfield 54, 3) := dk_180 0 54 (dk_at dksX1_moveBale_3 3 rfl rfl)
theorem dX1_moveBale_74 : decode cX1_moveBale 74 = .ok (.getfield 116, 3) := dk_180 0 116 (dk_at dksX1_moveBale_3 6 rfl rfl)
theorem dX1_moveBale_77 : decode cX1_moveBale 77 = .ok (.invokeinterface 119 1, 5) := by decide +kernel
theorem dX1_moveBale_82 : decode cX1_moveBale 82 = .ok (.if_icmp .ge 9, 3) := dk_162 0 9 (dk_at dksX1_moveBale_3 14 rfl rfl)
theorem dX1_moveBale_85 : decode cX1_moveBale 85 = .ok (.iload_n 2, 1) := dk_28 (dk_at dksX1_moveBale_3 17 rfl rfl)
theorem dX1_moveBale_86 : decode cX1_moveBale 86 = .ok (.iconst 1, 1) := dk_4 (dk_at dksX1_moveBale_3 18 rfl rfl)
theorem dX1_moveBale_87 : decode cX1_moveBale 87 = .ok (.iadd, 1) := dk_96 (dk_at dksX1_moveBale_3 19 rfl rfl)
theorem dX1_moveBale_88 : decode cX1_moveBale 88 = .ok (.goto 4, 3) := dk_167 0 4 (dk_at dksX1_moveBale_3 20 rfl rfl)
theorem dX1_moveBale_91 : decode cX1_moveBale 91 = .ok (.iconst (-1), 1) := dk_2 (dk_at dksX1_moveBale_3 23 rfl rfl)
theorem dX1_moveBale_92 : decode cX1_moveBale 92 = .ok (.ireturn, 1) := dk_172 (dk_at dksX1_moveBale_4 0 rfl rfl)
abbrev cX1_burn : ByteArray := prog_1_method_24_code
def yX1_burn : MethodName := ⟨RX1, "burn", "(I)I"⟩
def dkwX1_burn_2 : List UInt8 := [28, 96, 181, 0, 193, 28, 172]
abbrev dktX1_burn_2 : List UInt8 := dkwX1_burn_2 ++ []
def dkwX1_burn_1 : List UInt8 := [180, 0, 116, 27, 185, 0, 183, 2, 0, 192, 0, 120, 180, 0, 190, 61, 42, 180, 0, 54, 89, 180, 0, 193]
abbrev dktX1_burn_1 : List UInt8 := dkwX1_burn_1 ++ dktX1_burn_2
def dkwX1_burn_0 : List UInt8 := [27, 42, 180, 0, 54, 180, 0, 116, 185, 0, 119, 1, 0, 184, 0, 100, 42, 182, 0, 150, 42, 180, 0, 54]
abbrev dktX1_burn_0 : List UInt8 := dkwX1_burn_0 ++ dktX1_burn_1
theorem dksX1_burn_0 : cX1_burn.data.toList.drop 0 = dktX1_burn_0 := by decide +kernel
theorem dksX1_burn_1 : cX1_burn.data.toList.drop 24 = dktX1_burn_1 := dk_seg dksX1_burn_0 24 rfl rfl
theorem dksX1_burn_2 : cX1_burn.data.toList.drop 48 = dktX1_burn_2 := dk_seg dksX1_burn_1 24 rfl rfl
theorem dX1_burn_0 : decode cX1_burn 0 = .ok (.iload_n 1, 1) := dk_27 (dk_at dksX1_burn_0 0 rfl rfl)
theorem dX1_burn_1 : decode cX1_burn 1 = .ok (.aload_n 0, 1) := dk_42 (dk_at dksX1_burn_0 1 rfl rfl)
theorem dX1_burn_2 : decode cX1_burn 2 = .ok (.getfield 54, 3) := dk_180 0 54 (dk_at dksX1_burn_0 2 rfl rfl)
theorem dX1_burn_5 : decode cX1_burn 5 = .ok (.getfield 116, 3) := dk_180 0 116 (dk_at dksX1_burn_0 5 rfl rfl)
theorem dX1_burn_8 : decode cX1_burn 8 = .ok (.invokeinterface 119 1, 5) := by decide +kernel
theorem dX1_burn_13 : decode cX1_burn 13 = .ok (.invokestatic 100, 3) := dk_184 0 100 (dk_at dksX1_burn_0 13 rfl rfl)
theorem dX1_burn_16 : decode cX1_burn 16 = .ok (.aload_n 0, 1) := dk_42 (dk_at dksX1_burn_0 16 rfl rfl)
theorem dX1_burn_17 : decode cX1_burn 17 = .ok (.invokevirtual 150, 3) := dk_182 0 150 (dk_at dksX1_burn_0 17 rfl rfl)
theorem dX1_burn_20 : decode cX1_burn 20 = .ok (.aload_n 0, 1) := dk_42 (dk_at dksX1_burn_0 20 rfl rfl)
theorem dX1_burn_21 : decode cX1_burn 21 = .ok (.getfield 54, 3) := dk_180 0 54 (dk_at dksX1_burn_0 21 rfl rfl)
theorem dX1_burn_24 : decode cX1_burn 24 = .ok (.getfield 116, 3) := dk_180 0 116 (dk_at dksX1_burn_1 0 rfl rfl)
theorem dX1_burn_27 : decode cX1_burn 27 = .ok (.iload_n 1, 1) := dk_27 (dk_at dksX1_burn_1 3 rfl rfl)
theorem dX1_burn_28 : decode cX1_burn 28 = .ok (.invokeinterface 183 2, 5) := by decide +kernel
theorem dX1_burn_33 : decode cX1_burn 33 = .ok (.checkcast 120, 3) := dk_192 0 120 (dk_at dksX1_burn_1 9 rfl rfl)
theorem dX1_burn_36 : decode cX1_burn 36 = .ok (.getfield 190, 3) := dk_180 0 190 (dk_at dksX1_burn_1 12 rfl rfl)
theorem dX1_burn_39 : decode cX1_burn 39 = .ok (.istore_n 2, 1) := dk_61 (dk_at dksX1_burn_1 15 rfl rfl)
theorem dX1_burn_40 : decode cX1_burn 40 = .ok (.aload_n 0, 1) := dk_42 (dk_at dksX1_burn_1 16 rfl rfl)
theorem dX1_burn_41 : decode cX1_burn 41 = .ok (.getfield 54, 3) := dk_180 0 54 (dk_at dksX1_burn_1 17 rfl rfl)
theorem dX1_burn_44 : decode cX1_burn 44 = .ok (.dup, 1) := dk_89 (dk_at dksX1_burn_1 20 rfl rfl)
theorem dX1_burn_45 : decode cX1_burn 45 = .ok (.getfield 193, 3) := dk_180 0 193 (dk_at dksX1_burn_1 21 rfl rfl)
theorem dX1_burn_48 : decode cX1_burn 48 = .ok (.iload_n 2, 1) := dk_28 (dk_at dksX1_burn_2 0 rfl rfl)
theorem dX1_burn_49 : decode cX1_burn 49 = .ok (.iadd, 1) := dk_96 (dk_at dksX1_burn_2 1 rfl rfl)
theorem dX1_burn_50 : decode cX1_burn 50 = .ok (.putfield 193, 3) := dk_181 0 193 (dk_at dksX1_burn_2 2 rfl rfl)
theorem dX1_burn_53 : decode cX1_burn 53 = .ok (.iload_n 2, 1) := dk_28 (dk_at dksX1_burn_2 5 rfl rfl)
theorem dX1_burn_54 : decode cX1_burn 54 = .ok (.ireturn, 1) := dk_172 (dk_at dksX1_burn_2 6 rfl rfl)
abbrev cX1_beat : ByteArray := prog_1_method_25_code
def yX1_beat : MethodName := ⟨RX1, "beat", "(II)I"⟩
def dkwX1_beat_2 : List UInt8 := [87, 42, 27, 182, 0, 203, 180, 0, 207, 172]
abbrev dktX1_beat_2 : List UInt8 := dkwX1_beat_2 ++ []
def dkwX1_beat_1 : List UInt8 := [154, 0, 7, 4, 167, 0, 4, 3, 184, 0, 146, 42, 182, 0, 150, 42, 180, 0, 54, 27, 28, 182, 0, 200]
abbrev dktX1_beat_1 : List UInt8 := dkwX1_beat_1 ++ dktX1_beat_2
def dkwX1_beat_0 : List UInt8 := [27, 6, 184, 0, 100, 28, 4, 17, 0, 200, 184, 0, 96, 42, 180, 0, 54, 27, 28, 182, 0, 196]
abbrev dktX1_beat_0 : List UInt8 := dkwX1_beat_0 ++ dktX1_beat_1
theorem dksX1_beat_0 : cX1_beat.data.toList.drop 0 = dktX1_beat_0 := by decide +kernel
theorem dksX1_beat_1 : cX1_beat.data.toList.drop 22 = dktX1_beat_1 := dk_seg dksX1_beat_0 22 rfl rfl
theorem dksX1_beat_2 : cX1_beat.data.toList.drop 46 = dktX1_beat_2 := dk_seg dksX1_beat_1 24 rfl rfl
theorem dX1_beat_0 : decode cX1_beat 0 = .ok (.iload_n 1, 1) := dk_27 (dk_at dksX1_beat_0 0 rfl rfl)
theorem dX1_beat_1 : decode cX1_beat 1 = .ok (.iconst 3, 1) := dk_6 (dk_at dksX1_beat_0 1 rfl rfl)
theorem dX1_beat_2 : decode cX1_beat 2 = .ok (.invokestatic 100, 3) := dk_184 0 100 (dk_at dksX1_beat_0 2 rfl rfl)
theorem dX1_beat_5 : decode cX1_beat 5 = .ok (.iload_n 2, 1) := dk_28 (dk_at dksX1_beat_0 5 rfl rfl)
theorem dX1_beat_6 : decode cX1_beat 6 = .ok (.iconst 1, 1) := dk_4 (dk_at dksX1_beat_0 6 rfl rfl)
theorem dX1_beat_7 : decode cX1_beat 7 = .ok (.sipush 200, 3) := dk_17 0 200 (dk_at dksX1_beat_0 7 rfl rfl)
theorem dX1_beat_10 : decode cX1_beat 10 = .ok (.invokestatic 96, 3) := dk_184 0 96 (dk_at dksX1_beat_0 10 rfl rfl)
theorem dX1_beat_13 : decode cX1_beat 13 = .ok (.aload_n 0, 1) := dk_42 (dk_at dksX1_beat_0 13 rfl rfl)
theorem dX1_beat_14 : decode cX1_beat 14 = .ok (.getfield 54, 3) := dk_180 0 54 (dk_at dksX1_beat_0 14 rfl rfl)
theorem dX1_beat_17 : decode cX1_beat 17 = .ok (.iload_n 1, 1) := dk_27 (dk_at dksX1_beat_0 17 rfl rfl)
theorem dX1_beat_18 : decode cX1_beat 18 = .ok (.iload_n 2, 1) := dk_28 (dk_at dksX1_beat_0 18 rfl rfl)
theorem dX1_beat_19 : decode cX1_beat 19 = .ok (.invokevirtual 196, 3) := dk_182 0 196 (dk_at dksX1_beat_0 19 rfl rfl)
theorem dX1_beat_22 : decode cX1_beat 22 = .ok (.ifCond .ne 7, 3) := dk_154 0 7 (dk_at dksX1_beat_1 0 rfl rfl)
theorem dX1_beat_25 : decode cX1_beat 25 = .ok (.iconst 1, 1) := dk_4 (dk_at dksX1_beat_1 3 rfl rfl)
theorem dX1_beat_26 : decode cX1_beat 26 = .ok (.goto 4, 3) := dk_167 0 4 (dk_at dksX1_beat_1 4 rfl rfl)
theorem dX1_beat_29 : decode cX1_beat 29 = .ok (.iconst 0, 1) := dk_3 (dk_at dksX1_beat_1 7 rfl rfl)
theorem dX1_beat_30 : decode cX1_beat 30 = .ok (.invokestatic 146, 3) := dk_184 0 146 (dk_at dksX1_beat_1 8 rfl rfl)
theorem dX1_beat_33 : decode cX1_beat 33 = .ok (.aload_n 0, 1) := dk_42 (dk_at dksX1_beat_1 11 rfl rfl)
theorem dX1_beat_34 : decode cX1_beat 34 = .ok (.invokevirtual 150, 3) := dk_182 0 150 (dk_at dksX1_beat_1 12 rfl rfl)
theorem dX1_beat_37 : decode cX1_beat 37 = .ok (.aload_n 0, 1) := dk_42 (dk_at dksX1_beat_1 15 rfl rfl)
theorem dX1_beat_38 : decode cX1_beat 38 = .ok (.getfield 54, 3) := dk_180 0 54 (dk_at dksX1_beat_1 16 rfl rfl)
theorem dX1_beat_41 : decode cX1_beat 41 = .ok (.iload_n 1, 1) := dk_27 (dk_at dksX1_beat_1 19 rfl rfl)
theorem dX1_beat_42 : decode cX1_beat 42 = .ok (.iload_n 2, 1) := dk_28 (dk_at dksX1_beat_1 20 rfl rfl)
theorem dX1_beat_43 : decode cX1_beat 43 = .ok (.invokevirtual 200, 3) := dk_182 0 200 (dk_at dksX1_beat_1 21 rfl rfl)
theorem dX1_beat_46 : decode cX1_beat 46 = .ok (.pop, 1) := dk_87 (dk_at dksX1_beat_2 0 rfl rfl)
theorem dX1_beat_47 : decode cX1_beat 47 = .ok (.aload_n 0, 1) := dk_42 (dk_at dksX1_beat_2 1 rfl rfl)
theorem dX1_beat_48 : decode cX1_beat 48 = .ok (.iload_n 1, 1) := dk_27 (dk_at dksX1_beat_2 2 rfl rfl)
theorem dX1_beat_49 : decode cX1_beat 49 = .ok (.invokevirtual 203, 3) := dk_182 0 203 (dk_at dksX1_beat_2 3 rfl rfl)
theorem dX1_beat_52 : decode cX1_beat 52 = .ok (.getfield 207, 3) := dk_180 0 207 (dk_at dksX1_beat_2 6 rfl rfl)
theorem dX1_beat_55 : decode cX1_beat 55 = .ok (.ireturn, 1) := dk_172 (dk_at dksX1_beat_2 9 rfl rfl)
abbrev cX1_vat : ByteArray := prog_1_method_14_code
def yX1_vat : MethodName := ⟨RX1, "vat", "(I)LPaperMill$Vat;"⟩
def dkwX1_vat_0 : List UInt8 := [27, 6, 184, 0, 100, 42, 180, 0, 54, 180, 0, 122, 27, 185, 0, 108, 2, 0, 192, 0, 125, 176]
abbrev dktX1_vat_0 : List UInt8 := dkwX1_vat_0 ++ []
theorem dksX1_vat_0 : cX1_vat.data.toList.drop 0 = dktX1_vat_0 := by decide +kernel
theorem dX1_vat_0 : decode cX1_vat 0 = .ok (.iload_n 1, 1) := dk_27 (dk_at dksX1_vat_0 0 rfl rfl)
theorem dX1_vat_1 : decode cX1_vat 1 = .ok (.iconst 3, 1) := dk_6 (dk_at dksX1_vat_0 1 rfl rfl)
theorem dX1_vat_2 : decode cX1_vat 2 = .ok (.invokestatic 100, 3) := dk_184 0 100 (dk_at dksX1_vat_0 2 rfl rfl)
theorem dX1_vat_5 : decode cX1_vat 5 = .ok (.aload_n 0, 1) := dk_42 (dk_at dksX1_vat_0 5 rfl rfl)
theorem dX1_vat_6 : decode cX1_vat 6 = .ok (.getfield 54, 3) := dk_180 0 54 (dk_at dksX1_vat_0 6 rfl rfl)
theorem dX1_vat_9 : decode cX1_vat 9 = .ok (.getfield 122, 3) := dk_180 0 122 (dk_at dksX1_vat_0 9 rfl rfl)
theorem dX1_vat_12 : decode cX1_vat 12 = .ok (.iload_n 1, 1) := dk_27 (dk_at dksX1_vat_0 12 rfl rfl)
theorem dX1_vat_13 : decode cX1_vat 13 = .ok (.invokeinterface 108 2, 5) := by decide +kernel
theorem dX1_vat_18 : decode cX1_vat 18 = .ok (.checkcast 125, 3) := dk_192 0 125 (dk_at dksX1_vat_0 18 rfl rfl)
theorem dX1_vat_21 : decode cX1_vat 21 = .ok (.areturn, 1) := dk_176 (dk_at dksX1_vat_0 21 rfl rfl)
abbrev cX1_stamp : ByteArray := prog_1_method_26_code
def yX1_stamp : MethodName := ⟨RX1, "stamp", "(II)I"⟩
def dkwX1_stamp_1 : List UInt8 := [42, 182, 0, 150, 42, 180, 0, 54, 27, 28, 182, 0, 213, 87, 42, 27, 182, 0, 203, 180, 0, 216, 172]
abbrev dktX1_stamp_1 : List UInt8 := dkwX1_stamp_1 ++ []
def dkwX1_stamp_0 : List UInt8 := [27, 6, 184, 0, 100, 28, 4, 16, 24, 184, 0, 96, 42, 180, 0, 54, 27, 28, 182, 0, 210, 184, 0, 146]
abbrev dktX1_stamp_0 : List UInt8 := dkwX1_stamp_0 ++ dktX1_stamp_1
theorem dksX1_stamp_0 : cX1_stamp.data.toList.drop 0 = dktX1_stamp_0 := by decide +kernel
theorem dksX1_stamp_1 : cX1_stamp.data.toList.drop 24 = dktX1_stamp_1 := dk_seg dksX1_stamp_0 24 rfl rfl
theorem dX1_stamp_0 : decode cX1_stamp 0 = .ok (.iload_n 1, 1) := dk_27 (dk_at dksX1_stamp_0 0 rfl rfl)
theorem dX1_stamp_1 : decode cX1_stamp 1 = .ok (.iconst 3, 1) := dk_6 (dk_at dksX1_stamp_0 1 rfl rfl)
theorem dX1_stamp_2 : decode cX1_stamp 2 = .ok (.invokestatic 100, 3) := dk_184 0 100 (dk_at dksX1_stamp_0 2 rfl rfl)
theorem dX1_stamp_5 : decode cX1_stamp 5 = .ok (.iload_n 2, 1) := dk_28 (dk_at dksX1_stamp_0 5 rfl rfl)
theorem dX1_stamp_6 : decode cX1_stamp 6 = .ok (.iconst 1, 1) := dk_4 (dk_at dksX1_stamp_0 6 rfl rfl)
theorem dX1_stamp_7 : decode cX1_stamp 7 = .ok (.bipush 24, 2) := dk_16 24 (dk_at dksX1_stamp_0 7 rfl rfl)
theorem dX1_stamp_9 : decode cX1_stamp 9 = .ok (.invokestatic 96, 3) := dk_184 0 96 (dk_at dksX1_stamp_0 9 rfl rfl)
theorem dX1_stamp_12 : decode cX1_stamp 12 = .ok (.aload_n 0, 1) := dk_42 (dk_at dksX1_stamp_0 12 rfl rfl)
theorem dX1_stamp_13 : decode cX1_stamp 13 = .ok (.getfield 54, 3) := dk_180 0 54 (dk_at dksX1_stamp_0 13 rfl rfl)
theorem dX1_stamp_16 : decode cX1_stamp 16 = .ok (.iload_n 1, 1) := dk_27 (dk_at dksX1_stamp_0 16 rfl rfl)
theorem dX1_stamp_17 : decode cX1_stamp 17 = .ok (.iload_n 2, 1) := dk_28 (dk_at dksX1_stamp_0 17 rfl rfl)
theorem dX1_stamp_18 : decode cX1_stamp 18 = .ok (.invokevirtual 210, 3) := dk_182 0 210 (dk_at dksX1_stamp_0 18 rfl rfl)
theorem dX1_stamp_21 : decode cX1_stamp 21 = .ok (.invokestatic 146, 3) := dk_184 0 146 (dk_at dksX1_stamp_0 21 rfl rfl)
theorem dX1_stamp_24 : decode cX1_stamp 24 = .ok (.aload_n 0, 1) := dk_42 (dk_at dksX1_stamp_1 0 rfl rfl)
theorem dX1_stamp_25 : decode cX1_stamp 25 = .ok (.invokevirtual 150, 3) := dk_182 0 150 (dk_at dksX1_stamp_1 1 rfl rfl)
theorem dX1_stamp_28 : decode cX1_stamp 28 = .ok (.aload_n 0, 1) := dk_42 (dk_at dksX1_stamp_1 4 rfl rfl)
theorem dX1_stamp_29 : decode cX1_stamp 29 = .ok (.getfield 54, 3) := dk_180 0 54 (dk_at dksX1_stamp_1 5 rfl rfl)
theorem dX1_stamp_32 : decode cX1_stamp 32 = .ok (.iload_n 1, 1) := dk_27 (dk_at dksX1_stamp_1 8 rfl rfl)
theorem dX1_stamp_33 : decode cX1_stamp 33 = .ok (.iload_n 2, 1) := dk_28 (dk_at dksX1_stamp_1 9 rfl rfl)
theorem dX1_stamp_34 : decode cX1_stamp 34 = .ok (.invokevirtual 213, 3) := dk_182 0 213 (dk_at dksX1_stamp_1 10 rfl rfl)
theorem dX1_stamp_37 : decode cX1_stamp 37 = .ok (.pop, 1) := dk_87 (dk_at dksX1_stamp_1 13 rfl rfl)
theorem dX1_stamp_38 : decode cX1_stamp 38 = .ok (.aload_n 0, 1) := dk_42 (dk_at dksX1_stamp_1 14 rfl rfl)
theorem dX1_stamp_39 : decode cX1_stamp 39 = .ok (.iload_n 1, 1) := dk_27 (dk_at dksX1_stamp_1 15 rfl rfl)
theorem dX1_stamp_40 : decode cX1_stamp 40 = .ok (.invokevirtual 203, 3) := dk_182 0 203 (dk_at dksX1_stamp_1 16 rfl rfl)
theorem dX1_stamp_43 : decode cX1_stamp 43 = .ok (.getfield 216, 3) := dk_180 0 216 (dk_at dksX1_stamp_1 19 rfl rfl)
theorem dX1_stamp_46 : decode cX1_stamp 46 = .ok (.ireturn, 1) := dk_172 (dk_at dksX1_stamp_1 22 rfl rfl)
abbrev cX1_drain : ByteArray := prog_1_method_27_code
def yX1_drain : MethodName := ⟨RX1, "drain", "(I)I"⟩
def dkwX1_drain_2 : List UInt8 := [182, 0, 203, 28, 182, 0, 225, 28, 172]
abbrev dktX1_drain_2 : List UInt8 := dkwX1_drain_2 ++ []
def dkwX1_drain_1 : List UInt8 := [27, 182, 0, 203, 180, 0, 207, 61, 42, 180, 0, 54, 89, 180, 0, 222, 28, 96, 181, 0, 222, 42, 27]
abbrev dktX1_drain_1 : List UInt8 := dkwX1_drain_1 ++ dktX1_drain_2
def dkwX1_drain_0 : List UInt8 := [42, 27, 182, 0, 203, 182, 0, 219, 154, 0, 7, 4, 167, 0, 4, 3, 184, 0, 146, 42, 182, 0, 150, 42]
abbrev dktX1_drain_0 : List UInt8 := dkwX1_drain_0 ++ dktX1_drain_1
theorem dksX1_drain_0 : cX1_drain.data.toList.drop 0 = dktX1_drain_0 := by decide +kernel
theorem dksX1_drain_1 : cX1_drain.data.toList.drop 24 = dktX1_drain_1 := dk_seg dksX1_drain_0 24 rfl rfl
theorem dksX1_drain_2 : cX1_drain.data.toList.drop 47 = dktX1_drain_2 := dk_seg dksX1_drain_1 23 rfl rfl
theorem dX1_drain_0 : decode cX1_drain 0 = .ok (.aload_n 0, 1) := dk_42 (dk_at dksX1_drain_0 0 rfl rfl)
theorem dX1_drain_1 : decode cX1_drain 1 = .ok (.iload_n 1, 1) := dk_27 (dk_at dksX1_drain_0 1 rfl rfl)
theorem dX1_drain_2 : decode cX1_drain 2 = .ok (.invokevirtual 203, 3) := dk_182 0 203 (dk_at dksX1_drain_0 2 rfl rfl)
theorem dX1_drain_5 : decode cX1_drain 5 = .ok (.invokevirtual 219, 3) := dk_182 0 219 (dk_at dksX1_drain_0 5 rfl rfl)
theorem dX1_drain_8 : decode cX1_drain 8 = .ok (.ifCond .ne 7, 3) := dk_154 0 7 (dk_at dksX1_drain_0 8 rfl rfl)
theorem dX1_drain_11 : decode cX1_drain 11 = .ok (.iconst 1, 1) := dk_4 (dk_at dksX1_drain_0 11 rfl rfl)
theorem dX1_drain_12 : decode cX1_drain 12 = .ok (.goto 4, 3) := dk_167 0 4 (dk_at dksX1_drain_0 12 rfl rfl)
theorem dX1_drain_15 : decode cX1_drain 15 = .ok (.iconst 0, 1) := dk_3 (dk_at dksX1_drain_0 15 rfl rfl)
theorem dX1_drain_16 : decode cX1_drain 16 = .ok (.invokestatic 146, 3) := dk_184 0 146 (dk_at dksX1_drain_0 16 rfl rfl)
theorem dX1_drain_19 : decode cX1_drain 19 = .ok (.aload_n 0, 1) := dk_42 (dk_at dksX1_drain_0 19 rfl rfl)
theorem dX1_drain_20 : decode cX1_drain 20 = .ok (.invokevirtual 150, 3) := dk_182 0 150 (dk_at dksX1_drain_0 20 rfl rfl)
theorem dX1_drain_23 : decode cX1_drain 23 = .ok (.aload_n 0, 1) := dk_42 (dk_at dksX1_drain_0 23 rfl rfl)
theorem dX1_drain_24 : decode cX1_drain 24 = .ok (.iload_n 1, 1) := dk_27 (dk_at dksX1_drain_1 0 rfl rfl)
theorem dX1_drain_25 : decode cX1_drain 25 = .ok (.invokevirtual 203, 3) := dk_182 0 203 (dk_at dksX1_drain_1 1 rfl rfl)
theorem dX1_drain_28 : decode cX1_drain 28 = .ok (.getfield 207, 3) := dk_180 0 207 (dk_at dksX1_drain_1 4 rfl rfl)
theorem dX1_drain_31 : decode cX1_drain 31 = .ok (.istore_n 2, 1) := dk_61 (dk_at dksX1_drain_1 7 rfl rfl)
theorem dX1_drain_32 : decode cX1_drain 32 = .ok (.aload_n 0, 1) := dk_42 (dk_at dksX1_drain_1 8 rfl rfl)
theorem dX1_drain_33 : decode cX1_drain 33 = .ok (.getfield 54, 3) := dk_180 0 54 (dk_at dksX1_drain_1 9 rfl rfl)
theorem dX1_drain_36 : decode cX1_drain 36 = .ok (.dup, 1) := dk_89 (dk_at dksX1_drain_1 12 rfl rfl)
theorem dX1_drain_37 : decode cX1_drain 37 = .ok (.getfield 222, 3) := dk_180 0 222 (dk_at dksX1_drain_1 13 rfl rfl)
theorem dX1_drain_40 : decode cX1_drain 40 = .ok (.iload_n 2, 1) := dk_28 (dk_at dksX1_drain_1 16 rfl rfl)
theorem dX1_drain_41 : decode cX1_drain 41 = .ok (.iadd, 1) := dk_96 (dk_at dksX1_drain_1 17 rfl rfl)
theorem dX1_drain_42 : decode cX1_drain 42 = .ok (.putfield 222, 3) := dk_181 0 222 (dk_at dksX1_drain_1 18 rfl rfl)
theorem dX1_drain_45 : decode cX1_drain 45 = .ok (.aload_n 0, 1) := dk_42 (dk_at dksX1_drain_1 21 rfl rfl)
theorem dX1_drain_46 : decode cX1_drain 46 = .ok (.iload_n 1, 1) := dk_27 (dk_at dksX1_drain_1 22 rfl rfl)
theorem dX1_drain_47 : decode cX1_drain 47 = .ok (.invokevirtual 203, 3) := dk_182 0 203 (dk_at dksX1_drain_2 0 rfl rfl)
theorem dX1_drain_50 : decode cX1_drain 50 = .ok (.iload_n 2, 1) := dk_28 (dk_at dksX1_drain_2 3 rfl rfl)
theorem dX1_drain_51 : decode cX1_drain 51 = .ok (.invokevirtual 225, 3) := dk_182 0 225 (dk_at dksX1_drain_2 4 rfl rfl)
theorem dX1_drain_54 : decode cX1_drain 54 = .ok (.iload_n 2, 1) := dk_28 (dk_at dksX1_drain_2 7 rfl rfl)
theorem dX1_drain_55 : decode cX1_drain 55 = .ok (.ireturn, 1) := dk_172 (dk_at dksX1_drain_2 8 rfl rfl)
abbrev cX1_setMark : ByteArray := prog_1_method_28_code
def yX1_setMark : MethodName := ⟨RX1, "setMark", "(II)I"⟩
def dkwX1_setMark_4 : List UInt8 := [182, 0, 232, 28, 181, 0, 229, 21, 4, 172]
abbrev dktX1_setMark_4 : List UInt8 := dkwX1_setMark_4 ++ []
def dkwX1_setMark_3 : List UInt8 := [4, 167, 0, 4, 3, 184, 0, 146, 42, 182, 0, 150, 42, 27, 182, 0, 232, 180, 0, 229, 54, 4, 42, 27]
abbrev dktX1_setMark_3 : List UInt8 := dkwX1_setMark_3 ++ dktX1_setMark_4
def dkwX1_setMark_2 : List UInt8 := [180, 0, 229, 28, 160, 0, 7, 4, 167, 0, 4, 3, 128, 62, 132, 4, 1, 167, 255, 209, 29, 154, 0, 7]
abbrev dktX1_setMark_2 : List UInt8 := dkwX1_setMark_2 ++ dktX1_setMark_3
def dkwX1_setMark_1 : List UInt8 := [21, 4, 27, 159, 0, 31, 42, 180, 0, 54, 180, 0, 127, 21, 4, 185, 0, 108, 2, 0, 192, 0, 130]
abbrev dktX1_setMark_1 : List UInt8 := dkwX1_setMark_1 ++ dktX1_setMark_2
def dkwX1_setMark_0 : List UInt8 := [27, 8, 184, 0, 100, 28, 3, 16, 9, 184, 0, 96, 3, 62, 3, 54, 4, 21, 4, 8, 162, 0, 47, 29]
abbrev dktX1_setMark_0 : List UInt8 := dkwX1_setMark_0 ++ dktX1_setMark_1
theorem dksX1_setMark_0 : cX1_setMark.data.toList.drop 0 = dktX1_setMark_0 := by decide +kernel
theorem dksX1_setMark_1 : cX1_setMark.data.toList.drop 24 = dktX1_setMark_1 := dk_seg dksX1_setMark_0 24 rfl rfl
theorem dksX1_setMark_2 : cX1_setMark.data.toList.drop 47 = dktX1_setMark_2 := dk_seg dksX1_setMark_1 23 rfl rfl
theorem dksX1_setMark_3 : cX1_setMark.data.toList.drop 71 = dktX1_setMark_3 := dk_seg dksX1_setMark_2 24 rfl rfl
theorem dksX1_setMark_4 : cX1_setMark.data.toList.drop 95 = dktX1_setMark_4 := dk_seg dksX1_setMark_3 24 rfl rfl
theorem dX1_setMark_0 : decode cX1_setMark 0 = .ok (.iload_n 1, 1) := dk_27 (dk_at dksX1_setMark_0 0 rfl rfl)
theorem dX1_setMark_1 : decode cX1_setMark 1 = .ok (.iconst 5, 1) := dk_8 (dk_at dksX1_setMark_0 1 rfl rfl)
theorem dX1_setMark_2 : decode cX1_setMark 2 = .ok (.invokestatic 100, 3) := dk_184 0 100 (dk_at dksX1_setMark_0 2 rfl rfl)
theorem dX1_setMark_5 : decode cX1_setMark 5 = .ok (.iload_n 2, 1) := dk_28 (dk_at dksX1_setMark_0 5 rfl rfl)
theorem dX1_setMark_6 : decode cX1_setMark 6 = .ok (.iconst 0, 1) := dk_3 (dk_at dksX1_setMark_0 6 rfl rfl)
theorem dX1_setMark_7 : decode cX1_setMark 7 = .ok (.bipush 9, 2) := dk_16 9 (dk_at dksX1_setMark_0 7 rfl rfl)
theorem dX1_setMark_9 : decode cX1_setMark 9 = .ok (.invokestatic 96, 3) := dk_184 0 96 (dk_at dksX1_setMark_0 9 rfl rfl)
theorem dX1_setMark_12 : decode cX1_setMark 12 = .ok (.iconst 0, 1) := dk_3 (dk_at dksX1_setMark_0 12 rfl rfl)
theorem dX1_setMark_13 : decode cX1_setMark 13 = .ok (.istore_n 3, 1) := dk_62 (dk_at dksX1_setMark_0 13 rfl rfl)
theorem dX1_setMark_14 : decode cX1_setMark 14 = .ok (.iconst 0, 1) := dk_3 (dk_at dksX1_setMark_0 14 rfl rfl)
theorem dX1_setMark_15 : decode cX1_setMark 15 = .ok (.istore 4, 2) := dk_54 4 (dk_at dksX1_setMark_0 15 rfl rfl)
theorem dX1_setMark_17 : decode cX1_setMark 17 = .ok (.iload 4, 2) := dk_21 4 (dk_at dksX1_setMark_0 17 rfl rfl)
theorem dX1_setMark_19 : decode cX1_setMark 19 = .ok (.iconst 5, 1) := dk_8 (dk_at dksX1_setMark_0 19 rfl rfl)
theorem dX1_setMark_20 : decode cX1_setMark 20 = .ok (.if_icmp .ge 47, 3) := dk_162 0 47 (dk_at dksX1_setMark_0 20 rfl rfl)
theorem dX1_setMark_23 : decode cX1_setMark 23 = .ok (.iload_n 3, 1) := dk_29 (dk_at dksX1_setMark_0 23 rfl rfl)
theorem dX1_setMark_24 : decode cX1_setMark 24 = .ok (.iload 4, 2) := dk_21 4 (dk_at dksX1_setMark_1 0 rfl rfl)
theorem dX1_setMark_26 : decode cX1_setMark 26 = .ok (.iload_n 1, 1) := dk_27 (dk_at dksX1_setMark_1 2 rfl rfl)
theorem dX1_setMark_27 : decode cX1_setMark 27 = .ok (.if_icmp .eq 31, 3) := dk_159 0 31 (dk_at dksX1_setMark_1 3 rfl rfl)
theorem dX1_setMark_30 : decode cX1_setMark 30 = .ok (.aload_n 0, 1) := dk_42 (dk_at dksX1_setMark_1 6 rfl rfl)
theorem dX1_setMark_31 : decode cX1_setMark 31 = .ok (.getfield 54, 3) := dk_180 0 54 (dk_at dksX1_setMark_1 7 rfl rfl)
theorem dX1_setMark_34 : decode cX1_setMark 34 = .ok (.getfield 127, 3) := dk_180 0 127 (dk_at dksX1_setMark_1 10 rfl rfl)
theorem dX1_setMark_37 : decode cX1_setMark 37 = .ok (.iload 4, 2) := dk_21 4 (dk_at dksX1_setMark_1 13 rfl rfl)
theorem dX1_setMark_39 : decode cX1_setMark 39 = .ok (.invokeinterface 108 2, 5) := by decide +kernel
theorem dX1_setMark_44 : decode cX1_setMark 44 = .ok (.checkcast 130, 3) := dk_192 0 130 (dk_at dksX1_setMark_1 20 rfl rfl)
theorem dX1_setMark_47 : decode cX1_setMark 47 = .ok (.getfield 229, 3) := dk_180 0 229 (dk_at dksX1_setMark_2 0 rfl rfl)
theorem dX1_setMark_50 : decode cX1_setMark 50 = .ok (.iload_n 2, 1) := dk_28 (dk_at dksX1_setMark_2 3 rfl rfl)
theorem dX1_setMark_51 : decode cX1_setMark 51 = .ok (.if_icmp .ne 7, 3) := dk_160 0 7 (dk_at dksX1_setMark_2 4 rfl rfl)
theorem dX1_setMark_54 : decode cX1_setMark 54 = .ok (.iconst 1, 1) := dk_4 (dk_at dksX1_setMark_2 7 rfl rfl)
theorem dX1_setMark_55 : decode cX1_setMark 55 = .ok (.goto 4, 3) := dk_167 0 4 (dk_at dksX1_setMark_2 8 rfl rfl)
theorem dX1_setMark_58 : decode cX1_setMark 58 = .ok (.iconst 0, 1) := dk_3 (dk_at dksX1_setMark_2 11 rfl rfl)
theorem dX1_setMark_59 : decode cX1_setMark 59 = .ok (.ior, 1) := dk_128 (dk_at dksX1_setMark_2 12 rfl rfl)
theorem dX1_setMark_60 : decode cX1_setMark 60 = .ok (.istore_n 3, 1) := dk_62 (dk_at dksX1_setMark_2 13 rfl rfl)
theorem dX1_setMark_61 : decode cX1_setMark 61 = .ok (.iinc 4 1, 3) := dk_132 4 1 (dk_at dksX1_setMark_2 14 rfl rfl)
theorem dX1_setMark_64 : decode cX1_setMark 64 = .ok (.goto (-47), 3) := dk_167 255 209 (dk_at dksX1_setMark_2 17 rfl rfl)
theorem dX1_setMark_67 : decode cX1_setMark 67 = .ok (.iload_n 3, 1) := dk_29 (dk_at dksX1_setMark_2 20 rfl rfl)
theorem dX1_setMark_68 : decode cX1_setMark 68 = .ok (.ifCond .ne 7, 3) := dk_154 0 7 (dk_at dksX1_setMark_2 21 rfl rfl)
theorem dX1_setMark_71 : decode cX1_setMark 71 = .ok (.iconst 1, 1) := dk_4 (dk_at dksX1_setMark_3 0 rfl rfl)
theorem dX1_setMark_72 : decode cX1_setMark 72 = .ok (.goto 4, 3) := dk_167 0 4 (dk_at dksX1_setMark_3 1 rfl rfl)
theorem dX1_setMark_75 : decode cX1_setMark 75 = .ok (.iconst 0, 1) := dk_3 (dk_at dksX1_setMark_3 4 rfl rfl)
theorem dX1_setMark_76 : decode cX1_setMark 76 = .ok (.invokestatic 146, 3) := dk_184 0 146 (dk_at dksX1_setMark_3 5 rfl rfl)
theorem dX1_setMark_79 : decode cX1_setMark 79 = .ok (.aload_n 0, 1) := dk_42 (dk_at dksX1_setMark_3 8 rfl rfl)
theorem dX1_setMark_80 : decode cX1_setMark 80 = .ok (.invokevirtual 150, 3) := dk_182 0 150 (dk_at dksX1_setMark_3 9 rfl rfl)
theorem dX1_setMark_83 : decode cX1_setMark 83 = .ok (.aload_n 0, 1) := dk_42 (dk_at dksX1_setMark_3 12 rfl rfl)
theorem dX1_setMark_84 : decode cX1_setMark 84 = .ok (.iload_n 1, 1) := dk_27 (dk_at dksX1_setMark_3 13 rfl rfl)
theorem dX1_setMark_85 : decode cX1_setMark 85 = .ok (.invokevirtual 232, 3) := dk_182 0 232 (dk_at dksX1_setMark_3 14 rfl rfl)
theorem dX1_setMark_88 : decode cX1_setMark 88 = .ok (.getfield 229, 3) := dk_180 0 229 (dk_at dksX1_setMark_3 17 rfl rfl)
theorem dX1_setMark_91 : decode cX1_setMark 91 = .ok (.istore 4, 2) := dk_54 4 (dk_at dksX1_setMark_3 20 rfl rfl)
theorem dX1_setMark_93 : decode cX1_setMark 93 = .ok (.aload_n 0, 1) := dk_42 (dk_at dksX1_setMark_3 22 rfl rfl)
theorem dX1_setMark_94 : decode cX1_setMark 94 = .ok (.iload_n 1, 1) := dk_27 (dk_at dksX1_setMark_3 23 rfl rfl)
theorem dX1_setMark_95 : decode cX1_setMark 95 = .ok (.invokevirtual 232, 3) := dk_182 0 232 (dk_at dksX1_setMark_4 0 rfl rfl)
theorem dX1_setMark_98 : decode cX1_setMark 98 = .ok (.iload_n 2, 1) := dk_28 (dk_at dksX1_setMark_4 3 rfl rfl)
theorem dX1_setMark_99 : decode cX1_setMark 99 = .ok (.putfield 229, 3) := dk_181 0 229 (dk_at dksX1_setMark_4 4 rfl rfl)
theorem dX1_setMark_102 : decode cX1_setMark 102 = .ok (.iload 4, 2) := dk_21 4 (dk_at dksX1_setMark_4 7 rfl rfl)
theorem dX1_setMark_104 : decode cX1_setMark 104 = .ok (.ireturn, 1) := dk_172 (dk_at dksX1_setMark_4 9 rfl rfl)
abbrev cX1_mould : ByteArray := prog_1_method_15_code
def yX1_mould : MethodName := ⟨RX1, "mould", "(I)LPaperMill$Mould;"⟩
def dkwX1_mould_0 : List UInt8 := [27, 8, 184, 0, 100, 42, 180, 0, 54, 180, 0, 127, 27, 185, 0, 108, 2, 0, 192, 0, 130, 176]
abbrev dktX1_mould_0 : List UInt8 := dkwX1_mould_0 ++ []
theorem dksX1_mould_0 : cX1_mould.data.toList.drop 0 = dktX1_mould_0 := by decide +kernel
theorem dX1_mould_0 : decode cX1_mould 0 = .ok (.iload_n 1, 1) := dk_27 (dk_at dksX1_mould_0 0 rfl rfl)
theorem dX1_mould_1 : decode cX1_mould 1 = .ok (.iconst 5, 1) := dk_8 (dk_at dksX1_mould_0 1 rfl rfl)
theorem dX1_mould_2 : decode cX1_mould 2 = .ok (.invokestatic 100, 3) := dk_184 0 100 (dk_at dksX1_mould_0 2 rfl rfl)
theorem dX1_mould_5 : decode cX1_mould 5 = .ok (.aload_n 0, 1) := dk_42 (dk_at dksX1_mould_0 5 rfl rfl)
theorem dX1_mould_6 : decode cX1_mould 6 = .ok (.getfield 54, 3) := dk_180 0 54 (dk_at dksX1_mould_0 6 rfl rfl)
theorem dX1_mould_9 : decode cX1_mould 9 = .ok (.getfield 127, 3) := dk_180 0 127 (dk_at dksX1_mould_0 9 rfl rfl)
theorem dX1_mould_12 : decode cX1_mould 12 = .ok (.iload_n 1, 1) := dk_27 (dk_at dksX1_mould_0 12 rfl rfl)
theorem dX1_mould_13 : decode cX1_mould 13 = .ok (.invokeinterface 108 2, 5) := by decide +kernel
theorem dX1_mould_18 : decode cX1_mould 18 = .ok (.checkcast 130, 3) := dk_192 0 130 (dk_at dksX1_mould_0 18 rfl rfl)
theorem dX1_mould_21 : decode cX1_mould 21 = .ok (.areturn, 1) := dk_176 (dk_at dksX1_mould_0 21 rfl rfl)
abbrev cX1_mend : ByteArray := prog_1_method_29_code
def yX1_mend : MethodName := ⟨RX1, "mend", "(I)I"⟩
def dkwX1_mend_2 : List UInt8 := [182, 0, 232, 180, 0, 236, 61, 42, 27, 182, 0, 232, 3, 181, 0, 236, 28, 172]
abbrev dktX1_mend_2 : List UInt8 := dkwX1_mend_2 ++ []
def dkwX1_mend_1 : List UInt8 := [184, 0, 146, 42, 182, 0, 150, 42, 180, 0, 54, 89, 180, 0, 164, 16, 30, 100, 181, 0, 164, 42, 27]
abbrev dktX1_mend_1 : List UInt8 := dkwX1_mend_1 ++ dktX1_mend_2
def dkwX1_mend_0 : List UInt8 := [27, 8, 184, 0, 100, 42, 180, 0, 54, 180, 0, 164, 16, 30, 161, 0, 7, 4, 167, 0, 4, 3]
abbrev dktX1_mend_0 : List UInt8 := dkwX1_mend_0 ++ dktX1_mend_1
theorem dksX1_mend_0 : cX1_mend.data.toList.drop 0 = dktX1_mend_0 := by decide +kernel
theorem dksX1_mend_1 : cX1_mend.data.toList.drop 22 = dktX1_mend_1 := dk_seg dksX1_mend_0 22 rfl rfl
theorem dksX1_mend_2 : cX1_mend.data.toList.drop 45 = dktX1_mend_2 := dk_seg dksX1_mend_1 23 rfl rfl
theorem dX1_mend_0 : decode cX1_mend 0 = .ok (.iload_n 1, 1) := dk_27 (dk_at dksX1_mend_0 0 rfl rfl)
theorem dX1_mend_1 : decode cX1_mend 1 = .ok (.iconst 5, 1) := dk_8 (dk_at dksX1_mend_0 1 rfl rfl)
theorem dX1_mend_2 : decode cX1_mend 2 = .ok (.invokestatic 100, 3) := dk_184 0 100 (dk_at dksX1_mend_0 2 rfl rfl)
theorem dX1_mend_5 : decode cX1_mend 5 = .ok (.aload_n 0, 1) := dk_42 (dk_at dksX1_mend_0 5 rfl rfl)
theorem dX1_mend_6 : decode cX1_mend 6 = .ok (.getfield 54, 3) := dk_180 0 54 (dk_at dksX1_mend_0 6 rfl rfl)
theorem dX1_mend_9 : decode cX1_mend 9 = .ok (.getfield 164, 3) := dk_180 0 164 (dk_at dksX1_mend_0 9 rfl rfl)
theorem dX1_mend_12 : decode cX1_mend 12 = .ok (.bipush 30, 2) := dk_16 30 (dk_at dksX1_mend_0 12 rfl rfl)
theorem dX1_mend_14 : decode cX1_mend 14 = .ok (.if_icmp .lt 7, 3) := dk_161 0 7 (dk_at dksX1_mend_0 14 rfl rfl)
theorem dX1_mend_17 : decode cX1_mend 17 = .ok (.iconst 1, 1) := dk_4 (dk_at dksX1_mend_0 17 rfl rfl)
theorem dX1_mend_18 : decode cX1_mend 18 = .ok (.goto 4, 3) := dk_167 0 4 (dk_at dksX1_mend_0 18 rfl rfl)
theorem dX1_mend_21 : decode cX1_mend 21 = .ok (.iconst 0, 1) := dk_3 (dk_at dksX1_mend_0 21 rfl rfl)
theorem dX1_mend_22 : decode cX1_mend 22 = .ok (.invokestatic 146, 3) := dk_184 0 146 (dk_at dksX1_mend_1 0 rfl rfl)
theorem dX1_mend_25 : decode cX1_mend 25 = .ok (.aload_n 0, 1) := dk_42 (dk_at dksX1_mend_1 3 rfl rfl)
theorem dX1_mend_26 : decode cX1_mend 26 = .ok (.invokevirtual 150, 3) := dk_182 0 150 (dk_at dksX1_mend_1 4 rfl rfl)
theorem dX1_mend_29 : decode cX1_mend 29 = .ok (.aload_n 0, 1) := dk_42 (dk_at dksX1_mend_1 7 rfl rfl)
theorem dX1_mend_30 : decode cX1_mend 30 = .ok (.getfield 54, 3) := dk_180 0 54 (dk_at dksX1_mend_1 8 rfl rfl)
theorem dX1_mend_33 : decode cX1_mend 33 = .ok (.dup, 1) := dk_89 (dk_at dksX1_mend_1 11 rfl rfl)
theorem dX1_mend_34 : decode cX1_mend 34 = .ok (.getfield 164, 3) := dk_180 0 164 (dk_at dksX1_mend_1 12 rfl rfl)
theorem dX1_mend_37 : decode cX1_mend 37 = .ok (.bipush 30, 2) := dk_16 30 (dk_at dksX1_mend_1 15 rfl rfl)
theorem dX1_mend_39 : decode cX1_mend 39 = .ok (.isub, 1) := dk_100 (dk_at dksX1_mend_1 17 rfl rfl)
theorem dX1_mend_40 : decode cX1_mend 40 = .ok (.putfield 164, 3) := dk_181 0 164 (dk_at dksX1_mend_1 18 rfl rfl)
theorem dX1_mend_43 : decode cX1_mend 43 = .ok (.aload_n 0, 1) := dk_42 (dk_at dksX1_mend_1 21 rfl rfl)
theorem dX1_mend_44 : decode cX1_mend 44 = .ok (.iload_n 1, 1) := dk_27 (dk_at dksX1_mend_1 22 rfl rfl)
theorem dX1_mend_45 : decode cX1_mend 45 = .ok (.invokevirtual 232, 3) := dk_182 0 232 (dk_at dksX1_mend_2 0 rfl rfl)
theorem dX1_mend_48 : decode cX1_mend 48 = .ok (.getfield 236, 3) := dk_180 0 236 (dk_at dksX1_mend_2 3 rfl rfl)
theorem dX1_mend_51 : decode cX1_mend 51 = .ok (.istore_n 2, 1) := dk_61 (dk_at dksX1_mend_2 6 rfl rfl)
theorem dX1_mend_52 : decode cX1_mend 52 = .ok (.aload_n 0, 1) := dk_42 (dk_at dksX1_mend_2 7 rfl rfl)
theorem dX1_mend_53 : decode cX1_mend 53 = .ok (.iload_n 1, 1) := dk_27 (dk_at dksX1_mend_2 8 rfl rfl)
theorem dX1_mend_54 : decode cX1_mend 54 = .ok (.invokevirtual 232, 3) := dk_182 0 232 (dk_at dksX1_mend_2 9 rfl rfl)
theorem dX1_mend_57 : decode cX1_mend 57 = .ok (.iconst 0, 1) := dk_3 (dk_at dksX1_mend_2 12 rfl rfl)
theorem dX1_mend_58 : decode cX1_mend 58 = .ok (.putfield 236, 3) := dk_181 0 236 (dk_at dksX1_mend_2 13 rfl rfl)
theorem dX1_mend_61 : decode cX1_mend 61 = .ok (.iload_n 2, 1) := dk_28 (dk_at dksX1_mend_2 16 rfl rfl)
theorem dX1_mend_62 : decode cX1_mend 62 = .ok (.ireturn, 1) := dk_172 (dk_at dksX1_mend_2 17 rfl rfl)
abbrev cX1_make : ByteArray := prog_1_method_30_code
def yX1_make : MethodName := ⟨RX1, "make", "(III)I"⟩
def dkwX1_make_2 : List UInt8 := [28, 29, 182, 0, 242, 172]
abbrev dktX1_make_2 : List UInt8 := dkwX1_make_2 ++ []
def dkwX1_make_1 : List UInt8 := [29, 182, 0, 239, 154, 0, 7, 4, 167, 0, 4, 3, 184, 0, 146, 42, 182, 0, 150, 42, 180, 0, 54, 27]
abbrev dktX1_make_1 : List UInt8 := dkwX1_make_1 ++ dktX1_make_2
def dkwX1_make_0 : List UInt8 := [27, 6, 184, 0, 100, 28, 8, 184, 0, 100, 29, 4, 17, 1, 224, 184, 0, 96, 42, 180, 0, 54, 27, 28]
abbrev dktX1_make_0 : List UInt8 := dkwX1_make_0 ++ dktX1_make_1
theorem dksX1_make_0 : cX1_make.data.toList.drop 0 = dktX1_make_0 := by decide +kernel
theorem dksX1_make_1 : cX1_make.data.toList.drop 24 = dktX1_make_1 := dk_seg dksX1_make_0 24 rfl rfl
theorem dksX1_make_2 : cX1_make.data.toList.drop 48 = dktX1_make_2 := dk_seg dksX1_make_1 24 rfl rfl
theorem dX1_make_0 : decode cX1_make 0 = .ok (.iload_n 1, 1) := dk_27 (dk_at dksX1_make_0 0 rfl rfl)
theorem dX1_make_1 : decode cX1_make 1 = .ok (.iconst 3, 1) := dk_6 (dk_at dksX1_make_0 1 rfl rfl)
theorem dX1_make_2 : decode cX1_make 2 = .ok (.invokestatic 100, 3) := dk_184 0 100 (dk_at dksX1_make_0 2 rfl rfl)
theorem dX1_make_5 : decode cX1_make 5 = .ok (.iload_n 2, 1) := dk_28 (dk_at dksX1_make_0 5 rfl rfl)
theorem dX1_make_6 : decode cX1_make 6 = .ok (.iconst 5, 1) := dk_8 (dk_at dksX1_make_0 6 rfl rfl)
theorem dX1_make_7 : decode cX1_make 7 = .ok (.invokestatic 100, 3) := dk_184 0 100 (dk_at dksX1_make_0 7 rfl rfl)
theorem dX1_make_10 : decode cX1_make 10 = .ok (.iload_n 3, 1) := dk_29 (dk_at dksX1_make_0 10 rfl rfl)
theorem dX1_make_11 : decode cX1_make 11 = .ok (.iconst 1, 1) := dk_4 (dk_at dksX1_make_0 11 rfl rfl)
theorem dX1_make_12 : decode cX1_make 12 = .ok (.sipush 480, 3) := dk_17 1 224 (dk_at dksX1_make_0 12 rfl rfl)
theorem dX1_make_15 : decode cX1_make 15 = .ok (.invokestatic 96, 3) := dk_184 0 96 (dk_at dksX1_make_0 15 rfl rfl)
theorem dX1_make_18 : decode cX1_make 18 = .ok (.aload_n 0, 1) := dk_42 (dk_at dksX1_make_0 18 rfl rfl)
theorem dX1_make_19 : decode cX1_make 19 = .ok (.getfield 54, 3) := dk_180 0 54 (dk_at dksX1_make_0 19 rfl rfl)
theorem dX1_make_22 : decode cX1_make 22 = .ok (.iload_n 1, 1) := dk_27 (dk_at dksX1_make_0 22 rfl rfl)
theorem dX1_make_23 : decode cX1_make 23 = .ok (.iload_n 2, 1) := dk_28 (dk_at dksX1_make_0 23 rfl rfl)
theorem dX1_make_24 : decode cX1_make 24 = .ok (.iload_n 3, 1) := dk_29 (dk_at dksX1_make_1 0 rfl rfl)
theorem dX1_make_25 : decode cX1_make 25 = .ok (.invokevirtual 239, 3) := dk_182 0 239 (dk_at dksX1_make_1 1 rfl rfl)
theorem dX1_make_28 : decode cX1_make 28 = .ok (.ifCond .ne 7, 3) := dk_154 0 7 (dk_at dksX1_make_1 4 rfl rfl)
theorem dX1_make_31 : decode cX1_make 31 = .ok (.iconst 1, 1) := dk_4 (dk_at dksX1_make_1 7 rfl rfl)
theorem dX1_make_32 : decode cX1_make 32 = .ok (.goto 4, 3) := dk_167 0 4 (dk_at dksX1_make_1 8 rfl rfl)
theorem dX1_make_35 : decode cX1_make 35 = .ok (.iconst 0, 1) := dk_3 (dk_at dksX1_make_1 11 rfl rfl)
theorem dX1_make_36 : decode cX1_make 36 = .ok (.invokestatic 146, 3) := dk_184 0 146 (dk_at dksX1_make_1 12 rfl rfl)
theorem dX1_make_39 : decode cX1_make 39 = .ok (.aload_n 0, 1) := dk_42 (dk_at dksX1_make_1 15 rfl rfl)
theorem dX1_make_40 : decode cX1_make 40 = .ok (.invokevirtual 150, 3) := dk_182 0 150 (dk_at dksX1_make_1 16 rfl rfl)
theorem dX1_make_43 : decode cX1_make 43 = .ok (.aload_n 0, 1) := dk_42 (dk_at dksX1_make_1 19 rfl rfl)
theorem dX1_make_44 : decode cX1_make 44 = .ok (.getfield 54, 3) := dk_180 0 54 (dk_at dksX1_make_1 20 rfl rfl)
theorem dX1_make_47 : decode cX1_make 47 = .ok (.iload_n 1, 1) := dk_27 (dk_at dksX1_make_1 23 rfl rfl)
theorem dX1_make_48 : decode cX1_make 48 = .ok (.iload_n 2, 1) := dk_28 (dk_at dksX1_make_2 0 rfl rfl)
theorem dX1_make_49 : decode cX1_make 49 = .ok (.iload_n 3, 1) := dk_29 (dk_at dksX1_make_2 1 rfl rfl)
theorem dX1_make_50 : decode cX1_make 50 = .ok (.invokevirtual 242, 3) := dk_182 0 242 (dk_at dksX1_make_2 2 rfl rfl)
theorem dX1_make_53 : decode cX1_make 53 = .ok (.ireturn, 1) := dk_172 (dk_at dksX1_make_2 5 rfl rfl)
abbrev cX1_pack : ByteArray := prog_1_method_31_code
def yX1_pack : MethodName := ⟨RX1, "pack", "(III)I"⟩
def dkwX1_pack_2 : List UInt8 := [180, 0, 54, 180, 0, 137, 185, 0, 119, 1, 0, 4, 100, 172]
abbrev dktX1_pack_2 : List UInt8 := dkwX1_pack_2 ++ []
def dkwX1_pack_1 : List UInt8 := [42, 182, 0, 150, 42, 180, 0, 54, 27, 28, 184, 0, 251, 29, 184, 1, 1, 16, 20, 182, 1, 6, 42]
abbrev dktX1_pack_1 : List UInt8 := dkwX1_pack_1 ++ dktX1_pack_2
def dkwX1_pack_0 : List UInt8 := [27, 28, 29, 184, 0, 245, 42, 27, 28, 29, 182, 0, 248, 154, 0, 7, 4, 167, 0, 4, 3, 184, 0, 146]
abbrev dktX1_pack_0 : List UInt8 := dkwX1_pack_0 ++ dktX1_pack_1
theorem dksX1_pack_0 : cX1_pack.data.toList.drop 0 = dktX1_pack_0 := by decide +kernel
theorem dksX1_pack_1 : cX1_pack.data.toList.drop 24 = dktX1_pack_1 := dk_seg dksX1_pack_0 24 rfl rfl
theorem dksX1_pack_2 : cX1_pack.data.toList.drop 47 = dktX1_pack_2 := dk_seg dksX1_pack_1 23 rfl rfl
theorem dX1_pack_0 : decode cX1_pack 0 = .ok (.iload_n 1, 1) := dk_27 (dk_at dksX1_pack_0 0 rfl rfl)
theorem dX1_pack_1 : decode cX1_pack 1 = .ok (.iload_n 2, 1) := dk_28 (dk_at dksX1_pack_0 1 rfl rfl)
theorem dX1_pack_2 : decode cX1_pack 2 = .ok (.iload_n 3, 1) := dk_29 (dk_at dksX1_pack_0 2 rfl rfl)
theorem dX1_pack_3 : decode cX1_pack 3 = .ok (.invokestatic 245, 3) := dk_184 0 245 (dk_at dksX1_pack_0 3 rfl rfl)
theorem dX1_pack_6 : decode cX1_pack 6 = .ok (.aload_n 0, 1) := dk_42 (dk_at dksX1_pack_0 6 rfl rfl)
theorem dX1_pack_7 : decode cX1_pack 7 = .ok (.iload_n 1, 1) := dk_27 (dk_at dksX1_pack_0 7 rfl rfl)
theorem dX1_pack_8 : decode cX1_pack 8 = .ok (.iload_n 2, 1) := dk_28 (dk_at dksX1_pack_0 8 rfl rfl)
theorem dX1_pack_9 : decode cX1_pack 9 = .ok (.iload_n 3, 1) := dk_29 (dk_at dksX1_pack_0 9 rfl rfl)
theorem dX1_pack_10 : decode cX1_pack 10 = .ok (.invokevirtual 248, 3) := dk_182 0 248 (dk_at dksX1_pack_0 10 rfl rfl)
theorem dX1_pack_13 : decode cX1_pack 13 = .ok (.ifCond .ne 7, 3) := dk_154 0 7 (dk_at dksX1_pack_0 13 rfl rfl)
theorem dX1_pack_16 : decode cX1_pack 16 = .ok (.iconst 1, 1) := dk_4 (dk_at dksX1_pack_0 16 rfl rfl)
theorem dX1_pack_17 : decode cX1_pack 17 = .ok (.goto 4, 3) := dk_167 0 4 (dk_at dksX1_pack_0 17 rfl rfl)
theorem dX1_pack_20 : decode cX1_pack 20 = .ok (.iconst 0, 1) := dk_3 (dk_at dksX1_pack_0 20 rfl rfl)
theorem dX1_pack_21 : decode cX1_pack 21 = .ok (.invokestatic 146, 3) := dk_184 0 146 (dk_at dksX1_pack_0 21 rfl rfl)
theorem dX1_pack_24 : decode cX1_pack 24 = .ok (.aload_n 0, 1) := dk_42 (dk_at dksX1_pack_1 0 rfl rfl)
theorem dX1_pack_25 : decode cX1_pack 25 = .ok (.invokevirtual 150, 3) := dk_182 0 150 (dk_at dksX1_pack_1 1 rfl rfl)
theorem dX1_pack_28 : decode cX1_pack 28 = .ok (.aload_n 0, 1) := dk_42 (dk_at dksX1_pack_1 4 rfl rfl)
theorem dX1_pack_29 : decode cX1_pack 29 = .ok (.getfield 54, 3) := dk_180 0 54 (dk_at dksX1_pack_1 5 rfl rfl)
theorem dX1_pack_32 : decode cX1_pack 32 = .ok (.iload_n 1, 1) := dk_27 (dk_at dksX1_pack_1 8 rfl rfl)
theorem dX1_pack_33 : decode cX1_pack 33 = .ok (.iload_n 2, 1) := dk_28 (dk_at dksX1_pack_1 9 rfl rfl)
theorem dX1_pack_34 : decode cX1_pack 34 = .ok (.invokestatic 251, 3) := dk_184 0 251 (dk_at dksX1_pack_1 10 rfl rfl)
theorem dX1_pack_37 : decode cX1_pack 37 = .ok (.iload_n 3, 1) := dk_29 (dk_at dksX1_pack_1 13 rfl rfl)
theorem dX1_pack_38 : decode cX1_pack 38 = .ok (.invokestatic 257, 3) := dk_184 1 1 (dk_at dksX1_pack_1 14 rfl rfl)
theorem dX1_pack_41 : decode cX1_pack 41 = .ok (.bipush 20, 2) := dk_16 20 (dk_at dksX1_pack_1 17 rfl rfl)
theorem dX1_pack_43 : decode cX1_pack 43 = .ok (.invokevirtual 262, 3) := dk_182 1 6 (dk_at dksX1_pack_1 19 rfl rfl)
theorem dX1_pack_46 : decode cX1_pack 46 = .ok (.aload_n 0, 1) := dk_42 (dk_at dksX1_pack_1 22 rfl rfl)
theorem dX1_pack_47 : decode cX1_pack 47 = .ok (.getfield 54, 3) := dk_180 0 54 (dk_at dksX1_pack_2 0 rfl rfl)
theorem dX1_pack_50 : decode cX1_pack 50 = .ok (.getfield 137, 3) := dk_180 0 137 (dk_at dksX1_pack_2 3 rfl rfl)
theorem dX1_pack_53 : decode cX1_pack 53 = .ok (.invokeinterface 119 1, 5) := by decide +kernel
theorem dX1_pack_58 : decode cX1_pack 58 = .ok (.iconst 1, 1) := dk_4 (dk_at dksX1_pack_2 11 rfl rfl)
theorem dX1_pack_59 : decode cX1_pack 59 = .ok (.isub, 1) := dk_100 (dk_at dksX1_pack_2 12 rfl rfl)
theorem dX1_pack_60 : decode cX1_pack 60 = .ok (.ireturn, 1) := dk_172 (dk_at dksX1_pack_2 13 rfl rfl)
abbrev cX1_checkPaper : ByteArray := prog_1_method_11_code
def yX1_checkPaper : MethodName := ⟨RX1, "checkPaper", "(III)V"⟩
def dkwX1_checkPaper_0 : List UInt8 := [26, 3, 16, 9, 184, 0, 96, 27, 3, 5, 184, 0, 96, 28, 3, 5, 184, 0, 96, 177]
abbrev dktX1_checkPaper_0 : List UInt8 := dkwX1_checkPaper_0 ++ []
theorem dksX1_checkPaper_0 : cX1_checkPaper.data.toList.drop 0 = dktX1_checkPaper_0 := by decide +kernel
theorem dX1_checkPaper_0 : decode cX1_checkPaper 0 = .ok (.iload_n 0, 1) := dk_26 (dk_at dksX1_checkPaper_0 0 rfl rfl)
theorem dX1_checkPaper_1 : decode cX1_checkPaper 1 = .ok (.iconst 0, 1) := dk_3 (dk_at dksX1_checkPaper_0 1 rfl rfl)
theorem dX1_checkPaper_2 : decode cX1_checkPaper 2 = .ok (.bipush 9, 2) := dk_16 9 (dk_at dksX1_checkPaper_0 2 rfl rfl)
theorem dX1_checkPaper_4 : decode cX1_checkPaper 4 = .ok (.invokestatic 96, 3) := dk_184 0 96 (dk_at dksX1_checkPaper_0 4 rfl rfl)
theorem dX1_checkPaper_7 : decode cX1_checkPaper 7 = .ok (.iload_n 1, 1) := dk_27 (dk_at dksX1_checkPaper_0 7 rfl rfl)
theorem dX1_checkPaper_8 : decode cX1_checkPaper 8 = .ok (.iconst 0, 1) := dk_3 (dk_at dksX1_checkPaper_0 8 rfl rfl)
theorem dX1_checkPaper_9 : decode cX1_checkPaper 9 = .ok (.iconst 2, 1) := dk_5 (dk_at dksX1_checkPaper_0 9 rfl rfl)
theorem dX1_checkPaper_10 : decode cX1_checkPaper 10 = .ok (.invokestatic 96, 3) := dk_184 0 96 (dk_at dksX1_checkPaper_0 10 rfl rfl)
theorem dX1_checkPaper_13 : decode cX1_checkPaper 13 = .ok (.iload_n 2, 1) := dk_28 (dk_at dksX1_checkPaper_0 13 rfl rfl)
theorem dX1_checkPaper_14 : decode cX1_checkPaper 14 = .ok (.iconst 0, 1) := dk_3 (dk_at dksX1_checkPaper_0 14 rfl rfl)
theorem dX1_checkPaper_15 : decode cX1_checkPaper 15 = .ok (.iconst 2, 1) := dk_5 (dk_at dksX1_checkPaper_0 15 rfl rfl)
theorem dX1_checkPaper_16 : decode cX1_checkPaper 16 = .ok (.invokestatic 96, 3) := dk_184 0 96 (dk_at dksX1_checkPaper_0 16 rfl rfl)
theorem dX1_checkPaper_19 : decode cX1_checkPaper 19 = .ok (.return_, 1) := dk_177 (dk_at dksX1_checkPaper_0 19 rfl rfl)
abbrev cX1_whyNoReam : ByteArray := prog_1_method_63_code
def yX1_whyNoReam : MethodName := ⟨RX1, "whyNoReam", "(III)I"⟩
def dkwX1_whyNoReam_1 : List UInt8 := [42, 180, 0, 54, 182, 1, 14, 153, 0, 7, 3, 167, 0, 4, 5, 172]
abbrev dktX1_whyNoReam_1 : List UInt8 := dkwX1_whyNoReam_1 ++ []
def dkwX1_whyNoReam_0 : List UInt8 := [42, 180, 0, 54, 27, 28, 184, 0, 251, 29, 184, 1, 1, 182, 1, 10, 17, 1, 224, 162, 0, 5, 4, 172]
abbrev dktX1_whyNoReam_0 : List UInt8 := dkwX1_whyNoReam_0 ++ dktX1_whyNoReam_1
theorem dksX1_whyNoReam_0 : cX1_whyNoReam.data.toList.drop 0 = dktX1_whyNoReam_0 := by decide +kernel
theorem dksX1_whyNoReam_1 : cX1_whyNoReam.data.toList.drop 24 = dktX1_whyNoReam_1 := dk_seg dksX1_whyNoReam_0 24 rfl rfl
theorem dX1_whyNoReam_0 : decode cX1_whyNoReam 0 = .ok (.aload_n 0, 1) := dk_42 (dk_at dksX1_whyNoReam_0 0 rfl rfl)
theorem dX1_whyNoReam_1 : decode cX1_whyNoReam 1 = .ok (.getfield 54, 3) := dk_180 0 54 (dk_at dksX1_whyNoReam_0 1 rfl rfl)
theorem dX1_whyNoReam_4 : decode cX1_whyNoReam 4 = .ok (.iload_n 1, 1) := dk_27 (dk_at dksX1_whyNoReam_0 4 rfl rfl)
theorem dX1_whyNoReam_5 : decode cX1_whyNoReam 5 = .ok (.iload_n 2, 1) := dk_28 (dk_at dksX1_whyNoReam_0 5 rfl rfl)
theorem dX1_whyNoReam_6 : decode cX1_whyNoReam 6 = .ok (.invokestatic 251, 3) := dk_184 0 251 (dk_at dksX1_whyNoReam_0 6 rfl rfl)
theorem dX1_whyNoReam_9 : decode cX1_whyNoReam 9 = .ok (.iload_n 3, 1) := dk_29 (dk_at dksX1_whyNoReam_0 9 rfl rfl)
theorem dX1_whyNoReam_10 : decode cX1_whyNoReam 10 = .ok (.invokestatic 257, 3) := dk_184 1 1 (dk_at dksX1_whyNoReam_0 10 rfl rfl)
theorem dX1_whyNoReam_13 : decode cX1_whyNoReam 13 = .ok (.invokevirtual 266, 3) := dk_182 1 10 (dk_at dksX1_whyNoReam_0 13 rfl rfl)
theorem dX1_whyNoReam_16 : decode cX1_whyNoReam 16 = .ok (.sipush 480, 3) := dk_17 1 224 (dk_at dksX1_whyNoReam_0 16 rfl rfl)
theorem dX1_whyNoReam_19 : decode cX1_whyNoReam 19 = .ok (.if_icmp .ge 5, 3) := dk_162 0 5 (dk_at dksX1_whyNoReam_0 19 rfl rfl)
theorem dX1_whyNoReam_22 : decode cX1_whyNoReam 22 = .ok (.iconst 1, 1) := dk_4 (dk_at dksX1_whyNoReam_0 22 rfl rfl)
theorem dX1_whyNoReam_23 : decode cX1_whyNoReam 23 = .ok (.ireturn, 1) := dk_172 (dk_at dksX1_whyNoReam_0 23 rfl rfl)
theorem dX1_whyNoReam_24 : decode cX1_whyNoReam 24 = .ok (.aload_n 0, 1) := dk_42 (dk_at dksX1_whyNoReam_1 0 rfl rfl)
theorem dX1_whyNoReam_25 : decode cX1_whyNoReam 25 = .ok (.getfield 54, 3) := dk_180 0 54 (dk_at dksX1_whyNoReam_1 1 rfl rfl)
theorem dX1_whyNoReam_28 : decode cX1_whyNoReam 28 = .ok (.invokevirtual 270, 3) := dk_182 1 14 (dk_at dksX1_whyNoReam_1 4 rfl rfl)
theorem dX1_whyNoReam_31 : decode cX1_whyNoReam 31 = .ok (.ifCond .eq 7, 3) := dk_153 0 7 (dk_at dksX1_whyNoReam_1 7 rfl rfl)
theorem dX1_whyNoReam_34 : decode cX1_whyNoReam 34 = .ok (.iconst 0, 1) := dk_3 (dk_at dksX1_whyNoReam_1 10 rfl rfl)
theorem dX1_whyNoReam_35 : decode cX1_whyNoReam 35 = .ok (.goto 4, 3) := dk_167 0 4 (dk_at dksX1_whyNoReam_1 11 rfl rfl)
theorem dX1_whyNoReam_38 : decode cX1_whyNoReam 38 = .ok (.iconst 2, 1) := dk_5 (dk_at dksX1_whyNoReam_1 14 rfl rfl)
theorem dX1_whyNoReam_39 : decode cX1_whyNoReam 39 = .ok (.ireturn, 1) := dk_172 (dk_at dksX1_whyNoReam_1 15 rfl rfl)
abbrev cX1_packShort : ByteArray := prog_1_method_32_code
def yX1_packShort : MethodName := ⟨RX1, "packShort", "(III)I"⟩
def dkwX1_packShort_3 : List UInt8 := [29, 184, 1, 1, 21, 4, 182, 1, 6, 21, 4, 172]
abbrev dktX1_packShort_3 : List UInt8 := dkwX1_packShort_3 ++ []
def dkwX1_packShort_2 : List UInt8 := [162, 0, 7, 4, 167, 0, 4, 3, 184, 0, 146, 42, 182, 0, 150, 42, 180, 0, 54, 27, 28, 184, 0, 251]
abbrev dktX1_packShort_2 : List UInt8 := dkwX1_packShort_2 ++ dktX1_packShort_3
def dkwX1_packShort_1 : List UInt8 := [108, 54, 4, 42, 180, 0, 54, 182, 1, 14, 153, 0, 19, 21, 4, 158, 0, 14, 21, 4, 16, 20]
abbrev dktX1_packShort_1 : List UInt8 := dkwX1_packShort_1 ++ dktX1_packShort_2
def dkwX1_packShort_0 : List UInt8 := [27, 28, 29, 184, 0, 245, 42, 180, 0, 54, 27, 28, 184, 0, 251, 29, 184, 1, 1, 182, 1, 10, 16, 24]
abbrev dktX1_packShort_0 : List UInt8 := dkwX1_packShort_0 ++ dktX1_packShort_1
theorem dksX1_packShort_0 : cX1_packShort.data.toList.drop 0 = dktX1_packShort_0 := by decide +kernel
theorem dksX1_packShort_1 : cX1_packShort.data.toList.drop 24 = dktX1_packShort_1 := dk_seg dksX1_packShort_0 24 rfl rfl
theorem dksX1_packShort_2 : cX1_packShort.data.toList.drop 46 = dktX1_packShort_2 := dk_seg dksX1_packShort_1 22 rfl rfl
theorem dksX1_packShort_3 : cX1_packShort.data.toList.drop 70 = dktX1_packShort_3 := dk_seg dksX1_packShort_2 24 rfl rfl
theorem dX1_packShort_0 : decode cX1_packShort 0 = .ok (.iload_n 1, 1) := dk_27 (dk_at dksX1_packShort_0 0 rfl rfl)
theorem dX1_packShort_1 : decode cX1_packShort 1 = .ok (.iload_n 2, 1) := dk_28 (dk_at dksX1_packShort_0 1 rfl rfl)
theorem dX1_packShort_2 : decode cX1_packShort 2 = .ok (.iload_n 3, 1) := dk_29 (dk_at dksX1_packShort_0 2 rfl rfl)
theorem dX1_packShort_3 : decode cX1_packShort 3 = .ok (.invokestatic 245, 3) := dk_184 0 245 (dk_at dksX1_packShort_0 3 rfl rfl)
theorem dX1_packShort_6 : decode cX1_packShort 6 = .ok (.aload_n 0, 1) := dk_42 (dk_at dksX1_packShort_0 6 rfl rfl)
theorem dX1_packShort_7 : decode cX1_packShort 7 = .ok (.getfield 54, 3) := dk_180 0 54 (dk_at dksX1_packShort_0 7 rfl rfl)
theorem dX1_packShort_10 : decode cX1_packShort 10 = .ok (.iload_n 1, 1) := dk_27 (dk_at dksX1_packShort_0 10 rfl rfl)
theorem dX1_packShort_11 : decode cX1_packShort 11 = .ok (.iload_n 2, 1) := dk_28 (dk_at dksX1_packShort_0 11 rfl rfl)
theorem dX1_packShort_12 : decode cX1_packShort 12 = .ok (.invokestatic 251, 3) := dk_184 0 251 (dk_at dksX1_packShort_0 12 rfl rfl)
theorem dX1_packShort_15 : decode cX1_packShort 15 = .ok (.iload_n 3, 1) := dk_29 (dk_at dksX1_packShort_0 15 rfl rfl)
theorem dX1_packShort_16 : decode cX1_packShort 16 = .ok (.invokestatic 257, 3) := dk_184 1 1 (dk_at dksX1_packShort_0 16 rfl rfl)
theorem dX1_packShort_19 : decode cX1_packShort 19 = .ok (.invokevirtual 266, 3) := dk_182 1 10 (dk_at dksX1_packShort_0 19 rfl rfl)
theorem dX1_packShort_22 : decode cX1_packShort 22 = .ok (.bipush 24, 2) := dk_16 24 (dk_at dksX1_packShort_0 22 rfl rfl)
theorem dX1_packShort_24 : decode cX1_packShort 24 = .ok (.idiv, 1) := dk_108 (dk_at dksX1_packShort_1 0 rfl rfl)
theorem dX1_packShort_25 : decode cX1_packShort 25 = .ok (.istore 4, 2) := dk_54 4 (dk_at dksX1_packShort_1 1 rfl rfl)
theorem dX1_packShort_27 : decode cX1_packShort 27 = .ok (.aload_n 0, 1) := dk_42 (dk_at dksX1_packShort_1 3 rfl rfl)
theorem dX1_packShort_28 : decode cX1_packShort 28 = .ok (.getfield 54, 3) := dk_180 0 54 (dk_at dksX1_packShort_1 4 rfl rfl)
theorem dX1_packShort_31 : decode cX1_packShort 31 = .ok (.invokevirtual 270, 3) := dk_182 1 14 (dk_at dksX1_packShort_1 7 rfl rfl)
theorem dX1_packShort_34 : decode cX1_packShort 34 = .ok (.ifCond .eq 19, 3) := dk_153 0 19 (dk_at dksX1_packShort_1 10 rfl rfl)
theorem dX1_packShort_37 : decode cX1_packShort 37 = .ok (.iload 4, 2) := dk_21 4 (dk_at dksX1_packShort_1 13 rfl rfl)
theorem dX1_packShort_39 : decode cX1_packShort 39 = .ok (.ifCond .le 14, 3) := dk_158 0 14 (dk_at dksX1_packShort_1 15 rfl rfl)
theorem dX1_packShort_42 : decode cX1_packShort 42 = .ok (.iload 4, 2) := dk_21 4 (dk_at dksX1_packShort_1 18 rfl rfl)
theorem dX1_packShort_44 : decode cX1_packShort 44 = .ok (.bipush 20, 2) := dk_16 20 (dk_at dksX1_packShort_1 20 rfl rfl)
theorem dX1_packShort_46 : decode cX1_packShort 46 = .ok (.if_icmp .ge 7, 3) := dk_162 0 7 (dk_at dksX1_packShort_2 0 rfl rfl)
theorem dX1_packShort_49 : decode cX1_packShort 49 = .ok (.iconst 1, 1) := dk_4 (dk_at dksX1_packShort_2 3 rfl rfl)
theorem dX1_packShort_50 : decode cX1_packShort 50 = .ok (.goto 4, 3) := dk_167 0 4 (dk_at dksX1_packShort_2 4 rfl rfl)
theorem dX1_packShort_53 : decode cX1_packShort 53 = .ok (.iconst 0, 1) := dk_3 (dk_at dksX1_packShort_2 7 rfl rfl)
theorem dX1_packShort_54 : decode cX1_packShort 54 = .ok (.invokestatic 146, 3) := dk_184 0 146 (dk_at dksX1_packShort_2 8 rfl rfl)
theorem dX1_packShort_57 : decode cX1_packShort 57 = .ok (.aload_n 0, 1) := dk_42 (dk_at dksX1_packShort_2 11 rfl rfl)
theorem dX1_packShort_58 : decode cX1_packShort 58 = .ok (.invokevirtual 150, 3) := dk_182 0 150 (dk_at dksX1_packShort_2 12 rfl rfl)
theorem dX1_packShort_61 : decode cX1_packShort 61 = .ok (.aload_n 0, 1) := dk_42 (dk_at dksX1_packShort_2 15 rfl rfl)
theorem dX1_packShort_62 : decode cX1_packShort 62 = .ok (.getfield 54, 3) := dk_180 0 54 (dk_at dksX1_packShort_2 16 rfl rfl)
theorem dX1_packShort_65 : decode cX1_packShort 65 = .ok (.iload_n 1, 1) := dk_27 (dk_at dksX1_packShort_2 19 rfl rfl)
theorem dX1_packShort_66 : decode cX1_packShort 66 = .ok (.iload_n 2, 1) := dk_28 (dk_at dksX1_packShort_2 20 rfl rfl)
theorem dX1_packShort_67 : decode cX1_packShort 67 = .ok (.invokestatic 251, 3) := dk_184 0 251 (dk_at dksX1_packShort_2 21 rfl rfl)
theorem dX1_packShort_70 : decode cX1_packShort 70 = .ok (.iload_n 3, 1) := dk_29 (dk_at dksX1_packShort_3 0 rfl rfl)
theorem dX1_packShort_71 : decode cX1_packShort 71 = .ok (.invokestatic 257, 3) := dk_184 1 1 (dk_at dksX1_packShort_3 1 rfl rfl)
theorem dX1_packShort_74 : decode cX1_packShort 74 = .ok (.iload 4, 2) := dk_21 4 (dk_at dksX1_packShort_3 4 rfl rfl)
theorem dX1_packShort_76 : decode cX1_packShort 76 = .ok (.invokevirtual 262, 3) := dk_182 1 6 (dk_at dksX1_packShort_3 6 rfl rfl)
theorem dX1_packShort_79 : decode cX1_packShort 79 = .ok (.iload 4, 2) := dk_21 4 (dk_at dksX1_packShort_3 9 rfl rfl)
theorem dX1_packShort_81 : decode cX1_packShort 81 = .ok (.ireturn, 1) := dk_172 (dk_at dksX1_packShort_3 11 rfl rfl)
abbrev cX1_send : ByteArray := prog_1_method_33_code
def yX1_send : MethodName := ⟨RX1, "send", "(II)I"⟩
def dkwX1_send_4 : List UInt8 := [182, 1, 24, 172]
abbrev dktX1_send_4 : List UInt8 := dkwX1_send_4 ++ []
def dkwX1_send_3 : List UInt8 := [45, 182, 1, 30, 96, 181, 1, 27, 42, 180, 0, 54, 180, 0, 137, 28, 185, 0, 183, 2, 0, 87, 45]
abbrev dktX1_send_3 : List UInt8 := dkwX1_send_3 ++ dktX1_send_4
def dkwX1_send_2 : List UInt8 := [42, 180, 0, 54, 89, 180, 0, 164, 45, 182, 1, 24, 96, 181, 0, 164, 42, 180, 0, 54, 89, 180, 1, 27]
abbrev dktX1_send_2 : List UInt8 := dkwX1_send_2 ++ dktX1_send_3
def dkwX1_send_1 : List UInt8 := [184, 0, 146, 42, 182, 0, 150, 42, 27, 182, 0, 157, 89, 180, 0, 161, 45, 182, 1, 21, 96, 181, 0, 161]
abbrev dktX1_send_1 : List UInt8 := dkwX1_send_1 ++ dktX1_send_2
def dkwX1_send_0 : List UInt8 := [27, 7, 184, 0, 100, 42, 28, 182, 1, 17, 78, 42, 180, 0, 54, 27, 45, 182, 1, 21, 182, 0, 167]
abbrev dktX1_send_0 : List UInt8 := dkwX1_send_0 ++ dktX1_send_1
theorem dksX1_send_0 : cX1_send.data.toList.drop 0 = dktX1_send_0 := by decide +kernel
theorem dksX1_send_1 : cX1_send.data.toList.drop 23 = dktX1_send_1 := dk_seg dksX1_send_0 23 rfl rfl
theorem dksX1_send_2 : cX1_send.data.toList.drop 47 = dktX1_send_2 := dk_seg dksX1_send_1 24 rfl rfl
theorem dksX1_send_3 : cX1_send.data.toList.drop 71 = dktX1_send_3 := dk_seg dksX1_send_2 24 rfl rfl
theorem dksX1_send_4 : cX1_send.data.toList.drop 94 = dktX1_send_4 := dk_seg dksX1_send_3 23 rfl rfl
theorem dX1_send_0 : decode cX1_send 0 = .ok (.iload_n 1, 1) := dk_27 (dk_at dksX1_send_0 0 rfl rfl)
theorem dX1_send_1 : decode cX1_send 1 = .ok (.iconst 4, 1) := dk_7 (dk_at dksX1_send_0 1 rfl rfl)
theorem dX1_send_2 : decode cX1_send 2 = .ok (.invokestatic 100, 3) := dk_184 0 100 (dk_at dksX1_send_0 2 rfl rfl)
theorem dX1_send_5 : decode cX1_send 5 = .ok (.aload_n 0, 1) := dk_42 (dk_at dksX1_send_0 5 rfl rfl)
theorem dX1_send_6 : decode cX1_send 6 = .ok (.iload_n 2, 1) := dk_28 (dk_at dksX1_send_0 6 rfl rfl)
theorem dX1_send_7 : decode cX1_send 7 = .ok (.invokevirtual 273, 3) := dk_182 1 17 (dk_at dksX1_send_0 7 rfl rfl)
theorem dX1_send_10 : decode cX1_send 10 = .ok (.astore_n 3, 1) := dk_78 (dk_at dksX1_send_0 10 rfl rfl)
theorem dX1_send_11 : decode cX1_send 11 = .ok (.aload_n 0, 1) := dk_42 (dk_at dksX1_send_0 11 rfl rfl)
theorem dX1_send_12 : decode cX1_send 12 = .ok (.getfield 54, 3) := dk_180 0 54 (dk_at dksX1_send_0 12 rfl rfl)
theorem dX1_send_15 : decode cX1_send 15 = .ok (.iload_n 1, 1) := dk_27 (dk_at dksX1_send_0 15 rfl rfl)
theorem dX1_send_16 : decode cX1_send 16 = .ok (.aload_n 3, 1) := dk_45 (dk_at dksX1_send_0 16 rfl rfl)
theorem dX1_send_17 : decode cX1_send 17 = .ok (.invokevirtual 277, 3) := dk_182 1 21 (dk_at dksX1_send_0 17 rfl rfl)
theorem dX1_send_20 : decode cX1_send 20 = .ok (.invokevirtual 167, 3) := dk_182 0 167 (dk_at dksX1_send_0 20 rfl rfl)
theorem dX1_send_23 : decode cX1_send 23 = .ok (.invokestatic 146, 3) := dk_184 0 146 (dk_at dksX1_send_1 0 rfl rfl)
theorem dX1_send_26 : decode cX1_send 26 = .ok (.aload_n 0, 1) := dk_42 (dk_at dksX1_send_1 3 rfl rfl)
theorem dX1_send_27 : decode cX1_send 27 = .ok (.invokevirtual 150, 3) := dk_182 0 150 (dk_at dksX1_send_1 4 rfl rfl)
theorem dX1_send_30 : decode cX1_send 30 = .ok (.aload_n 0, 1) := dk_42 (dk_at dksX1_send_1 7 rfl rfl)
theorem dX1_send_31 : decode cX1_send 31 = .ok (.iload_n 1, 1) := dk_27 (dk_at dksX1_send_1 8 rfl rfl)
theorem dX1_send_32 : decode cX1_send 32 = .ok (.invokevirtual 157, 3) := dk_182 0 157 (dk_at dksX1_send_1 9 rfl rfl)
theorem dX1_send_35 : decode cX1_send 35 = .ok (.dup, 1) := dk_89 (dk_at dksX1_send_1 12 rfl rfl)
theorem dX1_send_36 : decode cX1_send 36 = .ok (.getfield 161, 3) := dk_180 0 161 (dk_at dksX1_send_1 13 rfl rfl)
theorem dX1_send_39 : decode cX1_send 39 = .ok (.aload_n 3, 1) := dk_45 (dk_at dksX1_send_1 16 rfl rfl)
theorem dX1_send_40 : decode cX1_send 40 = .ok (.invokevirtual 277, 3) := dk_182 1 21 (dk_at dksX1_send_1 17 rfl rfl)
theorem dX1_send_43 : decode cX1_send 43 = .ok (.iadd, 1) := dk_96 (dk_at dksX1_send_1 20 rfl rfl)
theorem dX1_send_44 : decode cX1_send 44 = .ok (.putfield 161, 3) := dk_181 0 161 (dk_at dksX1_send_1 21 rfl rfl)
theorem dX1_send_47 : decode cX1_send 47 = .ok (.aload_n 0, 1) := dk_42 (dk_at dksX1_send_2 0 rfl rfl)
theorem dX1_send_48 : decode cX1_send 48 = .ok (.getfield 54, 3) := dk_180 0 54 (dk_at dksX1_send_2 1 rfl rfl)
theorem dX1_send_51 : decode cX1_send 51 = .ok (.dup, 1) := dk_89 (dk_at dksX1_send_2 4 rfl rfl)
theorem dX1_send_52 : decode cX1_send 52 = .ok (.getfield 164, 3) := dk_180 0 164 (dk_at dksX1_send_2 5 rfl rfl)
theorem dX1_send_55 : decode cX1_send 55 = .ok (.aload_n 3, 1) := dk_45 (dk_at dksX1_send_2 8 rfl rfl)
theorem dX1_send_56 : decode cX1_send 56 = .ok (.invokevirtual 280, 3) := dk_182 1 24 (dk_at dksX1_send_2 9 rfl rfl)
theorem dX1_send_59 : decode cX1_send 59 = .ok (.iadd, 1) := dk_96 (dk_at dksX1_send_2 12 rfl rfl)
theorem dX1_send_60 : decode cX1_send 60 = .ok (.putfield 164, 3) := dk_181 0 164 (dk_at dksX1_send_2 13 rfl rfl)
theorem dX1_send_63 : decode cX1_send 63 = .ok (.aload_n 0, 1) := dk_42 (dk_at dksX1_send_2 16 rfl rfl)
theorem dX1_send_64 : decode cX1_send 64 = .ok (.getfield 54, 3) := dk_180 0 54 (dk_at dksX1_send_2 17 rfl rfl)
theorem dX1_send_67 : decode cX1_send 67 = .ok (.dup, 1) := dk_89 (dk_at dksX1_send_2 20 rfl rfl)
theorem dX1_send_68 : decode cX1_send 68 = .ok (.getfield 283, 3) := dk_180 1 27 (dk_at dksX1_send_2 21 rfl rfl)
theorem dX1_send_71 : decode cX1_send 71 = .ok (.aload_n 3, 1) := dk_45 (dk_at dksX1_send_3 0 rfl rfl)
theorem dX1_send_72 : decode cX1_send 72 = .ok (.invokevirtual 286, 3) := dk_182 1 30 (dk_at dksX1_send_3 1 rfl rfl)
theorem dX1_send_75 : decode cX1_send 75 = .ok (.iadd, 1) := dk_96 (dk_at dksX1_send_3 4 rfl rfl)
theorem dX1_send_76 : decode cX1_send 76 = .ok (.putfield 283, 3) := dk_181 1 27 (dk_at dksX1_send_3 5 rfl rfl)
theorem dX1_send_79 : decode cX1_send 79 = .ok (.aload_n 0, 1) := dk_42 (dk_at dksX1_send_3 8 rfl rfl)
theorem dX1_send_80 : decode cX1_send 80 = .ok (.getfield 54, 3) := dk_180 0 54 (dk_at dksX1_send_3 9 rfl rfl)
theorem dX1_send_83 : decode cX1_send 83 = .ok (.getfield 137, 3) := dk_180 0 137 (dk_at dksX1_send_3 12 rfl rfl)
theorem dX1_send_86 : decode cX1_send 86 = .ok (.iload_n 2, 1) := dk_28 (dk_at dksX1_send_3 15 rfl rfl)
theorem dX1_send_87 : decode cX1_send 87 = .ok (.invokeinterface 183 2, 5) := by decide +kernel
theorem dX1_send_92 : decode cX1_send 92 = .ok (.pop, 1) := dk_87 (dk_at dksX1_send_3 21 rfl rfl)
theorem dX1_send_93 : decode cX1_send 93 = .ok (.aload_n 3, 1) := dk_45 (dk_at dksX1_send_3 22 rfl rfl)
theorem dX1_send_94 : decode cX1_send 94 = .ok (.invokevirtual 280, 3) := dk_182 1 24 (dk_at dksX1_send_4 0 rfl rfl)
theorem dX1_send_97 : decode cX1_send 97 = .ok (.ireturn, 1) := dk_172 (dk_at dksX1_send_4 3 rfl rfl)
abbrev cX1_ream : ByteArray := prog_1_method_17_code
def yX1_ream : MethodName := ⟨RX1, "ream", "(I)LPaperMill$Ream;"⟩
def dkwX1_ream_1 : List UInt8 := [185, 0, 108, 2, 0, 192, 0, 140, 176]
abbrev dktX1_ream_1 : List UInt8 := dkwX1_ream_1 ++ []
def dkwX1_ream_0 : List UInt8 := [27, 42, 180, 0, 54, 180, 0, 137, 185, 0, 119, 1, 0, 184, 0, 100, 42, 180, 0, 54, 180, 0, 137, 27]
abbrev dktX1_ream_0 : List UInt8 := dkwX1_ream_0 ++ dktX1_ream_1
theorem dksX1_ream_0 : cX1_ream.data.toList.drop 0 = dktX1_ream_0 := by decide +kernel
theorem dksX1_ream_1 : cX1_ream.data.toList.drop 24 = dktX1_ream_1 := dk_seg dksX1_ream_0 24 rfl rfl
theorem dX1_ream_0 : decode cX1_ream 0 = .ok (.iload_n 1, 1) := dk_27 (dk_at dksX1_ream_0 0 rfl rfl)
theorem dX1_ream_1 : decode cX1_ream 1 = .ok (.aload_n 0, 1) := dk_42 (dk_at dksX1_ream_0 1 rfl rfl)
theorem dX1_ream_2 : decode cX1_ream 2 = .ok (.getfield 54, 3) := dk_180 0 54 (dk_at dksX1_ream_0 2 rfl rfl)
theorem dX1_ream_5 : decode cX1_ream 5 = .ok (.getfield 137, 3) := dk_180 0 137 (dk_at dksX1_ream_0 5 rfl rfl)
theorem dX1_ream_8 : decode cX1_ream 8 = .ok (.invokeinterface 119 1, 5) := by decide +kernel
theorem dX1_ream_13 : decode cX1_ream 13 = .ok (.invokestatic 100, 3) := dk_184 0 100 (dk_at dksX1_ream_0 13 rfl rfl)
theorem dX1_ream_16 : decode cX1_ream 16 = .ok (.aload_n 0, 1) := dk_42 (dk_at dksX1_ream_0 16 rfl rfl)
theorem dX1_ream_17 : decode cX1_ream 17 = .ok (.getfield 54, 3) := dk_180 0 54 (dk_at dksX1_ream_0 17 rfl rfl)
theorem dX1_ream_20 : decode cX1_ream 20 = .ok (.getfield 137, 3) := dk_180 0 137 (dk_at dksX1_ream_0 20 rfl rfl)
theorem dX1_ream_23 : decode cX1_ream 23 = .ok (.iload_n 1, 1) := dk_27 (dk_at dksX1_ream_0 23 rfl rfl)
theorem dX1_ream_24 : decode cX1_ream 24 = .ok (.invokeinterface 108 2, 5) := by decide +kernel
theorem dX1_ream_29 : decode cX1_ream 29 = .ok (.checkcast 140, 3) := dk_192 0 140 (dk_at dksX1_ream_1 5 rfl rfl)
theorem dX1_ream_32 : decode cX1_ream 32 = .ok (.areturn, 1) := dk_176 (dk_at dksX1_ream_1 8 rfl rfl)
abbrev cX1_pass : ByteArray := prog_1_method_34_code
def yX1_pass : MethodName := ⟨RX1, "pass", "(I)I"⟩
def dkwX1_pass_2 : List UInt8 := [100, 172]
abbrev dktX1_pass_2 : List UInt8 := dkwX1_pass_2 ++ []
def dkwX1_pass_1 : List UInt8 := [180, 0, 54, 180, 1, 36, 61, 42, 180, 0, 54, 27, 182, 1, 39, 87, 42, 180, 0, 54, 180, 1, 36, 28]
abbrev dktX1_pass_1 : List UInt8 := dkwX1_pass_1 ++ dktX1_pass_2
def dkwX1_pass_0 : List UInt8 := [27, 4, 16, 20, 184, 0, 96, 42, 180, 0, 54, 27, 182, 1, 32, 184, 0, 146, 42, 182, 0, 150, 42]
abbrev dktX1_pass_0 : List UInt8 := dkwX1_pass_0 ++ dktX1_pass_1
theorem dksX1_pass_0 : cX1_pass.data.toList.drop 0 = dktX1_pass_0 := by decide +kernel
theorem dksX1_pass_1 : cX1_pass.data.toList.drop 23 = dktX1_pass_1 := dk_seg dksX1_pass_0 23 rfl rfl
theorem dksX1_pass_2 : cX1_pass.data.toList.drop 47 = dktX1_pass_2 := dk_seg dksX1_pass_1 24 rfl rfl
theorem dX1_pass_0 : decode cX1_pass 0 = .ok (.iload_n 1, 1) := dk_27 (dk_at dksX1_pass_0 0 rfl rfl)
theorem dX1_pass_1 : decode cX1_pass 1 = .ok (.iconst 1, 1) := dk_4 (dk_at dksX1_pass_0 1 rfl rfl)
theorem dX1_pass_2 : decode cX1_pass 2 = .ok (.bipush 20, 2) := dk_16 20 (dk_at dksX1_pass_0 2 rfl rfl)
theorem dX1_pass_4 : decode cX1_pass 4 = .ok (.invokestatic 96, 3) := dk_184 0 96 (dk_at dksX1_pass_0 4 rfl rfl)
theorem dX1_pass_7 : decode cX1_pass 7 = .ok (.aload_n 0, 1) := dk_42 (dk_at dksX1_pass_0 7 rfl rfl)
theorem dX1_pass_8 : decode cX1_pass 8 = .ok (.getfield 54, 3) := dk_180 0 54 (dk_at dksX1_pass_0 8 rfl rfl)
theorem dX1_pass_11 : decode cX1_pass 11 = .ok (.iload_n 1, 1) := dk_27 (dk_at dksX1_pass_0 11 rfl rfl)
theorem dX1_pass_12 : decode cX1_pass 12 = .ok (.invokevirtual 288, 3) := dk_182 1 32 (dk_at dksX1_pass_0 12 rfl rfl)
theorem dX1_pass_15 : decode cX1_pass 15 = .ok (.invokestatic 146, 3) := dk_184 0 146 (dk_at dksX1_pass_0 15 rfl rfl)
theorem dX1_pass_18 : decode cX1_pass 18 = .ok (.aload_n 0, 1) := dk_42 (dk_at dksX1_pass_0 18 rfl rfl)
theorem dX1_pass_19 : decode cX1_pass 19 = .ok (.invokevirtual 150, 3) := dk_182 0 150 (dk_at dksX1_pass_0 19 rfl rfl)
theorem dX1_pass_22 : decode cX1_pass 22 = .ok (.aload_n 0, 1) := dk_42 (dk_at dksX1_pass_0 22 rfl rfl)
theorem dX1_pass_23 : decode cX1_pass 23 = .ok (.getfield 54, 3) := dk_180 0 54 (dk_at dksX1_pass_1 0 rfl rfl)
theorem dX1_pass_26 : decode cX1_pass 26 = .ok (.getfield 292, 3) := dk_180 1 36 (dk_at dksX1_pass_1 3 rfl rfl)
theorem dX1_pass_29 : decode cX1_pass 29 = .ok (.istore_n 2, 1) := dk_61 (dk_at dksX1_pass_1 6 rfl rfl)
theorem dX1_pass_30 : decode cX1_pass 30 = .ok (.aload_n 0, 1) := dk_42 (dk_at dksX1_pass_1 7 rfl rfl)
theorem dX1_pass_31 : decode cX1_pass 31 = .ok (.getfield 54, 3) := dk_180 0 54 (dk_at dksX1_pass_1 8 rfl rfl)
theorem dX1_pass_34 : decode cX1_pass 34 = .ok (.iload_n 1, 1) := dk_27 (dk_at dksX1_pass_1 11 rfl rfl)
theorem dX1_pass_35 : decode cX1_pass 35 = .ok (.invokevirtual 295, 3) := dk_182 1 39 (dk_at dksX1_pass_1 12 rfl rfl)
theorem dX1_pass_38 : decode cX1_pass 38 = .ok (.pop, 1) := dk_87 (dk_at dksX1_pass_1 15 rfl rfl)
theorem dX1_pass_39 : decode cX1_pass 39 = .ok (.aload_n 0, 1) := dk_42 (dk_at dksX1_pass_1 16 rfl rfl)
theorem dX1_pass_40 : decode cX1_pass 40 = .ok (.getfield 54, 3) := dk_180 0 54 (dk_at dksX1_pass_1 17 rfl rfl)
theorem dX1_pass_43 : decode cX1_pass 43 = .ok (.getfield 292, 3) := dk_180 1 36 (dk_at dksX1_pass_1 20 rfl rfl)
theorem dX1_pass_46 : decode cX1_pass 46 = .ok (.iload_n 2, 1) := dk_28 (dk_at dksX1_pass_1 23 rfl rfl)
theorem dX1_pass_47 : decode cX1_pass 47 = .ok (.isub, 1) := dk_100 (dk_at dksX1_pass_2 0 rfl rfl)
theorem dX1_pass_48 : decode cX1_pass 48 = .ok (.ireturn, 1) := dk_172 (dk_at dksX1_pass_2 1 rfl rfl)
abbrev cX1_debtOf : ByteArray := prog_1_method_35_code
def yX1_debtOf : MethodName := ⟨RX1, "debtOf", "(I)I"⟩
def dkwX1_debtOf_0 : List UInt8 := [42, 27, 182, 0, 157, 180, 0, 161, 172]
abbrev dktX1_debtOf_0 : List UInt8 := dkwX1_debtOf_0 ++ []
theorem dksX1_debtOf_0 : cX1_debtOf.data.toList.drop 0 = dktX1_debtOf_0 := by decide +kernel
theorem dX1_debtOf_0 : decode cX1_debtOf 0 = .ok (.aload_n 0, 1) := dk_42 (dk_at dksX1_debtOf_0 0 rfl rfl)
theorem dX1_debtOf_1 : decode cX1_debtOf 1 = .ok (.iload_n 1, 1) := dk_27 (dk_at dksX1_debtOf_0 1 rfl rfl)
theorem dX1_debtOf_2 : decode cX1_debtOf 2 = .ok (.invokevirtual 157, 3) := dk_182 0 157 (dk_at dksX1_debtOf_0 2 rfl rfl)
theorem dX1_debtOf_5 : decode cX1_debtOf 5 = .ok (.getfield 161, 3) := dk_180 0 161 (dk_at dksX1_debtOf_0 5 rfl rfl)
theorem dX1_debtOf_8 : decode cX1_debtOf 8 = .ok (.ireturn, 1) := dk_172 (dk_at dksX1_debtOf_0 8 rfl rfl)
abbrev cX1_passLeft : ByteArray := prog_1_method_36_code
def yX1_passLeft : MethodName := ⟨RX1, "passLeft", "(I)I"⟩
def dkwX1_passLeft_0 : List UInt8 := [27, 7, 184, 0, 100, 42, 180, 0, 54, 27, 182, 1, 42, 172]
abbrev dktX1_passLeft_0 : List UInt8 := dkwX1_passLeft_0 ++ []
theorem dksX1_passLeft_0 : cX1_passLeft.data.toList.drop 0 = dktX1_passLeft_0 := by decide +kernel
theorem dX1_passLeft_0 : decode cX1_passLeft 0 = .ok (.iload_n 1, 1) := dk_27 (dk_at dksX1_passLeft_0 0 rfl rfl)
theorem dX1_passLeft_1 : decode cX1_passLeft 1 = .ok (.iconst 4, 1) := dk_7 (dk_at dksX1_passLeft_0 1 rfl rfl)
theorem dX1_passLeft_2 : decode cX1_passLeft 2 = .ok (.invokestatic 100, 3) := dk_184 0 100 (dk_at dksX1_passLeft_0 2 rfl rfl)
theorem dX1_passLeft_5 : decode cX1_passLeft 5 = .ok (.aload_n 0, 1) := dk_42 (dk_at dksX1_passLeft_0 5 rfl rfl)
theorem dX1_passLeft_6 : decode cX1_passLeft 6 = .ok (.getfield 54, 3) := dk_180 0 54 (dk_at dksX1_passLeft_0 6 rfl rfl)
theorem dX1_passLeft_9 : decode cX1_passLeft 9 = .ok (.iload_n 1, 1) := dk_27 (dk_at dksX1_passLeft_0 9 rfl rfl)
theorem dX1_passLeft_10 : decode cX1_passLeft 10 = .ok (.invokevirtual 298, 3) := dk_182 1 42 (dk_at dksX1_passLeft_0 10 rfl rfl)
theorem dX1_passLeft_13 : decode cX1_passLeft 13 = .ok (.ireturn, 1) := dk_172 (dk_at dksX1_passLeft_0 13 rfl rfl)
abbrev cX1_tollFor : ByteArray := prog_1_method_37_code
def yX1_tollFor : MethodName := ⟨RX1, "tollFor", "(II)I"⟩
def dkwX1_tollFor_0 : List UInt8 := [27, 7, 184, 0, 100, 28, 16, 10, 17, 1, 44, 184, 0, 96, 42, 180, 0, 54, 27, 28, 182, 1, 46, 172]
abbrev dktX1_tollFor_0 : List UInt8 := dkwX1_tollFor_0 ++ []
theorem dksX1_tollFor_0 : cX1_tollFor.data.toList.drop 0 = dktX1_tollFor_0 := by decide +kernel
theorem dX1_tollFor_0 : decode cX1_tollFor 0 = .ok (.iload_n 1, 1) := dk_27 (dk_at dksX1_tollFor_0 0 rfl rfl)
theorem dX1_tollFor_1 : decode cX1_tollFor 1 = .ok (.iconst 4, 1) := dk_7 (dk_at dksX1_tollFor_0 1 rfl rfl)
theorem dX1_tollFor_2 : decode cX1_tollFor 2 = .ok (.invokestatic 100, 3) := dk_184 0 100 (dk_at dksX1_tollFor_0 2 rfl rfl)
theorem dX1_tollFor_5 : decode cX1_tollFor 5 = .ok (.iload_n 2, 1) := dk_28 (dk_at dksX1_tollFor_0 5 rfl rfl)
theorem dX1_tollFor_6 : decode cX1_tollFor 6 = .ok (.bipush 10, 2) := dk_16 10 (dk_at dksX1_tollFor_0 6 rfl rfl)
theorem dX1_tollFor_8 : decode cX1_tollFor 8 = .ok (.sipush 300, 3) := dk_17 1 44 (dk_at dksX1_tollFor_0 8 rfl rfl)
theorem dX1_tollFor_11 : decode cX1_tollFor 11 = .ok (.invokestatic 96, 3) := dk_184 0 96 (dk_at dksX1_tollFor_0 11 rfl rfl)
theorem dX1_tollFor_14 : decode cX1_tollFor 14 = .ok (.aload_n 0, 1) := dk_42 (dk_at dksX1_tollFor_0 14 rfl rfl)
theorem dX1_tollFor_15 : decode cX1_tollFor 15 = .ok (.getfield 54, 3) := dk_180 0 54 (dk_at dksX1_tollFor_0 15 rfl rfl)
theorem dX1_tollFor_18 : decode cX1_tollFor 18 = .ok (.iload_n 1, 1) := dk_27 (dk_at dksX1_tollFor_0 18 rfl rfl)
theorem dX1_tollFor_19 : decode cX1_tollFor 19 = .ok (.iload_n 2, 1) := dk_28 (dk_at dksX1_tollFor_0 19 rfl rfl)
theorem dX1_tollFor_20 : decode cX1_tollFor 20 = .ok (.invokevirtual 302, 3) := dk_182 1 46 (dk_at dksX1_tollFor_0 20 rfl rfl)
theorem dX1_tollFor_23 : decode cX1_tollFor 23 = .ok (.ireturn, 1) := dk_172 (dk_at dksX1_tollFor_0 23 rfl rfl)
abbrev cX1_whyNotIn : ByteArray := prog_1_method_38_code
def yX1_whyNotIn : MethodName := ⟨RX1, "whyNotIn", "(III)I"⟩
def dkwX1_whyNotIn_1 : List UInt8 := [180, 0, 54, 27, 28, 29, 182, 0, 142, 172]
abbrev dktX1_whyNotIn_1 : List UInt8 := dkwX1_whyNotIn_1 ++ []
def dkwX1_whyNotIn_0 : List UInt8 := [27, 7, 184, 0, 100, 28, 16, 10, 17, 1, 44, 184, 0, 96, 29, 3, 16, 99, 184, 0, 96, 42]
abbrev dktX1_whyNotIn_0 : List UInt8 := dkwX1_whyNotIn_0 ++ dktX1_whyNotIn_1
theorem dksX1_whyNotIn_0 : cX1_whyNotIn.data.toList.drop 0 = dktX1_whyNotIn_0 := by decide +kernel
theorem dksX1_whyNotIn_1 : cX1_whyNotIn.data.toList.drop 22 = dktX1_whyNotIn_1 := dk_seg dksX1_whyNotIn_0 22 rfl rfl
theorem dX1_whyNotIn_0 : decode cX1_whyNotIn 0 = .ok (.iload_n 1, 1) := dk_27 (dk_at dksX1_whyNotIn_0 0 rfl rfl)
theorem dX1_whyNotIn_1 : decode cX1_whyNotIn 1 = .ok (.iconst 4, 1) := dk_7 (dk_at dksX1_whyNotIn_0 1 rfl rfl)
theorem dX1_whyNotIn_2 : decode cX1_whyNotIn 2 = .ok (.invokestatic 100, 3) := dk_184 0 100 (dk_at dksX1_whyNotIn_0 2 rfl rfl)
theorem dX1_whyNotIn_5 : decode cX1_whyNotIn 5 = .ok (.iload_n 2, 1) := dk_28 (dk_at dksX1_whyNotIn_0 5 rfl rfl)
theorem dX1_whyNotIn_6 : decode cX1_whyNotIn 6 = .ok (.bipush 10, 2) := dk_16 10 (dk_at dksX1_whyNotIn_0 6 rfl rfl)
theorem dX1_whyNotIn_8 : decode cX1_whyNotIn 8 = .ok (.sipush 300, 3) := dk_17 1 44 (dk_at dksX1_whyNotIn_0 8 rfl rfl)
theorem dX1_whyNotIn_11 : decode cX1_whyNotIn 11 = .ok (.invokestatic 96, 3) := dk_184 0 96 (dk_at dksX1_whyNotIn_0 11 rfl rfl)
theorem dX1_whyNotIn_14 : decode cX1_whyNotIn 14 = .ok (.iload_n 3, 1) := dk_29 (dk_at dksX1_whyNotIn_0 14 rfl rfl)
theorem dX1_whyNotIn_15 : decode cX1_whyNotIn 15 = .ok (.iconst 0, 1) := dk_3 (dk_at dksX1_whyNotIn_0 15 rfl rfl)
theorem dX1_whyNotIn_16 : decode cX1_whyNotIn 16 = .ok (.bipush 99, 2) := dk_16 99 (dk_at dksX1_whyNotIn_0 16 rfl rfl)
theorem dX1_whyNotIn_18 : decode cX1_whyNotIn 18 = .ok (.invokestatic 96, 3) := dk_184 0 96 (dk_at dksX1_whyNotIn_0 18 rfl rfl)
theorem dX1_whyNotIn_21 : decode cX1_whyNotIn 21 = .ok (.aload_n 0, 1) := dk_42 (dk_at dksX1_whyNotIn_0 21 rfl rfl)
theorem dX1_whyNotIn_22 : decode cX1_whyNotIn 22 = .ok (.getfield 54, 3) := dk_180 0 54 (dk_at dksX1_whyNotIn_1 0 rfl rfl)
theorem dX1_whyNotIn_25 : decode cX1_whyNotIn 25 = .ok (.iload_n 1, 1) := dk_27 (dk_at dksX1_whyNotIn_1 3 rfl rfl)
theorem dX1_whyNotIn_26 : decode cX1_whyNotIn 26 = .ok (.iload_n 2, 1) := dk_28 (dk_at dksX1_whyNotIn_1 4 rfl rfl)
theorem dX1_whyNotIn_27 : decode cX1_whyNotIn 27 = .ok (.iload_n 3, 1) := dk_29 (dk_at dksX1_whyNotIn_1 5 rfl rfl)
theorem dX1_whyNotIn_28 : decode cX1_whyNotIn 28 = .ok (.invokevirtual 142, 3) := dk_182 0 142 (dk_at dksX1_whyNotIn_1 6 rfl rfl)
theorem dX1_whyNotIn_31 : decode cX1_whyNotIn 31 = .ok (.ireturn, 1) := dk_172 (dk_at dksX1_whyNotIn_1 9 rfl rfl)
abbrev cX1_sortOf : ByteArray := prog_1_method_40_code
def yX1_sortOf : MethodName := ⟨RX1, "sortOf", "(I)I"⟩
def dkwX1_sortOf_0 : List UInt8 := [42, 27, 182, 1, 48, 180, 1, 52, 172]
abbrev dktX1_sortOf_0 : List UInt8 := dkwX1_sortOf_0 ++ []
theorem dksX1_sortOf_0 : cX1_sortOf.data.toList.drop 0 = dktX1_sortOf_0 := by decide +kernel
theorem dX1_sortOf_0 : decode cX1_sortOf 0 = .ok (.aload_n 0, 1) := dk_42 (dk_at dksX1_sortOf_0 0 rfl rfl)
theorem dX1_sortOf_1 : decode cX1_sortOf 1 = .ok (.iload_n 1, 1) := dk_27 (dk_at dksX1_sortOf_0 1 rfl rfl)
theorem dX1_sortOf_2 : decode cX1_sortOf 2 = .ok (.invokevirtual 304, 3) := dk_182 1 48 (dk_at dksX1_sortOf_0 2 rfl rfl)
theorem dX1_sortOf_5 : decode cX1_sortOf 5 = .ok (.getfield 308, 3) := dk_180 1 52 (dk_at dksX1_sortOf_0 5 rfl rfl)
theorem dX1_sortOf_8 : decode cX1_sortOf 8 = .ok (.ireturn, 1) := dk_172 (dk_at dksX1_sortOf_0 8 rfl rfl)
abbrev cX1_bale : ByteArray := prog_1_method_13_code
def yX1_bale : MethodName := ⟨RX1, "bale", "(I)LPaperMill$Bale;"⟩
def dkwX1_bale_1 : List UInt8 := [185, 0, 108, 2, 0, 192, 0, 120, 176]
abbrev dktX1_bale_1 : List UInt8 := dkwX1_bale_1 ++ []
def dkwX1_bale_0 : List UInt8 := [27, 42, 180, 0, 54, 180, 0, 116, 185, 0, 119, 1, 0, 184, 0, 100, 42, 180, 0, 54, 180, 0, 116, 27]
abbrev dktX1_bale_0 : List UInt8 := dkwX1_bale_0 ++ dktX1_bale_1
theorem dksX1_bale_0 : cX1_bale.data.toList.drop 0 = dktX1_bale_0 := by decide +kernel
theorem dksX1_bale_1 : cX1_bale.data.toList.drop 24 = dktX1_bale_1 := dk_seg dksX1_bale_0 24 rfl rfl
theorem dX1_bale_0 : decode cX1_bale 0 = .ok (.iload_n 1, 1) := dk_27 (dk_at dksX1_bale_0 0 rfl rfl)
theorem dX1_bale_1 : decode cX1_bale 1 = .ok (.aload_n 0, 1) := dk_42 (dk_at dksX1_bale_0 1 rfl rfl)
theorem dX1_bale_2 : decode cX1_bale 2 = .ok (.getfield 54, 3) := dk_180 0 54 (dk_at dksX1_bale_0 2 rfl rfl)
theorem dX1_bale_5 : decode cX1_bale 5 = .ok (.getfield 116, 3) := dk_180 0 116 (dk_at dksX1_bale_0 5 rfl rfl)
theorem dX1_bale_8 : decode cX1_bale 8 = .ok (.invokeinterface 119 1, 5) := by decide +kernel
theorem dX1_bale_13 : decode cX1_bale 13 = .ok (.invokestatic 100, 3) := dk_184 0 100 (dk_at dksX1_bale_0 13 rfl rfl)
theorem dX1_bale_16 : decode cX1_bale 16 = .ok (.aload_n 0, 1) := dk_42 (dk_at dksX1_bale_0 16 rfl rfl)
theorem dX1_bale_17 : decode cX1_bale 17 = .ok (.getfield 54, 3) := dk_180 0 54 (dk_at dksX1_bale_0 17 rfl rfl)
theorem dX1_bale_20 : decode cX1_bale 20 = .ok (.getfield 116, 3) := dk_180 0 116 (dk_at dksX1_bale_0 20 rfl rfl)
theorem dX1_bale_23 : decode cX1_bale 23 = .ok (.iload_n 1, 1) := dk_27 (dk_at dksX1_bale_0 23 rfl rfl)
theorem dX1_bale_24 : decode cX1_bale 24 = .ok (.invokeinterface 108 2, 5) := by decide +kernel
theorem dX1_bale_29 : decode cX1_bale 29 = .ok (.checkcast 120, 3) := dk_192 0 120 (dk_at dksX1_bale_1 5 rfl rfl)
theorem dX1_bale_32 : decode cX1_bale 32 = .ok (.areturn, 1) := dk_176 (dk_at dksX1_bale_1 8 rfl rfl)
abbrev cX1_ragsOf : ByteArray := prog_1_method_41_code
def yX1_ragsOf : MethodName := ⟨RX1, "ragsOf", "(I)I"⟩
def dkwX1_ragsOf_0 : List UInt8 := [42, 27, 182, 1, 48, 180, 0, 190, 172]
abbrev dktX1_ragsOf_0 : List UInt8 := dkwX1_ragsOf_0 ++ []
theorem dksX1_ragsOf_0 : cX1_ragsOf.data.toList.drop 0 = dktX1_ragsOf_0 := by decide +kernel
theorem dX1_ragsOf_0 : decode cX1_ragsOf 0 = .ok (.aload_n 0, 1) := dk_42 (dk_at dksX1_ragsOf_0 0 rfl rfl)
theorem dX1_ragsOf_1 : decode cX1_ragsOf 1 = .ok (.iload_n 1, 1) := dk_27 (dk_at dksX1_ragsOf_0 1 rfl rfl)
theorem dX1_ragsOf_2 : decode cX1_ragsOf 2 = .ok (.invokevirtual 304, 3) := dk_182 1 48 (dk_at dksX1_ragsOf_0 2 rfl rfl)
theorem dX1_ragsOf_5 : decode cX1_ragsOf 5 = .ok (.getfield 190, 3) := dk_180 0 190 (dk_at dksX1_ragsOf_0 5 rfl rfl)
theorem dX1_ragsOf_8 : decode cX1_ragsOf 8 = .ok (.ireturn, 1) := dk_172 (dk_at dksX1_ragsOf_0 8 rfl rfl)
abbrev cX1_dampOf : ByteArray := prog_1_method_42_code
def yX1_dampOf : MethodName := ⟨RX1, "dampOf", "(I)I"⟩
def dkwX1_dampOf_0 : List UInt8 := [42, 27, 182, 1, 48, 180, 1, 53, 172]
abbrev dktX1_dampOf_0 : List UInt8 := dkwX1_dampOf_0 ++ []
theorem dksX1_dampOf_0 : cX1_dampOf.data.toList.drop 0 = dktX1_dampOf_0 := by decide +kernel
theorem dX1_dampOf_0 : decode cX1_dampOf 0 = .ok (.aload_n 0, 1) := dk_42 (dk_at dksX1_dampOf_0 0 rfl rfl)
theorem dX1_dampOf_1 : decode cX1_dampOf 1 = .ok (.iload_n 1, 1) := dk_27 (dk_at dksX1_dampOf_0 1 rfl rfl)
theorem dX1_dampOf_2 : decode cX1_dampOf 2 = .ok (.invokevirtual 304, 3) := dk_182 1 48 (dk_at dksX1_dampOf_0 2 rfl rfl)
theorem dX1_dampOf_5 : decode cX1_dampOf 5 = .ok (.getfield 309, 3) := dk_180 1 53 (dk_at dksX1_dampOf_0 5 rfl rfl)
theorem dX1_dampOf_8 : decode cX1_dampOf 8 = .ok (.ireturn, 1) := dk_172 (dk_at dksX1_dampOf_0 8 rfl rfl)
abbrev cX1_wetDaysOf : ByteArray := prog_1_method_43_code
def yX1_wetDaysOf : MethodName := ⟨RX1, "wetDaysOf", "(I)I"⟩
def dkwX1_wetDaysOf_0 : List UInt8 := [42, 27, 182, 1, 48, 77, 44, 180, 1, 56, 153, 0, 7, 2, 167, 0, 7, 44, 180, 1, 60, 172]
abbrev dktX1_wetDaysOf_0 : List UInt8 := dkwX1_wetDaysOf_0 ++ []
theorem dksX1_wetDaysOf_0 : cX1_wetDaysOf.data.toList.drop 0 = dktX1_wetDaysOf_0 := by decide +kernel
theorem dX1_wetDaysOf_0 : decode cX1_wetDaysOf 0 = .ok (.aload_n 0, 1) := dk_42 (dk_at dksX1_wetDaysOf_0 0 rfl rfl)
theorem dX1_wetDaysOf_1 : decode cX1_wetDaysOf 1 = .ok (.iload_n 1, 1) := dk_27 (dk_at dksX1_wetDaysOf_0 1 rfl rfl)
theorem dX1_wetDaysOf_2 : decode cX1_wetDaysOf 2 = .ok (.invokevirtual 304, 3) := dk_182 1 48 (dk_at dksX1_wetDaysOf_0 2 rfl rfl)
theorem dX1_wetDaysOf_5 : decode cX1_wetDaysOf 5 = .ok (.astore_n 2, 1) := dk_77 (dk_at dksX1_wetDaysOf_0 5 rfl rfl)
theorem dX1_wetDaysOf_6 : decode cX1_wetDaysOf 6 = .ok (.aload_n 2, 1) := dk_44 (dk_at dksX1_wetDaysOf_0 6 rfl rfl)
theorem dX1_wetDaysOf_7 : decode cX1_wetDaysOf 7 = .ok (.getfield 312, 3) := dk_180 1 56 (dk_at dksX1_wetDaysOf_0 7 rfl rfl)
theorem dX1_wetDaysOf_10 : decode cX1_wetDaysOf 10 = .ok (.ifCond .eq 7, 3) := dk_153 0 7 (dk_at dksX1_wetDaysOf_0 10 rfl rfl)
theorem dX1_wetDaysOf_13 : decode cX1_wetDaysOf 13 = .ok (.iconst (-1), 1) := dk_2 (dk_at dksX1_wetDaysOf_0 13 rfl rfl)
theorem dX1_wetDaysOf_14 : decode cX1_wetDaysOf 14 = .ok (.goto 7, 3) := dk_167 0 7 (dk_at dksX1_wetDaysOf_0 14 rfl rfl)
theorem dX1_wetDaysOf_17 : decode cX1_wetDaysOf 17 = .ok (.aload_n 2, 1) := dk_44 (dk_at dksX1_wetDaysOf_0 17 rfl rfl)
theorem dX1_wetDaysOf_18 : decode cX1_wetDaysOf 18 = .ok (.getfield 316, 3) := dk_180 1 60 (dk_at dksX1_wetDaysOf_0 18 rfl rfl)
theorem dX1_wetDaysOf_21 : decode cX1_wetDaysOf 21 = .ok (.ireturn, 1) := dk_172 (dk_at dksX1_wetDaysOf_0 21 rfl rfl)
abbrev cX1_goodRags : ByteArray := prog_1_method_44_code
def yX1_goodRags : MethodName := ⟨RX1, "goodRags", "(I)I"⟩
def dkwX1_goodRags_0 : List UInt8 := [27, 3, 6, 184, 0, 96, 42, 180, 0, 54, 27, 182, 1, 63, 172]
abbrev dktX1_goodRags_0 : List UInt8 := dkwX1_goodRags_0 ++ []
theorem dksX1_goodRags_0 : cX1_goodRags.data.toList.drop 0 = dktX1_goodRags_0 := by decide +kernel
theorem dX1_goodRags_0 : decode cX1_goodRags 0 = .ok (.iload_n 1, 1) := dk_27 (dk_at dksX1_goodRags_0 0 rfl rfl)
theorem dX1_goodRags_1 : decode cX1_goodRags 1 = .ok (.iconst 0, 1) := dk_3 (dk_at dksX1_goodRags_0 1 rfl rfl)
theorem dX1_goodRags_2 : decode cX1_goodRags 2 = .ok (.iconst 3, 1) := dk_6 (dk_at dksX1_goodRags_0 2 rfl rfl)
theorem dX1_goodRags_3 : decode cX1_goodRags 3 = .ok (.invokestatic 96, 3) := dk_184 0 96 (dk_at dksX1_goodRags_0 3 rfl rfl)
theorem dX1_goodRags_6 : decode cX1_goodRags 6 = .ok (.aload_n 0, 1) := dk_42 (dk_at dksX1_goodRags_0 6 rfl rfl)
theorem dX1_goodRags_7 : decode cX1_goodRags 7 = .ok (.getfield 54, 3) := dk_180 0 54 (dk_at dksX1_goodRags_0 7 rfl rfl)
theorem dX1_goodRags_10 : decode cX1_goodRags 10 = .ok (.iload_n 1, 1) := dk_27 (dk_at dksX1_goodRags_0 10 rfl rfl)
theorem dX1_goodRags_11 : decode cX1_goodRags 11 = .ok (.invokevirtual 319, 3) := dk_182 1 63 (dk_at dksX1_goodRags_0 11 rfl rfl)
theorem dX1_goodRags_14 : decode cX1_goodRags 14 = .ok (.ireturn, 1) := dk_172 (dk_at dksX1_goodRags_0 14 rfl rfl)
abbrev cX1_mouldReach : ByteArray := prog_1_method_45_code
def yX1_mouldReach : MethodName := ⟨RX1, "mouldReach", "(I)I"⟩
def dkwX1_mouldReach_1 : List UInt8 := [172]
abbrev dktX1_mouldReach_1 : List UInt8 := dkwX1_mouldReach_1 ++ []
def dkwX1_mouldReach_0 : List UInt8 := [27, 42, 180, 0, 54, 180, 0, 116, 185, 0, 119, 1, 0, 184, 0, 100, 42, 180, 0, 54, 27, 182, 1, 66]
abbrev dktX1_mouldReach_0 : List UInt8 := dkwX1_mouldReach_0 ++ dktX1_mouldReach_1
theorem dksX1_mouldReach_0 : cX1_mouldReach.data.toList.drop 0 = dktX1_mouldReach_0 := by decide +kernel
theorem dksX1_mouldReach_1 : cX1_mouldReach.data.toList.drop 24 = dktX1_mouldReach_1 := dk_seg dksX1_mouldReach_0 24 rfl rfl
theorem dX1_mouldReach_0 : decode cX1_mouldReach 0 = .ok (.iload_n 1, 1) := dk_27 (dk_at dksX1_mouldReach_0 0 rfl rfl)
theorem dX1_mouldReach_1 : decode cX1_mouldReach 1 = .ok (.aload_n 0, 1) := dk_42 (dk_at dksX1_mouldReach_0 1 rfl rfl)
theorem dX1_mouldReach_2 : decode cX1_mouldReach 2 = .ok (.getfield 54, 3) := dk_180 0 54 (dk_at dksX1_mouldReach_0 2 rfl rfl)
theorem dX1_mouldReach_5 : decode cX1_mouldReach 5 = .ok (.getfield 116, 3) := dk_180 0 116 (dk_at dksX1_mouldReach_0 5 rfl rfl)
theorem dX1_mouldReach_8 : decode cX1_mouldReach 8 = .ok (.invokeinterface 119 1, 5) := by decide +kernel
theorem dX1_mouldReach_13 : decode cX1_mouldReach 13 = .ok (.invokestatic 100, 3) := dk_184 0 100 (dk_at dksX1_mouldReach_0 13 rfl rfl)
theorem dX1_mouldReach_16 : decode cX1_mouldReach 16 = .ok (.aload_n 0, 1) := dk_42 (dk_at dksX1_mouldReach_0 16 rfl rfl)
theorem dX1_mouldReach_17 : decode cX1_mouldReach 17 = .ok (.getfield 54, 3) := dk_180 0 54 (dk_at dksX1_mouldReach_0 17 rfl rfl)
theorem dX1_mouldReach_20 : decode cX1_mouldReach 20 = .ok (.iload_n 1, 1) := dk_27 (dk_at dksX1_mouldReach_0 20 rfl rfl)
theorem dX1_mouldReach_21 : decode cX1_mouldReach 21 = .ok (.invokevirtual 322, 3) := dk_182 1 66 (dk_at dksX1_mouldReach_0 21 rfl rfl)
theorem dX1_mouldReach_24 : decode cX1_mouldReach 24 = .ok (.ireturn, 1) := dk_172 (dk_at dksX1_mouldReach_1 0 rfl rfl)
abbrev cX1_partsOf : ByteArray := prog_1_method_46_code
def yX1_partsOf : MethodName := ⟨RX1, "partsOf", "(I)I"⟩
def dkwX1_partsOf_0 : List UInt8 := [27, 3, 6, 184, 0, 96, 42, 180, 0, 54, 180, 1, 69, 27, 184, 0, 18, 172]
abbrev dktX1_partsOf_0 : List UInt8 := dkwX1_partsOf_0 ++ []
theorem dksX1_partsOf_0 : cX1_partsOf.data.toList.drop 0 = dktX1_partsOf_0 := by decide +kernel
theorem dX1_partsOf_0 : decode cX1_partsOf 0 = .ok (.iload_n 1, 1) := dk_27 (dk_at dksX1_partsOf_0 0 rfl rfl)
theorem dX1_partsOf_1 : decode cX1_partsOf 1 = .ok (.iconst 0, 1) := dk_3 (dk_at dksX1_partsOf_0 1 rfl rfl)
theorem dX1_partsOf_2 : decode cX1_partsOf 2 = .ok (.iconst 3, 1) := dk_6 (dk_at dksX1_partsOf_0 2 rfl rfl)
theorem dX1_partsOf_3 : decode cX1_partsOf 3 = .ok (.invokestatic 96, 3) := dk_184 0 96 (dk_at dksX1_partsOf_0 3 rfl rfl)
theorem dX1_partsOf_6 : decode cX1_partsOf 6 = .ok (.aload_n 0, 1) := dk_42 (dk_at dksX1_partsOf_0 6 rfl rfl)
theorem dX1_partsOf_7 : decode cX1_partsOf 7 = .ok (.getfield 54, 3) := dk_180 0 54 (dk_at dksX1_partsOf_0 7 rfl rfl)
theorem dX1_partsOf_10 : decode cX1_partsOf 10 = .ok (.getfield 325, 3) := dk_180 1 69 (dk_at dksX1_partsOf_0 10 rfl rfl)
theorem dX1_partsOf_13 : decode cX1_partsOf 13 = .ok (.iload_n 1, 1) := dk_27 (dk_at dksX1_partsOf_0 13 rfl rfl)
theorem dX1_partsOf_14 : decode cX1_partsOf 14 = .ok (.invokestatic 18, 3) := dk_184 0 18 (dk_at dksX1_partsOf_0 14 rfl rfl)
theorem dX1_partsOf_17 : decode cX1_partsOf 17 = .ok (.ireturn, 1) := dk_172 (dk_at dksX1_partsOf_0 17 rfl rfl)
abbrev cX1_shareOf : ByteArray := prog_1_method_48_code
def yX1_shareOf : MethodName := ⟨RX1, "shareOf", "(II)I"⟩
def dkwX1_shareOf_1 : List UInt8 := [184, 1, 72, 28, 46, 172]
abbrev dktX1_shareOf_1 : List UInt8 := dkwX1_shareOf_1 ++ []
def dkwX1_shareOf_0 : List UInt8 := [27, 4, 17, 0, 200, 184, 0, 96, 28, 3, 6, 184, 0, 96, 42, 180, 0, 54, 180, 1, 69, 27]
abbrev dktX1_shareOf_0 : List UInt8 := dkwX1_shareOf_0 ++ dktX1_shareOf_1
theorem dksX1_shareOf_0 : cX1_shareOf.data.toList.drop 0 = dktX1_shareOf_0 := by decide +kernel
theorem dksX1_shareOf_1 : cX1_shareOf.data.toList.drop 22 = dktX1_shareOf_1 := dk_seg dksX1_shareOf_0 22 rfl rfl
theorem dX1_shareOf_0 : decode cX1_shareOf 0 = .ok (.iload_n 1, 1) := dk_27 (dk_at dksX1_shareOf_0 0 rfl rfl)
theorem dX1_shareOf_1 : decode cX1_shareOf 1 = .ok (.iconst 1, 1) := dk_4 (dk_at dksX1_shareOf_0 1 rfl rfl)
theorem dX1_shareOf_2 : decode cX1_shareOf 2 = .ok (.sipush 200, 3) := dk_17 0 200 (dk_at dksX1_shareOf_0 2 rfl rfl)
theorem dX1_shareOf_5 : decode cX1_shareOf 5 = .ok (.invokestatic 96, 3) := dk_184 0 96 (dk_at dksX1_shareOf_0 5 rfl rfl)
theorem dX1_shareOf_8 : decode cX1_shareOf 8 = .ok (.iload_n 2, 1) := dk_28 (dk_at dksX1_shareOf_0 8 rfl rfl)
theorem dX1_shareOf_9 : decode cX1_shareOf 9 = .ok (.iconst 0, 1) := dk_3 (dk_at dksX1_shareOf_0 9 rfl rfl)
theorem dX1_shareOf_10 : decode cX1_shareOf 10 = .ok (.iconst 3, 1) := dk_6 (dk_at dksX1_shareOf_0 10 rfl rfl)
theorem dX1_shareOf_11 : decode cX1_shareOf 11 = .ok (.invokestatic 96, 3) := dk_184 0 96 (dk_at dksX1_shareOf_0 11 rfl rfl)
theorem dX1_shareOf_14 : decode cX1_shareOf 14 = .ok (.aload_n 0, 1) := dk_42 (dk_at dksX1_shareOf_0 14 rfl rfl)
theorem dX1_shareOf_15 : decode cX1_shareOf 15 = .ok (.getfield 54, 3) := dk_180 0 54 (dk_at dksX1_shareOf_0 15 rfl rfl)
theorem dX1_shareOf_18 : decode cX1_shareOf 18 = .ok (.getfield 325, 3) := dk_180 1 69 (dk_at dksX1_shareOf_0 18 rfl rfl)
theorem dX1_shareOf_21 : decode cX1_shareOf 21 = .ok (.iload_n 1, 1) := dk_27 (dk_at dksX1_shareOf_0 21 rfl rfl)
theorem dX1_shareOf_22 : decode cX1_shareOf 22 = .ok (.invokestatic 328, 3) := dk_184 1 72 (dk_at dksX1_shareOf_1 0 rfl rfl)
theorem dX1_shareOf_25 : decode cX1_shareOf 25 = .ok (.iload_n 2, 1) := dk_28 (dk_at dksX1_shareOf_1 3 rfl rfl)
theorem dX1_shareOf_26 : decode cX1_shareOf 26 = .ok (.iaload, 1) := dk_46 (dk_at dksX1_shareOf_1 4 rfl rfl)
theorem dX1_shareOf_27 : decode cX1_shareOf 27 = .ok (.ireturn, 1) := dk_172 (dk_at dksX1_shareOf_1 5 rfl rfl)
abbrev cX1_unitsIn : ByteArray := prog_1_method_49_code
def yX1_unitsIn : MethodName := ⟨RX1, "unitsIn", "(I)I"⟩
def dkwX1_unitsIn_0 : List UInt8 := [42, 27, 182, 0, 203, 180, 0, 207, 172]
abbrev dktX1_unitsIn_0 : List UInt8 := dkwX1_unitsIn_0 ++ []
theorem dksX1_unitsIn_0 : cX1_unitsIn.data.toList.drop 0 = dktX1_unitsIn_0 := by decide +kernel
theorem dX1_unitsIn_0 : decode cX1_unitsIn 0 = .ok (.aload_n 0, 1) := dk_42 (dk_at dksX1_unitsIn_0 0 rfl rfl)
theorem dX1_unitsIn_1 : decode cX1_unitsIn 1 = .ok (.iload_n 1, 1) := dk_27 (dk_at dksX1_unitsIn_0 1 rfl rfl)
theorem dX1_unitsIn_2 : decode cX1_unitsIn 2 = .ok (.invokevirtual 203, 3) := dk_182 0 203 (dk_at dksX1_unitsIn_0 2 rfl rfl)
theorem dX1_unitsIn_5 : decode cX1_unitsIn 5 = .ok (.getfield 207, 3) := dk_180 0 207 (dk_at dksX1_unitsIn_0 5 rfl rfl)
theorem dX1_unitsIn_8 : decode cX1_unitsIn 8 = .ok (.ireturn, 1) := dk_172 (dk_at dksX1_unitsIn_0 8 rfl rfl)
abbrev cX1_hoursOf : ByteArray := prog_1_method_50_code
def yX1_hoursOf : MethodName := ⟨RX1, "hoursOf", "(I)I"⟩
def dkwX1_hoursOf_0 : List UInt8 := [42, 27, 182, 0, 203, 180, 0, 216, 172]
abbrev dktX1_hoursOf_0 : List UInt8 := dkwX1_hoursOf_0 ++ []
theorem dksX1_hoursOf_0 : cX1_hoursOf.data.toList.drop 0 = dktX1_hoursOf_0 := by decide +kernel
theorem dX1_hoursOf_0 : decode cX1_hoursOf 0 = .ok (.aload_n 0, 1) := dk_42 (dk_at dksX1_hoursOf_0 0 rfl rfl)
theorem dX1_hoursOf_1 : decode cX1_hoursOf 1 = .ok (.iload_n 1, 1) := dk_27 (dk_at dksX1_hoursOf_0 1 rfl rfl)
theorem dX1_hoursOf_2 : decode cX1_hoursOf 2 = .ok (.invokevirtual 203, 3) := dk_182 0 203 (dk_at dksX1_hoursOf_0 2 rfl rfl)
theorem dX1_hoursOf_5 : decode cX1_hoursOf 5 = .ok (.getfield 216, 3) := dk_180 0 216 (dk_at dksX1_hoursOf_0 5 rfl rfl)
theorem dX1_hoursOf_8 : decode cX1_hoursOf 8 = .ok (.ireturn, 1) := dk_172 (dk_at dksX1_hoursOf_0 8 rfl rfl)
abbrev cX1_strengthOf : ByteArray := prog_1_method_51_code
def yX1_strengthOf : MethodName := ⟨RX1, "strengthOf", "(I)I"⟩
def dkwX1_strengthOf_0 : List UInt8 := [42, 27, 182, 0, 203, 180, 1, 76, 172]
abbrev dktX1_strengthOf_0 : List UInt8 := dkwX1_strengthOf_0 ++ []
theorem dksX1_strengthOf_0 : cX1_strengthOf.data.toList.drop 0 = dktX1_strengthOf_0 := by decide +kernel
theorem dX1_strengthOf_0 : decode cX1_strengthOf 0 = .ok (.aload_n 0, 1) := dk_42 (dk_at dksX1_strengthOf_0 0 rfl rfl)
theorem dX1_strengthOf_1 : decode cX1_strengthOf 1 = .ok (.iload_n 1, 1) := dk_27 (dk_at dksX1_strengthOf_0 1 rfl rfl)
theorem dX1_strengthOf_2 : decode cX1_strengthOf 2 = .ok (.invokevirtual 203, 3) := dk_182 0 203 (dk_at dksX1_strengthOf_0 2 rfl rfl)
theorem dX1_strengthOf_5 : decode cX1_strengthOf 5 = .ok (.getfield 332, 3) := dk_180 1 76 (dk_at dksX1_strengthOf_0 5 rfl rfl)
theorem dX1_strengthOf_8 : decode cX1_strengthOf 8 = .ok (.ireturn, 1) := dk_172 (dk_at dksX1_strengthOf_0 8 rfl rfl)
abbrev cX1_whyNotBeaten : ByteArray := prog_1_method_52_code
def yX1_whyNotBeaten : MethodName := ⟨RX1, "whyNotBeaten", "(II)I"⟩
def dkwX1_whyNotBeaten_0 : List UInt8 := [27, 6, 184, 0, 100, 28, 4, 17, 0, 200, 184, 0, 96, 42, 180, 0, 54, 27, 28, 182, 0, 196, 172]
abbrev dktX1_whyNotBeaten_0 : List UInt8 := dkwX1_whyNotBeaten_0 ++ []
theorem dksX1_whyNotBeaten_0 : cX1_whyNotBeaten.data.toList.drop 0 = dktX1_whyNotBeaten_0 := by decide +kernel
theorem dX1_whyNotBeaten_0 : decode cX1_whyNotBeaten 0 = .ok (.iload_n 1, 1) := dk_27 (dk_at dksX1_whyNotBeaten_0 0 rfl rfl)
theorem dX1_whyNotBeaten_1 : decode cX1_whyNotBeaten 1 = .ok (.iconst 3, 1) := dk_6 (dk_at dksX1_whyNotBeaten_0 1 rfl rfl)
theorem dX1_whyNotBeaten_2 : decode cX1_whyNotBeaten 2 = .ok (.invokestatic 100, 3) := dk_184 0 100 (dk_at dksX1_whyNotBeaten_0 2 rfl rfl)
theorem dX1_whyNotBeaten_5 : decode cX1_whyNotBeaten 5 = .ok (.iload_n 2, 1) := dk_28 (dk_at dksX1_whyNotBeaten_0 5 rfl rfl)
theorem dX1_whyNotBeaten_6 : decode cX1_whyNotBeaten 6 = .ok (.iconst 1, 1) := dk_4 (dk_at dksX1_whyNotBeaten_0 6 rfl rfl)
theorem dX1_whyNotBeaten_7 : decode cX1_whyNotBeaten 7 = .ok (.sipush 200, 3) := dk_17 0 200 (dk_at dksX1_whyNotBeaten_0 7 rfl rfl)
theorem dX1_whyNotBeaten_10 : decode cX1_whyNotBeaten 10 = .ok (.invokestatic 96, 3) := dk_184 0 96 (dk_at dksX1_whyNotBeaten_0 10 rfl rfl)
theorem dX1_whyNotBeaten_13 : decode cX1_whyNotBeaten 13 = .ok (.aload_n 0, 1) := dk_42 (dk_at dksX1_whyNotBeaten_0 13 rfl rfl)
theorem dX1_whyNotBeaten_14 : decode cX1_whyNotBeaten 14 = .ok (.getfield 54, 3) := dk_180 0 54 (dk_at dksX1_whyNotBeaten_0 14 rfl rfl)
theorem dX1_whyNotBeaten_17 : decode cX1_whyNotBeaten 17 = .ok (.iload_n 1, 1) := dk_27 (dk_at dksX1_whyNotBeaten_0 17 rfl rfl)
theorem dX1_whyNotBeaten_18 : decode cX1_whyNotBeaten 18 = .ok (.iload_n 2, 1) := dk_28 (dk_at dksX1_whyNotBeaten_0 18 rfl rfl)
theorem dX1_whyNotBeaten_19 : decode cX1_whyNotBeaten 19 = .ok (.invokevirtual 196, 3) := dk_182 0 196 (dk_at dksX1_whyNotBeaten_0 19 rfl rfl)
theorem dX1_whyNotBeaten_22 : decode cX1_whyNotBeaten 22 = .ok (.ireturn, 1) := dk_172 (dk_at dksX1_whyNotBeaten_0 22 rfl rfl)
abbrev cX1_markOf : ByteArray := prog_1_method_53_code
def yX1_markOf : MethodName := ⟨RX1, "markOf", "(I)I"⟩
def dkwX1_markOf_0 : List UInt8 := [42, 27, 182, 0, 232, 180, 0, 229, 172]
abbrev dktX1_markOf_0 : List UInt8 := dkwX1_markOf_0 ++ []
theorem dksX1_markOf_0 : cX1_markOf.data.toList.drop 0 = dktX1_markOf_0 := by decide +kernel
theorem dX1_markOf_0 : decode cX1_markOf 0 = .ok (.aload_n 0, 1) := dk_42 (dk_at dksX1_markOf_0 0 rfl rfl)
theorem dX1_markOf_1 : decode cX1_markOf 1 = .ok (.iload_n 1, 1) := dk_27 (dk_at dksX1_markOf_0 1 rfl rfl)
theorem dX1_markOf_2 : decode cX1_markOf 2 = .ok (.invokevirtual 232, 3) := dk_182 0 232 (dk_at dksX1_markOf_0 2 rfl rfl)
theorem dX1_markOf_5 : decode cX1_markOf 5 = .ok (.getfield 229, 3) := dk_180 0 229 (dk_at dksX1_markOf_0 5 rfl rfl)
theorem dX1_markOf_8 : decode cX1_markOf 8 = .ok (.ireturn, 1) := dk_172 (dk_at dksX1_markOf_0 8 rfl rfl)
abbrev cX1_wearOf : ByteArray := prog_1_method_54_code
def yX1_wearOf : MethodName := ⟨RX1, "wearOf", "(I)I"⟩
def dkwX1_wearOf_0 : List UInt8 := [42, 27, 182, 0, 232, 180, 0, 236, 172]
abbrev dktX1_wearOf_0 : List UInt8 := dkwX1_wearOf_0 ++ []
theorem dksX1_wearOf_0 : cX1_wearOf.data.toList.drop 0 = dktX1_wearOf_0 := by decide +kernel
theorem dX1_wearOf_0 : decode cX1_wearOf 0 = .ok (.aload_n 0, 1) := dk_42 (dk_at dksX1_wearOf_0 0 rfl rfl)
theorem dX1_wearOf_1 : decode cX1_wearOf 1 = .ok (.iload_n 1, 1) := dk_27 (dk_at dksX1_wearOf_0 1 rfl rfl)
theorem dX1_wearOf_2 : decode cX1_wearOf 2 = .ok (.invokevirtual 232, 3) := dk_182 0 232 (dk_at dksX1_wearOf_0 2 rfl rfl)
theorem dX1_wearOf_5 : decode cX1_wearOf 5 = .ok (.getfield 236, 3) := dk_180 0 236 (dk_at dksX1_wearOf_0 5 rfl rfl)
theorem dX1_wearOf_8 : decode cX1_wearOf 8 = .ok (.ireturn, 1) := dk_172 (dk_at dksX1_wearOf_0 8 rfl rfl)
abbrev cX1_pointsOf : ByteArray := prog_1_method_55_code
def yX1_pointsOf : MethodName := ⟨RX1, "pointsOf", "(II)I"⟩
def dkwX1_pointsOf_1 : List UInt8 := [167, 0, 4, 3, 184, 0, 146, 42, 180, 0, 54, 27, 28, 182, 1, 79, 172]
abbrev dktX1_pointsOf_1 : List UInt8 := dkwX1_pointsOf_1 ++ []
def dkwX1_pointsOf_0 : List UInt8 := [27, 6, 184, 0, 100, 28, 8, 184, 0, 100, 42, 27, 182, 0, 203, 182, 0, 219, 154, 0, 7, 4]
abbrev dktX1_pointsOf_0 : List UInt8 := dkwX1_pointsOf_0 ++ dktX1_pointsOf_1
theorem dksX1_pointsOf_0 : cX1_pointsOf.data.toList.drop 0 = dktX1_pointsOf_0 := by decide +kernel
theorem dksX1_pointsOf_1 : cX1_pointsOf.data.toList.drop 22 = dktX1_pointsOf_1 := dk_seg dksX1_pointsOf_0 22 rfl rfl
theorem dX1_pointsOf_0 : decode cX1_pointsOf 0 = .ok (.iload_n 1, 1) := dk_27 (dk_at dksX1_pointsOf_0 0 rfl rfl)
theorem dX1_pointsOf_1 : decode cX1_pointsOf 1 = .ok (.iconst 3, 1) := dk_6 (dk_at dksX1_pointsOf_0 1 rfl rfl)
theorem dX1_pointsOf_2 : decode cX1_pointsOf 2 = .ok (.invokestatic 100, 3) := dk_184 0 100 (dk_at dksX1_pointsOf_0 2 rfl rfl)
theorem dX1_pointsOf_5 : decode cX1_pointsOf 5 = .ok (.iload_n 2, 1) := dk_28 (dk_at dksX1_pointsOf_0 5 rfl rfl)
theorem dX1_pointsOf_6 : decode cX1_pointsOf 6 = .ok (.iconst 5, 1) := dk_8 (dk_at dksX1_pointsOf_0 6 rfl rfl)
theorem dX1_pointsOf_7 : decode cX1_pointsOf 7 = .ok (.invokestatic 100, 3) := dk_184 0 100 (dk_at dksX1_pointsOf_0 7 rfl rfl)
theorem dX1_pointsOf_10 : decode cX1_pointsOf 10 = .ok (.aload_n 0, 1) := dk_42 (dk_at dksX1_pointsOf_0 10 rfl rfl)
theorem dX1_pointsOf_11 : decode cX1_pointsOf 11 = .ok (.iload_n 1, 1) := dk_27 (dk_at dksX1_pointsOf_0 11 rfl rfl)
theorem dX1_pointsOf_12 : decode cX1_pointsOf 12 = .ok (.invokevirtual 203, 3) := dk_182 0 203 (dk_at dksX1_pointsOf_0 12 rfl rfl)
theorem dX1_pointsOf_15 : decode cX1_pointsOf 15 = .ok (.invokevirtual 219, 3) := dk_182 0 219 (dk_at dksX1_pointsOf_0 15 rfl rfl)
theorem dX1_pointsOf_18 : decode cX1_pointsOf 18 = .ok (.ifCond .ne 7, 3) := dk_154 0 7 (dk_at dksX1_pointsOf_0 18 rfl rfl)
theorem dX1_pointsOf_21 : decode cX1_pointsOf 21 = .ok (.iconst 1, 1) := dk_4 (dk_at dksX1_pointsOf_0 21 rfl rfl)
theorem dX1_pointsOf_22 : decode cX1_pointsOf 22 = .ok (.goto 4, 3) := dk_167 0 4 (dk_at dksX1_pointsOf_1 0 rfl rfl)
theorem dX1_pointsOf_25 : decode cX1_pointsOf 25 = .ok (.iconst 0, 1) := dk_3 (dk_at dksX1_pointsOf_1 3 rfl rfl)
theorem dX1_pointsOf_26 : decode cX1_pointsOf 26 = .ok (.invokestatic 146, 3) := dk_184 0 146 (dk_at dksX1_pointsOf_1 4 rfl rfl)
theorem dX1_pointsOf_29 : decode cX1_pointsOf 29 = .ok (.aload_n 0, 1) := dk_42 (dk_at dksX1_pointsOf_1 7 rfl rfl)
theorem dX1_pointsOf_30 : decode cX1_pointsOf 30 = .ok (.getfield 54, 3) := dk_180 0 54 (dk_at dksX1_pointsOf_1 8 rfl rfl)
theorem dX1_pointsOf_33 : decode cX1_pointsOf 33 = .ok (.iload_n 1, 1) := dk_27 (dk_at dksX1_pointsOf_1 11 rfl rfl)
theorem dX1_pointsOf_34 : decode cX1_pointsOf 34 = .ok (.iload_n 2, 1) := dk_28 (dk_at dksX1_pointsOf_1 12 rfl rfl)
theorem dX1_pointsOf_35 : decode cX1_pointsOf 35 = .ok (.invokevirtual 335, 3) := dk_182 1 79 (dk_at dksX1_pointsOf_1 13 rfl rfl)
theorem dX1_pointsOf_38 : decode cX1_pointsOf 38 = .ok (.ireturn, 1) := dk_172 (dk_at dksX1_pointsOf_1 16 rfl rfl)
abbrev cX1_whyNotMade : ByteArray := prog_1_method_56_code
def yX1_whyNotMade : MethodName := ⟨RX1, "whyNotMade", "(III)I"⟩
def dkwX1_whyNotMade_1 : List UInt8 := [29, 182, 0, 239, 172]
abbrev dktX1_whyNotMade_1 : List UInt8 := dkwX1_whyNotMade_1 ++ []
def dkwX1_whyNotMade_0 : List UInt8 := [27, 6, 184, 0, 100, 28, 8, 184, 0, 100, 29, 4, 17, 1, 224, 184, 0, 96, 42, 180, 0, 54, 27, 28]
abbrev dktX1_whyNotMade_0 : List UInt8 := dkwX1_whyNotMade_0 ++ dktX1_whyNotMade_1
theorem dksX1_whyNotMade_0 : cX1_whyNotMade.data.toList.drop 0 = dktX1_whyNotMade_0 := by decide +kernel
theorem dksX1_whyNotMade_1 : cX1_whyNotMade.data.toList.drop 24 = dktX1_whyNotMade_1 := dk_seg dksX1_whyNotMade_0 24 rfl rfl
theorem dX1_whyNotMade_0 : decode cX1_whyNotMade 0 = .ok (.iload_n 1, 1) := dk_27 (dk_at dksX1_whyNotMade_0 0 rfl rfl)
theorem dX1_whyNotMade_1 : decode cX1_whyNotMade 1 = .ok (.iconst 3, 1) := dk_6 (dk_at dksX1_whyNotMade_0 1 rfl rfl)
theorem dX1_whyNotMade_2 : decode cX1_whyNotMade 2 = .ok (.invokestatic 100, 3) := dk_184 0 100 (dk_at dksX1_whyNotMade_0 2 rfl rfl)
theorem dX1_whyNotMade_5 : decode cX1_whyNotMade 5 = .ok (.iload_n 2, 1) := dk_28 (dk_at dksX1_whyNotMade_0 5 rfl rfl)
theorem dX1_whyNotMade_6 : decode cX1_whyNotMade 6 = .ok (.iconst 5, 1) := dk_8 (dk_at dksX1_whyNotMade_0 6 rfl rfl)
theorem dX1_whyNotMade_7 : decode cX1_whyNotMade 7 = .ok (.invokestatic 100, 3) := dk_184 0 100 (dk_at dksX1_whyNotMade_0 7 rfl rfl)
theorem dX1_whyNotMade_10 : decode cX1_whyNotMade 10 = .ok (.iload_n 3, 1) := dk_29 (dk_at dksX1_whyNotMade_0 10 rfl rfl)
theorem dX1_whyNotMade_11 : decode cX1_whyNotMade 11 = .ok (.iconst 1, 1) := dk_4 (dk_at dksX1_whyNotMade_0 11 rfl rfl)
theorem dX1_whyNotMade_12 : decode cX1_whyNotMade 12 = .ok (.sipush 480, 3) := dk_17 1 224 (dk_at dksX1_whyNotMade_0 12 rfl rfl)
theorem dX1_whyNotMade_15 : decode cX1_whyNotMade 15 = .ok (.invokestatic 96, 3) := dk_184 0 96 (dk_at dksX1_whyNotMade_0 15 rfl rfl)
theorem dX1_whyNotMade_18 : decode cX1_whyNotMade 18 = .ok (.aload_n 0, 1) := dk_42 (dk_at dksX1_whyNotMade_0 18 rfl rfl)
theorem dX1_whyNotMade_19 : decode cX1_whyNotMade 19 = .ok (.getfield 54, 3) := dk_180 0 54 (dk_at dksX1_whyNotMade_0 19 rfl rfl)
theorem dX1_whyNotMade_22 : decode cX1_whyNotMade 22 = .ok (.iload_n 1, 1) := dk_27 (dk_at dksX1_whyNotMade_0 22 rfl rfl)
theorem dX1_whyNotMade_23 : decode cX1_whyNotMade 23 = .ok (.iload_n 2, 1) := dk_28 (dk_at dksX1_whyNotMade_0 23 rfl rfl)
theorem dX1_whyNotMade_24 : decode cX1_whyNotMade 24 = .ok (.iload_n 3, 1) := dk_29 (dk_at dksX1_whyNotMade_1 0 rfl rfl)
theorem dX1_whyNotMade_25 : decode cX1_whyNotMade 25 = .ok (.invokevirtual 239, 3) := dk_182 0 239 (dk_at dksX1_whyNotMade_1 1 rfl rfl)
theorem dX1_whyNotMade_28 : decode cX1_whyNotMade 28 = .ok (.ireturn, 1) := dk_172 (dk_at dksX1_whyNotMade_1 4 rfl rfl)
abbrev cX1_sheetsFrom : ByteArray := prog_1_method_57_code
def yX1_sheetsFrom : MethodName := ⟨RX1, "sheetsFrom", "(II)I"⟩
def dkwX1_sheetsFrom_0 : List UInt8 := [27, 6, 184, 0, 100, 28, 8, 184, 0, 100, 42, 180, 0, 54, 27, 28, 182, 1, 82, 172]
abbrev dktX1_sheetsFrom_0 : List UInt8 := dkwX1_sheetsFrom_0 ++ []
theorem dksX1_sheetsFrom_0 : cX1_sheetsFrom.data.toList.drop 0 = dktX1_sheetsFrom_0 := by decide +kernel
theorem dX1_sheetsFrom_0 : decode cX1_sheetsFrom 0 = .ok (.iload_n 1, 1) := dk_27 (dk_at dksX1_sheetsFrom_0 0 rfl rfl)
theorem dX1_sheetsFrom_1 : decode cX1_sheetsFrom 1 = .ok (.iconst 3, 1) := dk_6 (dk_at dksX1_sheetsFrom_0 1 rfl rfl)
theorem dX1_sheetsFrom_2 : decode cX1_sheetsFrom 2 = .ok (.invokestatic 100, 3) := dk_184 0 100 (dk_at dksX1_sheetsFrom_0 2 rfl rfl)
theorem dX1_sheetsFrom_5 : decode cX1_sheetsFrom 5 = .ok (.iload_n 2, 1) := dk_28 (dk_at dksX1_sheetsFrom_0 5 rfl rfl)
theorem dX1_sheetsFrom_6 : decode cX1_sheetsFrom 6 = .ok (.iconst 5, 1) := dk_8 (dk_at dksX1_sheetsFrom_0 6 rfl rfl)
theorem dX1_sheetsFrom_7 : decode cX1_sheetsFrom 7 = .ok (.invokestatic 100, 3) := dk_184 0 100 (dk_at dksX1_sheetsFrom_0 7 rfl rfl)
theorem dX1_sheetsFrom_10 : decode cX1_sheetsFrom 10 = .ok (.aload_n 0, 1) := dk_42 (dk_at dksX1_sheetsFrom_0 10 rfl rfl)
theorem dX1_sheetsFrom_11 : decode cX1_sheetsFrom 11 = .ok (.getfield 54, 3) := dk_180 0 54 (dk_at dksX1_sheetsFrom_0 11 rfl rfl)
theorem dX1_sheetsFrom_14 : decode cX1_sheetsFrom 14 = .ok (.iload_n 1, 1) := dk_27 (dk_at dksX1_sheetsFrom_0 14 rfl rfl)
theorem dX1_sheetsFrom_15 : decode cX1_sheetsFrom 15 = .ok (.iload_n 2, 1) := dk_28 (dk_at dksX1_sheetsFrom_0 15 rfl rfl)
theorem dX1_sheetsFrom_16 : decode cX1_sheetsFrom 16 = .ok (.invokevirtual 338, 3) := dk_182 1 82 (dk_at dksX1_sheetsFrom_0 16 rfl rfl)
theorem dX1_sheetsFrom_19 : decode cX1_sheetsFrom 19 = .ok (.ireturn, 1) := dk_172 (dk_at dksX1_sheetsFrom_0 19 rfl rfl)
abbrev cX1_sheetsByTrying : ByteArray := prog_1_method_58_code
def yX1_sheetsByTrying : MethodName := ⟨RX1, "sheetsByTrying", "(II)I"⟩
def dkwX1_sheetsByTrying_2 : List UInt8 := [154, 0, 9, 21, 5, 62, 167, 0, 7, 21, 5, 54, 4, 167, 255, 216, 29, 172]
abbrev dktX1_sheetsByTrying_2 : List UInt8 := dkwX1_sheetsByTrying_2 ++ []
def dkwX1_sheetsByTrying_1 : List UInt8 := [162, 0, 38, 29, 21, 4, 96, 5, 108, 54, 5, 42, 180, 0, 54, 27, 28, 21, 5, 182, 0, 239]
abbrev dktX1_sheetsByTrying_1 : List UInt8 := dkwX1_sheetsByTrying_1 ++ dktX1_sheetsByTrying_2
def dkwX1_sheetsByTrying_0 : List UInt8 := [27, 6, 184, 0, 100, 28, 8, 184, 0, 100, 3, 62, 17, 1, 225, 54, 4, 29, 4, 96, 21, 4]
abbrev dktX1_sheetsByTrying_0 : List UInt8 := dkwX1_sheetsByTrying_0 ++ dktX1_sheetsByTrying_1
theorem dksX1_sheetsByTrying_0 : cX1_sheetsByTrying.data.toList.drop 0 = dktX1_sheetsByTrying_0 := by decide +kernel
theorem dksX1_sheetsByTrying_1 : cX1_sheetsByTrying.data.toList.drop 22 = dktX1_sheetsByTrying_1 := dk_seg dksX1_sheetsByTrying_0 22 rfl rfl
theorem dksX1_sheetsByTrying_2 : cX1_sheetsByTrying.data.toList.drop 44 = dktX1_sheetsByTrying_2 := dk_seg dksX1_sheetsByTrying_1 22 rfl rfl
theorem dX1_sheetsByTrying_0 : decode cX1_sheetsByTrying 0 = .ok (.iload_n 1, 1) := dk_27 (dk_at dksX1_sheetsByTrying_0 0 rfl rfl)
theorem dX1_sheetsByTrying_1 : decode cX1_sheetsByTrying 1 = .ok (.iconst 3, 1) := dk_6 (dk_at dksX1_sheetsByTrying_0 1 rfl rfl)
theorem dX1_sheetsByTrying_2 : decode cX1_sheetsByTrying 2 = .ok (.invokestatic 100, 3) := dk_184 0 100 (dk_at dksX1_sheetsByTrying_0 2 rfl rfl)
theorem dX1_sheetsByTrying_5 : decode cX1_sheetsByTrying 5 = .ok (.iload_n 2, 1) := dk_28 (dk_at dksX1_sheetsByTrying_0 5 rfl rfl)
theorem dX1_sheetsByTrying_6 : decode cX1_sheetsByTrying 6 = .ok (.iconst 5, 1) := dk_8 (dk_at dksX1_sheetsByTrying_0 6 rfl rfl)
theorem dX1_sheetsByTrying_7 : decode cX1_sheetsByTrying 7 = .ok (.invokestatic 100, 3) := dk_184 0 100 (dk_at dksX1_sheetsByTrying_0 7 rfl rfl)
theorem dX1_sheetsByTrying_10 : decode cX1_sheetsByTrying 10 = .ok (.iconst 0, 1) := dk_3 (dk_at dksX1_sheetsByTrying_0 10 rfl rfl)
theorem dX1_sheetsByTrying_11 : decode cX1_sheetsByTrying 11 = .ok (.istore_n 3, 1) := dk_62 (dk_at dksX1_sheetsByTrying_0 11 rfl rfl)
theorem dX1_sheetsByTrying_12 : decode cX1_sheetsByTrying 12 = .ok (.sipush 481, 3) := dk_17 1 225 (dk_at dksX1_sheetsByTrying_0 12 rfl rfl)
theorem dX1_sheetsByTrying_15 : decode cX1_sheetsByTrying 15 = .ok (.istore 4, 2) := dk_54 4 (dk_at dksX1_sheetsByTrying_0 15 rfl rfl)
theorem dX1_sheetsByTrying_17 : decode cX1_sheetsByTrying 17 = .ok (.iload_n 3, 1) := dk_29 (dk_at dksX1_sheetsByTrying_0 17 rfl rfl)
theorem dX1_sheetsByTrying_18 : decode cX1_sheetsByTrying 18 = .ok (.iconst 1, 1) := dk_4 (dk_at dksX1_sheetsByTrying_0 18 rfl rfl)
theorem dX1_sheetsByTrying_19 : decode cX1_sheetsByTrying 19 = .ok (.iadd, 1) := dk_96 (dk_at dksX1_sheetsByTrying_0 19 rfl rfl)
theorem dX1_sheetsByTrying_20 : decode cX1_sheetsByTrying 20 = .ok (.iload 4, 2) := dk_21 4 (dk_at dksX1_sheetsByTrying_0 20 rfl rfl)
theorem dX1_sheetsByTrying_22 : decode cX1_sheetsByTrying 22 = .ok (.if_icmp .ge 38, 3) := dk_162 0 38 (dk_at dksX1_sheetsByTrying_1 0 rfl rfl)
theorem dX1_sheetsByTrying_25 : decode cX1_sheetsByTrying 25 = .ok (.iload_n 3, 1) := dk_29 (dk_at dksX1_sheetsByTrying_1 3 rfl rfl)
theorem dX1_sheetsByTrying_26 : decode cX1_sheetsByTrying 26 = .ok (.iload 4, 2) := dk_21 4 (dk_at dksX1_sheetsByTrying_1 4 rfl rfl)
theorem dX1_sheetsByTrying_28 : decode cX1_sheetsByTrying 28 = .ok (.iadd, 1) := dk_96 (dk_at dksX1_sheetsByTrying_1 6 rfl rfl)
theorem dX1_sheetsByTrying_29 : decode cX1_sheetsByTrying 29 = .ok (.iconst 2, 1) := dk_5 (dk_at dksX1_sheetsByTrying_1 7 rfl rfl)
theorem dX1_sheetsByTrying_30 : decode cX1_sheetsByTrying 30 = .ok (.idiv, 1) := dk_108 (dk_at dksX1_sheetsByTrying_1 8 rfl rfl)
theorem dX1_sheetsByTrying_31 : decode cX1_sheetsByTrying 31 = .ok (.istore 5, 2) := dk_54 5 (dk_at dksX1_sheetsByTrying_1 9 rfl rfl)
theorem dX1_sheetsByTrying_33 : decode cX1_sheetsByTrying 33 = .ok (.aload_n 0, 1) := dk_42 (dk_at dksX1_sheetsByTrying_1 11 rfl rfl)
theorem dX1_sheetsByTrying_34 : decode cX1_sheetsByTrying 34 = .ok (.getfield 54, 3) := dk_180 0 54 (dk_at dksX1_sheetsByTrying_1 12 rfl rfl)
theorem dX1_sheetsByTrying_37 : decode cX1_sheetsByTrying 37 = .ok (.iload_n 1, 1) := dk_27 (dk_at dksX1_sheetsByTrying_1 15 rfl rfl)
theorem dX1_sheetsByTrying_38 : decode cX1_sheetsByTrying 38 = .ok (.iload_n 2, 1) := dk_28 (dk_at dksX1_sheetsByTrying_1 16 rfl rfl)
theorem dX1_sheetsByTrying_39 : decode cX1_sheetsByTrying 39 = .ok (.iload 5, 2) := dk_21 5 (dk_at dksX1_sheetsByTrying_1 17 rfl rfl)
theorem dX1_sheetsByTrying_41 : decode cX1_sheetsByTrying 41 = .ok (.invokevirtual 239, 3) := dk_182 0 239 (dk_at dksX1_sheetsByTrying_1 19 rfl rfl)
theorem dX1_sheetsByTrying_44 : decode cX1_sheetsByTrying 44 = .ok (.ifCond .ne 9, 3) := dk_154 0 9 (dk_at dksX1_sheetsByTrying_2 0 rfl rfl)
theorem dX1_sheetsByTrying_47 : decode cX1_sheetsByTrying 47 = .ok (.iload 5, 2) := dk_21 5 (dk_at dksX1_sheetsByTrying_2 3 rfl rfl)
theorem dX1_sheetsByTrying_49 : decode cX1_sheetsByTrying 49 = .ok (.istore_n 3, 1) := dk_62 (dk_at dksX1_sheetsByTrying_2 5 rfl rfl)
theorem dX1_sheetsByTrying_50 : decode cX1_sheetsByTrying 50 = .ok (.goto 7, 3) := dk_167 0 7 (dk_at dksX1_sheetsByTrying_2 6 rfl rfl)
theorem dX1_sheetsByTrying_53 : decode cX1_sheetsByTrying 53 = .ok (.iload 5, 2) := dk_21 5 (dk_at dksX1_sheetsByTrying_2 9 rfl rfl)
theorem dX1_sheetsByTrying_55 : decode cX1_sheetsByTrying 55 = .ok (.istore 4, 2) := dk_54 4 (dk_at dksX1_sheetsByTrying_2 11 rfl rfl)
theorem dX1_sheetsByTrying_57 : decode cX1_sheetsByTrying 57 = .ok (.goto (-40), 3) := dk_167 255 216 (dk_at dksX1_sheetsByTrying_2 13 rfl rfl)
theorem dX1_sheetsByTrying_60 : decode cX1_sheetsByTrying 60 = .ok (.iload_n 3, 1) := dk_29 (dk_at dksX1_sheetsByTrying_2 16 rfl rfl)
theorem dX1_sheetsByTrying_61 : decode cX1_sheetsByTrying 61 = .ok (.ireturn, 1) := dk_172 (dk_at dksX1_sheetsByTrying_2 17 rfl rfl)
abbrev cX1_sheetsOn : ByteArray := prog_1_method_60_code
def yX1_sheetsOn : MethodName := ⟨RX1, "sheetsOn", "(I)I"⟩
def dkwX1_sheetsOn_0 : List UInt8 := [42, 27, 182, 1, 85, 180, 1, 89, 172]
abbrev dktX1_sheetsOn_0 : List UInt8 := dkwX1_sheetsOn_0 ++ []
theorem dksX1_sheetsOn_0 : cX1_sheetsOn.data.toList.drop 0 = dktX1_sheetsOn_0 := by decide +kernel
theorem dX1_sheetsOn_0 : decode cX1_sheetsOn 0 = .ok (.aload_n 0, 1) := dk_42 (dk_at dksX1_sheetsOn_0 0 rfl rfl)
theorem dX1_sheetsOn_1 : decode cX1_sheetsOn 1 = .ok (.iload_n 1, 1) := dk_27 (dk_at dksX1_sheetsOn_0 1 rfl rfl)
theorem dX1_sheetsOn_2 : decode cX1_sheetsOn 2 = .ok (.invokevirtual 341, 3) := dk_182 1 85 (dk_at dksX1_sheetsOn_0 2 rfl rfl)
theorem dX1_sheetsOn_5 : decode cX1_sheetsOn 5 = .ok (.getfield 345, 3) := dk_180 1 89 (dk_at dksX1_sheetsOn_0 5 rfl rfl)
theorem dX1_sheetsOn_8 : decode cX1_sheetsOn 8 = .ok (.ireturn, 1) := dk_172 (dk_at dksX1_sheetsOn_0 8 rfl rfl)
abbrev cX1_pile : ByteArray := prog_1_method_16_code
def yX1_pile : MethodName := ⟨RX1, "pile", "(I)LPaperMill$Pile;"⟩
def dkwX1_pile_1 : List UInt8 := [185, 0, 108, 2, 0, 192, 0, 135, 176]
abbrev dktX1_pile_1 : List UInt8 := dkwX1_pile_1 ++ []
def dkwX1_pile_0 : List UInt8 := [27, 42, 180, 0, 54, 180, 0, 132, 185, 0, 119, 1, 0, 184, 0, 100, 42, 180, 0, 54, 180, 0, 132, 27]
abbrev dktX1_pile_0 : List UInt8 := dkwX1_pile_0 ++ dktX1_pile_1
theorem dksX1_pile_0 : cX1_pile.data.toList.drop 0 = dktX1_pile_0 := by decide +kernel
theorem dksX1_pile_1 : cX1_pile.data.toList.drop 24 = dktX1_pile_1 := dk_seg dksX1_pile_0 24 rfl rfl
theorem dX1_pile_0 : decode cX1_pile 0 = .ok (.iload_n 1, 1) := dk_27 (dk_at dksX1_pile_0 0 rfl rfl)
theorem dX1_pile_1 : decode cX1_pile 1 = .ok (.aload_n 0, 1) := dk_42 (dk_at dksX1_pile_0 1 rfl rfl)
theorem dX1_pile_2 : decode cX1_pile 2 = .ok (.getfield 54, 3) := dk_180 0 54 (dk_at dksX1_pile_0 2 rfl rfl)
theorem dX1_pile_5 : decode cX1_pile 5 = .ok (.getfield 132, 3) := dk_180 0 132 (dk_at dksX1_pile_0 5 rfl rfl)
theorem dX1_pile_8 : decode cX1_pile 8 = .ok (.invokeinterface 119 1, 5) := by decide +kernel
theorem dX1_pile_13 : decode cX1_pile 13 = .ok (.invokestatic 100, 3) := dk_184 0 100 (dk_at dksX1_pile_0 13 rfl rfl)
theorem dX1_pile_16 : decode cX1_pile 16 = .ok (.aload_n 0, 1) := dk_42 (dk_at dksX1_pile_0 16 rfl rfl)
theorem dX1_pile_17 : decode cX1_pile 17 = .ok (.getfield 54, 3) := dk_180 0 54 (dk_at dksX1_pile_0 17 rfl rfl)
theorem dX1_pile_20 : decode cX1_pile 20 = .ok (.getfield 132, 3) := dk_180 0 132 (dk_at dksX1_pile_0 20 rfl rfl)
theorem dX1_pile_23 : decode cX1_pile 23 = .ok (.iload_n 1, 1) := dk_27 (dk_at dksX1_pile_0 23 rfl rfl)
theorem dX1_pile_24 : decode cX1_pile 24 = .ok (.invokeinterface 108 2, 5) := by decide +kernel
theorem dX1_pile_29 : decode cX1_pile 29 = .ok (.checkcast 135, 3) := dk_192 0 135 (dk_at dksX1_pile_1 5 rfl rfl)
theorem dX1_pile_32 : decode cX1_pile 32 = .ok (.areturn, 1) := dk_176 (dk_at dksX1_pile_1 8 rfl rfl)
abbrev cX1_gradeOf : ByteArray := prog_1_method_61_code
def yX1_gradeOf : MethodName := ⟨RX1, "gradeOf", "(I)I"⟩
def dkwX1_gradeOf_1 : List UInt8 := [166, 0, 7, 4, 167, 0, 4, 5, 172]
abbrev dktX1_gradeOf_1 : List UInt8 := dkwX1_gradeOf_1 ++ []
def dkwX1_gradeOf_0 : List UInt8 := [42, 27, 182, 1, 85, 180, 1, 92, 77, 44, 178, 1, 96, 166, 0, 7, 3, 167, 0, 15, 44, 178, 1, 99]
abbrev dktX1_gradeOf_0 : List UInt8 := dkwX1_gradeOf_0 ++ dktX1_gradeOf_1
theorem dksX1_gradeOf_0 : cX1_gradeOf.data.toList.drop 0 = dktX1_gradeOf_0 := by decide +kernel
theorem dksX1_gradeOf_1 : cX1_gradeOf.data.toList.drop 24 = dktX1_gradeOf_1 := dk_seg dksX1_gradeOf_0 24 rfl rfl
theorem dX1_gradeOf_0 : decode cX1_gradeOf 0 = .ok (.aload_n 0, 1) := dk_42 (dk_at dksX1_gradeOf_0 0 rfl rfl)
theorem dX1_gradeOf_1 : decode cX1_gradeOf 1 = .ok (.iload_n 1, 1) := dk_27 (dk_at dksX1_gradeOf_0 1 rfl rfl)
theorem dX1_gradeOf_2 : decode cX1_gradeOf 2 = .ok (.invokevirtual 341, 3) := dk_182 1 85 (dk_at dksX1_gradeOf_0 2 rfl rfl)
theorem dX1_gradeOf_5 : decode cX1_gradeOf 5 = .ok (.getfield 348, 3) := dk_180 1 92 (dk_at dksX1_gradeOf_0 5 rfl rfl)
theorem dX1_gradeOf_8 : decode cX1_gradeOf 8 = .ok (.astore_n 2, 1) := dk_77 (dk_at dksX1_gradeOf_0 8 rfl rfl)
theorem dX1_gradeOf_9 : decode cX1_gradeOf 9 = .ok (.aload_n 2, 1) := dk_44 (dk_at dksX1_gradeOf_0 9 rfl rfl)
theorem dX1_gradeOf_10 : decode cX1_gradeOf 10 = .ok (.getstatic 352, 3) := dk_178 1 96 (dk_at dksX1_gradeOf_0 10 rfl rfl)
theorem dX1_gradeOf_13 : decode cX1_gradeOf 13 = .ok (.if_acmp .ne 7, 3) := dk_166 0 7 (dk_at dksX1_gradeOf_0 13 rfl rfl)
theorem dX1_gradeOf_16 : decode cX1_gradeOf 16 = .ok (.iconst 0, 1) := dk_3 (dk_at dksX1_gradeOf_0 16 rfl rfl)
theorem dX1_gradeOf_17 : decode cX1_gradeOf 17 = .ok (.goto 15, 3) := dk_167 0 15 (dk_at dksX1_gradeOf_0 17 rfl rfl)
theorem dX1_gradeOf_20 : decode cX1_gradeOf 20 = .ok (.aload_n 2, 1) := dk_44 (dk_at dksX1_gradeOf_0 20 rfl rfl)
theorem dX1_gradeOf_21 : decode cX1_gradeOf 21 = .ok (.getstatic 355, 3) := dk_178 1 99 (dk_at dksX1_gradeOf_0 21 rfl rfl)
theorem dX1_gradeOf_24 : decode cX1_gradeOf 24 = .ok (.if_acmp .ne 7, 3) := dk_166 0 7 (dk_at dksX1_gradeOf_1 0 rfl rfl)
theorem dX1_gradeOf_27 : decode cX1_gradeOf 27 = .ok (.iconst 1, 1) := dk_4 (dk_at dksX1_gradeOf_1 3 rfl rfl)
theorem dX1_gradeOf_28 : decode cX1_gradeOf 28 = .ok (.goto 4, 3) := dk_167 0 4 (dk_at dksX1_gradeOf_1 4 rfl rfl)
theorem dX1_gradeOf_31 : decode cX1_gradeOf 31 = .ok (.iconst 2, 1) := dk_5 (dk_at dksX1_gradeOf_1 7 rfl rfl)
theorem dX1_gradeOf_32 : decode cX1_gradeOf 32 = .ok (.ireturn, 1) := dk_172 (dk_at dksX1_gradeOf_1 8 rfl rfl)
abbrev cX1_drySheets : ByteArray := prog_1_method_62_code
def yX1_drySheets : MethodName := ⟨RX1, "drySheets", "(III)I"⟩
def dkwX1_drySheets_0 : List UInt8 := [27, 28, 29, 184, 0, 245, 42, 180, 0, 54, 27, 28, 184, 0, 251, 29, 184, 1, 1, 182, 1, 10, 172]
abbrev dktX1_drySheets_0 : List UInt8 := dkwX1_drySheets_0 ++ []
theorem dksX1_drySheets_0 : cX1_drySheets.data.toList.drop 0 = dktX1_drySheets_0 := by decide +kernel
theorem dX1_drySheets_0 : decode cX1_drySheets 0 = .ok (.iload_n 1, 1) := dk_27 (dk_at dksX1_drySheets_0 0 rfl rfl)
theorem dX1_drySheets_1 : decode cX1_drySheets 1 = .ok (.iload_n 2, 1) := dk_28 (dk_at dksX1_drySheets_0 1 rfl rfl)
theorem dX1_drySheets_2 : decode cX1_drySheets 2 = .ok (.iload_n 3, 1) := dk_29 (dk_at dksX1_drySheets_0 2 rfl rfl)
theorem dX1_drySheets_3 : decode cX1_drySheets 3 = .ok (.invokestatic 245, 3) := dk_184 0 245 (dk_at dksX1_drySheets_0 3 rfl rfl)
theorem dX1_drySheets_6 : decode cX1_drySheets 6 = .ok (.aload_n 0, 1) := dk_42 (dk_at dksX1_drySheets_0 6 rfl rfl)
theorem dX1_drySheets_7 : decode cX1_drySheets 7 = .ok (.getfield 54, 3) := dk_180 0 54 (dk_at dksX1_drySheets_0 7 rfl rfl)
theorem dX1_drySheets_10 : decode cX1_drySheets 10 = .ok (.iload_n 1, 1) := dk_27 (dk_at dksX1_drySheets_0 10 rfl rfl)
theorem dX1_drySheets_11 : decode cX1_drySheets 11 = .ok (.iload_n 2, 1) := dk_28 (dk_at dksX1_drySheets_0 11 rfl rfl)
theorem dX1_drySheets_12 : decode cX1_drySheets 12 = .ok (.invokestatic 251, 3) := dk_184 0 251 (dk_at dksX1_drySheets_0 12 rfl rfl)
theorem dX1_drySheets_15 : decode cX1_drySheets 15 = .ok (.iload_n 3, 1) := dk_29 (dk_at dksX1_drySheets_0 15 rfl rfl)
theorem dX1_drySheets_16 : decode cX1_drySheets 16 = .ok (.invokestatic 257, 3) := dk_184 1 1 (dk_at dksX1_drySheets_0 16 rfl rfl)
theorem dX1_drySheets_19 : decode cX1_drySheets 19 = .ok (.invokevirtual 266, 3) := dk_182 1 10 (dk_at dksX1_drySheets_0 19 rfl rfl)
theorem dX1_drySheets_22 : decode cX1_drySheets 22 = .ok (.ireturn, 1) := dk_172 (dk_at dksX1_drySheets_0 22 rfl rfl)
abbrev cX1_whyNotPacked : ByteArray := prog_1_method_64_code
def yX1_whyNotPacked : MethodName := ⟨RX1, "whyNotPacked", "(III)I"⟩
def dkwX1_whyNotPacked_0 : List UInt8 := [27, 28, 29, 184, 0, 245, 42, 27, 28, 29, 182, 0, 248, 172]
abbrev dktX1_whyNotPacked_0 : List UInt8 := dkwX1_whyNotPacked_0 ++ []
theorem dksX1_whyNotPacked_0 : cX1_whyNotPacked.data.toList.drop 0 = dktX1_whyNotPacked_0 := by decide +kernel
theorem dX1_whyNotPacked_0 : decode cX1_whyNotPacked 0 = .ok (.iload_n 1, 1) := dk_27 (dk_at dksX1_whyNotPacked_0 0 rfl rfl)
theorem dX1_whyNotPacked_1 : decode cX1_whyNotPacked 1 = .ok (.iload_n 2, 1) := dk_28 (dk_at dksX1_whyNotPacked_0 1 rfl rfl)
theorem dX1_whyNotPacked_2 : decode cX1_whyNotPacked 2 = .ok (.iload_n 3, 1) := dk_29 (dk_at dksX1_whyNotPacked_0 2 rfl rfl)
theorem dX1_whyNotPacked_3 : decode cX1_whyNotPacked 3 = .ok (.invokestatic 245, 3) := dk_184 0 245 (dk_at dksX1_whyNotPacked_0 3 rfl rfl)
theorem dX1_whyNotPacked_6 : decode cX1_whyNotPacked 6 = .ok (.aload_n 0, 1) := dk_42 (dk_at dksX1_whyNotPacked_0 6 rfl rfl)
theorem dX1_whyNotPacked_7 : decode cX1_whyNotPacked 7 = .ok (.iload_n 1, 1) := dk_27 (dk_at dksX1_whyNotPacked_0 7 rfl rfl)
theorem dX1_whyNotPacked_8 : decode cX1_whyNotPacked 8 = .ok (.iload_n 2, 1) := dk_28 (dk_at dksX1_whyNotPacked_0 8 rfl rfl)
theorem dX1_whyNotPacked_9 : decode cX1_whyNotPacked 9 = .ok (.iload_n 3, 1) := dk_29 (dk_at dksX1_whyNotPacked_0 9 rfl rfl)
theorem dX1_whyNotPacked_10 : decode cX1_whyNotPacked 10 = .ok (.invokevirtual 248, 3) := dk_182 0 248 (dk_at dksX1_whyNotPacked_0 10 rfl rfl)
theorem dX1_whyNotPacked_13 : decode cX1_whyNotPacked 13 = .ok (.ireturn, 1) := dk_172 (dk_at dksX1_whyNotPacked_0 13 rfl rfl)
abbrev cX1_quiresOf : ByteArray := prog_1_method_66_code
def yX1_quiresOf : MethodName := ⟨RX1, "quiresOf", "(I)I"⟩
def dkwX1_quiresOf_0 : List UInt8 := [42, 27, 182, 1, 17, 180, 1, 102, 172]
abbrev dktX1_quiresOf_0 : List UInt8 := dkwX1_quiresOf_0 ++ []
theorem dksX1_quiresOf_0 : cX1_quiresOf.data.toList.drop 0 = dktX1_quiresOf_0 := by decide +kernel
theorem dX1_quiresOf_0 : decode cX1_quiresOf 0 = .ok (.aload_n 0, 1) := dk_42 (dk_at dksX1_quiresOf_0 0 rfl rfl)
theorem dX1_quiresOf_1 : decode cX1_quiresOf 1 = .ok (.iload_n 1, 1) := dk_27 (dk_at dksX1_quiresOf_0 1 rfl rfl)
theorem dX1_quiresOf_2 : decode cX1_quiresOf 2 = .ok (.invokevirtual 273, 3) := dk_182 1 17 (dk_at dksX1_quiresOf_0 2 rfl rfl)
theorem dX1_quiresOf_5 : decode cX1_quiresOf 5 = .ok (.getfield 358, 3) := dk_180 1 102 (dk_at dksX1_quiresOf_0 5 rfl rfl)
theorem dX1_quiresOf_8 : decode cX1_quiresOf 8 = .ok (.ireturn, 1) := dk_172 (dk_at dksX1_quiresOf_0 8 rfl rfl)
abbrev cX1_priceOf : ByteArray := prog_1_method_67_code
def yX1_priceOf : MethodName := ⟨RX1, "priceOf", "(I)I"⟩
def dkwX1_priceOf_0 : List UInt8 := [42, 27, 182, 1, 17, 182, 1, 24, 172]
abbrev dktX1_priceOf_0 : List UInt8 := dkwX1_priceOf_0 ++ []
theorem dksX1_priceOf_0 : cX1_priceOf.data.toList.drop 0 = dktX1_priceOf_0 := by decide +kernel
theorem dX1_priceOf_0 : decode cX1_priceOf 0 = .ok (.aload_n 0, 1) := dk_42 (dk_at dksX1_priceOf_0 0 rfl rfl)
theorem dX1_priceOf_1 : decode cX1_priceOf 1 = .ok (.iload_n 1, 1) := dk_27 (dk_at dksX1_priceOf_0 1 rfl rfl)
theorem dX1_priceOf_2 : decode cX1_priceOf 2 = .ok (.invokevirtual 273, 3) := dk_182 1 17 (dk_at dksX1_priceOf_0 2 rfl rfl)
theorem dX1_priceOf_5 : decode cX1_priceOf 5 = .ok (.invokevirtual 280, 3) := dk_182 1 24 (dk_at dksX1_priceOf_0 5 rfl rfl)
theorem dX1_priceOf_8 : decode cX1_priceOf 8 = .ok (.ireturn, 1) := dk_172 (dk_at dksX1_priceOf_0 8 rfl rfl)
abbrev cX1_lostIn : ByteArray := prog_1_method_74_code
def yX1_lostIn : MethodName := ⟨RX1, "lostIn", "(I)I"⟩
def dkwX1_lostIn_1 : List UInt8 := [182, 1, 115, 132, 3, 1, 167, 255, 244, 44, 180, 1, 36, 42, 180, 0, 54, 180, 1, 36, 100, 172]
abbrev dktX1_lostIn_1 : List UInt8 := dkwX1_lostIn_1 ++ []
def dkwX1_lostIn_0 : List UInt8 := [27, 4, 16, 60, 184, 0, 96, 42, 180, 0, 54, 182, 0, 80, 77, 3, 62, 29, 27, 162, 0, 13, 44]
abbrev dktX1_lostIn_0 : List UInt8 := dkwX1_lostIn_0 ++ dktX1_lostIn_1
theorem dksX1_lostIn_0 : cX1_lostIn.data.toList.drop 0 = dktX1_lostIn_0 := by decide +kernel
theorem dksX1_lostIn_1 : cX1_lostIn.data.toList.drop 23 = dktX1_lostIn_1 := dk_seg dksX1_lostIn_0 23 rfl rfl
theorem dX1_lostIn_0 : decode cX1_lostIn 0 = .ok (.iload_n 1, 1) := dk_27 (dk_at dksX1_lostIn_0 0 rfl rfl)
theorem dX1_lostIn_1 : decode cX1_lostIn 1 = .ok (.iconst 1, 1) := dk_4 (dk_at dksX1_lostIn_0 1 rfl rfl)
theorem dX1_lostIn_2 : decode cX1_lostIn 2 = .ok (.bipush 60, 2) := dk_16 60 (dk_at dksX1_lostIn_0 2 rfl rfl)
theorem dX1_lostIn_4 : decode cX1_lostIn 4 = .ok (.invokestatic 96, 3) := dk_184 0 96 (dk_at dksX1_lostIn_0 4 rfl rfl)
theorem dX1_lostIn_7 : decode cX1_lostIn 7 = .ok (.aload_n 0, 1) := dk_42 (dk_at dksX1_lostIn_0 7 rfl rfl)
theorem dX1_lostIn_8 : decode cX1_lostIn 8 = .ok (.getfield 54, 3) := dk_180 0 54 (dk_at dksX1_lostIn_0 8 rfl rfl)
theorem dX1_lostIn_11 : decode cX1_lostIn 11 = .ok (.invokevirtual 80, 3) := dk_182 0 80 (dk_at dksX1_lostIn_0 11 rfl rfl)
theorem dX1_lostIn_14 : decode cX1_lostIn 14 = .ok (.astore_n 2, 1) := dk_77 (dk_at dksX1_lostIn_0 14 rfl rfl)
theorem dX1_lostIn_15 : decode cX1_lostIn 15 = .ok (.iconst 0, 1) := dk_3 (dk_at dksX1_lostIn_0 15 rfl rfl)
theorem dX1_lostIn_16 : decode cX1_lostIn 16 = .ok (.istore_n 3, 1) := dk_62 (dk_at dksX1_lostIn_0 16 rfl rfl)
theorem dX1_lostIn_17 : decode cX1_lostIn 17 = .ok (.iload_n 3, 1) := dk_29 (dk_at dksX1_lostIn_0 17 rfl rfl)
theorem dX1_lostIn_18 : decode cX1_lostIn 18 = .ok (.iload_n 1, 1) := dk_27 (dk_at dksX1_lostIn_0 18 rfl rfl)
theorem dX1_lostIn_19 : decode cX1_lostIn 19 = .ok (.if_icmp .ge 13, 3) := dk_162 0 13 (dk_at dksX1_lostIn_0 19 rfl rfl)
theorem dX1_lostIn_22 : decode cX1_lostIn 22 = .ok (.aload_n 2, 1) := dk_44 (dk_at dksX1_lostIn_0 22 rfl rfl)
theorem dX1_lostIn_23 : decode cX1_lostIn 23 = .ok (.invokevirtual 371, 3) := dk_182 1 115 (dk_at dksX1_lostIn_1 0 rfl rfl)
theorem dX1_lostIn_26 : decode cX1_lostIn 26 = .ok (.iinc 3 1, 3) := dk_132 3 1 (dk_at dksX1_lostIn_1 3 rfl rfl)
theorem dX1_lostIn_29 : decode cX1_lostIn 29 = .ok (.goto (-12), 3) := dk_167 255 244 (dk_at dksX1_lostIn_1 6 rfl rfl)
theorem dX1_lostIn_32 : decode cX1_lostIn 32 = .ok (.aload_n 2, 1) := dk_44 (dk_at dksX1_lostIn_1 9 rfl rfl)
theorem dX1_lostIn_33 : decode cX1_lostIn 33 = .ok (.getfield 292, 3) := dk_180 1 36 (dk_at dksX1_lostIn_1 10 rfl rfl)
theorem dX1_lostIn_36 : decode cX1_lostIn 36 = .ok (.aload_n 0, 1) := dk_42 (dk_at dksX1_lostIn_1 13 rfl rfl)
theorem dX1_lostIn_37 : decode cX1_lostIn 37 = .ok (.getfield 54, 3) := dk_180 0 54 (dk_at dksX1_lostIn_1 14 rfl rfl)
theorem dX1_lostIn_40 : decode cX1_lostIn 40 = .ok (.getfield 292, 3) := dk_180 1 36 (dk_at dksX1_lostIn_1 17 rfl rfl)
theorem dX1_lostIn_43 : decode cX1_lostIn 43 = .ok (.isub, 1) := dk_100 (dk_at dksX1_lostIn_1 20 rfl rfl)
theorem dX1_lostIn_44 : decode cX1_lostIn 44 = .ok (.ireturn, 1) := dk_172 (dk_at dksX1_lostIn_1 21 rfl rfl)
abbrev cX1_append : ByteArray := prog_1_method_75_code
def yX1_append : MethodName := ⟨RX1, "append", "(I)I"⟩
def dkwX1_append_1 : List UInt8 := [3, 184, 0, 146, 42, 180, 0, 68, 27, 146, 182, 1, 121, 87, 42, 180, 0, 68, 182, 1, 118, 172]
abbrev dktX1_append_1 : List UInt8 := dkwX1_append_1 ++ []
def dkwX1_append_0 : List UInt8 := [27, 16, 32, 16, 126, 184, 0, 96, 42, 180, 0, 68, 182, 1, 118, 16, 60, 162, 0, 7, 4, 167, 0, 4]
abbrev dktX1_append_0 : List UInt8 := dkwX1_append_0 ++ dktX1_append_1
theorem dksX1_append_0 : cX1_append.data.toList.drop 0 = dktX1_append_0 := by decide +kernel
theorem dksX1_append_1 : cX1_append.data.toList.drop 24 = dktX1_append_1 := dk_seg dksX1_append_0 24 rfl rfl
theorem dX1_append_0 : decode cX1_append 0 = .ok (.iload_n 1, 1) := dk_27 (dk_at dksX1_append_0 0 rfl rfl)
theorem dX1_append_1 : decode cX1_append 1 = .ok (.bipush 32, 2) := dk_16 32 (dk_at dksX1_append_0 1 rfl rfl)
theorem dX1_append_3 : decode cX1_append 3 = .ok (.bipush 126, 2) := dk_16 126 (dk_at dksX1_append_0 3 rfl rfl)
theorem dX1_append_5 : decode cX1_append 5 = .ok (.invokestatic 96, 3) := dk_184 0 96 (dk_at dksX1_append_0 5 rfl rfl)
theorem dX1_append_8 : decode cX1_append 8 = .ok (.aload_n 0, 1) := dk_42 (dk_at dksX1_append_0 8 rfl rfl)
theorem dX1_append_9 : decode cX1_append 9 = .ok (.getfield 68, 3) := dk_180 0 68 (dk_at dksX1_append_0 9 rfl rfl)
theorem dX1_append_12 : decode cX1_append 12 = .ok (.invokevirtual 374, 3) := dk_182 1 118 (dk_at dksX1_append_0 12 rfl rfl)
theorem dX1_append_15 : decode cX1_append 15 = .ok (.bipush 60, 2) := dk_16 60 (dk_at dksX1_append_0 15 rfl rfl)
theorem dX1_append_17 : decode cX1_append 17 = .ok (.if_icmp .ge 7, 3) := dk_162 0 7 (dk_at dksX1_append_0 17 rfl rfl)
theorem dX1_append_20 : decode cX1_append 20 = .ok (.iconst 1, 1) := dk_4 (dk_at dksX1_append_0 20 rfl rfl)
theorem dX1_append_21 : decode cX1_append 21 = .ok (.goto 4, 3) := dk_167 0 4 (dk_at dksX1_append_0 21 rfl rfl)
theorem dX1_append_24 : decode cX1_append 24 = .ok (.iconst 0, 1) := dk_3 (dk_at dksX1_append_1 0 rfl rfl)
theorem dX1_append_25 : decode cX1_append 25 = .ok (.invokestatic 146, 3) := dk_184 0 146 (dk_at dksX1_append_1 1 rfl rfl)
theorem dX1_append_28 : decode cX1_append 28 = .ok (.aload_n 0, 1) := dk_42 (dk_at dksX1_append_1 4 rfl rfl)
theorem dX1_append_29 : decode cX1_append 29 = .ok (.getfield 68, 3) := dk_180 0 68 (dk_at dksX1_append_1 5 rfl rfl)
theorem dX1_append_32 : decode cX1_append 32 = .ok (.iload_n 1, 1) := dk_27 (dk_at dksX1_append_1 8 rfl rfl)
theorem dX1_append_33 : decode cX1_append 33 = .ok (.i2c, 1) := dk_146 (dk_at dksX1_append_1 9 rfl rfl)
theorem dX1_append_34 : decode cX1_append 34 = .ok (.invokevirtual 377, 3) := dk_182 1 121 (dk_at dksX1_append_1 10 rfl rfl)
theorem dX1_append_37 : decode cX1_append 37 = .ok (.pop, 1) := dk_87 (dk_at dksX1_append_1 13 rfl rfl)
theorem dX1_append_38 : decode cX1_append 38 = .ok (.aload_n 0, 1) := dk_42 (dk_at dksX1_append_1 14 rfl rfl)
theorem dX1_append_39 : decode cX1_append 39 = .ok (.getfield 68, 3) := dk_180 0 68 (dk_at dksX1_append_1 15 rfl rfl)
theorem dX1_append_42 : decode cX1_append 42 = .ok (.invokevirtual 374, 3) := dk_182 1 118 (dk_at dksX1_append_1 18 rfl rfl)
theorem dX1_append_45 : decode cX1_append 45 = .ok (.ireturn, 1) := dk_172 (dk_at dksX1_append_1 21 rfl rfl)
abbrev cX1_runText : ByteArray := prog_1_method_78_code
def yX1_runText : MethodName := ⟨RX1, "runText", "()I"⟩
def dkwX1_runText_1 : List UInt8 := [42, 182, 0, 150, 43, 42, 180, 0, 54, 182, 1, 139, 172]
abbrev dktX1_runText_1 : List UInt8 := dkwX1_runText_1 ++ []
def dkwX1_runText_0 : List UInt8 := [187, 1, 128, 89, 42, 183, 1, 130, 76, 43, 182, 1, 133, 154, 0, 11, 187, 0, 90, 89, 183, 0, 92, 191]
abbrev dktX1_runText_0 : List UInt8 := dkwX1_runText_0 ++ dktX1_runText_1
theorem dksX1_runText_0 : cX1_runText.data.toList.drop 0 = dktX1_runText_0 := by decide +kernel
theorem dksX1_runText_1 : cX1_runText.data.toList.drop 24 = dktX1_runText_1 := dk_seg dksX1_runText_0 24 rfl rfl
theorem dX1_runText_0 : decode cX1_runText 0 = .ok (.new 384, 3) := dk_187 1 128 (dk_at dksX1_runText_0 0 rfl rfl)
theorem dX1_runText_3 : decode cX1_runText 3 = .ok (.dup, 1) := dk_89 (dk_at dksX1_runText_0 3 rfl rfl)
theorem dX1_runText_4 : decode cX1_runText 4 = .ok (.aload_n 0, 1) := dk_42 (dk_at dksX1_runText_0 4 rfl rfl)
theorem dX1_runText_5 : decode cX1_runText 5 = .ok (.invokespecial 386, 3) := dk_183 1 130 (dk_at dksX1_runText_0 5 rfl rfl)
theorem dX1_runText_8 : decode cX1_runText 8 = .ok (.astore_n 1, 1) := dk_76 (dk_at dksX1_runText_0 8 rfl rfl)
theorem dX1_runText_9 : decode cX1_runText 9 = .ok (.aload_n 1, 1) := dk_43 (dk_at dksX1_runText_0 9 rfl rfl)
theorem dX1_runText_10 : decode cX1_runText 10 = .ok (.invokevirtual 389, 3) := dk_182 1 133 (dk_at dksX1_runText_0 10 rfl rfl)
theorem dX1_runText_13 : decode cX1_runText 13 = .ok (.ifCond .ne 11, 3) := dk_154 0 11 (dk_at dksX1_runText_0 13 rfl rfl)
theorem dX1_runText_16 : decode cX1_runText 16 = .ok (.new 90, 3) := dk_187 0 90 (dk_at dksX1_runText_0 16 rfl rfl)
theorem dX1_runText_19 : decode cX1_runText 19 = .ok (.dup, 1) := dk_89 (dk_at dksX1_runText_0 19 rfl rfl)
theorem dX1_runText_20 : decode cX1_runText 20 = .ok (.invokespecial 92, 3) := dk_183 0 92 (dk_at dksX1_runText_0 20 rfl rfl)
theorem dX1_runText_23 : decode cX1_runText 23 = .ok (.athrow, 1) := dk_191 (dk_at dksX1_runText_0 23 rfl rfl)
theorem dX1_runText_24 : decode cX1_runText 24 = .ok (.aload_n 0, 1) := dk_42 (dk_at dksX1_runText_1 0 rfl rfl)
theorem dX1_runText_25 : decode cX1_runText 25 = .ok (.invokevirtual 150, 3) := dk_182 0 150 (dk_at dksX1_runText_1 1 rfl rfl)
theorem dX1_runText_28 : decode cX1_runText 28 = .ok (.aload_n 1, 1) := dk_43 (dk_at dksX1_runText_1 4 rfl rfl)
theorem dX1_runText_29 : decode cX1_runText 29 = .ok (.aload_n 0, 1) := dk_42 (dk_at dksX1_runText_1 5 rfl rfl)
theorem dX1_runText_30 : decode cX1_runText 30 = .ok (.getfield 54, 3) := dk_180 0 54 (dk_at dksX1_runText_1 6 rfl rfl)
theorem dX1_runText_33 : decode cX1_runText 33 = .ok (.invokevirtual 395, 3) := dk_182 1 139 (dk_at dksX1_runText_1 9 rfl rfl)
theorem dX1_runText_36 : decode cX1_runText 36 = .ok (.ireturn, 1) := dk_172 (dk_at dksX1_runText_1 12 rfl rfl)
abbrev cX1_undo : ByteArray := prog_1_method_79_code
def yX1_undo : MethodName := ⟨RX1, "undo", "()I"⟩
def dkwX1_undo_1 : List UInt8 := [182, 1, 144, 192, 0, 49, 181, 0, 54, 42, 180, 0, 61, 182, 0, 72, 172]
abbrev dktX1_undo_1 : List UInt8 := dkwX1_undo_1 ++ []
def dkwX1_undo_0 : List UInt8 := [42, 180, 0, 61, 182, 1, 143, 154, 0, 7, 4, 167, 0, 4, 3, 184, 0, 146, 42, 42, 180, 0, 61]
abbrev dktX1_undo_0 : List UInt8 := dkwX1_undo_0 ++ dktX1_undo_1
theorem dksX1_undo_0 : cX1_undo.data.toList.drop 0 = dktX1_undo_0 := by decide +kernel
theorem dksX1_undo_1 : cX1_undo.data.toList.drop 23 = dktX1_undo_1 := dk_seg dksX1_undo_0 23 rfl rfl
theorem dX1_undo_0 : decode cX1_undo 0 = .ok (.aload_n 0, 1) := dk_42 (dk_at dksX1_undo_0 0 rfl rfl)
theorem dX1_undo_1 : decode cX1_undo 1 = .ok (.getfield 61, 3) := dk_180 0 61 (dk_at dksX1_undo_0 1 rfl rfl)
theorem dX1_undo_4 : decode cX1_undo 4 = .ok (.invokevirtual 399, 3) := dk_182 1 143 (dk_at dksX1_undo_0 4 rfl rfl)
theorem dX1_undo_7 : decode cX1_undo 7 = .ok (.ifCond .ne 7, 3) := dk_154 0 7 (dk_at dksX1_undo_0 7 rfl rfl)
theorem dX1_undo_10 : decode cX1_undo 10 = .ok (.iconst 1, 1) := dk_4 (dk_at dksX1_undo_0 10 rfl rfl)
theorem dX1_undo_11 : decode cX1_undo 11 = .ok (.goto 4, 3) := dk_167 0 4 (dk_at dksX1_undo_0 11 rfl rfl)
theorem dX1_undo_14 : decode cX1_undo 14 = .ok (.iconst 0, 1) := dk_3 (dk_at dksX1_undo_0 14 rfl rfl)
theorem dX1_undo_15 : decode cX1_undo 15 = .ok (.invokestatic 146, 3) := dk_184 0 146 (dk_at dksX1_undo_0 15 rfl rfl)
theorem dX1_undo_18 : decode cX1_undo 18 = .ok (.aload_n 0, 1) := dk_42 (dk_at dksX1_undo_0 18 rfl rfl)
theorem dX1_undo_19 : decode cX1_undo 19 = .ok (.aload_n 0, 1) := dk_42 (dk_at dksX1_undo_0 19 rfl rfl)
theorem dX1_undo_20 : decode cX1_undo 20 = .ok (.getfield 61, 3) := dk_180 0 61 (dk_at dksX1_undo_0 20 rfl rfl)
theorem dX1_undo_23 : decode cX1_undo 23 = .ok (.invokevirtual 400, 3) := dk_182 1 144 (dk_at dksX1_undo_1 0 rfl rfl)
theorem dX1_undo_26 : decode cX1_undo 26 = .ok (.checkcast 49, 3) := dk_192 0 49 (dk_at dksX1_undo_1 3 rfl rfl)
theorem dX1_undo_29 : decode cX1_undo 29 = .ok (.putfield 54, 3) := dk_181 0 54 (dk_at dksX1_undo_1 6 rfl rfl)
theorem dX1_undo_32 : decode cX1_undo 32 = .ok (.aload_n 0, 1) := dk_42 (dk_at dksX1_undo_1 9 rfl rfl)
theorem dX1_undo_33 : decode cX1_undo 33 = .ok (.getfield 61, 3) := dk_180 0 61 (dk_at dksX1_undo_1 10 rfl rfl)
theorem dX1_undo_36 : decode cX1_undo 36 = .ok (.invokevirtual 72, 3) := dk_182 0 72 (dk_at dksX1_undo_1 13 rfl rfl)
theorem dX1_undo_39 : decode cX1_undo 39 = .ok (.ireturn, 1) := dk_172 (dk_at dksX1_undo_1 16 rfl rfl)
abbrev cX1_restoreSnapshot : ByteArray := prog_1_method_81_code
def yX1_restoreSnapshot : MethodName := ⟨RX1, "restoreSnapshot", "()I"⟩
def dkwX1_restoreSnapshot_1 : List UInt8 := [182, 0, 80, 181, 0, 54, 42, 180, 0, 54, 180, 0, 171, 172]
abbrev dktX1_restoreSnapshot_1 : List UInt8 := dkwX1_restoreSnapshot_1 ++ []
def dkwX1_restoreSnapshot_0 : List UInt8 := [42, 180, 1, 147, 198, 0, 7, 4, 167, 0, 4, 3, 184, 0, 146, 42, 182, 0, 150, 42, 42, 180, 1, 147]
abbrev dktX1_restoreSnapshot_0 : List UInt8 := dkwX1_restoreSnapshot_0 ++ dktX1_restoreSnapshot_1
theorem dksX1_restoreSnapshot_0 : cX1_restoreSnapshot.data.toList.drop 0 = dktX1_restoreSnapshot_0 := by decide +kernel
theorem dksX1_restoreSnapshot_1 : cX1_restoreSnapshot.data.toList.drop 24 = dktX1_restoreSnapshot_1 := dk_seg dksX1_restoreSnapshot_0 24 rfl rfl
theorem dX1_restoreSnapshot_0 : decode cX1_restoreSnapshot 0 = .ok (.aload_n 0, 1) := dk_42 (dk_at dksX1_restoreSnapshot_0 0 rfl rfl)
theorem dX1_restoreSnapshot_1 : decode cX1_restoreSnapshot 1 = .ok (.getfield 403, 3) := dk_180 1 147 (dk_at dksX1_restoreSnapshot_0 1 rfl rfl)
theorem dX1_restoreSnapshot_4 : decode cX1_restoreSnapshot 4 = .ok (.ifnull 7, 3) := dk_198 0 7 (dk_at dksX1_restoreSnapshot_0 4 rfl rfl)
theorem dX1_restoreSnapshot_7 : decode cX1_restoreSnapshot 7 = .ok (.iconst 1, 1) := dk_4 (dk_at dksX1_restoreSnapshot_0 7 rfl rfl)
theorem dX1_restoreSnapshot_8 : decode cX1_restoreSnapshot 8 = .ok (.goto 4, 3) := dk_167 0 4 (dk_at dksX1_restoreSnapshot_0 8 rfl rfl)
theorem dX1_restoreSnapshot_11 : decode cX1_restoreSnapshot 11 = .ok (.iconst 0, 1) := dk_3 (dk_at dksX1_restoreSnapshot_0 11 rfl rfl)
theorem dX1_restoreSnapshot_12 : decode cX1_restoreSnapshot 12 = .ok (.invokestatic 146, 3) := dk_184 0 146 (dk_at dksX1_restoreSnapshot_0 12 rfl rfl)
theorem dX1_restoreSnapshot_15 : decode cX1_restoreSnapshot 15 = .ok (.aload_n 0, 1) := dk_42 (dk_at dksX1_restoreSnapshot_0 15 rfl rfl)
theorem dX1_restoreSnapshot_16 : decode cX1_restoreSnapshot 16 = .ok (.invokevirtual 150, 3) := dk_182 0 150 (dk_at dksX1_restoreSnapshot_0 16 rfl rfl)
theorem dX1_restoreSnapshot_19 : decode cX1_restoreSnapshot 19 = .ok (.aload_n 0, 1) := dk_42 (dk_at dksX1_restoreSnapshot_0 19 rfl rfl)
theorem dX1_restoreSnapshot_20 : decode cX1_restoreSnapshot 20 = .ok (.aload_n 0, 1) := dk_42 (dk_at dksX1_restoreSnapshot_0 20 rfl rfl)
theorem dX1_restoreSnapshot_21 : decode cX1_restoreSnapshot 21 = .ok (.getfield 403, 3) := dk_180 1 147 (dk_at dksX1_restoreSnapshot_0 21 rfl rfl)
theorem dX1_restoreSnapshot_24 : decode cX1_restoreSnapshot 24 = .ok (.invokevirtual 80, 3) := dk_182 0 80 (dk_at dksX1_restoreSnapshot_1 0 rfl rfl)
theorem dX1_restoreSnapshot_27 : decode cX1_restoreSnapshot 27 = .ok (.putfield 54, 3) := dk_181 0 54 (dk_at dksX1_restoreSnapshot_1 3 rfl rfl)
theorem dX1_restoreSnapshot_30 : decode cX1_restoreSnapshot 30 = .ok (.aload_n 0, 1) := dk_42 (dk_at dksX1_restoreSnapshot_1 6 rfl rfl)
theorem dX1_restoreSnapshot_31 : decode cX1_restoreSnapshot 31 = .ok (.getfield 54, 3) := dk_180 0 54 (dk_at dksX1_restoreSnapshot_1 7 rfl rfl)
theorem dX1_restoreSnapshot_34 : decode cX1_restoreSnapshot 34 = .ok (.getfield 171, 3) := dk_180 0 171 (dk_at dksX1_restoreSnapshot_1 10 rfl rfl)
theorem dX1_restoreSnapshot_37 : decode cX1_restoreSnapshot 37 = .ok (.ireturn, 1) := dk_172 (dk_at dksX1_restoreSnapshot_1 13 rfl rfl)
theorem q112 : (Jvm.Cond.initialized "PaperMill") ∈ lw_all := lw_g (lw_at lw_m1 1 rfl) rfl
theorem q155 : (Jvm.Cond.instantiable "PaperMill" (4 : Nat)) ∈ lw_all := lw_g (lw_at lw_m1 44 rfl) rfl
theorem q157 : (Jvm.Cond.instanceMethod ({ cls := "PaperMill", name := "<init>", desc := "()V" } : Jvm.MethodName)) ∈ lw_all := lw_g (lw_at lw_m1 46 rfl) rfl
theorem q158 : (Jvm.Cond.code ({ cls := "PaperMill", name := "<init>", desc := "()V" } : Jvm.MethodName) prog_1_method_6_code (1 : Nat) (Option.none : Option Jvm.ClassFile.FieldType)) ∈ lw_all := lw_g (lw_at lw_m1 47 rfl) rfl
theorem q159 : (Jvm.Cond.methodLink "PaperMill" (42 : Nat) ({ cls := "java/lang/Object", name := "<init>", desc := "()V" } : Jvm.MethodName)) ∈ lw_all := lw_g (lw_at lw_m1 48 rfl) rfl
theorem q162 : (Jvm.Cond.methodLink "PaperMill" (48 : Nat) ({ cls := "PaperMill$State", name := "begin", desc := "()LPaperMill$State;" } : Jvm.MethodName)) ∈ lw_all := lw_g (lw_at lw_m1 51 rfl) rfl
theorem q178 : (Jvm.Cond.fieldLink "PaperMill" (5 : Nat) "PaperMill$Rag" "sort" "I") ∈ lw_all := lw_g (lw_at lw_m1 67 rfl) rfl
theorem q180 : (Jvm.Cond.fieldLink "PaperMill" (9 : Nat) "PaperMill$Rag" "parts" "I") ∈ lw_all := lw_g (lw_at lw_m1 69 rfl) rfl
theorem q213 : (Jvm.Cond.fieldLink "PaperMill" (171 : Nat) "PaperMill$State" "day" "I") ∈ lw_all := lw_g (lw_at lw_m1 102 rfl) rfl
theorem q215 : (Jvm.Cond.fieldLink "PaperMill" (164 : Nat) "PaperMill$State" "purse" "I") ∈ lw_all := lw_g (lw_at lw_m1 104 rfl) rfl
theorem q217 : (Jvm.Cond.fieldLink "PaperMill" (177 : Nat) "PaperMill$State" "limit" "I") ∈ lw_all := lw_g (lw_at lw_m1 106 rfl) rfl
theorem q219 : (Jvm.Cond.fieldLink "PaperMill" (180 : Nat) "PaperMill$State" "stove" "I") ∈ lw_all := lw_g (lw_at lw_m1 108 rfl) rfl
theorem q222 : (Jvm.Cond.fieldLink "PaperMill" (325 : Nat) "PaperMill$State" "recipe" "LPaperMill$Mix;") ∈ lw_all := lw_g (lw_at lw_m1 111 rfl) rfl
theorem q225 : (Jvm.Cond.fieldLink "PaperMill" (292 : Nat) "PaperMill$State" "lost" "I") ∈ lw_all := lw_g (lw_at lw_m1 114 rfl) rfl
theorem q227 : (Jvm.Cond.fieldLink "PaperMill" (193 : Nat) "PaperMill$State" "burnt" "I") ∈ lw_all := lw_g (lw_at lw_m1 116 rfl) rfl
theorem q229 : (Jvm.Cond.fieldLink "PaperMill" (222 : Nat) "PaperMill$State" "drained" "I") ∈ lw_all := lw_g (lw_at lw_m1 118 rfl) rfl
theorem q231 : (Jvm.Cond.fieldLink "PaperMill" (283 : Nat) "PaperMill$State" "sent" "I") ∈ lw_all := lw_g (lw_at lw_m1 120 rfl) rfl
theorem q233 : (Jvm.Cond.fieldLink "PaperMill" (368 : Nat) "PaperMill$State" "mouldings" "I") ∈ lw_all := lw_g (lw_at lw_m1 122 rfl) rfl
theorem q235 : (Jvm.Cond.fieldLink "PaperMill" (104 : Nat) "PaperMill$State" "carters" "Ljava/util/List;") ∈ lw_all := lw_g (lw_at lw_m1 124 rfl) rfl
theorem q237 : (Jvm.Cond.fieldLink "PaperMill" (116 : Nat) "PaperMill$State" "bales" "Ljava/util/List;") ∈ lw_all := lw_g (lw_at lw_m1 126 rfl) rfl
theorem q239 : (Jvm.Cond.fieldLink "PaperMill" (122 : Nat) "PaperMill$State" "vats" "Ljava/util/List;") ∈ lw_all := lw_g (lw_at lw_m1 128 rfl) rfl
theorem q241 : (Jvm.Cond.fieldLink "PaperMill" (127 : Nat) "PaperMill$State" "moulds" "Ljava/util/List;") ∈ lw_all := lw_g (lw_at lw_m1 130 rfl) rfl
theorem q243 : (Jvm.Cond.fieldLink "PaperMill" (132 : Nat) "PaperMill$State" "piles" "Ljava/util/List;") ∈ lw_all := lw_g (lw_at lw_m1 132 rfl) rfl
theorem q245 : (Jvm.Cond.fieldLink "PaperMill" (137 : Nat) "PaperMill$State" "reams" "Ljava/util/List;") ∈ lw_all := lw_g (lw_at lw_m1 134 rfl) rfl
theorem q289 : (Jvm.Cond.fieldLink "PaperMill" (161 : Nat) "PaperMill$Carter" "debt" "I") ∈ lw_all := lw_g (lw_at lw_m1 178 rfl) rfl
theorem q292 : (Jvm.Cond.fieldLink "PaperMill" (174 : Nat) "PaperMill$Carter" "passDay" "I") ∈ lw_all := lw_g (lw_at lw_m1 181 rfl) rfl
theorem q336 : (Jvm.Cond.selects "PaperMill" ({ cls := "java/lang/Object", name := "getClass", desc := "()Ljava/lang/Class;" } : Jvm.MethodName) ({ cls := "java/lang/Object", name := "getClass", desc := "()Ljava/lang/Class;" } : Jvm.MethodName)) ∈ lw_all := lw_g (lw_at lw_m1 225 rfl) rfl
theorem q388 : (Jvm.Cond.fieldLink "PaperMill" (207 : Nat) "PaperMill$Vat" "units" "I") ∈ lw_all := lw_g (lw_at lw_m2 37 rfl) rfl
theorem q391 : (Jvm.Cond.fieldLink "PaperMill" (216 : Nat) "PaperMill$Vat" "hours" "I") ∈ lw_all := lw_g (lw_at lw_m2 40 rfl) rfl
theorem q394 : (Jvm.Cond.fieldLink "PaperMill" (332 : Nat) "PaperMill$Vat" "strength" "I") ∈ lw_all := lw_g (lw_at lw_m2 43 rfl) rfl
theorem q421 : (Jvm.Cond.fieldLink "PaperMill" (229 : Nat) "PaperMill$Mould" "mark" "I") ∈ lw_all := lw_g (lw_at lw_m2 70 rfl) rfl
theorem q424 : (Jvm.Cond.fieldLink "PaperMill" (236 : Nat) "PaperMill$Mould" "wear" "I") ∈ lw_all := lw_g (lw_at lw_m2 73 rfl) rfl
theorem q435 : (Jvm.Cond.classLink "PaperMill" (58 : Nat) "java/util/ArrayDeque") ∈ lw_all := lw_g (lw_at lw_m2 84 rfl) rfl
theorem q437 : (Jvm.Cond.methodLink "PaperMill" (60 : Nat) ({ cls := "java/util/ArrayDeque", name := "<init>", desc := "()V" } : Jvm.MethodName)) ∈ lw_all := lw_g (lw_at lw_m2 86 rfl) rfl
theorem q452 : (Jvm.Cond.classLink "PaperMill" (65 : Nat) "java/lang/StringBuilder") ∈ lw_all := lw_g (lw_at lw_m2 101 rfl) rfl
theorem q454 : (Jvm.Cond.methodLink "PaperMill" (67 : Nat) ({ cls := "java/lang/StringBuilder", name := "<init>", desc := "()V" } : Jvm.MethodName)) ∈ lw_all := lw_g (lw_at lw_m2 103 rfl) rfl
theorem q485 : (Jvm.Cond.fieldLink "PaperMill" (54 : Nat) "PaperMill" "state" "LPaperMill$State;") ∈ lw_all := lw_g (lw_at lw_m2 134 rfl) rfl
theorem q486 : (Jvm.Cond.fieldLink "PaperMill" (403 : Nat) "PaperMill" "snapshot" "LPaperMill$State;") ∈ lw_all := lw_g (lw_at lw_m2 135 rfl) rfl
theorem q487 : (Jvm.Cond.fieldLink "PaperMill" (61 : Nat) "PaperMill" "history" "Ljava/util/ArrayDeque;") ∈ lw_all := lw_g (lw_at lw_m2 136 rfl) rfl
theorem q489 : (Jvm.Cond.fieldLink "PaperMill" (68 : Nat) "PaperMill" "buffer" "Ljava/lang/StringBuilder;") ∈ lw_all := lw_g (lw_at lw_m2 138 rfl) rfl
theorem q490 : (Jvm.Cond.lays "PaperMill" "PaperMill" "state" "LPaperMill$State;") ∈ lw_all := lw_g (lw_at lw_m2 139 rfl) rfl
theorem q491 : (Jvm.Cond.soleField "PaperMill" "state") ∈ lw_all := lw_g (lw_at lw_m2 140 rfl) rfl
theorem q492 : (Jvm.Cond.lays "PaperMill" "PaperMill" "snapshot" "LPaperMill$State;") ∈ lw_all := lw_g (lw_at lw_m2 141 rfl) rfl
theorem q493 : (Jvm.Cond.soleField "PaperMill" "snapshot") ∈ lw_all := lw_g (lw_at lw_m2 142 rfl) rfl
theorem q494 : (Jvm.Cond.laysFinal "PaperMill" "PaperMill" "history" "Ljava/util/ArrayDeque;") ∈ lw_all := lw_g (lw_at lw_m2 143 rfl) rfl
theorem q495 : (Jvm.Cond.soleField "PaperMill" "history") ∈ lw_all := lw_g (lw_at lw_m2 144 rfl) rfl
theorem q496 : (Jvm.Cond.laysFinal "PaperMill" "PaperMill" "buffer" "Ljava/lang/StringBuilder;") ∈ lw_all := lw_g (lw_at lw_m2 145 rfl) rfl
theorem q497 : (Jvm.Cond.soleField "PaperMill" "buffer") ∈ lw_all := lw_g (lw_at lw_m2 146 rfl) rfl
theorem q498 : (Jvm.Cond.superclass "PaperMill" "java/lang/Object") ∈ lw_all := lw_g (lw_at lw_m2 147 rfl) rfl
theorem q500 : (Jvm.Cond.instanceMethod ({ cls := "PaperMill", name := "bales", desc := "()I" } : Jvm.MethodName)) ∈ lw_all := lw_g (lw_at lw_m2 149 rfl) rfl
theorem q501 : (Jvm.Cond.selects "PaperMill" ({ cls := "PaperMill", name := "bales", desc := "()I" } : Jvm.MethodName) ({ cls := "PaperMill", name := "bales", desc := "()I" } : Jvm.MethodName)) ∈ lw_all := lw_g (lw_at lw_m2 150 rfl) rfl
theorem q502 : (Jvm.Cond.code ({ cls := "PaperMill", name := "bales", desc := "()I" } : Jvm.MethodName) prog_1_method_39_code (1 : Nat) (Option.some Jvm.ClassFile.FieldType.int)) ∈ lw_all := lw_g (lw_at lw_m2 151 rfl) rfl
theorem q503 : (Jvm.Cond.interfaceEntry "PaperMill" (119 : Nat)) ∈ lw_tbl := lw_at lw_m2 152 rfl
theorem q504 : (Jvm.Cond.methodLink "PaperMill" (119 : Nat) ({ cls := "java/util/List", name := "size", desc := "()I" } : Jvm.MethodName)) ∈ lw_all := lw_g (lw_at lw_m2 153 rfl) rfl
theorem q513 : (Jvm.Cond.instanceMethod ({ cls := "PaperMill", name := "recipeDepth", desc := "()I" } : Jvm.MethodName)) ∈ lw_all := lw_g (lw_at lw_m2 162 rfl) rfl
theorem q514 : (Jvm.Cond.selects "PaperMill" ({ cls := "PaperMill", name := "recipeDepth", desc := "()I" } : Jvm.MethodName) ({ cls := "PaperMill", name := "recipeDepth", desc := "()I" } : Jvm.MethodName)) ∈ lw_all := lw_g (lw_at lw_m2 163 rfl) rfl
theorem q515 : (Jvm.Cond.code ({ cls := "PaperMill", name := "recipeDepth", desc := "()I" } : Jvm.MethodName) prog_1_method_47_code (1 : Nat) (Option.some Jvm.ClassFile.FieldType.int)) ∈ lw_all := lw_g (lw_at lw_m2 164 rfl) rfl
theorem q516 : (Jvm.Cond.methodLink "PaperMill" (32 : Nat) ({ cls := "PaperMill", name := "depth", desc := "(LPaperMill$Mix;)I" } : Jvm.MethodName)) ∈ lw_all := lw_g (lw_at lw_m2 165 rfl) rfl
theorem q517 : (Jvm.Cond.static ({ cls := "PaperMill", name := "depth", desc := "(LPaperMill$Mix;)I" } : Jvm.MethodName)) ∈ lw_all := lw_g (lw_at lw_m2 166 rfl) rfl
theorem q518 : (Jvm.Cond.code ({ cls := "PaperMill", name := "depth", desc := "(LPaperMill$Mix;)I" } : Jvm.MethodName) prog_1_method_3_code (4 : Nat) (Option.some Jvm.ClassFile.FieldType.int)) ∈ lw_all := lw_g (lw_at lw_m2 167 rfl) rfl
theorem q519 : (Jvm.Cond.classLink "PaperMill" (3 : Nat) "PaperMill$Rag") ∈ lw_all := lw_g (lw_at lw_m2 168 rfl) rfl
theorem q520 : (Jvm.Cond.classLink "PaperMill" (12 : Nat) "PaperMill$Both") ∈ lw_all := lw_g (lw_at lw_m2 169 rfl) rfl
theorem q521 : (Jvm.Cond.classLink "PaperMill" (24 : Nat) "PaperMill$Times") ∈ lw_all := lw_g (lw_at lw_m2 170 rfl) rfl
theorem q523 : (Jvm.Cond.instanceMethod ({ cls := "PaperMill", name := "piles", desc := "()I" } : Jvm.MethodName)) ∈ lw_all := lw_g (lw_at lw_m2 172 rfl) rfl
theorem q524 : (Jvm.Cond.selects "PaperMill" ({ cls := "PaperMill", name := "piles", desc := "()I" } : Jvm.MethodName) ({ cls := "PaperMill", name := "piles", desc := "()I" } : Jvm.MethodName)) ∈ lw_all := lw_g (lw_at lw_m2 173 rfl) rfl
theorem q525 : (Jvm.Cond.code ({ cls := "PaperMill", name := "piles", desc := "()I" } : Jvm.MethodName) prog_1_method_59_code (1 : Nat) (Option.some Jvm.ClassFile.FieldType.int)) ∈ lw_all := lw_g (lw_at lw_m2 174 rfl) rfl
theorem q527 : (Jvm.Cond.instanceMethod ({ cls := "PaperMill", name := "reams", desc := "()I" } : Jvm.MethodName)) ∈ lw_all := lw_g (lw_at lw_m2 176 rfl) rfl
theorem q528 : (Jvm.Cond.selects "PaperMill" ({ cls := "PaperMill", name := "reams", desc := "()I" } : Jvm.MethodName) ({ cls := "PaperMill", name := "reams", desc := "()I" } : Jvm.MethodName)) ∈ lw_all := lw_g (lw_at lw_m2 177 rfl) rfl
theorem q529 : (Jvm.Cond.code ({ cls := "PaperMill", name := "reams", desc := "()I" } : Jvm.MethodName) prog_1_method_65_code (1 : Nat) (Option.some Jvm.ClassFile.FieldType.int)) ∈ lw_all := lw_g (lw_at lw_m2 178 rfl) rfl
theorem q531 : (Jvm.Cond.instanceMethod ({ cls := "PaperMill", name := "day", desc := "()I" } : Jvm.MethodName)) ∈ lw_all := lw_g (lw_at lw_m2 180 rfl) rfl
theorem q532 : (Jvm.Cond.selects "PaperMill" ({ cls := "PaperMill", name := "day", desc := "()I" } : Jvm.MethodName) ({ cls := "PaperMill", name := "day", desc := "()I" } : Jvm.MethodName)) ∈ lw_all := lw_g (lw_at lw_m2 181 rfl) rfl
theorem q533 : (Jvm.Cond.code ({ cls := "PaperMill", name := "day", desc := "()I" } : Jvm.MethodName) prog_1_method_68_code (1 : Nat) (Option.some Jvm.ClassFile.FieldType.int)) ∈ lw_all := lw_g (lw_at lw_m2 182 rfl) rfl
theorem q535 : (Jvm.Cond.instanceMethod ({ cls := "PaperMill", name := "purse", desc := "()I" } : Jvm.MethodName)) ∈ lw_all := lw_g (lw_at lw_m2 184 rfl) rfl
theorem q536 : (Jvm.Cond.selects "PaperMill" ({ cls := "PaperMill", name := "purse", desc := "()I" } : Jvm.MethodName) ({ cls := "PaperMill", name := "purse", desc := "()I" } : Jvm.MethodName)) ∈ lw_all := lw_g (lw_at lw_m2 185 rfl) rfl
theorem q537 : (Jvm.Cond.code ({ cls := "PaperMill", name := "purse", desc := "()I" } : Jvm.MethodName) prog_1_method_69_code (1 : Nat) (Option.some Jvm.ClassFile.FieldType.int)) ∈ lw_all := lw_g (lw_at lw_m2 186 rfl) rfl
theorem q539 : (Jvm.Cond.instanceMethod ({ cls := "PaperMill", name := "unitsByPlaces", desc := "()I" } : Jvm.MethodName)) ∈ lw_all := lw_g (lw_at lw_m2 188 rfl) rfl
theorem q540 : (Jvm.Cond.selects "PaperMill" ({ cls := "PaperMill", name := "unitsByPlaces", desc := "()I" } : Jvm.MethodName) ({ cls := "PaperMill", name := "unitsByPlaces", desc := "()I" } : Jvm.MethodName)) ∈ lw_all := lw_g (lw_at lw_m2 189 rfl) rfl
theorem q541 : (Jvm.Cond.code ({ cls := "PaperMill", name := "unitsByPlaces", desc := "()I" } : Jvm.MethodName) prog_1_method_70_code (1 : Nat) (Option.some Jvm.ClassFile.FieldType.int)) ∈ lw_all := lw_g (lw_at lw_m2 190 rfl) rfl
theorem q542 : (Jvm.Cond.methodLink "PaperMill" (361 : Nat) ({ cls := "PaperMill$State", name := "unitsByPlaces", desc := "()I" } : Jvm.MethodName)) ∈ lw_all := lw_g (lw_at lw_m2 191 rfl) rfl
theorem q588 : (Jvm.Cond.instanceMethod ({ cls := "PaperMill", name := "unitsByAccount", desc := "()I" } : Jvm.MethodName)) ∈ lw_all := lw_g (lw_at lw_m2 237 rfl) rfl
theorem q589 : (Jvm.Cond.selects "PaperMill" ({ cls := "PaperMill", name := "unitsByAccount", desc := "()I" } : Jvm.MethodName) ({ cls := "PaperMill", name := "unitsByAccount", desc := "()I" } : Jvm.MethodName)) ∈ lw_all := lw_g (lw_at lw_m2 238 rfl) rfl
theorem q590 : (Jvm.Cond.code ({ cls := "PaperMill", name := "unitsByAccount", desc := "()I" } : Jvm.MethodName) prog_1_method_71_code (1 : Nat) (Option.some Jvm.ClassFile.FieldType.int)) ∈ lw_all := lw_g (lw_at lw_m2 239 rfl) rfl
theorem q591 : (Jvm.Cond.methodLink "PaperMill" (364 : Nat) ({ cls := "PaperMill$State", name := "unitsByAccount", desc := "()I" } : Jvm.MethodName)) ∈ lw_all := lw_g (lw_at lw_m3 0 rfl) rfl
theorem q596 : (Jvm.Cond.instanceMethod ({ cls := "PaperMill", name := "meanDamp", desc := "()D" } : Jvm.MethodName)) ∈ lw_all := lw_g (lw_at lw_m3 5 rfl) rfl
theorem q597 : (Jvm.Cond.selects "PaperMill" ({ cls := "PaperMill", name := "meanDamp", desc := "()D" } : Jvm.MethodName) ({ cls := "PaperMill", name := "meanDamp", desc := "()D" } : Jvm.MethodName)) ∈ lw_all := lw_g (lw_at lw_m3 6 rfl) rfl
theorem q598 : (Jvm.Cond.code ({ cls := "PaperMill", name := "meanDamp", desc := "()D" } : Jvm.MethodName) prog_1_method_72_code (3 : Nat) (Option.some Jvm.ClassFile.FieldType.double)) ∈ lw_all := lw_g (lw_at lw_m3 7 rfl) rfl
theorem q599 : (Jvm.Cond.interfaceEntry "PaperMill" (108 : Nat)) ∈ lw_tbl := lw_at lw_m3 8 rfl
theorem q600 : (Jvm.Cond.methodLink "PaperMill" (108 : Nat) ({ cls := "java/util/List", name := "get", desc := "(I)Ljava/lang/Object;" } : Jvm.MethodName)) ∈ lw_all := lw_g (lw_at lw_m3 9 rfl) rfl
theorem q601 : (Jvm.Cond.classLink "PaperMill" (120 : Nat) "PaperMill$Bale") ∈ lw_all := lw_g (lw_at lw_m3 10 rfl) rfl
theorem q602 : (Jvm.Cond.interfaceEntry "PaperMill" (367 : Nat)) ∈ lw_tbl := lw_at lw_m3 11 rfl
theorem q603 : (Jvm.Cond.methodLink "PaperMill" (367 : Nat) ({ cls := "java/util/List", name := "isEmpty", desc := "()Z" } : Jvm.MethodName)) ∈ lw_all := lw_g (lw_at lw_m3 12 rfl) rfl
theorem q612 : (Jvm.Cond.instanceMethod ({ cls := "PaperMill", name := "daysUntilMould", desc := "()I" } : Jvm.MethodName)) ∈ lw_all := lw_g (lw_at lw_m3 21 rfl) rfl
theorem q613 : (Jvm.Cond.selects "PaperMill" ({ cls := "PaperMill", name := "daysUntilMould", desc := "()I" } : Jvm.MethodName) ({ cls := "PaperMill", name := "daysUntilMould", desc := "()I" } : Jvm.MethodName)) ∈ lw_all := lw_g (lw_at lw_m3 22 rfl) rfl
theorem q614 : (Jvm.Cond.code ({ cls := "PaperMill", name := "daysUntilMould", desc := "()I" } : Jvm.MethodName) prog_1_method_73_code (3 : Nat) (Option.some Jvm.ClassFile.FieldType.int)) ∈ lw_all := lw_g (lw_at lw_m3 23 rfl) rfl
theorem q615 : (Jvm.Cond.methodLink "PaperMill" (80 : Nat) ({ cls := "PaperMill$State", name := "copy", desc := "()LPaperMill$State;" } : Jvm.MethodName)) ∈ lw_all := lw_g (lw_at lw_m3 24 rfl) rfl
theorem q637 : (Jvm.Cond.fieldLink "PaperMill" (308 : Nat) "PaperMill$Bale" "sort" "I") ∈ lw_all := lw_g (lw_at lw_m3 46 rfl) rfl
theorem q640 : (Jvm.Cond.fieldLink "PaperMill" (190 : Nat) "PaperMill$Bale" "rags" "I") ∈ lw_all := lw_g (lw_at lw_m3 49 rfl) rfl
theorem q643 : (Jvm.Cond.fieldLink "PaperMill" (309 : Nat) "PaperMill$Bale" "damp" "I") ∈ lw_all := lw_g (lw_at lw_m3 52 rfl) rfl
theorem q646 : (Jvm.Cond.fieldLink "PaperMill" (316 : Nat) "PaperMill$Bale" "wetDays" "I") ∈ lw_all := lw_g (lw_at lw_m3 55 rfl) rfl
theorem q649 : (Jvm.Cond.fieldLink "PaperMill" (312 : Nat) "PaperMill$Bale" "isMouldy" "Z") ∈ lw_all := lw_g (lw_at lw_m3 58 rfl) rfl
theorem q687 : (Jvm.Cond.fieldLink "PaperMill" (348 : Nat) "PaperMill$Pile" "grade" "LPaperMill$Grade;") ∈ lw_all := lw_g (lw_at lw_m3 96 rfl) rfl
theorem q690 : (Jvm.Cond.fieldLink "PaperMill" (345 : Nat) "PaperMill$Pile" "sheets" "I") ∈ lw_all := lw_g (lw_at lw_m3 99 rfl) rfl
theorem q704 : (Jvm.Cond.methodLink "PaperMill" (371 : Nat) ({ cls := "PaperMill$State", name := "night", desc := "()V" } : Jvm.MethodName)) ∈ lw_all := lw_g (lw_at lw_m3 113 rfl) rfl
theorem q748 : (Jvm.Cond.instanceMethod ({ cls := "PaperMill", name := "clearText", desc := "()I" } : Jvm.MethodName)) ∈ lw_all := lw_g (lw_at lw_m3 157 rfl) rfl
theorem q749 : (Jvm.Cond.selects "PaperMill" ({ cls := "PaperMill", name := "clearText", desc := "()I" } : Jvm.MethodName) ({ cls := "PaperMill", name := "clearText", desc := "()I" } : Jvm.MethodName)) ∈ lw_all := lw_g (lw_at lw_m3 158 rfl) rfl
theorem q750 : (Jvm.Cond.code ({ cls := "PaperMill", name := "clearText", desc := "()I" } : Jvm.MethodName) prog_1_method_76_code (2 : Nat) (Option.some Jvm.ClassFile.FieldType.int)) ∈ lw_all := lw_g (lw_at lw_m3 159 rfl) rfl
theorem q751 : (Jvm.Cond.methodLink "PaperMill" (374 : Nat) ({ cls := "java/lang/StringBuilder", name := "length", desc := "()I" } : Jvm.MethodName)) ∈ lw_all := lw_g (lw_at lw_m3 160 rfl) rfl
theorem q758 : (Jvm.Cond.methodLink "PaperMill" (381 : Nat) ({ cls := "java/lang/StringBuilder", name := "setLength", desc := "(I)V" } : Jvm.MethodName)) ∈ lw_all := lw_g (lw_at lw_m3 167 rfl) rfl
theorem q1082 : (Jvm.Cond.instanceMethod ({ cls := "PaperMill", name := "errorPosition", desc := "()I" } : Jvm.MethodName)) ∈ lw_all := lw_g (lw_at lw_m5 11 rfl) rfl
theorem q1083 : (Jvm.Cond.selects "PaperMill" ({ cls := "PaperMill", name := "errorPosition", desc := "()I" } : Jvm.MethodName) ({ cls := "PaperMill", name := "errorPosition", desc := "()I" } : Jvm.MethodName)) ∈ lw_all := lw_g (lw_at lw_m5 12 rfl) rfl
theorem q1084 : (Jvm.Cond.code ({ cls := "PaperMill", name := "errorPosition", desc := "()I" } : Jvm.MethodName) prog_1_method_77_code (2 : Nat) (Option.some Jvm.ClassFile.FieldType.int)) ∈ lw_all := lw_g (lw_at lw_m5 13 rfl) rfl
theorem q1085 : (Jvm.Cond.classLink "PaperMill" (384 : Nat) "PaperMill$TextReader") ∈ lw_all := lw_g (lw_at lw_m5 14 rfl) rfl
theorem q1087 : (Jvm.Cond.methodLinkNest "PaperMill" (386 : Nat) ({ cls := "PaperMill$TextReader", name := "<init>", desc := "(LPaperMill;)V" } : Jvm.MethodName) "PaperMill") ∈ lw_tbl := lw_at lw_m5 16 rfl
theorem q1094 : (Jvm.Cond.fieldLinkNest "PaperMill" (392 : Nat) "PaperMill$TextReader" "place" "I" "PaperMill") ∈ lw_tbl := lw_at lw_m5 23 rfl
theorem q1110 : (Jvm.Cond.methodLink "PaperMill" (389 : Nat) ({ cls := "PaperMill$TextReader", name := "readAll", desc := "()Z" } : Jvm.MethodName)) ∈ lw_all := lw_g (lw_at lw_m5 39 rfl) rfl
theorem q1177 : (Jvm.Cond.fieldLink "PaperMill" (29 : Nat) "PaperMill$Times" "mix" "LPaperMill$Mix;") ∈ lw_all := lw_g (lw_at lw_m5 106 rfl) rfl
theorem q1179 : (Jvm.Cond.fieldLink "PaperMill" (26 : Nat) "PaperMill$Times" "times" "I") ∈ lw_all := lw_g (lw_at lw_m5 108 rfl) rfl
theorem q1198 : (Jvm.Cond.fieldLink "PaperMill" (14 : Nat) "PaperMill$Both" "left" "LPaperMill$Mix;") ∈ lw_all := lw_g (lw_at lw_m5 127 rfl) rfl
theorem q1200 : (Jvm.Cond.fieldLink "PaperMill" (21 : Nat) "PaperMill$Both" "right" "LPaperMill$Mix;") ∈ lw_all := lw_g (lw_at lw_m5 129 rfl) rfl
theorem q1258 : (Jvm.Cond.static ({ cls := "PaperMill", name := "first", desc := "([LPaperMill$Reason;)I" } : Jvm.MethodName)) ∈ lw_all := lw_g (lw_at lw_m5 187 rfl) rfl
theorem q1259 : (Jvm.Cond.code ({ cls := "PaperMill", name := "first", desc := "([LPaperMill$Reason;)I" } : Jvm.MethodName) prog_1_method_5_code (2 : Nat) (Option.some Jvm.ClassFile.FieldType.int)) ∈ lw_all := lw_g (lw_at lw_m5 188 rfl) rfl
theorem q1260 : (Jvm.Cond.interfaceEntry "PaperMill" (36 : Nat)) ∈ lw_tbl := lw_at lw_m5 189 rfl
theorem q1261 : (Jvm.Cond.methodLink "PaperMill" (36 : Nat) ({ cls := "PaperMill$Reason", name := "holds", desc := "()Z" } : Jvm.MethodName)) ∈ lw_all := lw_g (lw_at lw_m5 190 rfl) rfl
theorem q1284 : (Jvm.Cond.static ({ cls := "PaperMill", name := "shares", desc := "(LPaperMill$Mix;I)[I" } : Jvm.MethodName)) ∈ lw_all := lw_g (lw_at lw_m5 213 rfl) rfl
theorem q1285 : (Jvm.Cond.code ({ cls := "PaperMill", name := "shares", desc := "(LPaperMill$Mix;I)[I" } : Jvm.MethodName) prog_1_method_4_code (8 : Nat) (Option.some (Jvm.ClassFile.FieldType.array Jvm.ClassFile.FieldType.int))) ∈ lw_all := lw_g (lw_at lw_m5 214 rfl) rfl
theorem q1286 : (Jvm.Cond.methodLink "PaperMill" (18 : Nat) ({ cls := "PaperMill", name := "parts", desc := "(LPaperMill$Mix;I)I" } : Jvm.MethodName)) ∈ lw_all := lw_g (lw_at lw_m5 215 rfl) rfl
theorem q1287 : (Jvm.Cond.static ({ cls := "PaperMill", name := "parts", desc := "(LPaperMill$Mix;I)I" } : Jvm.MethodName)) ∈ lw_all := lw_g (lw_at lw_m5 216 rfl) rfl
theorem q1288 : (Jvm.Cond.code ({ cls := "PaperMill", name := "parts", desc := "(LPaperMill$Mix;I)I" } : Jvm.MethodName) prog_1_method_2_code (3 : Nat) (Option.some Jvm.ClassFile.FieldType.int)) ∈ lw_all := lw_g (lw_at lw_m5 217 rfl) rfl
theorem q1298 : (Jvm.Cond.static ({ cls := "PaperMill", name := "strength", desc := "(I)I" } : Jvm.MethodName)) ∈ lw_all := lw_g (lw_at lw_m5 227 rfl) rfl
theorem q1299 : (Jvm.Cond.code ({ cls := "PaperMill", name := "strength", desc := "(I)I" } : Jvm.MethodName) prog_1_method_1_code (1 : Nat) (Option.some Jvm.ClassFile.FieldType.int)) ∈ lw_all := lw_g (lw_at lw_m5 228 rfl) rfl
theorem q1399 : (Jvm.Cond.instanceMethod ({ cls := "PaperMill", name := "takeSnapshot", desc := "()I" } : Jvm.MethodName)) ∈ lw_all := lw_g (lw_at lw_m6 88 rfl) rfl
theorem q1400 : (Jvm.Cond.selects "PaperMill" ({ cls := "PaperMill", name := "takeSnapshot", desc := "()I" } : Jvm.MethodName) ({ cls := "PaperMill", name := "takeSnapshot", desc := "()I" } : Jvm.MethodName)) ∈ lw_all := lw_g (lw_at lw_m6 89 rfl) rfl
theorem q1401 : (Jvm.Cond.code ({ cls := "PaperMill", name := "takeSnapshot", desc := "()I" } : Jvm.MethodName) prog_1_method_80_code (1 : Nat) (Option.some Jvm.ClassFile.FieldType.int)) ∈ lw_all := lw_g (lw_at lw_m6 90 rfl) rfl
theorem q1411 : (Jvm.Cond.instanceMethod ({ cls := "PaperMill", name := "deliver", desc := "(IIII)I" } : Jvm.MethodName)) ∈ lw_all := lw_g (lw_at lw_m6 100 rfl) rfl
theorem q1412 : (Jvm.Cond.selects "PaperMill" ({ cls := "PaperMill", name := "deliver", desc := "(IIII)I" } : Jvm.MethodName) ({ cls := "PaperMill", name := "deliver", desc := "(IIII)I" } : Jvm.MethodName)) ∈ lw_all := lw_g (lw_at lw_m6 101 rfl) rfl
theorem q1413 : (Jvm.Cond.code ({ cls := "PaperMill", name := "deliver", desc := "(IIII)I" } : Jvm.MethodName) prog_1_method_18_code (6 : Nat) (Option.some Jvm.ClassFile.FieldType.int)) ∈ lw_all := lw_g (lw_at lw_m6 102 rfl) rfl
theorem q1414 : (Jvm.Cond.methodLink "PaperMill" (100 : Nat) ({ cls := "PaperMill", name := "checkNumber", desc := "(II)V" } : Jvm.MethodName)) ∈ lw_all := lw_g (lw_at lw_m6 103 rfl) rfl
theorem q1415 : (Jvm.Cond.static ({ cls := "PaperMill", name := "checkNumber", desc := "(II)V" } : Jvm.MethodName)) ∈ lw_all := lw_g (lw_at lw_m6 104 rfl) rfl
theorem q1416 : (Jvm.Cond.code ({ cls := "PaperMill", name := "checkNumber", desc := "(II)V" } : Jvm.MethodName) prog_1_method_8_code (2 : Nat) (Option.none : Option Jvm.ClassFile.FieldType)) ∈ lw_all := lw_g (lw_at lw_m6 105 rfl) rfl
theorem q1417 : (Jvm.Cond.classLink "PaperMill" (87 : Nat) "java/lang/IndexOutOfBoundsException") ∈ lw_all := lw_g (lw_at lw_m6 106 rfl) rfl
theorem q1426 : (Jvm.Cond.methodLink "PaperMill" (89 : Nat) ({ cls := "java/lang/IndexOutOfBoundsException", name := "<init>", desc := "()V" } : Jvm.MethodName)) ∈ lw_all := lw_g (lw_at lw_m6 115 rfl) rfl
theorem q1435 : (Jvm.Cond.methodLink "PaperMill" (96 : Nat) ({ cls := "PaperMill", name := "checkRange", desc := "(III)V" } : Jvm.MethodName)) ∈ lw_all := lw_g (lw_at lw_m6 124 rfl) rfl
theorem q1436 : (Jvm.Cond.static ({ cls := "PaperMill", name := "checkRange", desc := "(III)V" } : Jvm.MethodName)) ∈ lw_all := lw_g (lw_at lw_m6 125 rfl) rfl
theorem q1437 : (Jvm.Cond.code ({ cls := "PaperMill", name := "checkRange", desc := "(III)V" } : Jvm.MethodName) prog_1_method_9_code (3 : Nat) (Option.none : Option Jvm.ClassFile.FieldType)) ∈ lw_all := lw_g (lw_at lw_m6 126 rfl) rfl
theorem q1438 : (Jvm.Cond.classLink "PaperMill" (90 : Nat) "java/lang/IllegalArgumentException") ∈ lw_all := lw_g (lw_at lw_m6 127 rfl) rfl
theorem q1439 : (Jvm.Cond.methodLink "PaperMill" (92 : Nat) ({ cls := "java/lang/IllegalArgumentException", name := "<init>", desc := "()V" } : Jvm.MethodName)) ∈ lw_all := lw_g (lw_at lw_m6 128 rfl) rfl
theorem q1443 : (Jvm.Cond.methodLink "PaperMill" (142 : Nat) ({ cls := "PaperMill$State", name := "whyNotIn", desc := "(III)I" } : Jvm.MethodName)) ∈ lw_all := lw_g (lw_at lw_m6 132 rfl) rfl
theorem q1444 : (Jvm.Cond.methodLink "PaperMill" (146 : Nat) ({ cls := "PaperMill", name := "checkState", desc := "(Z)V" } : Jvm.MethodName)) ∈ lw_all := lw_g (lw_at lw_m6 133 rfl) rfl
theorem q1445 : (Jvm.Cond.static ({ cls := "PaperMill", name := "checkState", desc := "(Z)V" } : Jvm.MethodName)) ∈ lw_all := lw_g (lw_at lw_m6 134 rfl) rfl
theorem q1446 : (Jvm.Cond.code ({ cls := "PaperMill", name := "checkState", desc := "(Z)V" } : Jvm.MethodName) prog_1_method_10_code (1 : Nat) (Option.none : Option Jvm.ClassFile.FieldType)) ∈ lw_all := lw_g (lw_at lw_m6 135 rfl) rfl
theorem q1447 : (Jvm.Cond.classLink "PaperMill" (93 : Nat) "java/lang/IllegalStateException") ∈ lw_all := lw_g (lw_at lw_m6 136 rfl) rfl
theorem q1456 : (Jvm.Cond.methodLink "PaperMill" (95 : Nat) ({ cls := "java/lang/IllegalStateException", name := "<init>", desc := "()V" } : Jvm.MethodName)) ∈ lw_all := lw_g (lw_at lw_m6 145 rfl) rfl
theorem q1462 : (Jvm.Cond.methodLink "PaperMill" (150 : Nat) ({ cls := "PaperMill", name := "save", desc := "()V" } : Jvm.MethodName)) ∈ lw_all := lw_g (lw_at lw_m6 151 rfl) rfl
theorem q1463 : (Jvm.Cond.privateMethod ({ cls := "PaperMill", name := "save", desc := "()V" } : Jvm.MethodName)) ∈ lw_tbl := lw_at lw_m6 152 rfl
theorem q1464 : (Jvm.Cond.instanceMethod ({ cls := "PaperMill", name := "save", desc := "()V" } : Jvm.MethodName)) ∈ lw_all := lw_g (lw_at lw_m6 153 rfl) rfl
theorem q1465 : (Jvm.Cond.code ({ cls := "PaperMill", name := "save", desc := "()V" } : Jvm.MethodName) prog_1_method_7_code (1 : Nat) (Option.none : Option Jvm.ClassFile.FieldType)) ∈ lw_all := lw_g (lw_at lw_m6 154 rfl) rfl
theorem q1466 : (Jvm.Cond.methodLink "PaperMill" (72 : Nat) ({ cls := "java/util/ArrayDeque", name := "size", desc := "()I" } : Jvm.MethodName)) ∈ lw_all := lw_g (lw_at lw_m6 155 rfl) rfl
theorem q1473 : (Jvm.Cond.methodLink "PaperMill" (76 : Nat) ({ cls := "java/util/ArrayDeque", name := "removeFirst", desc := "()Ljava/lang/Object;" } : Jvm.MethodName)) ∈ lw_all := lw_g (lw_at lw_m6 162 rfl) rfl
theorem q1487 : (Jvm.Cond.methodLink "PaperMill" (83 : Nat) ({ cls := "java/util/ArrayDeque", name := "addLast", desc := "(Ljava/lang/Object;)V" } : Jvm.MethodName)) ∈ lw_all := lw_g (lw_at lw_m6 176 rfl) rfl
theorem q1509 : (Jvm.Cond.methodLink "PaperMill" (153 : Nat) ({ cls := "PaperMill$State", name := "deliver", desc := "(IIII)Z" } : Jvm.MethodName)) ∈ lw_all := lw_g (lw_at lw_m6 198 rfl) rfl
theorem q1514 : (Jvm.Cond.instanceMethod ({ cls := "PaperMill", name := "payToll", desc := "(II)I" } : Jvm.MethodName)) ∈ lw_all := lw_g (lw_at lw_m6 203 rfl) rfl
theorem q1515 : (Jvm.Cond.selects "PaperMill" ({ cls := "PaperMill", name := "payToll", desc := "(II)I" } : Jvm.MethodName) ({ cls := "PaperMill", name := "payToll", desc := "(II)I" } : Jvm.MethodName)) ∈ lw_all := lw_g (lw_at lw_m6 204 rfl) rfl
theorem q1516 : (Jvm.Cond.code ({ cls := "PaperMill", name := "payToll", desc := "(II)I" } : Jvm.MethodName) prog_1_method_19_code (3 : Nat) (Option.some Jvm.ClassFile.FieldType.int)) ∈ lw_all := lw_g (lw_at lw_m6 205 rfl) rfl
theorem q1517 : (Jvm.Cond.methodLink "PaperMill" (157 : Nat) ({ cls := "PaperMill", name := "carter", desc := "(I)LPaperMill$Carter;" } : Jvm.MethodName)) ∈ lw_all := lw_g (lw_at lw_m6 206 rfl) rfl
theorem q1518 : (Jvm.Cond.privateMethod ({ cls := "PaperMill", name := "carter", desc := "(I)LPaperMill$Carter;" } : Jvm.MethodName)) ∈ lw_tbl := lw_at lw_m6 207 rfl
theorem q1519 : (Jvm.Cond.instanceMethod ({ cls := "PaperMill", name := "carter", desc := "(I)LPaperMill$Carter;" } : Jvm.MethodName)) ∈ lw_all := lw_g (lw_at lw_m6 208 rfl) rfl
theorem q1520 : (Jvm.Cond.code ({ cls := "PaperMill", name := "carter", desc := "(I)LPaperMill$Carter;" } : Jvm.MethodName) prog_1_method_12_code (2 : Nat) (Option.some (Jvm.ClassFile.FieldType.object "PaperMill$Carter"))) ∈ lw_all := lw_g (lw_at lw_m6 209 rfl) rfl
theorem q1521 : (Jvm.Cond.classLink "PaperMill" (114 : Nat) "PaperMill$Carter") ∈ lw_all := lw_g (lw_at lw_m6 210 rfl) rfl
theorem q1526 : (Jvm.Cond.instanceMethod ({ cls := "PaperMill", name := "givePass", desc := "(II)I" } : Jvm.MethodName)) ∈ lw_all := lw_g (lw_at lw_m6 215 rfl) rfl
theorem q1527 : (Jvm.Cond.selects "PaperMill" ({ cls := "PaperMill", name := "givePass", desc := "(II)I" } : Jvm.MethodName) ({ cls := "PaperMill", name := "givePass", desc := "(II)I" } : Jvm.MethodName)) ∈ lw_all := lw_g (lw_at lw_m6 216 rfl) rfl
theorem q1528 : (Jvm.Cond.code ({ cls := "PaperMill", name := "givePass", desc := "(II)I" } : Jvm.MethodName) prog_1_method_20_code (4 : Nat) (Option.some Jvm.ClassFile.FieldType.int)) ∈ lw_all := lw_g (lw_at lw_m6 217 rfl) rfl
theorem q1529 : (Jvm.Cond.methodLink "PaperMill" (167 : Nat) ({ cls := "PaperMill$State", name := "canOwe", desc := "(II)Z" } : Jvm.MethodName)) ∈ lw_all := lw_g (lw_at lw_m6 218 rfl) rfl
theorem q1534 : (Jvm.Cond.instanceMethod ({ cls := "PaperMill", name := "setLimit", desc := "(I)I" } : Jvm.MethodName)) ∈ lw_all := lw_g (lw_at lw_m6 223 rfl) rfl
theorem q1535 : (Jvm.Cond.selects "PaperMill" ({ cls := "PaperMill", name := "setLimit", desc := "(I)I" } : Jvm.MethodName) ({ cls := "PaperMill", name := "setLimit", desc := "(I)I" } : Jvm.MethodName)) ∈ lw_all := lw_g (lw_at lw_m6 224 rfl) rfl
theorem q1536 : (Jvm.Cond.code ({ cls := "PaperMill", name := "setLimit", desc := "(I)I" } : Jvm.MethodName) prog_1_method_21_code (3 : Nat) (Option.some Jvm.ClassFile.FieldType.int)) ∈ lw_all := lw_g (lw_at lw_m6 225 rfl) rfl
theorem q1541 : (Jvm.Cond.instanceMethod ({ cls := "PaperMill", name := "setStove", desc := "(I)I" } : Jvm.MethodName)) ∈ lw_all := lw_g (lw_at lw_m6 230 rfl) rfl
theorem q1542 : (Jvm.Cond.selects "PaperMill" ({ cls := "PaperMill", name := "setStove", desc := "(I)I" } : Jvm.MethodName) ({ cls := "PaperMill", name := "setStove", desc := "(I)I" } : Jvm.MethodName)) ∈ lw_all := lw_g (lw_at lw_m6 231 rfl) rfl
theorem q1543 : (Jvm.Cond.code ({ cls := "PaperMill", name := "setStove", desc := "(I)I" } : Jvm.MethodName) prog_1_method_22_code (3 : Nat) (Option.some Jvm.ClassFile.FieldType.int)) ∈ lw_all := lw_g (lw_at lw_m6 232 rfl) rfl
theorem q1548 : (Jvm.Cond.instanceMethod ({ cls := "PaperMill", name := "moveBale", desc := "(II)I" } : Jvm.MethodName)) ∈ lw_all := lw_g (lw_at lw_m6 237 rfl) rfl
theorem q1549 : (Jvm.Cond.selects "PaperMill" ({ cls := "PaperMill", name := "moveBale", desc := "(II)I" } : Jvm.MethodName) ({ cls := "PaperMill", name := "moveBale", desc := "(II)I" } : Jvm.MethodName)) ∈ lw_all := lw_g (lw_at lw_m6 238 rfl) rfl
theorem q1550 : (Jvm.Cond.code ({ cls := "PaperMill", name := "moveBale", desc := "(II)I" } : Jvm.MethodName) prog_1_method_23_code (4 : Nat) (Option.some Jvm.ClassFile.FieldType.int)) ∈ lw_all := lw_g (lw_at lw_m6 239 rfl) rfl
theorem q1551 : (Jvm.Cond.interfaceEntry "PaperMill" (183 : Nat)) ∈ lw_tbl := lw_at lw_m7 0 rfl
theorem q1552 : (Jvm.Cond.methodLink "PaperMill" (183 : Nat) ({ cls := "java/util/List", name := "remove", desc := "(I)Ljava/lang/Object;" } : Jvm.MethodName)) ∈ lw_all := lw_g (lw_at lw_m7 1 rfl) rfl
theorem q1553 : (Jvm.Cond.interfaceEntry "PaperMill" (186 : Nat)) ∈ lw_tbl := lw_at lw_m7 2 rfl
theorem q1554 : (Jvm.Cond.methodLink "PaperMill" (186 : Nat) ({ cls := "java/util/List", name := "add", desc := "(ILjava/lang/Object;)V" } : Jvm.MethodName)) ∈ lw_all := lw_g (lw_at lw_m7 3 rfl) rfl
theorem q1583 : (Jvm.Cond.instanceMethod ({ cls := "PaperMill", name := "burn", desc := "(I)I" } : Jvm.MethodName)) ∈ lw_all := lw_g (lw_at lw_m7 32 rfl) rfl
theorem q1584 : (Jvm.Cond.selects "PaperMill" ({ cls := "PaperMill", name := "burn", desc := "(I)I" } : Jvm.MethodName) ({ cls := "PaperMill", name := "burn", desc := "(I)I" } : Jvm.MethodName)) ∈ lw_all := lw_g (lw_at lw_m7 33 rfl) rfl
theorem q1585 : (Jvm.Cond.code ({ cls := "PaperMill", name := "burn", desc := "(I)I" } : Jvm.MethodName) prog_1_method_24_code (3 : Nat) (Option.some Jvm.ClassFile.FieldType.int)) ∈ lw_all := lw_g (lw_at lw_m7 34 rfl) rfl
theorem q1590 : (Jvm.Cond.instanceMethod ({ cls := "PaperMill", name := "beat", desc := "(II)I" } : Jvm.MethodName)) ∈ lw_all := lw_g (lw_at lw_m7 39 rfl) rfl
theorem q1591 : (Jvm.Cond.selects "PaperMill" ({ cls := "PaperMill", name := "beat", desc := "(II)I" } : Jvm.MethodName) ({ cls := "PaperMill", name := "beat", desc := "(II)I" } : Jvm.MethodName)) ∈ lw_all := lw_g (lw_at lw_m7 40 rfl) rfl
theorem q1592 : (Jvm.Cond.code ({ cls := "PaperMill", name := "beat", desc := "(II)I" } : Jvm.MethodName) prog_1_method_25_code (3 : Nat) (Option.some Jvm.ClassFile.FieldType.int)) ∈ lw_all := lw_g (lw_at lw_m7 41 rfl) rfl
theorem q1593 : (Jvm.Cond.methodLink "PaperMill" (196 : Nat) ({ cls := "PaperMill$State", name := "whyNotBeaten", desc := "(II)I" } : Jvm.MethodName)) ∈ lw_all := lw_g (lw_at lw_m7 42 rfl) rfl
theorem q1594 : (Jvm.Cond.methodLink "PaperMill" (200 : Nat) ({ cls := "PaperMill$State", name := "beat", desc := "(II)Z" } : Jvm.MethodName)) ∈ lw_all := lw_g (lw_at lw_m7 43 rfl) rfl
theorem q1595 : (Jvm.Cond.methodLink "PaperMill" (203 : Nat) ({ cls := "PaperMill", name := "vat", desc := "(I)LPaperMill$Vat;" } : Jvm.MethodName)) ∈ lw_all := lw_g (lw_at lw_m7 44 rfl) rfl
theorem q1596 : (Jvm.Cond.privateMethod ({ cls := "PaperMill", name := "vat", desc := "(I)LPaperMill$Vat;" } : Jvm.MethodName)) ∈ lw_tbl := lw_at lw_m7 45 rfl
theorem q1597 : (Jvm.Cond.instanceMethod ({ cls := "PaperMill", name := "vat", desc := "(I)LPaperMill$Vat;" } : Jvm.MethodName)) ∈ lw_all := lw_g (lw_at lw_m7 46 rfl) rfl
theorem q1598 : (Jvm.Cond.code ({ cls := "PaperMill", name := "vat", desc := "(I)LPaperMill$Vat;" } : Jvm.MethodName) prog_1_method_14_code (2 : Nat) (Option.some (Jvm.ClassFile.FieldType.object "PaperMill$Vat"))) ∈ lw_all := lw_g (lw_at lw_m7 47 rfl) rfl
theorem q1599 : (Jvm.Cond.classLink "PaperMill" (125 : Nat) "PaperMill$Vat") ∈ lw_all := lw_g (lw_at lw_m7 48 rfl) rfl
theorem q1604 : (Jvm.Cond.instanceMethod ({ cls := "PaperMill", name := "stamp", desc := "(II)I" } : Jvm.MethodName)) ∈ lw_all := lw_g (lw_at lw_m7 53 rfl) rfl
theorem q1605 : (Jvm.Cond.selects "PaperMill" ({ cls := "PaperMill", name := "stamp", desc := "(II)I" } : Jvm.MethodName) ({ cls := "PaperMill", name := "stamp", desc := "(II)I" } : Jvm.MethodName)) ∈ lw_all := lw_g (lw_at lw_m7 54 rfl) rfl
theorem q1606 : (Jvm.Cond.code ({ cls := "PaperMill", name := "stamp", desc := "(II)I" } : Jvm.MethodName) prog_1_method_26_code (3 : Nat) (Option.some Jvm.ClassFile.FieldType.int)) ∈ lw_all := lw_g (lw_at lw_m7 55 rfl) rfl
theorem q1607 : (Jvm.Cond.methodLink "PaperMill" (210 : Nat) ({ cls := "PaperMill$State", name := "canStamp", desc := "(II)Z" } : Jvm.MethodName)) ∈ lw_all := lw_g (lw_at lw_m7 56 rfl) rfl
theorem q1608 : (Jvm.Cond.methodLink "PaperMill" (213 : Nat) ({ cls := "PaperMill$State", name := "stamp", desc := "(II)Z" } : Jvm.MethodName)) ∈ lw_all := lw_g (lw_at lw_m7 57 rfl) rfl
theorem q1613 : (Jvm.Cond.instanceMethod ({ cls := "PaperMill", name := "drain", desc := "(I)I" } : Jvm.MethodName)) ∈ lw_all := lw_g (lw_at lw_m7 62 rfl) rfl
theorem q1614 : (Jvm.Cond.selects "PaperMill" ({ cls := "PaperMill", name := "drain", desc := "(I)I" } : Jvm.MethodName) ({ cls := "PaperMill", name := "drain", desc := "(I)I" } : Jvm.MethodName)) ∈ lw_all := lw_g (lw_at lw_m7 63 rfl) rfl
theorem q1615 : (Jvm.Cond.code ({ cls := "PaperMill", name := "drain", desc := "(I)I" } : Jvm.MethodName) prog_1_method_27_code (3 : Nat) (Option.some Jvm.ClassFile.FieldType.int)) ∈ lw_all := lw_g (lw_at lw_m7 64 rfl) rfl
theorem q1616 : (Jvm.Cond.methodLink "PaperMill" (219 : Nat) ({ cls := "PaperMill$Vat", name := "isEmpty", desc := "()Z" } : Jvm.MethodName)) ∈ lw_all := lw_g (lw_at lw_m7 65 rfl) rfl
theorem q1617 : (Jvm.Cond.methodLink "PaperMill" (225 : Nat) ({ cls := "PaperMill$Vat", name := "use", desc := "(I)V" } : Jvm.MethodName)) ∈ lw_all := lw_g (lw_at lw_m7 66 rfl) rfl
theorem q1622 : (Jvm.Cond.instanceMethod ({ cls := "PaperMill", name := "setMark", desc := "(II)I" } : Jvm.MethodName)) ∈ lw_all := lw_g (lw_at lw_m7 71 rfl) rfl
theorem q1623 : (Jvm.Cond.selects "PaperMill" ({ cls := "PaperMill", name := "setMark", desc := "(II)I" } : Jvm.MethodName) ({ cls := "PaperMill", name := "setMark", desc := "(II)I" } : Jvm.MethodName)) ∈ lw_all := lw_g (lw_at lw_m7 72 rfl) rfl
theorem q1624 : (Jvm.Cond.code ({ cls := "PaperMill", name := "setMark", desc := "(II)I" } : Jvm.MethodName) prog_1_method_28_code (5 : Nat) (Option.some Jvm.ClassFile.FieldType.int)) ∈ lw_all := lw_g (lw_at lw_m7 73 rfl) rfl
theorem q1625 : (Jvm.Cond.classLink "PaperMill" (130 : Nat) "PaperMill$Mould") ∈ lw_all := lw_g (lw_at lw_m7 74 rfl) rfl
theorem q1626 : (Jvm.Cond.methodLink "PaperMill" (232 : Nat) ({ cls := "PaperMill", name := "mould", desc := "(I)LPaperMill$Mould;" } : Jvm.MethodName)) ∈ lw_all := lw_g (lw_at lw_m7 75 rfl) rfl
theorem q1627 : (Jvm.Cond.privateMethod ({ cls := "PaperMill", name := "mould", desc := "(I)LPaperMill$Mould;" } : Jvm.MethodName)) ∈ lw_tbl := lw_at lw_m7 76 rfl
theorem q1628 : (Jvm.Cond.instanceMethod ({ cls := "PaperMill", name := "mould", desc := "(I)LPaperMill$Mould;" } : Jvm.MethodName)) ∈ lw_all := lw_g (lw_at lw_m7 77 rfl) rfl
theorem q1629 : (Jvm.Cond.code ({ cls := "PaperMill", name := "mould", desc := "(I)LPaperMill$Mould;" } : Jvm.MethodName) prog_1_method_15_code (2 : Nat) (Option.some (Jvm.ClassFile.FieldType.object "PaperMill$Mould"))) ∈ lw_all := lw_g (lw_at lw_m7 78 rfl) rfl
theorem q1634 : (Jvm.Cond.instanceMethod ({ cls := "PaperMill", name := "mend", desc := "(I)I" } : Jvm.MethodName)) ∈ lw_all := lw_g (lw_at lw_m7 83 rfl) rfl
theorem q1635 : (Jvm.Cond.selects "PaperMill" ({ cls := "PaperMill", name := "mend", desc := "(I)I" } : Jvm.MethodName) ({ cls := "PaperMill", name := "mend", desc := "(I)I" } : Jvm.MethodName)) ∈ lw_all := lw_g (lw_at lw_m7 84 rfl) rfl
theorem q1636 : (Jvm.Cond.code ({ cls := "PaperMill", name := "mend", desc := "(I)I" } : Jvm.MethodName) prog_1_method_29_code (3 : Nat) (Option.some Jvm.ClassFile.FieldType.int)) ∈ lw_all := lw_g (lw_at lw_m7 85 rfl) rfl
theorem q1641 : (Jvm.Cond.instanceMethod ({ cls := "PaperMill", name := "make", desc := "(III)I" } : Jvm.MethodName)) ∈ lw_all := lw_g (lw_at lw_m7 90 rfl) rfl
theorem q1642 : (Jvm.Cond.selects "PaperMill" ({ cls := "PaperMill", name := "make", desc := "(III)I" } : Jvm.MethodName) ({ cls := "PaperMill", name := "make", desc := "(III)I" } : Jvm.MethodName)) ∈ lw_all := lw_g (lw_at lw_m7 91 rfl) rfl
theorem q1643 : (Jvm.Cond.code ({ cls := "PaperMill", name := "make", desc := "(III)I" } : Jvm.MethodName) prog_1_method_30_code (4 : Nat) (Option.some Jvm.ClassFile.FieldType.int)) ∈ lw_all := lw_g (lw_at lw_m7 92 rfl) rfl
theorem q1644 : (Jvm.Cond.methodLink "PaperMill" (239 : Nat) ({ cls := "PaperMill$State", name := "whyNotMade", desc := "(III)I" } : Jvm.MethodName)) ∈ lw_all := lw_g (lw_at lw_m7 93 rfl) rfl
theorem q1645 : (Jvm.Cond.methodLink "PaperMill" (242 : Nat) ({ cls := "PaperMill$State", name := "make", desc := "(III)I" } : Jvm.MethodName)) ∈ lw_all := lw_g (lw_at lw_m7 94 rfl) rfl
theorem q1650 : (Jvm.Cond.instanceMethod ({ cls := "PaperMill", name := "pack", desc := "(III)I" } : Jvm.MethodName)) ∈ lw_all := lw_g (lw_at lw_m7 99 rfl) rfl
theorem q1651 : (Jvm.Cond.selects "PaperMill" ({ cls := "PaperMill", name := "pack", desc := "(III)I" } : Jvm.MethodName) ({ cls := "PaperMill", name := "pack", desc := "(III)I" } : Jvm.MethodName)) ∈ lw_all := lw_g (lw_at lw_m7 100 rfl) rfl
theorem q1652 : (Jvm.Cond.code ({ cls := "PaperMill", name := "pack", desc := "(III)I" } : Jvm.MethodName) prog_1_method_31_code (4 : Nat) (Option.some Jvm.ClassFile.FieldType.int)) ∈ lw_all := lw_g (lw_at lw_m7 101 rfl) rfl
theorem q1653 : (Jvm.Cond.methodLink "PaperMill" (245 : Nat) ({ cls := "PaperMill", name := "checkPaper", desc := "(III)V" } : Jvm.MethodName)) ∈ lw_all := lw_g (lw_at lw_m7 102 rfl) rfl
theorem q1654 : (Jvm.Cond.static ({ cls := "PaperMill", name := "checkPaper", desc := "(III)V" } : Jvm.MethodName)) ∈ lw_all := lw_g (lw_at lw_m7 103 rfl) rfl
theorem q1655 : (Jvm.Cond.code ({ cls := "PaperMill", name := "checkPaper", desc := "(III)V" } : Jvm.MethodName) prog_1_method_11_code (3 : Nat) (Option.none : Option Jvm.ClassFile.FieldType)) ∈ lw_all := lw_g (lw_at lw_m7 104 rfl) rfl
theorem q1656 : (Jvm.Cond.methodLink "PaperMill" (248 : Nat) ({ cls := "PaperMill", name := "whyNoReam", desc := "(III)I" } : Jvm.MethodName)) ∈ lw_all := lw_g (lw_at lw_m7 105 rfl) rfl
theorem q1657 : (Jvm.Cond.privateMethod ({ cls := "PaperMill", name := "whyNoReam", desc := "(III)I" } : Jvm.MethodName)) ∈ lw_tbl := lw_at lw_m7 106 rfl
theorem q1658 : (Jvm.Cond.instanceMethod ({ cls := "PaperMill", name := "whyNoReam", desc := "(III)I" } : Jvm.MethodName)) ∈ lw_all := lw_g (lw_at lw_m7 107 rfl) rfl
theorem q1659 : (Jvm.Cond.code ({ cls := "PaperMill", name := "whyNoReam", desc := "(III)I" } : Jvm.MethodName) prog_1_method_63_code (4 : Nat) (Option.some Jvm.ClassFile.FieldType.int)) ∈ lw_all := lw_g (lw_at lw_m7 108 rfl) rfl
theorem q1660 : (Jvm.Cond.methodLink "PaperMill" (251 : Nat) ({ cls := "PaperMill$Size", name := "of", desc := "(I)LPaperMill$Size;" } : Jvm.MethodName)) ∈ lw_all := lw_g (lw_at lw_m7 109 rfl) rfl
theorem q1661 : (Jvm.Cond.methodLink "PaperMill" (257 : Nat) ({ cls := "PaperMill$Grade", name := "of", desc := "(I)LPaperMill$Grade;" } : Jvm.MethodName)) ∈ lw_all := lw_g (lw_at lw_m7 110 rfl) rfl
theorem q1664 : (Jvm.Cond.methodLink "PaperMill" (266 : Nat) ({ cls := "PaperMill$State", name := "drySheets", desc := "(ILPaperMill$Size;LPaperMill$Grade;)I" } : Jvm.MethodName)) ∈ lw_all := lw_g (lw_at lw_m7 113 rfl) rfl
theorem q1672 : (Jvm.Cond.methodLink "PaperMill" (270 : Nat) ({ cls := "PaperMill$State", name := "hasRoomForReam", desc := "()Z" } : Jvm.MethodName)) ∈ lw_all := lw_g (lw_at lw_m7 121 rfl) rfl
theorem q1676 : (Jvm.Cond.methodLink "PaperMill" (262 : Nat) ({ cls := "PaperMill$State", name := "pack", desc := "(ILPaperMill$Size;LPaperMill$Grade;I)V" } : Jvm.MethodName)) ∈ lw_all := lw_g (lw_at lw_m7 125 rfl) rfl
theorem q1688 : (Jvm.Cond.fieldLink "PaperMill" (358 : Nat) "PaperMill$Ream" "quires" "I") ∈ lw_all := lw_g (lw_at lw_m7 137 rfl) rfl
theorem q1700 : (Jvm.Cond.instanceMethod ({ cls := "PaperMill", name := "packShort", desc := "(III)I" } : Jvm.MethodName)) ∈ lw_all := lw_g (lw_at lw_m7 149 rfl) rfl
theorem q1701 : (Jvm.Cond.selects "PaperMill" ({ cls := "PaperMill", name := "packShort", desc := "(III)I" } : Jvm.MethodName) ({ cls := "PaperMill", name := "packShort", desc := "(III)I" } : Jvm.MethodName)) ∈ lw_all := lw_g (lw_at lw_m7 150 rfl) rfl
theorem q1702 : (Jvm.Cond.code ({ cls := "PaperMill", name := "packShort", desc := "(III)I" } : Jvm.MethodName) prog_1_method_32_code (5 : Nat) (Option.some Jvm.ClassFile.FieldType.int)) ∈ lw_all := lw_g (lw_at lw_m7 151 rfl) rfl
theorem q1707 : (Jvm.Cond.instanceMethod ({ cls := "PaperMill", name := "send", desc := "(II)I" } : Jvm.MethodName)) ∈ lw_all := lw_g (lw_at lw_m7 156 rfl) rfl
theorem q1708 : (Jvm.Cond.selects "PaperMill" ({ cls := "PaperMill", name := "send", desc := "(II)I" } : Jvm.MethodName) ({ cls := "PaperMill", name := "send", desc := "(II)I" } : Jvm.MethodName)) ∈ lw_all := lw_g (lw_at lw_m7 157 rfl) rfl
theorem q1709 : (Jvm.Cond.code ({ cls := "PaperMill", name := "send", desc := "(II)I" } : Jvm.MethodName) prog_1_method_33_code (4 : Nat) (Option.some Jvm.ClassFile.FieldType.int)) ∈ lw_all := lw_g (lw_at lw_m7 158 rfl) rfl
theorem q1710 : (Jvm.Cond.methodLink "PaperMill" (273 : Nat) ({ cls := "PaperMill", name := "ream", desc := "(I)LPaperMill$Ream;" } : Jvm.MethodName)) ∈ lw_all := lw_g (lw_at lw_m7 159 rfl) rfl
theorem q1711 : (Jvm.Cond.privateMethod ({ cls := "PaperMill", name := "ream", desc := "(I)LPaperMill$Ream;" } : Jvm.MethodName)) ∈ lw_tbl := lw_at lw_m7 160 rfl
theorem q1712 : (Jvm.Cond.instanceMethod ({ cls := "PaperMill", name := "ream", desc := "(I)LPaperMill$Ream;" } : Jvm.MethodName)) ∈ lw_all := lw_g (lw_at lw_m7 161 rfl) rfl
theorem q1713 : (Jvm.Cond.code ({ cls := "PaperMill", name := "ream", desc := "(I)LPaperMill$Ream;" } : Jvm.MethodName) prog_1_method_17_code (2 : Nat) (Option.some (Jvm.ClassFile.FieldType.object "PaperMill$Ream"))) ∈ lw_all := lw_g (lw_at lw_m7 162 rfl) rfl
theorem q1714 : (Jvm.Cond.classLink "PaperMill" (140 : Nat) "PaperMill$Ream") ∈ lw_all := lw_g (lw_at lw_m7 163 rfl) rfl
theorem q1715 : (Jvm.Cond.methodLink "PaperMill" (277 : Nat) ({ cls := "PaperMill$Ream", name := "toll", desc := "()I" } : Jvm.MethodName)) ∈ lw_all := lw_g (lw_at lw_m7 164 rfl) rfl
theorem q1719 : (Jvm.Cond.methodLink "PaperMill" (280 : Nat) ({ cls := "PaperMill$Ream", name := "price", desc := "()I" } : Jvm.MethodName)) ∈ lw_all := lw_g (lw_at lw_m7 168 rfl) rfl
theorem q1747 : (Jvm.Cond.methodLink "PaperMill" (286 : Nat) ({ cls := "PaperMill$Ream", name := "units", desc := "()I" } : Jvm.MethodName)) ∈ lw_all := lw_g (lw_at lw_m7 196 rfl) rfl
theorem q1752 : (Jvm.Cond.instanceMethod ({ cls := "PaperMill", name := "pass", desc := "(I)I" } : Jvm.MethodName)) ∈ lw_all := lw_g (lw_at lw_m7 201 rfl) rfl
theorem q1753 : (Jvm.Cond.selects "PaperMill" ({ cls := "PaperMill", name := "pass", desc := "(I)I" } : Jvm.MethodName) ({ cls := "PaperMill", name := "pass", desc := "(I)I" } : Jvm.MethodName)) ∈ lw_all := lw_g (lw_at lw_m7 202 rfl) rfl
theorem q1754 : (Jvm.Cond.code ({ cls := "PaperMill", name := "pass", desc := "(I)I" } : Jvm.MethodName) prog_1_method_34_code (3 : Nat) (Option.some Jvm.ClassFile.FieldType.int)) ∈ lw_all := lw_g (lw_at lw_m7 203 rfl) rfl
theorem q1755 : (Jvm.Cond.methodLink "PaperMill" (288 : Nat) ({ cls := "PaperMill$State", name := "canPass", desc := "(I)Z" } : Jvm.MethodName)) ∈ lw_all := lw_g (lw_at lw_m7 204 rfl) rfl
theorem q1756 : (Jvm.Cond.methodLink "PaperMill" (295 : Nat) ({ cls := "PaperMill$State", name := "pass", desc := "(I)Z" } : Jvm.MethodName)) ∈ lw_all := lw_g (lw_at lw_m7 205 rfl) rfl
theorem q1761 : (Jvm.Cond.instanceMethod ({ cls := "PaperMill", name := "debtOf", desc := "(I)I" } : Jvm.MethodName)) ∈ lw_all := lw_g (lw_at lw_m7 210 rfl) rfl
theorem q1762 : (Jvm.Cond.selects "PaperMill" ({ cls := "PaperMill", name := "debtOf", desc := "(I)I" } : Jvm.MethodName) ({ cls := "PaperMill", name := "debtOf", desc := "(I)I" } : Jvm.MethodName)) ∈ lw_all := lw_g (lw_at lw_m7 211 rfl) rfl
theorem q1763 : (Jvm.Cond.code ({ cls := "PaperMill", name := "debtOf", desc := "(I)I" } : Jvm.MethodName) prog_1_method_35_code (2 : Nat) (Option.some Jvm.ClassFile.FieldType.int)) ∈ lw_all := lw_g (lw_at lw_m7 212 rfl) rfl
theorem q1768 : (Jvm.Cond.instanceMethod ({ cls := "PaperMill", name := "passLeft", desc := "(I)I" } : Jvm.MethodName)) ∈ lw_all := lw_g (lw_at lw_m7 217 rfl) rfl
theorem q1769 : (Jvm.Cond.selects "PaperMill" ({ cls := "PaperMill", name := "passLeft", desc := "(I)I" } : Jvm.MethodName) ({ cls := "PaperMill", name := "passLeft", desc := "(I)I" } : Jvm.MethodName)) ∈ lw_all := lw_g (lw_at lw_m7 218 rfl) rfl
theorem q1770 : (Jvm.Cond.code ({ cls := "PaperMill", name := "passLeft", desc := "(I)I" } : Jvm.MethodName) prog_1_method_36_code (2 : Nat) (Option.some Jvm.ClassFile.FieldType.int)) ∈ lw_all := lw_g (lw_at lw_m7 219 rfl) rfl
theorem q1771 : (Jvm.Cond.methodLink "PaperMill" (298 : Nat) ({ cls := "PaperMill$State", name := "passLeft", desc := "(I)I" } : Jvm.MethodName)) ∈ lw_all := lw_g (lw_at lw_m7 220 rfl) rfl
theorem q1776 : (Jvm.Cond.instanceMethod ({ cls := "PaperMill", name := "tollFor", desc := "(II)I" } : Jvm.MethodName)) ∈ lw_all := lw_g (lw_at lw_m7 225 rfl) rfl
theorem q1777 : (Jvm.Cond.selects "PaperMill" ({ cls := "PaperMill", name := "tollFor", desc := "(II)I" } : Jvm.MethodName) ({ cls := "PaperMill", name := "tollFor", desc := "(II)I" } : Jvm.MethodName)) ∈ lw_all := lw_g (lw_at lw_m7 226 rfl) rfl
theorem q1778 : (Jvm.Cond.code ({ cls := "PaperMill", name := "tollFor", desc := "(II)I" } : Jvm.MethodName) prog_1_method_37_code (3 : Nat) (Option.some Jvm.ClassFile.FieldType.int)) ∈ lw_all := lw_g (lw_at lw_m7 227 rfl) rfl
theorem q1779 : (Jvm.Cond.methodLink "PaperMill" (302 : Nat) ({ cls := "PaperMill$State", name := "toll", desc := "(II)I" } : Jvm.MethodName)) ∈ lw_all := lw_g (lw_at lw_m7 228 rfl) rfl
theorem q1784 : (Jvm.Cond.instanceMethod ({ cls := "PaperMill", name := "whyNotIn", desc := "(III)I" } : Jvm.MethodName)) ∈ lw_all := lw_g (lw_at lw_m7 233 rfl) rfl
theorem q1785 : (Jvm.Cond.selects "PaperMill" ({ cls := "PaperMill", name := "whyNotIn", desc := "(III)I" } : Jvm.MethodName) ({ cls := "PaperMill", name := "whyNotIn", desc := "(III)I" } : Jvm.MethodName)) ∈ lw_all := lw_g (lw_at lw_m7 234 rfl) rfl
theorem q1786 : (Jvm.Cond.code ({ cls := "PaperMill", name := "whyNotIn", desc := "(III)I" } : Jvm.MethodName) prog_1_method_38_code (4 : Nat) (Option.some Jvm.ClassFile.FieldType.int)) ∈ lw_all := lw_g (lw_at lw_m7 235 rfl) rfl
theorem q1791 : (Jvm.Cond.instanceMethod ({ cls := "PaperMill", name := "sortOf", desc := "(I)I" } : Jvm.MethodName)) ∈ lw_all := lw_g (lw_at lw_m8 0 rfl) rfl
theorem q1792 : (Jvm.Cond.selects "PaperMill" ({ cls := "PaperMill", name := "sortOf", desc := "(I)I" } : Jvm.MethodName) ({ cls := "PaperMill", name := "sortOf", desc := "(I)I" } : Jvm.MethodName)) ∈ lw_all := lw_g (lw_at lw_m8 1 rfl) rfl
theorem q1793 : (Jvm.Cond.code ({ cls := "PaperMill", name := "sortOf", desc := "(I)I" } : Jvm.MethodName) prog_1_method_40_code (2 : Nat) (Option.some Jvm.ClassFile.FieldType.int)) ∈ lw_all := lw_g (lw_at lw_m8 2 rfl) rfl
theorem q1794 : (Jvm.Cond.methodLink "PaperMill" (304 : Nat) ({ cls := "PaperMill", name := "bale", desc := "(I)LPaperMill$Bale;" } : Jvm.MethodName)) ∈ lw_all := lw_g (lw_at lw_m8 3 rfl) rfl
theorem q1795 : (Jvm.Cond.privateMethod ({ cls := "PaperMill", name := "bale", desc := "(I)LPaperMill$Bale;" } : Jvm.MethodName)) ∈ lw_tbl := lw_at lw_m8 4 rfl
theorem q1796 : (Jvm.Cond.instanceMethod ({ cls := "PaperMill", name := "bale", desc := "(I)LPaperMill$Bale;" } : Jvm.MethodName)) ∈ lw_all := lw_g (lw_at lw_m8 5 rfl) rfl
theorem q1797 : (Jvm.Cond.code ({ cls := "PaperMill", name := "bale", desc := "(I)LPaperMill$Bale;" } : Jvm.MethodName) prog_1_method_13_code (2 : Nat) (Option.some (Jvm.ClassFile.FieldType.object "PaperMill$Bale"))) ∈ lw_all := lw_g (lw_at lw_m8 6 rfl) rfl
theorem q1802 : (Jvm.Cond.instanceMethod ({ cls := "PaperMill", name := "ragsOf", desc := "(I)I" } : Jvm.MethodName)) ∈ lw_all := lw_g (lw_at lw_m8 11 rfl) rfl
theorem q1803 : (Jvm.Cond.selects "PaperMill" ({ cls := "PaperMill", name := "ragsOf", desc := "(I)I" } : Jvm.MethodName) ({ cls := "PaperMill", name := "ragsOf", desc := "(I)I" } : Jvm.MethodName)) ∈ lw_all := lw_g (lw_at lw_m8 12 rfl) rfl
theorem q1804 : (Jvm.Cond.code ({ cls := "PaperMill", name := "ragsOf", desc := "(I)I" } : Jvm.MethodName) prog_1_method_41_code (2 : Nat) (Option.some Jvm.ClassFile.FieldType.int)) ∈ lw_all := lw_g (lw_at lw_m8 13 rfl) rfl
theorem q1809 : (Jvm.Cond.instanceMethod ({ cls := "PaperMill", name := "dampOf", desc := "(I)I" } : Jvm.MethodName)) ∈ lw_all := lw_g (lw_at lw_m8 18 rfl) rfl
theorem q1810 : (Jvm.Cond.selects "PaperMill" ({ cls := "PaperMill", name := "dampOf", desc := "(I)I" } : Jvm.MethodName) ({ cls := "PaperMill", name := "dampOf", desc := "(I)I" } : Jvm.MethodName)) ∈ lw_all := lw_g (lw_at lw_m8 19 rfl) rfl
theorem q1811 : (Jvm.Cond.code ({ cls := "PaperMill", name := "dampOf", desc := "(I)I" } : Jvm.MethodName) prog_1_method_42_code (2 : Nat) (Option.some Jvm.ClassFile.FieldType.int)) ∈ lw_all := lw_g (lw_at lw_m8 20 rfl) rfl
theorem q1816 : (Jvm.Cond.instanceMethod ({ cls := "PaperMill", name := "wetDaysOf", desc := "(I)I" } : Jvm.MethodName)) ∈ lw_all := lw_g (lw_at lw_m8 25 rfl) rfl
theorem q1817 : (Jvm.Cond.selects "PaperMill" ({ cls := "PaperMill", name := "wetDaysOf", desc := "(I)I" } : Jvm.MethodName) ({ cls := "PaperMill", name := "wetDaysOf", desc := "(I)I" } : Jvm.MethodName)) ∈ lw_all := lw_g (lw_at lw_m8 26 rfl) rfl
theorem q1818 : (Jvm.Cond.code ({ cls := "PaperMill", name := "wetDaysOf", desc := "(I)I" } : Jvm.MethodName) prog_1_method_43_code (3 : Nat) (Option.some Jvm.ClassFile.FieldType.int)) ∈ lw_all := lw_g (lw_at lw_m8 27 rfl) rfl
theorem q1823 : (Jvm.Cond.instanceMethod ({ cls := "PaperMill", name := "goodRags", desc := "(I)I" } : Jvm.MethodName)) ∈ lw_all := lw_g (lw_at lw_m8 32 rfl) rfl
theorem q1824 : (Jvm.Cond.selects "PaperMill" ({ cls := "PaperMill", name := "goodRags", desc := "(I)I" } : Jvm.MethodName) ({ cls := "PaperMill", name := "goodRags", desc := "(I)I" } : Jvm.MethodName)) ∈ lw_all := lw_g (lw_at lw_m8 33 rfl) rfl
theorem q1825 : (Jvm.Cond.code ({ cls := "PaperMill", name := "goodRags", desc := "(I)I" } : Jvm.MethodName) prog_1_method_44_code (2 : Nat) (Option.some Jvm.ClassFile.FieldType.int)) ∈ lw_all := lw_g (lw_at lw_m8 34 rfl) rfl
theorem q1826 : (Jvm.Cond.methodLink "PaperMill" (319 : Nat) ({ cls := "PaperMill$State", name := "goodRags", desc := "(I)I" } : Jvm.MethodName)) ∈ lw_all := lw_g (lw_at lw_m8 35 rfl) rfl
theorem q1831 : (Jvm.Cond.instanceMethod ({ cls := "PaperMill", name := "mouldReach", desc := "(I)I" } : Jvm.MethodName)) ∈ lw_all := lw_g (lw_at lw_m8 40 rfl) rfl
theorem q1832 : (Jvm.Cond.selects "PaperMill" ({ cls := "PaperMill", name := "mouldReach", desc := "(I)I" } : Jvm.MethodName) ({ cls := "PaperMill", name := "mouldReach", desc := "(I)I" } : Jvm.MethodName)) ∈ lw_all := lw_g (lw_at lw_m8 41 rfl) rfl
theorem q1833 : (Jvm.Cond.code ({ cls := "PaperMill", name := "mouldReach", desc := "(I)I" } : Jvm.MethodName) prog_1_method_45_code (2 : Nat) (Option.some Jvm.ClassFile.FieldType.int)) ∈ lw_all := lw_g (lw_at lw_m8 42 rfl) rfl
theorem q1834 : (Jvm.Cond.methodLink "PaperMill" (322 : Nat) ({ cls := "PaperMill$State", name := "mouldReach", desc := "(I)I" } : Jvm.MethodName)) ∈ lw_all := lw_g (lw_at lw_m8 43 rfl) rfl
theorem q1846 : (Jvm.Cond.instanceMethod ({ cls := "PaperMill", name := "partsOf", desc := "(I)I" } : Jvm.MethodName)) ∈ lw_all := lw_g (lw_at lw_m8 55 rfl) rfl
theorem q1847 : (Jvm.Cond.selects "PaperMill" ({ cls := "PaperMill", name := "partsOf", desc := "(I)I" } : Jvm.MethodName) ({ cls := "PaperMill", name := "partsOf", desc := "(I)I" } : Jvm.MethodName)) ∈ lw_all := lw_g (lw_at lw_m8 56 rfl) rfl
theorem q1848 : (Jvm.Cond.code ({ cls := "PaperMill", name := "partsOf", desc := "(I)I" } : Jvm.MethodName) prog_1_method_46_code (2 : Nat) (Option.some Jvm.ClassFile.FieldType.int)) ∈ lw_all := lw_g (lw_at lw_m8 57 rfl) rfl
theorem q1853 : (Jvm.Cond.instanceMethod ({ cls := "PaperMill", name := "shareOf", desc := "(II)I" } : Jvm.MethodName)) ∈ lw_all := lw_g (lw_at lw_m8 62 rfl) rfl
theorem q1854 : (Jvm.Cond.selects "PaperMill" ({ cls := "PaperMill", name := "shareOf", desc := "(II)I" } : Jvm.MethodName) ({ cls := "PaperMill", name := "shareOf", desc := "(II)I" } : Jvm.MethodName)) ∈ lw_all := lw_g (lw_at lw_m8 63 rfl) rfl
theorem q1855 : (Jvm.Cond.code ({ cls := "PaperMill", name := "shareOf", desc := "(II)I" } : Jvm.MethodName) prog_1_method_48_code (3 : Nat) (Option.some Jvm.ClassFile.FieldType.int)) ∈ lw_all := lw_g (lw_at lw_m8 64 rfl) rfl
theorem q1856 : (Jvm.Cond.methodLink "PaperMill" (328 : Nat) ({ cls := "PaperMill", name := "shares", desc := "(LPaperMill$Mix;I)[I" } : Jvm.MethodName)) ∈ lw_all := lw_g (lw_at lw_m8 65 rfl) rfl
theorem q1861 : (Jvm.Cond.instanceMethod ({ cls := "PaperMill", name := "unitsIn", desc := "(I)I" } : Jvm.MethodName)) ∈ lw_all := lw_g (lw_at lw_m8 70 rfl) rfl
theorem q1862 : (Jvm.Cond.selects "PaperMill" ({ cls := "PaperMill", name := "unitsIn", desc := "(I)I" } : Jvm.MethodName) ({ cls := "PaperMill", name := "unitsIn", desc := "(I)I" } : Jvm.MethodName)) ∈ lw_all := lw_g (lw_at lw_m8 71 rfl) rfl
theorem q1863 : (Jvm.Cond.code ({ cls := "PaperMill", name := "unitsIn", desc := "(I)I" } : Jvm.MethodName) prog_1_method_49_code (2 : Nat) (Option.some Jvm.ClassFile.FieldType.int)) ∈ lw_all := lw_g (lw_at lw_m8 72 rfl) rfl
theorem q1868 : (Jvm.Cond.instanceMethod ({ cls := "PaperMill", name := "hoursOf", desc := "(I)I" } : Jvm.MethodName)) ∈ lw_all := lw_g (lw_at lw_m8 77 rfl) rfl
theorem q1869 : (Jvm.Cond.selects "PaperMill" ({ cls := "PaperMill", name := "hoursOf", desc := "(I)I" } : Jvm.MethodName) ({ cls := "PaperMill", name := "hoursOf", desc := "(I)I" } : Jvm.MethodName)) ∈ lw_all := lw_g (lw_at lw_m8 78 rfl) rfl
theorem q1870 : (Jvm.Cond.code ({ cls := "PaperMill", name := "hoursOf", desc := "(I)I" } : Jvm.MethodName) prog_1_method_50_code (2 : Nat) (Option.some Jvm.ClassFile.FieldType.int)) ∈ lw_all := lw_g (lw_at lw_m8 79 rfl) rfl
theorem q1875 : (Jvm.Cond.instanceMethod ({ cls := "PaperMill", name := "strengthOf", desc := "(I)I" } : Jvm.MethodName)) ∈ lw_all := lw_g (lw_at lw_m8 84 rfl) rfl
theorem q1876 : (Jvm.Cond.selects "PaperMill" ({ cls := "PaperMill", name := "strengthOf", desc := "(I)I" } : Jvm.MethodName) ({ cls := "PaperMill", name := "strengthOf", desc := "(I)I" } : Jvm.MethodName)) ∈ lw_all := lw_g (lw_at lw_m8 85 rfl) rfl
theorem q1877 : (Jvm.Cond.code ({ cls := "PaperMill", name := "strengthOf", desc := "(I)I" } : Jvm.MethodName) prog_1_method_51_code (2 : Nat) (Option.some Jvm.ClassFile.FieldType.int)) ∈ lw_all := lw_g (lw_at lw_m8 86 rfl) rfl
theorem q1882 : (Jvm.Cond.instanceMethod ({ cls := "PaperMill", name := "whyNotBeaten", desc := "(II)I" } : Jvm.MethodName)) ∈ lw_all := lw_g (lw_at lw_m8 91 rfl) rfl
theorem q1883 : (Jvm.Cond.selects "PaperMill" ({ cls := "PaperMill", name := "whyNotBeaten", desc := "(II)I" } : Jvm.MethodName) ({ cls := "PaperMill", name := "whyNotBeaten", desc := "(II)I" } : Jvm.MethodName)) ∈ lw_all := lw_g (lw_at lw_m8 92 rfl) rfl
theorem q1884 : (Jvm.Cond.code ({ cls := "PaperMill", name := "whyNotBeaten", desc := "(II)I" } : Jvm.MethodName) prog_1_method_52_code (3 : Nat) (Option.some Jvm.ClassFile.FieldType.int)) ∈ lw_all := lw_g (lw_at lw_m8 93 rfl) rfl
theorem q1889 : (Jvm.Cond.instanceMethod ({ cls := "PaperMill", name := "markOf", desc := "(I)I" } : Jvm.MethodName)) ∈ lw_all := lw_g (lw_at lw_m8 98 rfl) rfl
theorem q1890 : (Jvm.Cond.selects "PaperMill" ({ cls := "PaperMill", name := "markOf", desc := "(I)I" } : Jvm.MethodName) ({ cls := "PaperMill", name := "markOf", desc := "(I)I" } : Jvm.MethodName)) ∈ lw_all := lw_g (lw_at lw_m8 99 rfl) rfl
theorem q1891 : (Jvm.Cond.code ({ cls := "PaperMill", name := "markOf", desc := "(I)I" } : Jvm.MethodName) prog_1_method_53_code (2 : Nat) (Option.some Jvm.ClassFile.FieldType.int)) ∈ lw_all := lw_g (lw_at lw_m8 100 rfl) rfl
theorem q1896 : (Jvm.Cond.instanceMethod ({ cls := "PaperMill", name := "wearOf", desc := "(I)I" } : Jvm.MethodName)) ∈ lw_all := lw_g (lw_at lw_m8 105 rfl) rfl
theorem q1897 : (Jvm.Cond.selects "PaperMill" ({ cls := "PaperMill", name := "wearOf", desc := "(I)I" } : Jvm.MethodName) ({ cls := "PaperMill", name := "wearOf", desc := "(I)I" } : Jvm.MethodName)) ∈ lw_all := lw_g (lw_at lw_m8 106 rfl) rfl
theorem q1898 : (Jvm.Cond.code ({ cls := "PaperMill", name := "wearOf", desc := "(I)I" } : Jvm.MethodName) prog_1_method_54_code (2 : Nat) (Option.some Jvm.ClassFile.FieldType.int)) ∈ lw_all := lw_g (lw_at lw_m8 107 rfl) rfl
theorem q1903 : (Jvm.Cond.instanceMethod ({ cls := "PaperMill", name := "pointsOf", desc := "(II)I" } : Jvm.MethodName)) ∈ lw_all := lw_g (lw_at lw_m8 112 rfl) rfl
theorem q1904 : (Jvm.Cond.selects "PaperMill" ({ cls := "PaperMill", name := "pointsOf", desc := "(II)I" } : Jvm.MethodName) ({ cls := "PaperMill", name := "pointsOf", desc := "(II)I" } : Jvm.MethodName)) ∈ lw_all := lw_g (lw_at lw_m8 113 rfl) rfl
theorem q1905 : (Jvm.Cond.code ({ cls := "PaperMill", name := "pointsOf", desc := "(II)I" } : Jvm.MethodName) prog_1_method_55_code (3 : Nat) (Option.some Jvm.ClassFile.FieldType.int)) ∈ lw_all := lw_g (lw_at lw_m8 114 rfl) rfl
theorem q1906 : (Jvm.Cond.methodLink "PaperMill" (335 : Nat) ({ cls := "PaperMill$State", name := "points", desc := "(II)I" } : Jvm.MethodName)) ∈ lw_all := lw_g (lw_at lw_m8 115 rfl) rfl
theorem q1911 : (Jvm.Cond.instanceMethod ({ cls := "PaperMill", name := "whyNotMade", desc := "(III)I" } : Jvm.MethodName)) ∈ lw_all := lw_g (lw_at lw_m8 120 rfl) rfl
theorem q1912 : (Jvm.Cond.selects "PaperMill" ({ cls := "PaperMill", name := "whyNotMade", desc := "(III)I" } : Jvm.MethodName) ({ cls := "PaperMill", name := "whyNotMade", desc := "(III)I" } : Jvm.MethodName)) ∈ lw_all := lw_g (lw_at lw_m8 121 rfl) rfl
theorem q1913 : (Jvm.Cond.code ({ cls := "PaperMill", name := "whyNotMade", desc := "(III)I" } : Jvm.MethodName) prog_1_method_56_code (4 : Nat) (Option.some Jvm.ClassFile.FieldType.int)) ∈ lw_all := lw_g (lw_at lw_m8 122 rfl) rfl
theorem q1918 : (Jvm.Cond.instanceMethod ({ cls := "PaperMill", name := "sheetsFrom", desc := "(II)I" } : Jvm.MethodName)) ∈ lw_all := lw_g (lw_at lw_m8 127 rfl) rfl
theorem q1919 : (Jvm.Cond.selects "PaperMill" ({ cls := "PaperMill", name := "sheetsFrom", desc := "(II)I" } : Jvm.MethodName) ({ cls := "PaperMill", name := "sheetsFrom", desc := "(II)I" } : Jvm.MethodName)) ∈ lw_all := lw_g (lw_at lw_m8 128 rfl) rfl
theorem q1920 : (Jvm.Cond.code ({ cls := "PaperMill", name := "sheetsFrom", desc := "(II)I" } : Jvm.MethodName) prog_1_method_57_code (3 : Nat) (Option.some Jvm.ClassFile.FieldType.int)) ∈ lw_all := lw_g (lw_at lw_m8 129 rfl) rfl
theorem q1921 : (Jvm.Cond.methodLink "PaperMill" (338 : Nat) ({ cls := "PaperMill$State", name := "sheetsFrom", desc := "(II)I" } : Jvm.MethodName)) ∈ lw_all := lw_g (lw_at lw_m8 130 rfl) rfl
theorem q1929 : (Jvm.Cond.instanceMethod ({ cls := "PaperMill", name := "sheetsByTrying", desc := "(II)I" } : Jvm.MethodName)) ∈ lw_all := lw_g (lw_at lw_m8 138 rfl) rfl
theorem q1930 : (Jvm.Cond.selects "PaperMill" ({ cls := "PaperMill", name := "sheetsByTrying", desc := "(II)I" } : Jvm.MethodName) ({ cls := "PaperMill", name := "sheetsByTrying", desc := "(II)I" } : Jvm.MethodName)) ∈ lw_all := lw_g (lw_at lw_m8 139 rfl) rfl
theorem q1931 : (Jvm.Cond.code ({ cls := "PaperMill", name := "sheetsByTrying", desc := "(II)I" } : Jvm.MethodName) prog_1_method_58_code (6 : Nat) (Option.some Jvm.ClassFile.FieldType.int)) ∈ lw_all := lw_g (lw_at lw_m8 140 rfl) rfl
theorem q1936 : (Jvm.Cond.instanceMethod ({ cls := "PaperMill", name := "sheetsOn", desc := "(I)I" } : Jvm.MethodName)) ∈ lw_all := lw_g (lw_at lw_m8 145 rfl) rfl
theorem q1937 : (Jvm.Cond.selects "PaperMill" ({ cls := "PaperMill", name := "sheetsOn", desc := "(I)I" } : Jvm.MethodName) ({ cls := "PaperMill", name := "sheetsOn", desc := "(I)I" } : Jvm.MethodName)) ∈ lw_all := lw_g (lw_at lw_m8 146 rfl) rfl
theorem q1938 : (Jvm.Cond.code ({ cls := "PaperMill", name := "sheetsOn", desc := "(I)I" } : Jvm.MethodName) prog_1_method_60_code (2 : Nat) (Option.some Jvm.ClassFile.FieldType.int)) ∈ lw_all := lw_g (lw_at lw_m8 147 rfl) rfl
theorem q1939 : (Jvm.Cond.methodLink "PaperMill" (341 : Nat) ({ cls := "PaperMill", name := "pile", desc := "(I)LPaperMill$Pile;" } : Jvm.MethodName)) ∈ lw_all := lw_g (lw_at lw_m8 148 rfl) rfl
theorem q1940 : (Jvm.Cond.privateMethod ({ cls := "PaperMill", name := "pile", desc := "(I)LPaperMill$Pile;" } : Jvm.MethodName)) ∈ lw_tbl := lw_at lw_m8 149 rfl
theorem q1941 : (Jvm.Cond.instanceMethod ({ cls := "PaperMill", name := "pile", desc := "(I)LPaperMill$Pile;" } : Jvm.MethodName)) ∈ lw_all := lw_g (lw_at lw_m8 150 rfl) rfl
theorem q1942 : (Jvm.Cond.code ({ cls := "PaperMill", name := "pile", desc := "(I)LPaperMill$Pile;" } : Jvm.MethodName) prog_1_method_16_code (2 : Nat) (Option.some (Jvm.ClassFile.FieldType.object "PaperMill$Pile"))) ∈ lw_all := lw_g (lw_at lw_m8 151 rfl) rfl
theorem q1943 : (Jvm.Cond.classLink "PaperMill" (135 : Nat) "PaperMill$Pile") ∈ lw_all := lw_g (lw_at lw_m8 152 rfl) rfl
theorem q1948 : (Jvm.Cond.instanceMethod ({ cls := "PaperMill", name := "gradeOf", desc := "(I)I" } : Jvm.MethodName)) ∈ lw_all := lw_g (lw_at lw_m8 157 rfl) rfl
theorem q1949 : (Jvm.Cond.selects "PaperMill" ({ cls := "PaperMill", name := "gradeOf", desc := "(I)I" } : Jvm.MethodName) ({ cls := "PaperMill", name := "gradeOf", desc := "(I)I" } : Jvm.MethodName)) ∈ lw_all := lw_g (lw_at lw_m8 158 rfl) rfl
theorem q1950 : (Jvm.Cond.code ({ cls := "PaperMill", name := "gradeOf", desc := "(I)I" } : Jvm.MethodName) prog_1_method_61_code (3 : Nat) (Option.some Jvm.ClassFile.FieldType.int)) ∈ lw_all := lw_g (lw_at lw_m8 159 rfl) rfl
theorem q1951 : (Jvm.Cond.fieldLink "PaperMill" (352 : Nat) "PaperMill$Grade" "FINE" "LPaperMill$Grade;") ∈ lw_all := lw_g (lw_at lw_m8 160 rfl) rfl
theorem q1952 : (Jvm.Cond.fieldLink "PaperMill" (355 : Nat) "PaperMill$Grade" "GOOD" "LPaperMill$Grade;") ∈ lw_all := lw_g (lw_at lw_m8 161 rfl) rfl
theorem q1957 : (Jvm.Cond.instanceMethod ({ cls := "PaperMill", name := "drySheets", desc := "(III)I" } : Jvm.MethodName)) ∈ lw_all := lw_g (lw_at lw_m8 166 rfl) rfl
theorem q1958 : (Jvm.Cond.selects "PaperMill" ({ cls := "PaperMill", name := "drySheets", desc := "(III)I" } : Jvm.MethodName) ({ cls := "PaperMill", name := "drySheets", desc := "(III)I" } : Jvm.MethodName)) ∈ lw_all := lw_g (lw_at lw_m8 167 rfl) rfl
theorem q1959 : (Jvm.Cond.code ({ cls := "PaperMill", name := "drySheets", desc := "(III)I" } : Jvm.MethodName) prog_1_method_62_code (4 : Nat) (Option.some Jvm.ClassFile.FieldType.int)) ∈ lw_all := lw_g (lw_at lw_m8 168 rfl) rfl
theorem q1964 : (Jvm.Cond.instanceMethod ({ cls := "PaperMill", name := "whyNotPacked", desc := "(III)I" } : Jvm.MethodName)) ∈ lw_all := lw_g (lw_at lw_m8 173 rfl) rfl
theorem q1965 : (Jvm.Cond.selects "PaperMill" ({ cls := "PaperMill", name := "whyNotPacked", desc := "(III)I" } : Jvm.MethodName) ({ cls := "PaperMill", name := "whyNotPacked", desc := "(III)I" } : Jvm.MethodName)) ∈ lw_all := lw_g (lw_at lw_m8 174 rfl) rfl
theorem q1966 : (Jvm.Cond.code ({ cls := "PaperMill", name := "whyNotPacked", desc := "(III)I" } : Jvm.MethodName) prog_1_method_64_code (4 : Nat) (Option.some Jvm.ClassFile.FieldType.int)) ∈ lw_all := lw_g (lw_at lw_m8 175 rfl) rfl
theorem q1971 : (Jvm.Cond.instanceMethod ({ cls := "PaperMill", name := "quiresOf", desc := "(I)I" } : Jvm.MethodName)) ∈ lw_all := lw_g (lw_at lw_m8 180 rfl) rfl
theorem q1972 : (Jvm.Cond.selects "PaperMill" ({ cls := "PaperMill", name := "quiresOf", desc := "(I)I" } : Jvm.MethodName) ({ cls := "PaperMill", name := "quiresOf", desc := "(I)I" } : Jvm.MethodName)) ∈ lw_all := lw_g (lw_at lw_m8 181 rfl) rfl
theorem q1973 : (Jvm.Cond.code ({ cls := "PaperMill", name := "quiresOf", desc := "(I)I" } : Jvm.MethodName) prog_1_method_66_code (2 : Nat) (Option.some Jvm.ClassFile.FieldType.int)) ∈ lw_all := lw_g (lw_at lw_m8 182 rfl) rfl
theorem q1978 : (Jvm.Cond.instanceMethod ({ cls := "PaperMill", name := "priceOf", desc := "(I)I" } : Jvm.MethodName)) ∈ lw_all := lw_g (lw_at lw_m8 187 rfl) rfl
theorem q1979 : (Jvm.Cond.selects "PaperMill" ({ cls := "PaperMill", name := "priceOf", desc := "(I)I" } : Jvm.MethodName) ({ cls := "PaperMill", name := "priceOf", desc := "(I)I" } : Jvm.MethodName)) ∈ lw_all := lw_g (lw_at lw_m8 188 rfl) rfl
theorem q1980 : (Jvm.Cond.code ({ cls := "PaperMill", name := "priceOf", desc := "(I)I" } : Jvm.MethodName) prog_1_method_67_code (2 : Nat) (Option.some Jvm.ClassFile.FieldType.int)) ∈ lw_all := lw_g (lw_at lw_m8 189 rfl) rfl
theorem q1985 : (Jvm.Cond.instanceMethod ({ cls := "PaperMill", name := "lostIn", desc := "(I)I" } : Jvm.MethodName)) ∈ lw_all := lw_g (lw_at lw_m8 194 rfl) rfl
theorem q1986 : (Jvm.Cond.selects "PaperMill" ({ cls := "PaperMill", name := "lostIn", desc := "(I)I" } : Jvm.MethodName) ({ cls := "PaperMill", name := "lostIn", desc := "(I)I" } : Jvm.MethodName)) ∈ lw_all := lw_g (lw_at lw_m8 195 rfl) rfl
theorem q1987 : (Jvm.Cond.code ({ cls := "PaperMill", name := "lostIn", desc := "(I)I" } : Jvm.MethodName) prog_1_method_74_code (4 : Nat) (Option.some Jvm.ClassFile.FieldType.int)) ∈ lw_all := lw_g (lw_at lw_m8 196 rfl) rfl
theorem q1992 : (Jvm.Cond.instanceMethod ({ cls := "PaperMill", name := "append", desc := "(I)I" } : Jvm.MethodName)) ∈ lw_all := lw_g (lw_at lw_m8 201 rfl) rfl
theorem q1993 : (Jvm.Cond.selects "PaperMill" ({ cls := "PaperMill", name := "append", desc := "(I)I" } : Jvm.MethodName) ({ cls := "PaperMill", name := "append", desc := "(I)I" } : Jvm.MethodName)) ∈ lw_all := lw_g (lw_at lw_m8 202 rfl) rfl
theorem q1994 : (Jvm.Cond.code ({ cls := "PaperMill", name := "append", desc := "(I)I" } : Jvm.MethodName) prog_1_method_75_code (2 : Nat) (Option.some Jvm.ClassFile.FieldType.int)) ∈ lw_all := lw_g (lw_at lw_m8 203 rfl) rfl
theorem q1995 : (Jvm.Cond.methodLink "PaperMill" (377 : Nat) ({ cls := "java/lang/StringBuilder", name := "append", desc := "(C)Ljava/lang/StringBuilder;" } : Jvm.MethodName)) ∈ lw_all := lw_g (lw_at lw_m8 204 rfl) rfl
theorem q2016 : (Jvm.Cond.instanceMethod ({ cls := "PaperMill", name := "runText", desc := "()I" } : Jvm.MethodName)) ∈ lw_all := lw_g (lw_at lw_m8 225 rfl) rfl
theorem q2017 : (Jvm.Cond.selects "PaperMill" ({ cls := "PaperMill", name := "runText", desc := "()I" } : Jvm.MethodName) ({ cls := "PaperMill", name := "runText", desc := "()I" } : Jvm.MethodName)) ∈ lw_all := lw_g (lw_at lw_m8 226 rfl) rfl
theorem q2018 : (Jvm.Cond.code ({ cls := "PaperMill", name := "runText", desc := "()I" } : Jvm.MethodName) prog_1_method_78_code (2 : Nat) (Option.some Jvm.ClassFile.FieldType.int)) ∈ lw_all := lw_g (lw_at lw_m8 227 rfl) rfl
theorem q2019 : (Jvm.Cond.methodLink "PaperMill" (395 : Nat) ({ cls := "PaperMill$TextReader", name := "doAll", desc := "(LPaperMill$State;)I" } : Jvm.MethodName)) ∈ lw_all := lw_g (lw_at lw_m8 228 rfl) rfl
theorem q2031 : (Jvm.Cond.instanceMethod ({ cls := "PaperMill", name := "undo", desc := "()I" } : Jvm.MethodName)) ∈ lw_all := lw_g (lw_at lw_m9 0 rfl) rfl
theorem q2032 : (Jvm.Cond.selects "PaperMill" ({ cls := "PaperMill", name := "undo", desc := "()I" } : Jvm.MethodName) ({ cls := "PaperMill", name := "undo", desc := "()I" } : Jvm.MethodName)) ∈ lw_all := lw_g (lw_at lw_m9 1 rfl) rfl
theorem q2033 : (Jvm.Cond.code ({ cls := "PaperMill", name := "undo", desc := "()I" } : Jvm.MethodName) prog_1_method_79_code (1 : Nat) (Option.some Jvm.ClassFile.FieldType.int)) ∈ lw_all := lw_g (lw_at lw_m9 2 rfl) rfl
theorem q2034 : (Jvm.Cond.methodLink "PaperMill" (399 : Nat) ({ cls := "java/util/ArrayDeque", name := "isEmpty", desc := "()Z" } : Jvm.MethodName)) ∈ lw_all := lw_g (lw_at lw_m9 3 rfl) rfl
theorem q2038 : (Jvm.Cond.methodLink "PaperMill" (400 : Nat) ({ cls := "java/util/ArrayDeque", name := "removeLast", desc := "()Ljava/lang/Object;" } : Jvm.MethodName)) ∈ lw_all := lw_g (lw_at lw_m9 7 rfl) rfl
theorem q2049 : (Jvm.Cond.classLink "PaperMill" (49 : Nat) "PaperMill$State") ∈ lw_all := lw_g (lw_at lw_m9 18 rfl) rfl
theorem q2054 : (Jvm.Cond.instanceMethod ({ cls := "PaperMill", name := "restoreSnapshot", desc := "()I" } : Jvm.MethodName)) ∈ lw_all := lw_g (lw_at lw_m9 23 rfl) rfl
theorem q2055 : (Jvm.Cond.selects "PaperMill" ({ cls := "PaperMill", name := "restoreSnapshot", desc := "()I" } : Jvm.MethodName) ({ cls := "PaperMill", name := "restoreSnapshot", desc := "()I" } : Jvm.MethodName)) ∈ lw_all := lw_g (lw_at lw_m9 24 rfl) rfl
theorem q2056 : (Jvm.Cond.code ({ cls := "PaperMill", name := "restoreSnapshot", desc := "()I" } : Jvm.MethodName) prog_1_method_81_code (1 : Nat) (Option.some Jvm.ClassFile.FieldType.int)) ∈ lw_all := lw_g (lw_at lw_m9 25 rfl) rfl
theorem q2697 : (Jvm.Cond.castable "PaperMill" "java/lang/Object") ∈ lw_tbl := lw_at lw_m11 186 rfl
theorem in_X1 : ∀ w ∈ wsX10, w ∈ lw_all := lw_in wsX10 [490, 492, 494, 496] (by decide +kernel) (by decide +kernel)
/-! PaperMill$State -/
set_option maxRecDepth 100000
def RX2 : String := "PaperMill$State"
def TX2 : u_T := fun k => match k with
  | 0 => ("PaperMill$State", "day", "I", false)
  | 1 => ("PaperMill$State", "purse", "I", false)
  | 2 => ("PaperMill$State", "limit", "I", false)
  | 3 => ("PaperMill$State", "stove", "I", false)
  | 4 => ("PaperMill$State", "recipe", "LPaperMill$Mix;", false)
  | 5 => ("PaperMill$State", "brought", "I", false)
  | 6 => ("PaperMill$State", "lost", "I", false)
  | 7 => ("PaperMill$State", "burnt", "I", false)
  | 8 => ("PaperMill$State", "drained", "I", false)
  | 9 => ("PaperMill$State", "sent", "I", false)
  | 10 => ("PaperMill$State", "mouldings", "I", false)
  | 11 => ("PaperMill$State", "carters", "Ljava/util/List;", true)
  | 12 => ("PaperMill$State", "bales", "Ljava/util/List;", true)
  | 13 => ("PaperMill$State", "vats", "Ljava/util/List;", true)
  | 14 => ("PaperMill$State", "moulds", "Ljava/util/List;", true)
  | 15 => ("PaperMill$State", "piles", "Ljava/util/List;", true)
  | _ => ("PaperMill$State", "reams", "Ljava/util/List;", true)
def tyX2 : Nat → FieldType := fun k => match k with
  | 0 => .int
  | 1 => .int
  | 2 => .int
  | 3 => .int
  | 4 => .object "PaperMill$Mix"
  | 5 => .int
  | 6 => .int
  | 7 => .int
  | 8 => .int
  | 9 => .int
  | 10 => .int
  | 11 => .object "java/util/List"
  | 12 => .object "java/util/List"
  | 13 => .object "java/util/List"
  | 14 => .object "java/util/List"
  | 15 => .object "java/util/List"
  | _ => .object "java/util/List"
abbrev wsX20 : List Cond := u_ws RX2 TX2 17
set_option maxRecDepth 100000 in
theorem nmX2 : ∀ a, a < 17 → ∀ b, b < 17 → a ≠ b → (TX2 a).2.1 ≠ (TX2 b).2.1 := by decide +kernel
set_option maxRecDepth 100000 in
theorem tyX2_ok : ∀ k, k < 17 → parseFieldDescriptor (TX2 k).2.2.1 = some (tyX2 k) := by decide +kernel
abbrev cX2_begin : ByteArray := prog_19_method_2_code
def yX2_begin : MethodName := ⟨RX2, "begin", "()LPaperMill$State;"⟩
def dkwX2_begin_4 : List UInt8 := [185, 0, 53, 2, 0, 87, 132, 1, 1, 167, 255, 224, 42, 176]
abbrev dktX2_begin_4 : List UInt8 := dkwX2_begin_4 ++ []
def dkwX2_begin_3 : List UInt8 := [27, 8, 162, 0, 33, 42, 180, 0, 40, 187, 0, 62, 89, 27, 27, 6, 112, 184, 0, 64, 183, 0, 70]
abbrev dktX2_begin_3 : List UInt8 := dkwX2_begin_3 ++ dktX2_begin_4
def dkwX2_begin_2 : List UInt8 := [180, 0, 37, 187, 0, 59, 89, 183, 0, 61, 185, 0, 53, 2, 0, 87, 132, 1, 1, 167, 255, 231, 3, 60]
abbrev dktX2_begin_2 : List UInt8 := dkwX2_begin_2 ++ dktX2_begin_3
def dkwX2_begin_1 : List UInt8 := [183, 0, 52, 185, 0, 53, 2, 0, 87, 132, 1, 1, 167, 255, 231, 3, 60, 27, 6, 162, 0, 26, 42]
abbrev dktX2_begin_1 : List UInt8 := dkwX2_begin_1 ++ dktX2_begin_2
def dkwX2_begin_0 : List UInt8 := [187, 0, 10, 89, 183, 0, 49, 75, 3, 60, 27, 7, 162, 0, 26, 42, 180, 0, 30, 187, 0, 50, 89]
abbrev dktX2_begin_0 : List UInt8 := dkwX2_begin_0 ++ dktX2_begin_1
theorem dksX2_begin_0 : cX2_begin.data.toList.drop 0 = dktX2_begin_0 := by decide +kernel
theorem dksX2_begin_1 : cX2_begin.data.toList.drop 23 = dktX2_begin_1 := dk_seg dksX2_begin_0 23 rfl rfl
theorem dksX2_begin_2 : cX2_begin.data.toList.drop 46 = dktX2_begin_2 := dk_seg dksX2_begin_1 23 rfl rfl
theorem dksX2_begin_3 : cX2_begin.data.toList.drop 70 = dktX2_begin_3 := dk_seg dksX2_begin_2 24 rfl rfl
theorem dksX2_begin_4 : cX2_begin.data.toList.drop 93 = dktX2_begin_4 := dk_seg dksX2_begin_3 23 rfl rfl
theorem dX2_begin_0 : decode cX2_begin 0 = .ok (.new 10, 3) := dk_187 0 10 (dk_at dksX2_begin_0 0 rfl rfl)
theorem dX2_begin_3 : decode cX2_begin 3 = .ok (.dup, 1) := dk_89 (dk_at dksX2_begin_0 3 rfl rfl)
theorem dX2_begin_4 : decode cX2_begin 4 = .ok (.invokespecial 49, 3) := dk_183 0 49 (dk_at dksX2_begin_0 4 rfl rfl)
theorem dX2_begin_7 : decode cX2_begin 7 = .ok (.astore_n 0, 1) := dk_75 (dk_at dksX2_begin_0 7 rfl rfl)
theorem dX2_begin_8 : decode cX2_begin 8 = .ok (.iconst 0, 1) := dk_3 (dk_at dksX2_begin_0 8 rfl rfl)
theorem dX2_begin_9 : decode cX2_begin 9 = .ok (.istore_n 1, 1) := dk_60 (dk_at dksX2_begin_0 9 rfl rfl)
theorem dX2_begin_10 : decode cX2_begin 10 = .ok (.iload_n 1, 1) := dk_27 (dk_at dksX2_begin_0 10 rfl rfl)
theorem dX2_begin_11 : decode cX2_begin 11 = .ok (.iconst 4, 1) := dk_7 (dk_at dksX2_begin_0 11 rfl rfl)
theorem dX2_begin_12 : decode cX2_begin 12 = .ok (.if_icmp .ge 26, 3) := dk_162 0 26 (dk_at dksX2_begin_0 12 rfl rfl)
theorem dX2_begin_15 : decode cX2_begin 15 = .ok (.aload_n 0, 1) := dk_42 (dk_at dksX2_begin_0 15 rfl rfl)
theorem dX2_begin_16 : decode cX2_begin 16 = .ok (.getfield 30, 3) := dk_180 0 30 (dk_at dksX2_begin_0 16 rfl rfl)
theorem dX2_begin_19 : decode cX2_begin 19 = .ok (.new 50, 3) := dk_187 0 50 (dk_at dksX2_begin_0 19 rfl rfl)
theorem dX2_begin_22 : decode cX2_begin 22 = .ok (.dup, 1) := dk_89 (dk_at dksX2_begin_0 22 rfl rfl)
theorem dX2_begin_23 : decode cX2_begin 23 = .ok (.invokespecial 52, 3) := dk_183 0 52 (dk_at dksX2_begin_1 0 rfl rfl)
theorem dX2_begin_26 : decode cX2_begin 26 = .ok (.invokeinterface 53 2, 5) := by decide +kernel
theorem dX2_begin_31 : decode cX2_begin 31 = .ok (.pop, 1) := dk_87 (dk_at dksX2_begin_1 8 rfl rfl)
theorem dX2_begin_32 : decode cX2_begin 32 = .ok (.iinc 1 1, 3) := dk_132 1 1 (dk_at dksX2_begin_1 9 rfl rfl)
theorem dX2_begin_35 : decode cX2_begin 35 = .ok (.goto (-25), 3) := dk_167 255 231 (dk_at dksX2_begin_1 12 rfl rfl)
theorem dX2_begin_38 : decode cX2_begin 38 = .ok (.iconst 0, 1) := dk_3 (dk_at dksX2_begin_1 15 rfl rfl)
theorem dX2_begin_39 : decode cX2_begin 39 = .ok (.istore_n 1, 1) := dk_60 (dk_at dksX2_begin_1 16 rfl rfl)
theorem dX2_begin_40 : decode cX2_begin 40 = .ok (.iload_n 1, 1) := dk_27 (dk_at dksX2_begin_1 17 rfl rfl)
theorem dX2_begin_41 : decode cX2_begin 41 = .ok (.iconst 3, 1) := dk_6 (dk_at dksX2_begin_1 18 rfl rfl)
theorem dX2_begin_42 : decode cX2_begin 42 = .ok (.if_icmp .ge 26, 3) := dk_162 0 26 (dk_at dksX2_begin_1 19 rfl rfl)
theorem dX2_begin_45 : decode cX2_begin 45 = .ok (.aload_n 0, 1) := dk_42 (dk_at dksX2_begin_1 22 rfl rfl)
theorem dX2_begin_46 : decode cX2_begin 46 = .ok (.getfield 37, 3) := dk_180 0 37 (dk_at dksX2_begin_2 0 rfl rfl)
theorem dX2_begin_49 : decode cX2_begin 49 = .ok (.new 59, 3) := dk_187 0 59 (dk_at dksX2_begin_2 3 rfl rfl)
theorem dX2_begin_52 : decode cX2_begin 52 = .ok (.dup, 1) := dk_89 (dk_at dksX2_begin_2 6 rfl rfl)
theorem dX2_begin_53 : decode cX2_begin 53 = .ok (.invokespecial 61, 3) := dk_183 0 61 (dk_at dksX2_begin_2 7 rfl rfl)
theorem dX2_begin_56 : decode cX2_begin 56 = .ok (.invokeinterface 53 2, 5) := by decide +kernel
theorem dX2_begin_61 : decode cX2_begin 61 = .ok (.pop, 1) := dk_87 (dk_at dksX2_begin_2 15 rfl rfl)
theorem dX2_begin_62 : decode cX2_begin 62 = .ok (.iinc 1 1, 3) := dk_132 1 1 (dk_at dksX2_begin_2 16 rfl rfl)
theorem dX2_begin_65 : decode cX2_begin 65 = .ok (.goto (-25), 3) := dk_167 255 231 (dk_at dksX2_begin_2 19 rfl rfl)
theorem dX2_begin_68 : decode cX2_begin 68 = .ok (.iconst 0, 1) := dk_3 (dk_at dksX2_begin_2 22 rfl rfl)
theorem dX2_begin_69 : decode cX2_begin 69 = .ok (.istore_n 1, 1) := dk_60 (dk_at dksX2_begin_2 23 rfl rfl)
theorem dX2_begin_70 : decode cX2_begin 70 = .ok (.iload_n 1, 1) := dk_27 (dk_at dksX2_begin_3 0 rfl rfl)
theorem dX2_begin_71 : decode cX2_begin 71 = .ok (.iconst 5, 1) := dk_8 (dk_at dksX2_begin_3 1 rfl rfl)
theorem dX2_begin_72 : decode cX2_begin 72 = .ok (.if_icmp .ge 33, 3) := dk_162 0 33 (dk_at dksX2_begin_3 2 rfl rfl)
theorem dX2_begin_75 : decode cX2_begin 75 = .ok (.aload_n 0, 1) := dk_42 (dk_at dksX2_begin_3 5 rfl rfl)
theorem dX2_begin_76 : decode cX2_begin 76 = .ok (.getfield 40, 3) := dk_180 0 40 (dk_at dksX2_begin_3 6 rfl rfl)
theorem dX2_begin_79 : decode cX2_begin 79 = .ok (.new 62, 3) := dk_187 0 62 (dk_at dksX2_begin_3 9 rfl rfl)
theorem dX2_begin_82 : decode cX2_begin 82 = .ok (.dup, 1) := dk_89 (dk_at dksX2_begin_3 12 rfl rfl)
theorem dX2_begin_83 : decode cX2_begin 83 = .ok (.iload_n 1, 1) := dk_27 (dk_at dksX2_begin_3 13 rfl rfl)
theorem dX2_begin_84 : decode cX2_begin 84 = .ok (.iload_n 1, 1) := dk_27 (dk_at dksX2_begin_3 14 rfl rfl)
theorem dX2_begin_85 : decode cX2_begin 85 = .ok (.iconst 3, 1) := dk_6 (dk_at dksX2_begin_3 15 rfl rfl)
theorem dX2_begin_86 : decode cX2_begin 86 = .ok (.irem, 1) := dk_112 (dk_at dksX2_begin_3 16 rfl rfl)
theorem dX2_begin_87 : decode cX2_begin 87 = .ok (.invokestatic 64, 3) := dk_184 0 64 (dk_at dksX2_begin_3 17 rfl rfl)
theorem dX2_begin_90 : decode cX2_begin 90 = .ok (.invokespecial 70, 3) := dk_183 0 70 (dk_at dksX2_begin_3 20 rfl rfl)
theorem dX2_begin_93 : decode cX2_begin 93 = .ok (.invokeinterface 53 2, 5) := by decide +kernel
theorem dX2_begin_98 : decode cX2_begin 98 = .ok (.pop, 1) := dk_87 (dk_at dksX2_begin_4 5 rfl rfl)
theorem dX2_begin_99 : decode cX2_begin 99 = .ok (.iinc 1 1, 3) := dk_132 1 1 (dk_at dksX2_begin_4 6 rfl rfl)
theorem dX2_begin_102 : decode cX2_begin 102 = .ok (.goto (-32), 3) := dk_167 255 224 (dk_at dksX2_begin_4 9 rfl rfl)
theorem dX2_begin_105 : decode cX2_begin 105 = .ok (.aload_n 0, 1) := dk_42 (dk_at dksX2_begin_4 12 rfl rfl)
theorem dX2_begin_106 : decode cX2_begin 106 = .ok (.areturn, 1) := dk_176 (dk_at dksX2_begin_4 13 rfl rfl)
abbrev cX2_init : ByteArray := prog_19_method_1_code
def yX2_init : MethodName := ⟨RX2, "<init>", "()V"⟩
def dkwX2_init_4 : List UInt8 := [183, 0, 29, 181, 0, 46, 177]
abbrev dktX2_init_4 : List UInt8 := dkwX2_init_4 ++ []
def dkwX2_init_3 : List UInt8 := [183, 0, 29, 181, 0, 40, 42, 187, 0, 27, 89, 183, 0, 29, 181, 0, 43, 42, 187, 0, 27, 89]
abbrev dktX2_init_3 : List UInt8 := dkwX2_init_3 ++ dktX2_init_4
def dkwX2_init_2 : List UInt8 := [183, 0, 29, 181, 0, 34, 42, 187, 0, 27, 89, 183, 0, 29, 181, 0, 37, 42, 187, 0, 27, 89]
abbrev dktX2_init_2 : List UInt8 := dkwX2_init_2 ++ dktX2_init_3
def dkwX2_init_1 : List UInt8 := [183, 0, 20, 181, 0, 23, 42, 187, 0, 27, 89, 183, 0, 29, 181, 0, 30, 42, 187, 0, 27, 89]
abbrev dktX2_init_1 : List UInt8 := dkwX2_init_1 ++ dktX2_init_2
def dkwX2_init_0 : List UInt8 := [42, 183, 0, 3, 42, 17, 1, 244, 181, 0, 9, 42, 16, 60, 181, 0, 15, 42, 187, 0, 18, 89, 3, 4]
abbrev dktX2_init_0 : List UInt8 := dkwX2_init_0 ++ dktX2_init_1
theorem dksX2_init_0 : cX2_init.data.toList.drop 0 = dktX2_init_0 := by decide +kernel
theorem dksX2_init_1 : cX2_init.data.toList.drop 24 = dktX2_init_1 := dk_seg dksX2_init_0 24 rfl rfl
theorem dksX2_init_2 : cX2_init.data.toList.drop 46 = dktX2_init_2 := dk_seg dksX2_init_1 22 rfl rfl
theorem dksX2_init_3 : cX2_init.data.toList.drop 68 = dktX2_init_3 := dk_seg dksX2_init_2 22 rfl rfl
theorem dksX2_init_4 : cX2_init.data.toList.drop 90 = dktX2_init_4 := dk_seg dksX2_init_3 22 rfl rfl
theorem dX2_init_0 : decode cX2_init 0 = .ok (.aload_n 0, 1) := dk_42 (dk_at dksX2_init_0 0 rfl rfl)
theorem dX2_init_1 : decode cX2_init 1 = .ok (.invokespecial 3, 3) := dk_183 0 3 (dk_at dksX2_init_0 1 rfl rfl)
theorem dX2_init_4 : decode cX2_init 4 = .ok (.aload_n 0, 1) := dk_42 (dk_at dksX2_init_0 4 rfl rfl)
theorem dX2_init_5 : decode cX2_init 5 = .ok (.sipush 500, 3) := dk_17 1 244 (dk_at dksX2_init_0 5 rfl rfl)
theorem dX2_init_8 : decode cX2_init 8 = .ok (.putfield 9, 3) := dk_181 0 9 (dk_at dksX2_init_0 8 rfl rfl)
theorem dX2_init_11 : decode cX2_init 11 = .ok (.aload_n 0, 1) := dk_42 (dk_at dksX2_init_0 11 rfl rfl)
theorem dX2_init_12 : decode cX2_init 12 = .ok (.bipush 60, 2) := dk_16 60 (dk_at dksX2_init_0 12 rfl rfl)
theorem dX2_init_14 : decode cX2_init 14 = .ok (.putfield 15, 3) := dk_181 0 15 (dk_at dksX2_init_0 14 rfl rfl)
theorem dX2_init_17 : decode cX2_init 17 = .ok (.aload_n 0, 1) := dk_42 (dk_at dksX2_init_0 17 rfl rfl)
theorem dX2_init_18 : decode cX2_init 18 = .ok (.new 18, 3) := dk_187 0 18 (dk_at dksX2_init_0 18 rfl rfl)
theorem dX2_init_21 : decode cX2_init 21 = .ok (.dup, 1) := dk_89 (dk_at dksX2_init_0 21 rfl rfl)
theorem dX2_init_22 : decode cX2_init 22 = .ok (.iconst 0, 1) := dk_3 (dk_at dksX2_init_0 22 rfl rfl)
theorem dX2_init_23 : decode cX2_init 23 = .ok (.iconst 1, 1) := dk_4 (dk_at dksX2_init_0 23 rfl rfl)
theorem dX2_init_24 : decode cX2_init 24 = .ok (.invokespecial 20, 3) := dk_183 0 20 (dk_at dksX2_init_1 0 rfl rfl)
theorem dX2_init_27 : decode cX2_init 27 = .ok (.putfield 23, 3) := dk_181 0 23 (dk_at dksX2_init_1 3 rfl rfl)
theorem dX2_init_30 : decode cX2_init 30 = .ok (.aload_n 0, 1) := dk_42 (dk_at dksX2_init_1 6 rfl rfl)
theorem dX2_init_31 : decode cX2_init 31 = .ok (.new 27, 3) := dk_187 0 27 (dk_at dksX2_init_1 7 rfl rfl)
theorem dX2_init_34 : decode cX2_init 34 = .ok (.dup, 1) := dk_89 (dk_at dksX2_init_1 10 rfl rfl)
theorem dX2_init_35 : decode cX2_init 35 = .ok (.invokespecial 29, 3) := dk_183 0 29 (dk_at dksX2_init_1 11 rfl rfl)
theorem dX2_init_38 : decode cX2_init 38 = .ok (.putfield 30, 3) := dk_181 0 30 (dk_at dksX2_init_1 14 rfl rfl)
theorem dX2_init_41 : decode cX2_init 41 = .ok (.aload_n 0, 1) := dk_42 (dk_at dksX2_init_1 17 rfl rfl)
theorem dX2_init_42 : decode cX2_init 42 = .ok (.new 27, 3) := dk_187 0 27 (dk_at dksX2_init_1 18 rfl rfl)
theorem dX2_init_45 : decode cX2_init 45 = .ok (.dup, 1) := dk_89 (dk_at dksX2_init_1 21 rfl rfl)
theorem dX2_init_46 : decode cX2_init 46 = .ok (.invokespecial 29, 3) := dk_183 0 29 (dk_at dksX2_init_2 0 rfl rfl)
theorem dX2_init_49 : decode cX2_init 49 = .ok (.putfield 34, 3) := dk_181 0 34 (dk_at dksX2_init_2 3 rfl rfl)
theorem dX2_init_52 : decode cX2_init 52 = .ok (.aload_n 0, 1) := dk_42 (dk_at dksX2_init_2 6 rfl rfl)
theorem dX2_init_53 : decode cX2_init 53 = .ok (.new 27, 3) := dk_187 0 27 (dk_at dksX2_init_2 7 rfl rfl)
theorem dX2_init_56 : decode cX2_init 56 = .ok (.dup, 1) := dk_89 (dk_at dksX2_init_2 10 rfl rfl)
theorem dX2_init_57 : decode cX2_init 57 = .ok (.invokespecial 29, 3) := dk_183 0 29 (dk_at dksX2_init_2 11 rfl rfl)
theorem dX2_init_60 : decode cX2_init 60 = .ok (.putfield 37, 3) := dk_181 0 37 (dk_at dksX2_init_2 14 rfl rfl)
theorem dX2_init_63 : decode cX2_init 63 = .ok (.aload_n 0, 1) := dk_42 (dk_at dksX2_init_2 17 rfl rfl)
theorem dX2_init_64 : decode cX2_init 64 = .ok (.new 27, 3) := dk_187 0 27 (dk_at dksX2_init_2 18 rfl rfl)
theorem dX2_init_67 : decode cX2_init 67 = .ok (.dup, 1) := dk_89 (dk_at dksX2_init_2 21 rfl rfl)
theorem dX2_init_68 : decode cX2_init 68 = .ok (.invokespecial 29, 3) := dk_183 0 29 (dk_at dksX2_init_3 0 rfl rfl)
theorem dX2_init_71 : decode cX2_init 71 = .ok (.putfield 40, 3) := dk_181 0 40 (dk_at dksX2_init_3 3 rfl rfl)
theorem dX2_init_74 : decode cX2_init 74 = .ok (.aload_n 0, 1) := dk_42 (dk_at dksX2_init_3 6 rfl rfl)
theorem dX2_init_75 : decode cX2_init 75 = .ok (.new 27, 3) := dk_187 0 27 (dk_at dksX2_init_3 7 rfl rfl)
theorem dX2_init_78 : decode cX2_init 78 = .ok (.dup, 1) := dk_89 (dk_at dksX2_init_3 10 rfl rfl)
theorem dX2_init_79 : decode cX2_init 79 = .ok (.invokespecial 29, 3) := dk_183 0 29 (dk_at dksX2_init_3 11 rfl rfl)
theorem dX2_init_82 : decode cX2_init 82 = .ok (.putfield 43, 3) := dk_181 0 43 (dk_at dksX2_init_3 14 rfl rfl)
theorem dX2_init_85 : decode cX2_init 85 = .ok (.aload_n 0, 1) := dk_42 (dk_at dksX2_init_3 17 rfl rfl)
theorem dX2_init_86 : decode cX2_init 86 = .ok (.new 27, 3) := dk_187 0 27 (dk_at dksX2_init_3 18 rfl rfl)
theorem dX2_init_89 : decode cX2_init 89 = .ok (.dup, 1) := dk_89 (dk_at dksX2_init_3 21 rfl rfl)
theorem dX2_init_90 : decode cX2_init 90 = .ok (.invokespecial 29, 3) := dk_183 0 29 (dk_at dksX2_init_4 0 rfl rfl)
theorem dX2_init_93 : decode cX2_init 93 = .ok (.putfield 46, 3) := dk_181 0 46 (dk_at dksX2_init_4 3 rfl rfl)
theorem dX2_init_96 : decode cX2_init 96 = .ok (.return_, 1) := dk_177 (dk_at dksX2_init_4 6 rfl rfl)
abbrev cX2_unitsByPlaces : ByteArray := prog_19_method_32_code
def yX2_unitsByPlaces : MethodName := ⟨RX2, "unitsByPlaces", "()I"⟩
def dkwX2_unitsByPlaces_8 : List UInt8 := [132, 2, 1, 167, 255, 221, 27, 172]
abbrev dktX2_unitsByPlaces_8 : List UInt8 := dkwX2_unitsByPlaces_8 ++ []
def dkwX2_unitsByPlaces_7 : List UInt8 := [162, 0, 28, 27, 42, 180, 0, 46, 28, 185, 0, 101, 2, 0, 192, 0, 125, 182, 1, 49, 96, 60]
abbrev dktX2_unitsByPlaces_7 : List UInt8 := dkwX2_unitsByPlaces_7 ++ dktX2_unitsByPlaces_8
def dkwX2_unitsByPlaces_6 : List UInt8 := [182, 0, 247, 104, 96, 60, 132, 2, 1, 167, 255, 201, 3, 61, 28, 42, 180, 0, 46, 185, 0, 97, 1, 0]
abbrev dktX2_unitsByPlaces_6 : List UInt8 := dkwX2_unitsByPlaces_6 ++ dktX2_unitsByPlaces_7
def dkwX2_unitsByPlaces_5 : List UInt8 := [192, 0, 120, 180, 1, 13, 42, 180, 0, 43, 28, 185, 0, 101, 2, 0, 192, 0, 120, 180, 1, 48]
abbrev dktX2_unitsByPlaces_5 : List UInt8 := dkwX2_unitsByPlaces_5 ++ dktX2_unitsByPlaces_6
def dkwX2_unitsByPlaces_4 : List UInt8 := [180, 0, 43, 185, 0, 97, 1, 0, 162, 0, 48, 27, 42, 180, 0, 43, 28, 185, 0, 101, 2, 0]
abbrev dktX2_unitsByPlaces_4 : List UInt8 := dkwX2_unitsByPlaces_4 ++ dktX2_unitsByPlaces_5
def dkwX2_unitsByPlaces_3 : List UInt8 := [185, 0, 101, 2, 0, 192, 0, 59, 180, 0, 206, 96, 60, 132, 2, 1, 167, 255, 221, 3, 61, 28, 42]
abbrev dktX2_unitsByPlaces_3 : List UInt8 := dkwX2_unitsByPlaces_3 ++ dktX2_unitsByPlaces_4
def dkwX2_unitsByPlaces_2 : List UInt8 := [3, 61, 28, 42, 180, 0, 37, 185, 0, 97, 1, 0, 162, 0, 28, 27, 42, 180, 0, 37, 28]
abbrev dktX2_unitsByPlaces_2 : List UInt8 := dkwX2_unitsByPlaces_2 ++ dktX2_unitsByPlaces_3
def dkwX2_unitsByPlaces_1 : List UInt8 := [180, 0, 34, 28, 185, 0, 101, 2, 0, 192, 0, 109, 180, 0, 171, 104, 96, 60, 132, 2, 1, 167, 255, 218]
abbrev dktX2_unitsByPlaces_1 : List UInt8 := dkwX2_unitsByPlaces_1 ++ dktX2_unitsByPlaces_2
def dkwX2_unitsByPlaces_0 : List UInt8 := [42, 180, 0, 91, 60, 3, 61, 28, 42, 180, 0, 34, 185, 0, 97, 1, 0, 162, 0, 31, 27, 16, 40, 42]
abbrev dktX2_unitsByPlaces_0 : List UInt8 := dkwX2_unitsByPlaces_0 ++ dktX2_unitsByPlaces_1
theorem dksX2_unitsByPlaces_0 : cX2_unitsByPlaces.data.toList.drop 0 = dktX2_unitsByPlaces_0 := by decide +kernel
theorem dksX2_unitsByPlaces_1 : cX2_unitsByPlaces.data.toList.drop 24 = dktX2_unitsByPlaces_1 := dk_seg dksX2_unitsByPlaces_0 24 rfl rfl
theorem dksX2_unitsByPlaces_2 : cX2_unitsByPlaces.data.toList.drop 48 = dktX2_unitsByPlaces_2 := dk_seg dksX2_unitsByPlaces_1 24 rfl rfl
theorem dksX2_unitsByPlaces_3 : cX2_unitsByPlaces.data.toList.drop 69 = dktX2_unitsByPlaces_3 := dk_seg dksX2_unitsByPlaces_2 21 rfl rfl
theorem dksX2_unitsByPlaces_4 : cX2_unitsByPlaces.data.toList.drop 92 = dktX2_unitsByPlaces_4 := dk_seg dksX2_unitsByPlaces_3 23 rfl rfl
theorem dksX2_unitsByPlaces_5 : cX2_unitsByPlaces.data.toList.drop 114 = dktX2_unitsByPlaces_5 := dk_seg dksX2_unitsByPlaces_4 22 rfl rfl
theorem dksX2_unitsByPlaces_6 : cX2_unitsByPlaces.data.toList.drop 136 = dktX2_unitsByPlaces_6 := dk_seg dksX2_unitsByPlaces_5 22 rfl rfl
theorem dksX2_unitsByPlaces_7 : cX2_unitsByPlaces.data.toList.drop 160 = dktX2_unitsByPlaces_7 := dk_seg dksX2_unitsByPlaces_6 24 rfl rfl
theorem dksX2_unitsByPlaces_8 : cX2_unitsByPlaces.data.toList.drop 182 = dktX2_unitsByPlaces_8 := dk_seg dksX2_unitsByPlaces_7 22 rfl rfl
theorem dX2_unitsByPlaces_0 : decode cX2_unitsByPlaces 0 = .ok (.aload_n 0, 1) := dk_42 (dk_at dksX2_unitsByPlaces_0 0 rfl rfl)
theorem dX2_unitsByPlaces_1 : decode cX2_unitsByPlaces 1 = .ok (.getfield 91, 3) := dk_180 0 91 (dk_at dksX2_unitsByPlaces_0 1 rfl rfl)
theorem dX2_unitsByPlaces_4 : decode cX2_unitsByPlaces 4 = .ok (.istore_n 1, 1) := dk_60 (dk_at dksX2_unitsByPlaces_0 4 rfl rfl)
theorem dX2_unitsByPlaces_5 : decode cX2_unitsByPlaces 5 = .ok (.iconst 0, 1) := dk_3 (dk_at dksX2_unitsByPlaces_0 5 rfl rfl)
theorem dX2_unitsByPlaces_6 : decode cX2_unitsByPlaces 6 = .ok (.istore_n 2, 1) := dk_61 (dk_at dksX2_unitsByPlaces_0 6 rfl rfl)
theorem dX2_unitsByPlaces_7 : decode cX2_unitsByPlaces 7 = .ok (.iload_n 2, 1) := dk_28 (dk_at dksX2_unitsByPlaces_0 7 rfl rfl)
theorem dX2_unitsByPlaces_8 : decode cX2_unitsByPlaces 8 = .ok (.aload_n 0, 1) := dk_42 (dk_at dksX2_unitsByPlaces_0 8 rfl rfl)
theorem dX2_unitsByPlaces_9 : decode cX2_unitsByPlaces 9 = .ok (.getfield 34, 3) := dk_180 0 34 (dk_at dksX2_unitsByPlaces_0 9 rfl rfl)
theorem dX2_unitsByPlaces_12 : decode cX2_unitsByPlaces 12 = .ok (.invokeinterface 97 1, 5) := by decide +kernel
theorem dX2_unitsByPlaces_17 : decode cX2_unitsByPlaces 17 = .ok (.if_icmp .ge 31, 3) := dk_162 0 31 (dk_at dksX2_unitsByPlaces_0 17 rfl rfl)
theorem dX2_unitsByPlaces_20 : decode cX2_unitsByPlaces 20 = .ok (.iload_n 1, 1) := dk_27 (dk_at dksX2_unitsByPlaces_0 20 rfl rfl)
theorem dX2_unitsByPlaces_21 : decode cX2_unitsByPlaces 21 = .ok (.bipush 40, 2) := dk_16 40 (dk_at dksX2_unitsByPlaces_0 21 rfl rfl)
theorem dX2_unitsByPlaces_23 : decode cX2_unitsByPlaces 23 = .ok (.aload_n 0, 1) := dk_42 (dk_at dksX2_unitsByPlaces_0 23 rfl rfl)
theorem dX2_unitsByPlaces_24 : decode cX2_unitsByPlaces 24 = .ok (.getfield 34, 3) := dk_180 0 34 (dk_at dksX2_unitsByPlaces_1 0 rfl rfl)
theorem dX2_unitsByPlaces_27 : decode cX2_unitsByPlaces 27 = .ok (.iload_n 2, 1) := dk_28 (dk_at dksX2_unitsByPlaces_1 3 rfl rfl)
theorem dX2_unitsByPlaces_28 : decode cX2_unitsByPlaces 28 = .ok (.invokeinterface 101 2, 5) := by decide +kernel
theorem dX2_unitsByPlaces_33 : decode cX2_unitsByPlaces 33 = .ok (.checkcast 109, 3) := dk_192 0 109 (dk_at dksX2_unitsByPlaces_1 9 rfl rfl)
theorem dX2_unitsByPlaces_36 : decode cX2_unitsByPlaces 36 = .ok (.getfield 171, 3) := dk_180 0 171 (dk_at dksX2_unitsByPlaces_1 12 rfl rfl)
theorem dX2_unitsByPlaces_39 : decode cX2_unitsByPlaces 39 = .ok (.imul, 1) := dk_104 (dk_at dksX2_unitsByPlaces_1 15 rfl rfl)
theorem dX2_unitsByPlaces_40 : decode cX2_unitsByPlaces 40 = .ok (.iadd, 1) := dk_96 (dk_at dksX2_unitsByPlaces_1 16 rfl rfl)
theorem dX2_unitsByPlaces_41 : decode cX2_unitsByPlaces 41 = .ok (.istore_n 1, 1) := dk_60 (dk_at dksX2_unitsByPlaces_1 17 rfl rfl)
theorem dX2_unitsByPlaces_42 : decode cX2_unitsByPlaces 42 = .ok (.iinc 2 1, 3) := dk_132 2 1 (dk_at dksX2_unitsByPlaces_1 18 rfl rfl)
theorem dX2_unitsByPlaces_45 : decode cX2_unitsByPlaces 45 = .ok (.goto (-38), 3) := dk_167 255 218 (dk_at dksX2_unitsByPlaces_1 21 rfl rfl)
theorem dX2_unitsByPlaces_48 : decode cX2_unitsByPlaces 48 = .ok (.iconst 0, 1) := dk_3 (dk_at dksX2_unitsByPlaces_2 0 rfl rfl)
theorem dX2_unitsByPlaces_49 : decode cX2_unitsByPlaces 49 = .ok (.istore_n 2, 1) := dk_61 (dk_at dksX2_unitsByPlaces_2 1 rfl rfl)
theorem dX2_unitsByPlaces_50 : decode cX2_unitsByPlaces 50 = .ok (.iload_n 2, 1) := dk_28 (dk_at dksX2_unitsByPlaces_2 2 rfl rfl)
theorem dX2_unitsByPlaces_51 : decode cX2_unitsByPlaces 51 = .ok (.aload_n 0, 1) := dk_42 (dk_at dksX2_unitsByPlaces_2 3 rfl rfl)
theorem dX2_unitsByPlaces_52 : decode cX2_unitsByPlaces 52 = .ok (.getfield 37, 3) := dk_180 0 37 (dk_at dksX2_unitsByPlaces_2 4 rfl rfl)
theorem dX2_unitsByPlaces_55 : decode cX2_unitsByPlaces 55 = .ok (.invokeinterface 97 1, 5) := by decide +kernel
theorem dX2_unitsByPlaces_60 : decode cX2_unitsByPlaces 60 = .ok (.if_icmp .ge 28, 3) := dk_162 0 28 (dk_at dksX2_unitsByPlaces_2 12 rfl rfl)
theorem dX2_unitsByPlaces_63 : decode cX2_unitsByPlaces 63 = .ok (.iload_n 1, 1) := dk_27 (dk_at dksX2_unitsByPlaces_2 15 rfl rfl)
theorem dX2_unitsByPlaces_64 : decode cX2_unitsByPlaces 64 = .ok (.aload_n 0, 1) := dk_42 (dk_at dksX2_unitsByPlaces_2 16 rfl rfl)
theorem dX2_unitsByPlaces_65 : decode cX2_unitsByPlaces 65 = .ok (.getfield 37, 3) := dk_180 0 37 (dk_at dksX2_unitsByPlaces_2 17 rfl rfl)
theorem dX2_unitsByPlaces_68 : decode cX2_unitsByPlaces 68 = .ok (.iload_n 2, 1) := dk_28 (dk_at dksX2_unitsByPlaces_2 20 rfl rfl)
theorem dX2_unitsByPlaces_69 : decode cX2_unitsByPlaces 69 = .ok (.invokeinterface 101 2, 5) := by decide +kernel
theorem dX2_unitsByPlaces_74 : decode cX2_unitsByPlaces 74 = .ok (.checkcast 59, 3) := dk_192 0 59 (dk_at dksX2_unitsByPlaces_3 5 rfl rfl)
theorem dX2_unitsByPlaces_77 : decode cX2_unitsByPlaces 77 = .ok (.getfield 206, 3) := dk_180 0 206 (dk_at dksX2_unitsByPlaces_3 8 rfl rfl)
theorem dX2_unitsByPlaces_80 : decode cX2_unitsByPlaces 80 = .ok (.iadd, 1) := dk_96 (dk_at dksX2_unitsByPlaces_3 11 rfl rfl)
theorem dX2_unitsByPlaces_81 : decode cX2_unitsByPlaces 81 = .ok (.istore_n 1, 1) := dk_60 (dk_at dksX2_unitsByPlaces_3 12 rfl rfl)
theorem dX2_unitsByPlaces_82 : decode cX2_unitsByPlaces 82 = .ok (.iinc 2 1, 3) := dk_132 2 1 (dk_at dksX2_unitsByPlaces_3 13 rfl rfl)
theorem dX2_unitsByPlaces_85 : decode cX2_unitsByPlaces 85 = .ok (.goto (-35), 3) := dk_167 255 221 (dk_at dksX2_unitsByPlaces_3 16 rfl rfl)
theorem dX2_unitsByPlaces_88 : decode cX2_unitsByPlaces 88 = .ok (.iconst 0, 1) := dk_3 (dk_at dksX2_unitsByPlaces_3 19 rfl rfl)
theorem dX2_unitsByPlaces_89 : decode cX2_unitsByPlaces 89 = .ok (.istore_n 2, 1) := dk_61 (dk_at dksX2_unitsByPlaces_3 20 rfl rfl)
theorem dX2_unitsByPlaces_90 : decode cX2_unitsByPlaces 90 = .ok (.iload_n 2, 1) := dk_28 (dk_at dksX2_unitsByPlaces_3 21 rfl rfl)
theorem dX2_unitsByPlaces_91 : decode cX2_unitsByPlaces 91 = .ok (.aload_n 0, 1) := dk_42 (dk_at dksX2_unitsByPlaces_3 22 rfl rfl)
theorem dX2_unitsByPlaces_92 : decode cX2_unitsByPlaces 92 = .ok (.getfield 43, 3) := dk_180 0 43 (dk_at dksX2_unitsByPlaces_4 0 rfl rfl)
theorem dX2_unitsByPlaces_95 : decode cX2_unitsByPlaces 95 = .ok (.invokeinterface 97 1, 5) := by decide +kernel
theorem dX2_unitsByPlaces_100 : decode cX2_unitsByPlaces 100 = .ok (.if_icmp .ge 48, 3) := dk_162 0 48 (dk_at dksX2_unitsByPlaces_4 8 rfl rfl)
theorem dX2_unitsByPlaces_103 : decode cX2_unitsByPlaces 103 = .ok (.iload_n 1, 1) := dk_27 (dk_at dksX2_unitsByPlaces_4 11 rfl rfl)
theorem dX2_unitsByPlaces_104 : decode cX2_unitsByPlaces 104 = .ok (.aload_n 0, 1) := dk_42 (dk_at dksX2_unitsByPlaces_4 12 rfl rfl)
theorem dX2_unitsByPlaces_105 : decode cX2_unitsByPlaces 105 = .ok (.getfield 43, 3) := dk_180 0 43 (dk_at dksX2_unitsByPlaces_4 13 rfl rfl)
theorem dX2_unitsByPlaces_108 : decode cX2_unitsByPlaces 108 = .ok (.iload_n 2, 1) := dk_28 (dk_at dksX2_unitsByPlaces_4 16 rfl rfl)
theorem dX2_unitsByPlaces_109 : decode cX2_unitsByPlaces 109 = .ok (.invokeinterface 101 2, 5) := by decide +kernel
theorem dX2_unitsByPlaces_114 : decode cX2_unitsByPlaces 114 = .ok (.checkcast 120, 3) := dk_192 0 120 (dk_at dksX2_unitsByPlaces_5 0 rfl rfl)
theorem dX2_unitsByPlaces_117 : decode cX2_unitsByPlaces 117 = .ok (.getfield 269, 3) := dk_180 1 13 (dk_at dksX2_unitsByPlaces_5 3 rfl rfl)
theorem dX2_unitsByPlaces_120 : decode cX2_unitsByPlaces 120 = .ok (.aload_n 0, 1) := dk_42 (dk_at dksX2_unitsByPlaces_5 6 rfl rfl)
theorem dX2_unitsByPlaces_121 : decode cX2_unitsByPlaces 121 = .ok (.getfield 43, 3) := dk_180 0 43 (dk_at dksX2_unitsByPlaces_5 7 rfl rfl)
theorem dX2_unitsByPlaces_124 : decode cX2_unitsByPlaces 124 = .ok (.iload_n 2, 1) := dk_28 (dk_at dksX2_unitsByPlaces_5 10 rfl rfl)
theorem dX2_unitsByPlaces_125 : decode cX2_unitsByPlaces 125 = .ok (.invokeinterface 101 2, 5) := by decide +kernel
theorem dX2_unitsByPlaces_130 : decode cX2_unitsByPlaces 130 = .ok (.checkcast 120, 3) := dk_192 0 120 (dk_at dksX2_unitsByPlaces_5 16 rfl rfl)
theorem dX2_unitsByPlaces_133 : decode cX2_unitsByPlaces 133 = .ok (.getfield 304, 3) := dk_180 1 48 (dk_at dksX2_unitsByPlaces_5 19 rfl rfl)
theorem dX2_unitsByPlaces_136 : decode cX2_unitsByPlaces 136 = .ok (.invokevirtual 247, 3) := dk_182 0 247 (dk_at dksX2_unitsByPlaces_6 0 rfl rfl)
theorem dX2_unitsByPlaces_139 : decode cX2_unitsByPlaces 139 = .ok (.imul, 1) := dk_104 (dk_at dksX2_unitsByPlaces_6 3 rfl rfl)
theorem dX2_unitsByPlaces_140 : decode cX2_unitsByPlaces 140 = .ok (.iadd, 1) := dk_96 (dk_at dksX2_unitsByPlaces_6 4 rfl rfl)
theorem dX2_unitsByPlaces_141 : decode cX2_unitsByPlaces 141 = .ok (.istore_n 1, 1) := dk_60 (dk_at dksX2_unitsByPlaces_6 5 rfl rfl)
theorem dX2_unitsByPlaces_142 : decode cX2_unitsByPlaces 142 = .ok (.iinc 2 1, 3) := dk_132 2 1 (dk_at dksX2_unitsByPlaces_6 6 rfl rfl)
theorem dX2_unitsByPlaces_145 : decode cX2_unitsByPlaces 145 = .ok (.goto (-55), 3) := dk_167 255 201 (dk_at dksX2_unitsByPlaces_6 9 rfl rfl)
theorem dX2_unitsByPlaces_148 : decode cX2_unitsByPlaces 148 = .ok (.iconst 0, 1) := dk_3 (dk_at dksX2_unitsByPlaces_6 12 rfl rfl)
theorem dX2_unitsByPlaces_149 : decode cX2_unitsByPlaces 149 = .ok (.istore_n 2, 1) := dk_61 (dk_at dksX2_unitsByPlaces_6 13 rfl rfl)
theorem dX2_unitsByPlaces_150 : decode cX2_unitsByPlaces 150 = .ok (.iload_n 2, 1) := dk_28 (dk_at dksX2_unitsByPlaces_6 14 rfl rfl)
theorem dX2_unitsByPlaces_151 : decode cX2_unitsByPlaces 151 = .ok (.aload_n 0, 1) := dk_42 (dk_at dksX2_unitsByPlaces_6 15 rfl rfl)
theorem dX2_unitsByPlaces_152 : decode cX2_unitsByPlaces 152 = .ok (.getfield 46, 3) := dk_180 0 46 (dk_at dksX2_unitsByPlaces_6 16 rfl rfl)
theorem dX2_unitsByPlaces_155 : decode cX2_unitsByPlaces 155 = .ok (.invokeinterface 97 1, 5) := by decide +kernel
theorem dX2_unitsByPlaces_160 : decode cX2_unitsByPlaces 160 = .ok (.if_icmp .ge 28, 3) := dk_162 0 28 (dk_at dksX2_unitsByPlaces_7 0 rfl rfl)
theorem dX2_unitsByPlaces_163 : decode cX2_unitsByPlaces 163 = .ok (.iload_n 1, 1) := dk_27 (dk_at dksX2_unitsByPlaces_7 3 rfl rfl)
theorem dX2_unitsByPlaces_164 : decode cX2_unitsByPlaces 164 = .ok (.aload_n 0, 1) := dk_42 (dk_at dksX2_unitsByPlaces_7 4 rfl rfl)
theorem dX2_unitsByPlaces_165 : decode cX2_unitsByPlaces 165 = .ok (.getfield 46, 3) := dk_180 0 46 (dk_at dksX2_unitsByPlaces_7 5 rfl rfl)
theorem dX2_unitsByPlaces_168 : decode cX2_unitsByPlaces 168 = .ok (.iload_n 2, 1) := dk_28 (dk_at dksX2_unitsByPlaces_7 8 rfl rfl)
theorem dX2_unitsByPlaces_169 : decode cX2_unitsByPlaces 169 = .ok (.invokeinterface 101 2, 5) := by decide +kernel
theorem dX2_unitsByPlaces_174 : decode cX2_unitsByPlaces 174 = .ok (.checkcast 125, 3) := dk_192 0 125 (dk_at dksX2_unitsByPlaces_7 14 rfl rfl)
theorem dX2_unitsByPlaces_177 : decode cX2_unitsByPlaces 177 = .ok (.invokevirtual 305, 3) := dk_182 1 49 (dk_at dksX2_unitsByPlaces_7 17 rfl rfl)
theorem dX2_unitsByPlaces_180 : decode cX2_unitsByPlaces 180 = .ok (.iadd, 1) := dk_96 (dk_at dksX2_unitsByPlaces_7 20 rfl rfl)
theorem dX2_unitsByPlaces_181 : decode cX2_unitsByPlaces 181 = .ok (.istore_n 1, 1) := dk_60 (dk_at dksX2_unitsByPlaces_7 21 rfl rfl)
theorem dX2_unitsByPlaces_182 : decode cX2_unitsByPlaces 182 = .ok (.iinc 2 1, 3) := dk_132 2 1 (dk_at dksX2_unitsByPlaces_8 0 rfl rfl)
theorem dX2_unitsByPlaces_185 : decode cX2_unitsByPlaces 185 = .ok (.goto (-35), 3) := dk_167 255 221 (dk_at dksX2_unitsByPlaces_8 3 rfl rfl)
theorem dX2_unitsByPlaces_188 : decode cX2_unitsByPlaces 188 = .ok (.iload_n 1, 1) := dk_27 (dk_at dksX2_unitsByPlaces_8 6 rfl rfl)
theorem dX2_unitsByPlaces_189 : decode cX2_unitsByPlaces 189 = .ok (.ireturn, 1) := dk_172 (dk_at dksX2_unitsByPlaces_8 7 rfl rfl)
abbrev cX2_unitsByAccount : ByteArray := prog_19_method_33_code
def yX2_unitsByAccount : MethodName := ⟨RX2, "unitsByAccount", "()I"⟩
def dkwX2_unitsByAccount_0 : List UInt8 := [16, 40, 42, 180, 0, 79, 42, 180, 0, 82, 100, 42, 180, 0, 85, 100, 104, 42, 180, 0, 88, 100, 172]
abbrev dktX2_unitsByAccount_0 : List UInt8 := dkwX2_unitsByAccount_0 ++ []
theorem dksX2_unitsByAccount_0 : cX2_unitsByAccount.data.toList.drop 0 = dktX2_unitsByAccount_0 := by decide +kernel
theorem dX2_unitsByAccount_0 : decode cX2_unitsByAccount 0 = .ok (.bipush 40, 2) := dk_16 40 (dk_at dksX2_unitsByAccount_0 0 rfl rfl)
theorem dX2_unitsByAccount_2 : decode cX2_unitsByAccount 2 = .ok (.aload_n 0, 1) := dk_42 (dk_at dksX2_unitsByAccount_0 2 rfl rfl)
theorem dX2_unitsByAccount_3 : decode cX2_unitsByAccount 3 = .ok (.getfield 79, 3) := dk_180 0 79 (dk_at dksX2_unitsByAccount_0 3 rfl rfl)
theorem dX2_unitsByAccount_6 : decode cX2_unitsByAccount 6 = .ok (.aload_n 0, 1) := dk_42 (dk_at dksX2_unitsByAccount_0 6 rfl rfl)
theorem dX2_unitsByAccount_7 : decode cX2_unitsByAccount 7 = .ok (.getfield 82, 3) := dk_180 0 82 (dk_at dksX2_unitsByAccount_0 7 rfl rfl)
theorem dX2_unitsByAccount_10 : decode cX2_unitsByAccount 10 = .ok (.isub, 1) := dk_100 (dk_at dksX2_unitsByAccount_0 10 rfl rfl)
theorem dX2_unitsByAccount_11 : decode cX2_unitsByAccount 11 = .ok (.aload_n 0, 1) := dk_42 (dk_at dksX2_unitsByAccount_0 11 rfl rfl)
theorem dX2_unitsByAccount_12 : decode cX2_unitsByAccount 12 = .ok (.getfield 85, 3) := dk_180 0 85 (dk_at dksX2_unitsByAccount_0 12 rfl rfl)
theorem dX2_unitsByAccount_15 : decode cX2_unitsByAccount 15 = .ok (.isub, 1) := dk_100 (dk_at dksX2_unitsByAccount_0 15 rfl rfl)
theorem dX2_unitsByAccount_16 : decode cX2_unitsByAccount 16 = .ok (.imul, 1) := dk_104 (dk_at dksX2_unitsByAccount_0 16 rfl rfl)
theorem dX2_unitsByAccount_17 : decode cX2_unitsByAccount 17 = .ok (.aload_n 0, 1) := dk_42 (dk_at dksX2_unitsByAccount_0 17 rfl rfl)
theorem dX2_unitsByAccount_18 : decode cX2_unitsByAccount 18 = .ok (.getfield 88, 3) := dk_180 0 88 (dk_at dksX2_unitsByAccount_0 18 rfl rfl)
theorem dX2_unitsByAccount_21 : decode cX2_unitsByAccount 21 = .ok (.isub, 1) := dk_100 (dk_at dksX2_unitsByAccount_0 21 rfl rfl)
theorem dX2_unitsByAccount_22 : decode cX2_unitsByAccount 22 = .ok (.ireturn, 1) := dk_172 (dk_at dksX2_unitsByAccount_0 22 rfl rfl)
abbrev cX2_copy : ByteArray := prog_19_method_3_code
def yX2_copy : MethodName := ⟨RX2, "copy", "()LPaperMill$State;"⟩
def dkwX2_copy_15 : List UInt8 := [185, 0, 101, 2, 0, 192, 0, 125, 185, 0, 53, 2, 0, 87, 132, 2, 1, 167, 255, 217, 43, 176]
abbrev dktX2_copy_15 : List UInt8 := dkwX2_copy_15 ++ []
def dkwX2_copy_14 : List UInt8 := [61, 28, 42, 180, 0, 46, 185, 0, 97, 1, 0, 162, 0, 32, 43, 180, 0, 46, 42, 180, 0, 46, 28]
abbrev dktX2_copy_14 : List UInt8 := dkwX2_copy_14 ++ dktX2_copy_15
def dkwX2_copy_13 : List UInt8 := [185, 0, 101, 2, 0, 192, 0, 120, 182, 0, 122, 185, 0, 53, 2, 0, 87, 132, 2, 1, 167, 255, 214, 3]
abbrev dktX2_copy_13 : List UInt8 := dkwX2_copy_13 ++ dktX2_copy_14
def dkwX2_copy_12 : List UInt8 := [61, 28, 42, 180, 0, 43, 185, 0, 97, 1, 0, 162, 0, 35, 43, 180, 0, 43, 42, 180, 0, 43, 28]
abbrev dktX2_copy_12 : List UInt8 := dkwX2_copy_12 ++ dktX2_copy_13
def dkwX2_copy_11 : List UInt8 := [185, 0, 101, 2, 0, 192, 0, 62, 182, 0, 117, 185, 0, 53, 2, 0, 87, 132, 2, 1, 167, 255, 214, 3]
abbrev dktX2_copy_11 : List UInt8 := dkwX2_copy_11 ++ dktX2_copy_12
def dkwX2_copy_10 : List UInt8 := [61, 28, 42, 180, 0, 40, 185, 0, 97, 1, 0, 162, 0, 35, 43, 180, 0, 40, 42, 180, 0, 40, 28]
abbrev dktX2_copy_10 : List UInt8 := dkwX2_copy_10 ++ dktX2_copy_11
def dkwX2_copy_9 : List UInt8 := [185, 0, 101, 2, 0, 192, 0, 59, 182, 0, 114, 185, 0, 53, 2, 0, 87, 132, 2, 1, 167, 255, 214, 3]
abbrev dktX2_copy_9 : List UInt8 := dkwX2_copy_9 ++ dktX2_copy_10
def dkwX2_copy_8 : List UInt8 := [61, 28, 42, 180, 0, 37, 185, 0, 97, 1, 0, 162, 0, 35, 43, 180, 0, 37, 42, 180, 0, 37, 28]
abbrev dktX2_copy_8 : List UInt8 := dkwX2_copy_8 ++ dktX2_copy_9
def dkwX2_copy_7 : List UInt8 := [185, 0, 101, 2, 0, 192, 0, 109, 182, 0, 111, 185, 0, 53, 2, 0, 87, 132, 2, 1, 167, 255, 214, 3]
abbrev dktX2_copy_7 : List UInt8 := dkwX2_copy_7 ++ dktX2_copy_8
def dkwX2_copy_6 : List UInt8 := [61, 28, 42, 180, 0, 34, 185, 0, 97, 1, 0, 162, 0, 35, 43, 180, 0, 34, 42, 180, 0, 34, 28]
abbrev dktX2_copy_6 : List UInt8 := dkwX2_copy_6 ++ dktX2_copy_7
def dkwX2_copy_5 : List UInt8 := [185, 0, 101, 2, 0, 192, 0, 50, 182, 0, 105, 185, 0, 53, 2, 0, 87, 132, 2, 1, 167, 255, 214, 3]
abbrev dktX2_copy_5 : List UInt8 := dkwX2_copy_5 ++ dktX2_copy_6
def dkwX2_copy_4 : List UInt8 := [3, 61, 28, 42, 180, 0, 30, 185, 0, 97, 1, 0, 162, 0, 35, 43, 180, 0, 30, 42, 180, 0, 30, 28]
abbrev dktX2_copy_4 : List UInt8 := dkwX2_copy_4 ++ dktX2_copy_5
def dkwX2_copy_3 : List UInt8 := [43, 42, 180, 0, 88, 181, 0, 88, 43, 42, 180, 0, 91, 181, 0, 91, 43, 42, 180, 0, 94, 181, 0, 94]
abbrev dktX2_copy_3 : List UInt8 := dkwX2_copy_3 ++ dktX2_copy_4
def dkwX2_copy_2 : List UInt8 := [43, 42, 180, 0, 79, 181, 0, 79, 43, 42, 180, 0, 82, 181, 0, 82, 43, 42, 180, 0, 85, 181, 0, 85]
abbrev dktX2_copy_2 : List UInt8 := dkwX2_copy_2 ++ dktX2_copy_3
def dkwX2_copy_1 : List UInt8 := [43, 42, 180, 0, 15, 181, 0, 15, 43, 42, 180, 0, 76, 181, 0, 76, 43, 42, 180, 0, 23, 181, 0, 23]
abbrev dktX2_copy_1 : List UInt8 := dkwX2_copy_1 ++ dktX2_copy_2
def dkwX2_copy_0 : List UInt8 := [187, 0, 10, 89, 183, 0, 49, 76, 43, 42, 180, 0, 73, 181, 0, 73, 43, 42, 180, 0, 9, 181, 0, 9]
abbrev dktX2_copy_0 : List UInt8 := dkwX2_copy_0 ++ dktX2_copy_1
theorem dksX2_copy_0 : cX2_copy.data.toList.drop 0 = dktX2_copy_0 := by decide +kernel
theorem dksX2_copy_1 : cX2_copy.data.toList.drop 24 = dktX2_copy_1 := dk_seg dksX2_copy_0 24 rfl rfl
theorem dksX2_copy_2 : cX2_copy.data.toList.drop 48 = dktX2_copy_2 := dk_seg dksX2_copy_1 24 rfl rfl
theorem dksX2_copy_3 : cX2_copy.data.toList.drop 72 = dktX2_copy_3 := dk_seg dksX2_copy_2 24 rfl rfl
theorem dksX2_copy_4 : cX2_copy.data.toList.drop 96 = dktX2_copy_4 := dk_seg dksX2_copy_3 24 rfl rfl
theorem dksX2_copy_5 : cX2_copy.data.toList.drop 120 = dktX2_copy_5 := dk_seg dksX2_copy_4 24 rfl rfl
theorem dksX2_copy_6 : cX2_copy.data.toList.drop 144 = dktX2_copy_6 := dk_seg dksX2_copy_5 24 rfl rfl
theorem dksX2_copy_7 : cX2_copy.data.toList.drop 167 = dktX2_copy_7 := dk_seg dksX2_copy_6 23 rfl rfl
theorem dksX2_copy_8 : cX2_copy.data.toList.drop 191 = dktX2_copy_8 := dk_seg dksX2_copy_7 24 rfl rfl
theorem dksX2_copy_9 : cX2_copy.data.toList.drop 214 = dktX2_copy_9 := dk_seg dksX2_copy_8 23 rfl rfl
theorem dksX2_copy_10 : cX2_copy.data.toList.drop 238 = dktX2_copy_10 := dk_seg dksX2_copy_9 24 rfl rfl
theorem dksX2_copy_11 : cX2_copy.data.toList.drop 261 = dktX2_copy_11 := dk_seg dksX2_copy_10 23 rfl rfl
theorem dksX2_copy_12 : cX2_copy.data.toList.drop 285 = dktX2_copy_12 := dk_seg dksX2_copy_11 24 rfl rfl
theorem dksX2_copy_13 : cX2_copy.data.toList.drop 308 = dktX2_copy_13 := dk_seg dksX2_copy_12 23 rfl rfl
theorem dksX2_copy_14 : cX2_copy.data.toList.drop 332 = dktX2_copy_14 := dk_seg dksX2_copy_13 24 rfl rfl
theorem dksX2_copy_15 : cX2_copy.data.toList.drop 355 = dktX2_copy_15 := dk_seg dksX2_copy_14 23 rfl rfl
theorem dX2_copy_0 : decode cX2_copy 0 = .ok (.new 10, 3) := dk_187 0 10 (dk_at dksX2_copy_0 0 rfl rfl)
theorem dX2_copy_3 : decode cX2_copy 3 = .ok (.dup, 1) := dk_89 (dk_at dksX2_copy_0 3 rfl rfl)
theorem dX2_copy_4 : decode cX2_copy 4 = .ok (.invokespecial 49, 3) := dk_183 0 49 (dk_at dksX2_copy_0 4 rfl rfl)
theorem dX2_copy_7 : decode cX2_copy 7 = .ok (.astore_n 1, 1) := dk_76 (dk_at dksX2_copy_0 7 rfl rfl)
theorem dX2_copy_8 : decode cX2_copy 8 = .ok (.aload_n 1, 1) := dk_43 (dk_at dksX2_copy_0 8 rfl rfl)
theorem dX2_copy_9 : decode cX2_copy 9 = .ok (.aload_n 0, 1) := dk_42 (dk_at dksX2_copy_0 9 rfl rfl)
theorem dX2_copy_10 : decode cX2_copy 10 = .ok (.getfield 73, 3) := dk_180 0 73 (dk_at dksX2_copy_0 10 rfl rfl)
theorem dX2_copy_13 : decode cX2_copy 13 = .ok (.putfield 73, 3) := dk_181 0 73 (dk_at dksX2_copy_0 13 rfl rfl)
theorem dX2_copy_16 : decode cX2_copy 16 = .ok (.aload_n 1, 1) := dk_43 (dk_at dksX2_copy_0 16 rfl rfl)
theorem dX2_copy_17 : decode cX2_copy 17 = .ok (.aload_n 0, 1) := dk_42 (dk_at dksX2_copy_0 17 rfl rfl)
theorem dX2_copy_18 : decode cX2_copy 18 = .ok (.getfield 9, 3) := dk_180 0 9 (dk_at dksX2_copy_0 18 rfl rfl)
theorem dX2_copy_21 : decode cX2_copy 21 = .ok (.putfield 9, 3) := dk_181 0 9 (dk_at dksX2_copy_0 21 rfl rfl)
theorem dX2_copy_24 : decode cX2_copy 24 = .ok (.aload_n 1, 1) := dk_43 (dk_at dksX2_copy_1 0 rfl rfl)
theorem dX2_copy_25 : decode cX2_copy 25 = .ok (.aload_n 0, 1) := dk_42 (dk_at dksX2_copy_1 1 rfl rfl)
theorem dX2_copy_26 : decode cX2_copy 26 = .ok (.getfield 15, 3) := dk_180 0 15 (dk_at dksX2_copy_1 2 rfl rfl)
theorem dX2_copy_29 : decode cX2_copy 29 = .ok (.putfield 15, 3) := dk_181 0 15 (dk_at dksX2_copy_1 5 rfl rfl)
theorem dX2_copy_32 : decode cX2_copy 32 = .ok (.aload_n 1, 1) := dk_43 (dk_at dksX2_copy_1 8 rfl rfl)
theorem dX2_copy_33 : decode cX2_copy 33 = .ok (.aload_n 0, 1) := dk_42 (dk_at dksX2_copy_1 9 rfl rfl)
theorem dX2_copy_34 : decode cX2_copy 34 = .ok (.getfield 76, 3) := dk_180 0 76 (dk_at dksX2_copy_1 10 rfl rfl)
theorem dX2_copy_37 : decode cX2_copy 37 = .ok (.putfield 76, 3) := dk_181 0 76 (dk_at dksX2_copy_1 13 rfl rfl)
theorem dX2_copy_40 : decode cX2_copy 40 = .ok (.aload_n 1, 1) := dk_43 (dk_at dksX2_copy_1 16 rfl rfl)
theorem dX2_copy_41 : decode cX2_copy 41 = .ok (.aload_n 0, 1) := dk_42 (dk_at dksX2_copy_1 17 rfl rfl)
theorem dX2_copy_42 : decode cX2_copy 42 = .ok (.getfield 23, 3) := dk_180 0 23 (dk_at dksX2_copy_1 18 rfl rfl)
theorem dX2_copy_45 : decode cX2_copy 45 = .ok (.putfield 23, 3) := dk_181 0 23 (dk_at dksX2_copy_1 21 rfl rfl)
theorem dX2_copy_48 : decode cX2_copy 48 = .ok (.aload_n 1, 1) := dk_43 (dk_at dksX2_copy_2 0 rfl rfl)
theorem dX2_copy_49 : decode cX2_copy 49 = .ok (.aload_n 0, 1) := dk_42 (dk_at dksX2_copy_2 1 rfl rfl)
theorem dX2_copy_50 : decode cX2_copy 50 = .ok (.getfield 79, 3) := dk_180 0 79 (dk_at dksX2_copy_2 2 rfl rfl)
theorem dX2_copy_53 : decode cX2_copy 53 = .ok (.putfield 79, 3) := dk_181 0 79 (dk_at dksX2_copy_2 5 rfl rfl)
theorem dX2_copy_56 : decode cX2_copy 56 = .ok (.aload_n 1, 1) := dk_43 (dk_at dksX2_copy_2 8 rfl rfl)
theorem dX2_copy_57 : decode cX2_copy 57 = .ok (.aload_n 0, 1) := dk_42 (dk_at dksX2_copy_2 9 rfl rfl)
theorem dX2_copy_58 : decode cX2_copy 58 = .ok (.getfield 82, 3) := dk_180 0 82 (dk_at dksX2_copy_2 10 rfl rfl)
theorem dX2_copy_61 : decode cX2_copy 61 = .ok (.putfield 82, 3) := dk_181 0 82 (dk_at dksX2_copy_2 13 rfl rfl)
theorem dX2_copy_64 : decode cX2_copy 64 = .ok (.aload_n 1, 1) := dk_43 (dk_at dksX2_copy_2 16 rfl rfl)
theorem dX2_copy_65 : decode cX2_copy 65 = .ok (.aload_n 0, 1) := dk_42 (dk_at dksX2_copy_2 17 rfl rfl)
theorem dX2_copy_66 : decode cX2_copy 66 = .ok (.getfield 85, 3) := dk_180 0 85 (dk_at dksX2_copy_2 18 rfl rfl)
theorem dX2_copy_69 : decode cX2_copy 69 = .ok (.putfield 85, 3) := dk_181 0 85 (dk_at dksX2_copy_2 21 rfl rfl)
theorem dX2_copy_72 : decode cX2_copy 72 = .ok (.aload_n 1, 1) := dk_43 (dk_at dksX2_copy_3 0 rfl rfl)
theorem dX2_copy_73 : decode cX2_copy 73 = .ok (.aload_n 0, 1) := dk_42 (dk_at dksX2_copy_3 1 rfl rfl)
theorem dX2_copy_74 : decode cX2_copy 74 = .ok (.getfield 88, 3) := dk_180 0 88 (dk_at dksX2_copy_3 2 rfl rfl)
theorem dX2_copy_77 : decode cX2_copy 77 = .ok (.putfield 88, 3) := dk_181 0 88 (dk_at dksX2_copy_3 5 rfl rfl)
theorem dX2_copy_80 : decode cX2_copy 80 = .ok (.aload_n 1, 1) := dk_43 (dk_at dksX2_copy_3 8 rfl rfl)
theorem dX2_copy_81 : decode cX2_copy 81 = .ok (.aload_n 0, 1) := dk_42 (dk_at dksX2_copy_3 9 rfl rfl)
theorem dX2_copy_82 : decode cX2_copy 82 = .ok (.getfield 91, 3) := dk_180 0 91 (dk_at dksX2_copy_3 10 rfl rfl)
theorem dX2_copy_85 : decode cX2_copy 85 = .ok (.putfield 91, 3) := dk_181 0 91 (dk_at dksX2_copy_3 13 rfl rfl)
theorem dX2_copy_88 : decode cX2_copy 88 = .ok (.aload_n 1, 1) := dk_43 (dk_at dksX2_copy_3 16 rfl rfl)
theorem dX2_copy_89 : decode cX2_copy 89 = .ok (.aload_n 0, 1) := dk_42 (dk_at dksX2_copy_3 17 rfl rfl)
theorem dX2_copy_90 : decode cX2_copy 90 = .ok (.getfield 94, 3) := dk_180 0 94 (dk_at dksX2_copy_3 18 rfl rfl)
theorem dX2_copy_93 : decode cX2_copy 93 = .ok (.putfield 94, 3) := dk_181 0 94 (dk_at dksX2_copy_3 21 rfl rfl)
theorem dX2_copy_96 : decode cX2_copy 96 = .ok (.iconst 0, 1) := dk_3 (dk_at dksX2_copy_4 0 rfl rfl)
theorem dX2_copy_97 : decode cX2_copy 97 = .ok (.istore_n 2, 1) := dk_61 (dk_at dksX2_copy_4 1 rfl rfl)
theorem dX2_copy_98 : decode cX2_copy 98 = .ok (.iload_n 2, 1) := dk_28 (dk_at dksX2_copy_4 2 rfl rfl)
theorem dX2_copy_99 : decode cX2_copy 99 = .ok (.aload_n 0, 1) := dk_42 (dk_at dksX2_copy_4 3 rfl rfl)
theorem dX2_copy_100 : decode cX2_copy 100 = .ok (.getfield 30, 3) := dk_180 0 30 (dk_at dksX2_copy_4 4 rfl rfl)
theorem dX2_copy_103 : decode cX2_copy 103 = .ok (.invokeinterface 97 1, 5) := by decide +kernel
theorem dX2_copy_108 : decode cX2_copy 108 = .ok (.if_icmp .ge 35, 3) := dk_162 0 35 (dk_at dksX2_copy_4 12 rfl rfl)
theorem dX2_copy_111 : decode cX2_copy 111 = .ok (.aload_n 1, 1) := dk_43 (dk_at dksX2_copy_4 15 rfl rfl)
theorem dX2_copy_112 : decode cX2_copy 112 = .ok (.getfield 30, 3) := dk_180 0 30 (dk_at dksX2_copy_4 16 rfl rfl)
theorem dX2_copy_115 : decode cX2_copy 115 = .ok (.aload_n 0, 1) := dk_42 (dk_at dksX2_copy_4 19 rfl rfl)
theorem dX2_copy_116 : decode cX2_copy 116 = .ok (.getfield 30, 3) := dk_180 0 30 (dk_at dksX2_copy_4 20 rfl rfl)
theorem dX2_copy_119 : decode cX2_copy 119 = .ok (.iload_n 2, 1) := dk_28 (dk_at dksX2_copy_4 23 rfl rfl)
theorem dX2_copy_120 : decode cX2_copy 120 = .ok (.invokeinterface 101 2, 5) := by decide +kernel
theorem dX2_copy_125 : decode cX2_copy 125 = .ok (.checkcast 50, 3) := dk_192 0 50 (dk_at dksX2_copy_5 5 rfl rfl)
theorem dX2_copy_128 : decode cX2_copy 128 = .ok (.invokevirtual 105, 3) := dk_182 0 105 (dk_at dksX2_copy_5 8 rfl rfl)
theorem dX2_copy_131 : decode cX2_copy 131 = .ok (.invokeinterface 53 2, 5) := by decide +kernel
theorem dX2_copy_136 : decode cX2_copy 136 = .ok (.pop, 1) := dk_87 (dk_at dksX2_copy_5 16 rfl rfl)
theorem dX2_copy_137 : decode cX2_copy 137 = .ok (.iinc 2 1, 3) := dk_132 2 1 (dk_at dksX2_copy_5 17 rfl rfl)
theorem dX2_copy_140 : decode cX2_copy 140 = .ok (.goto (-42), 3) := dk_167 255 214 (dk_at dksX2_copy_5 20 rfl rfl)
theorem dX2_copy_143 : decode cX2_copy 143 = .ok (.iconst 0, 1) := dk_3 (dk_at dksX2_copy_5 23 rfl rfl)
theorem dX2_copy_144 : decode cX2_copy 144 = .ok (.istore_n 2, 1) := dk_61 (dk_at dksX2_copy_6 0 rfl rfl)
theorem dX2_copy_145 : decode cX2_copy 145 = .ok (.iload_n 2, 1) := dk_28 (dk_at dksX2_copy_6 1 rfl rfl)
theorem dX2_copy_146 : decode cX2_copy 146 = .ok (.aload_n 0, 1) := dk_42 (dk_at dksX2_copy_6 2 rfl rfl)
theorem dX2_copy_147 : decode cX2_copy 147 = .ok (.getfield 34, 3) := dk_180 0 34 (dk_at dksX2_copy_6 3 rfl rfl)
theorem dX2_copy_150 : decode cX2_copy 150 = .ok (.invokeinterface 97 1, 5) := by decide +kernel
theorem dX2_copy_155 : decode cX2_copy 155 = .ok (.if_icmp .ge 35, 3) := dk_162 0 35 (dk_at dksX2_copy_6 11 rfl rfl)
theorem dX2_copy_158 : decode cX2_copy 158 = .ok (.aload_n 1, 1) := dk_43 (dk_at dksX2_copy_6 14 rfl rfl)
theorem dX2_copy_159 : decode cX2_copy 159 = .ok (.getfield 34, 3) := dk_180 0 34 (dk_at dksX2_copy_6 15 rfl rfl)
theorem dX2_copy_162 : decode cX2_copy 162 = .ok (.aload_n 0, 1) := dk_42 (dk_at dksX2_copy_6 18 rfl rfl)
theorem dX2_copy_163 : decode cX2_copy 163 = .ok (.getfield 34, 3) := dk_180 0 34 (dk_at dksX2_copy_6 19 rfl rfl)
theorem dX2_copy_166 : decode cX2_copy 166 = .ok (.iload_n 2, 1) := dk_28 (dk_at dksX2_copy_6 22 rfl rfl)
theorem dX2_copy_167 : decode cX2_copy 167 = .ok (.invokeinterface 101 2, 5) := by decide +kernel
theorem dX2_copy_172 : decode cX2_copy 172 = .ok (.checkcast 109, 3) := dk_192 0 109 (dk_at dksX2_copy_7 5 rfl rfl)
theorem dX2_copy_175 : decode cX2_copy 175 = .ok (.invokevirtual 111, 3) := dk_182 0 111 (dk_at dksX2_copy_7 8 rfl rfl)
theorem dX2_copy_178 : decode cX2_copy 178 = .ok (.invokeinterface 53 2, 5) := by decide +kernel
theorem dX2_copy_183 : decode cX2_copy 183 = .ok (.pop, 1) := dk_87 (dk_at dksX2_copy_7 16 rfl rfl)
theorem dX2_copy_184 : decode cX2_copy 184 = .ok (.iinc 2 1, 3) := dk_132 2 1 (dk_at dksX2_copy_7 17 rfl rfl)
theorem dX2_copy_187 : decode cX2_copy 187 = .ok (.goto (-42), 3) := dk_167 255 214 (dk_at dksX2_copy_7 20 rfl rfl)
theorem dX2_copy_190 : decode cX2_copy 190 = .ok (.iconst 0, 1) := dk_3 (dk_at dksX2_copy_7 23 rfl rfl)
theorem dX2_copy_191 : decode cX2_copy 191 = .ok (.istore_n 2, 1) := dk_61 (dk_at dksX2_copy_8 0 rfl rfl)
theorem dX2_copy_192 : decode cX2_copy 192 = .ok (.iload_n 2, 1) := dk_28 (dk_at dksX2_copy_8 1 rfl rfl)
theorem dX2_copy_193 : decode cX2_copy 193 = .ok (.aload_n 0, 1) := dk_42 (dk_at dksX2_copy_8 2 rfl rfl)
theorem dX2_copy_194 : decode cX2_copy 194 = .ok (.getfield 37, 3) := dk_180 0 37 (dk_at dksX2_copy_8 3 rfl rfl)
theorem dX2_copy_197 : decode cX2_copy 197 = .ok (.invokeinterface 97 1, 5) := by decide +kernel
theorem dX2_copy_202 : decode cX2_copy 202 = .ok (.if_icmp .ge 35, 3) := dk_162 0 35 (dk_at dksX2_copy_8 11 rfl rfl)
theorem dX2_copy_205 : decode cX2_copy 205 = .ok (.aload_n 1, 1) := dk_43 (dk_at dksX2_copy_8 14 rfl rfl)
theorem dX2_copy_206 : decode cX2_copy 206 = .ok (.getfield 37, 3) := dk_180 0 37 (dk_at dksX2_copy_8 15 rfl rfl)
theorem dX2_copy_209 : decode cX2_copy 209 = .ok (.aload_n 0, 1) := dk_42 (dk_at dksX2_copy_8 18 rfl rfl)
theorem dX2_copy_210 : decode cX2_copy 210 = .ok (.getfield 37, 3) := dk_180 0 37 (dk_at dksX2_copy_8 19 rfl rfl)
theorem dX2_copy_213 : decode cX2_copy 213 = .ok (.iload_n 2, 1) := dk_28 (dk_at dksX2_copy_8 22 rfl rfl)
theorem dX2_copy_214 : decode cX2_copy 214 = .ok (.invokeinterface 101 2, 5) := by decide +kernel
theorem dX2_copy_219 : decode cX2_copy 219 = .ok (.checkcast 59, 3) := dk_192 0 59 (dk_at dksX2_copy_9 5 rfl rfl)
theorem dX2_copy_222 : decode cX2_copy 222 = .ok (.invokevirtual 114, 3) := dk_182 0 114 (dk_at dksX2_copy_9 8 rfl rfl)
theorem dX2_copy_225 : decode cX2_copy 225 = .ok (.invokeinterface 53 2, 5) := by decide +kernel
theorem dX2_copy_230 : decode cX2_copy 230 = .ok (.pop, 1) := dk_87 (dk_at dksX2_copy_9 16 rfl rfl)
theorem dX2_copy_231 : decode cX2_copy 231 = .ok (.iinc 2 1, 3) := dk_132 2 1 (dk_at dksX2_copy_9 17 rfl rfl)
theorem dX2_copy_234 : decode cX2_copy 234 = .ok (.goto (-42), 3) := dk_167 255 214 (dk_at dksX2_copy_9 20 rfl rfl)
theorem dX2_copy_237 : decode cX2_copy 237 = .ok (.iconst 0, 1) := dk_3 (dk_at dksX2_copy_9 23 rfl rfl)
theorem dX2_copy_238 : decode cX2_copy 238 = .ok (.istore_n 2, 1) := dk_61 (dk_at dksX2_copy_10 0 rfl rfl)
theorem dX2_copy_239 : decode cX2_copy 239 = .ok (.iload_n 2, 1) := dk_28 (dk_at dksX2_copy_10 1 rfl rfl)
theorem dX2_copy_240 : decode cX2_copy 240 = .ok (.aload_n 0, 1) := dk_42 (dk_at dksX2_copy_10 2 rfl rfl)
theorem dX2_copy_241 : decode cX2_copy 241 = .ok (.getfield 40, 3) := dk_180 0 40 (dk_at dksX2_copy_10 3 rfl rfl)
theorem dX2_copy_244 : decode cX2_copy 244 = .ok (.invokeinterface 97 1, 5) := by decide +kernel
theorem dX2_copy_249 : decode cX2_copy 249 = .ok (.if_icmp .ge 35, 3) := dk_162 0 35 (dk_at dksX2_copy_10 11 rfl rfl)
theorem dX2_copy_252 : decode cX2_copy 252 = .ok (.aload_n 1, 1) := dk_43 (dk_at dksX2_copy_10 14 rfl rfl)
theorem dX2_copy_253 : decode cX2_copy 253 = .ok (.getfield 40, 3) := dk_180 0 40 (dk_at dksX2_copy_10 15 rfl rfl)
theorem dX2_copy_256 : decode cX2_copy 256 = .ok (.aload_n 0, 1) := dk_42 (dk_at dksX2_copy_10 18 rfl rfl)
theorem dX2_copy_257 : decode cX2_copy 257 = .ok (.getfield 40, 3) := dk_180 0 40 (dk_at dksX2_copy_10 19 rfl rfl)
theorem dX2_copy_260 : decode cX2_copy 260 = .ok (.iload_n 2, 1) := dk_28 (dk_at dksX2_copy_10 22 rfl rfl)
theorem dX2_copy_261 : decode cX2_copy 261 = .ok (.invokeinterface 101 2, 5) := by decide +kernel
theorem dX2_copy_266 : decode cX2_copy 266 = .ok (.checkcast 62, 3) := dk_192 0 62 (dk_at dksX2_copy_11 5 rfl rfl)
theorem dX2_copy_269 : decode cX2_copy 269 = .ok (.invokevirtual 117, 3) := dk_182 0 117 (dk_at dksX2_copy_11 8 rfl rfl)
theorem dX2_copy_272 : decode cX2_copy 272 = .ok (.invokeinterface 53 2, 5) := by decide +kernel
theorem dX2_copy_277 : decode cX2_copy 277 = .ok (.pop, 1) := dk_87 (dk_at dksX2_copy_11 16 rfl rfl)
theorem dX2_copy_278 : decode cX2_copy 278 = .ok (.iinc 2 1, 3) := dk_132 2 1 (dk_at dksX2_copy_11 17 rfl rfl)
theorem dX2_copy_281 : decode cX2_copy 281 = .ok (.goto (-42), 3) := dk_167 255 214 (dk_at dksX2_copy_11 20 rfl rfl)
theorem dX2_copy_284 : decode cX2_copy 284 = .ok (.iconst 0, 1) := dk_3 (dk_at dksX2_copy_11 23 rfl rfl)
theorem dX2_copy_285 : decode cX2_copy 285 = .ok (.istore_n 2, 1) := dk_61 (dk_at dksX2_copy_12 0 rfl rfl)
theorem dX2_copy_286 : decode cX2_copy 286 = .ok (.iload_n 2, 1) := dk_28 (dk_at dksX2_copy_12 1 rfl rfl)
theorem dX2_copy_287 : decode cX2_copy 287 = .ok (.aload_n 0, 1) := dk_42 (dk_at dksX2_copy_12 2 rfl rfl)
theorem dX2_copy_288 : decode cX2_copy 288 = .ok (.getfield 43, 3) := dk_180 0 43 (dk_at dksX2_copy_12 3 rfl rfl)
theorem dX2_copy_291 : decode cX2_copy 291 = .ok (.invokeinterface 97 1, 5) := by decide +kernel
theorem dX2_copy_296 : decode cX2_copy 296 = .ok (.if_icmp .ge 35, 3) := dk_162 0 35 (dk_at dksX2_copy_12 11 rfl rfl)
theorem dX2_copy_299 : decode cX2_copy 299 = .ok (.aload_n 1, 1) := dk_43 (dk_at dksX2_copy_12 14 rfl rfl)
theorem dX2_copy_300 : decode cX2_copy 300 = .ok (.getfield 43, 3) := dk_180 0 43 (dk_at dksX2_copy_12 15 rfl rfl)
theorem dX2_copy_303 : decode cX2_copy 303 = .ok (.aload_n 0, 1) := dk_42 (dk_at dksX2_copy_12 18 rfl rfl)
theorem dX2_copy_304 : decode cX2_copy 304 = .ok (.getfield 43, 3) := dk_180 0 43 (dk_at dksX2_copy_12 19 rfl rfl)
theorem dX2_copy_307 : decode cX2_copy 307 = .ok (.iload_n 2, 1) := dk_28 (dk_at dksX2_copy_12 22 rfl rfl)
theorem dX2_copy_308 : decode cX2_copy 308 = .ok (.invokeinterface 101 2, 5) := by decide +kernel
theorem dX2_copy_313 : decode cX2_copy 313 = .ok (.checkcast 120, 3) := dk_192 0 120 (dk_at dksX2_copy_13 5 rfl rfl)
theorem dX2_copy_316 : decode cX2_copy 316 = .ok (.invokevirtual 122, 3) := dk_182 0 122 (dk_at dksX2_copy_13 8 rfl rfl)
theorem dX2_copy_319 : decode cX2_copy 319 = .ok (.invokeinterface 53 2, 5) := by decide +kernel
theorem dX2_copy_324 : decode cX2_copy 324 = .ok (.pop, 1) := dk_87 (dk_at dksX2_copy_13 16 rfl rfl)
theorem dX2_copy_325 : decode cX2_copy 325 = .ok (.iinc 2 1, 3) := dk_132 2 1 (dk_at dksX2_copy_13 17 rfl rfl)
theorem dX2_copy_328 : decode cX2_copy 328 = .ok (.goto (-42), 3) := dk_167 255 214 (dk_at dksX2_copy_13 20 rfl rfl)
theorem dX2_copy_331 : decode cX2_copy 331 = .ok (.iconst 0, 1) := dk_3 (dk_at dksX2_copy_13 23 rfl rfl)
theorem dX2_copy_332 : decode cX2_copy 332 = .ok (.istore_n 2, 1) := dk_61 (dk_at dksX2_copy_14 0 rfl rfl)
theorem dX2_copy_333 : decode cX2_copy 333 = .ok (.iload_n 2, 1) := dk_28 (dk_at dksX2_copy_14 1 rfl rfl)
theorem dX2_copy_334 : decode cX2_copy 334 = .ok (.aload_n 0, 1) := dk_42 (dk_at dksX2_copy_14 2 rfl rfl)
theorem dX2_copy_335 : decode cX2_copy 335 = .ok (.getfield 46, 3) := dk_180 0 46 (dk_at dksX2_copy_14 3 rfl rfl)
theorem dX2_copy_338 : decode cX2_copy 338 = .ok (.invokeinterface 97 1, 5) := by decide +kernel
theorem dX2_copy_343 : decode cX2_copy 343 = .ok (.if_icmp .ge 32, 3) := dk_162 0 32 (dk_at dksX2_copy_14 11 rfl rfl)
theorem dX2_copy_346 : decode cX2_copy 346 = .ok (.aload_n 1, 1) := dk_43 (dk_at dksX2_copy_14 14 rfl rfl)
theorem dX2_copy_347 : decode cX2_copy 347 = .ok (.getfield 46, 3) := dk_180 0 46 (dk_at dksX2_copy_14 15 rfl rfl)
theorem dX2_copy_350 : decode cX2_copy 350 = .ok (.aload_n 0, 1) := dk_42 (dk_at dksX2_copy_14 18 rfl rfl)
theorem dX2_copy_351 : decode cX2_copy 351 = .ok (.getfield 46, 3) := dk_180 0 46 (dk_at dksX2_copy_14 19 rfl rfl)
theorem dX2_copy_354 : decode cX2_copy 354 = .ok (.iload_n 2, 1) := dk_28 (dk_at dksX2_copy_14 22 rfl rfl)
theorem dX2_copy_355 : decode cX2_copy 355 = .ok (.invokeinterface 101 2, 5) := by decide +kernel
theorem dX2_copy_360 : decode cX2_copy 360 = .ok (.checkcast 125, 3) := dk_192 0 125 (dk_at dksX2_copy_15 5 rfl rfl)
theorem dX2_copy_363 : decode cX2_copy 363 = .ok (.invokeinterface 53 2, 5) := by decide +kernel
theorem dX2_copy_368 : decode cX2_copy 368 = .ok (.pop, 1) := dk_87 (dk_at dksX2_copy_15 13 rfl rfl)
theorem dX2_copy_369 : decode cX2_copy 369 = .ok (.iinc 2 1, 3) := dk_132 2 1 (dk_at dksX2_copy_15 14 rfl rfl)
theorem dX2_copy_372 : decode cX2_copy 372 = .ok (.goto (-39), 3) := dk_167 255 217 (dk_at dksX2_copy_15 17 rfl rfl)
theorem dX2_copy_375 : decode cX2_copy 375 = .ok (.aload_n 1, 1) := dk_43 (dk_at dksX2_copy_15 20 rfl rfl)
theorem dX2_copy_376 : decode cX2_copy 376 = .ok (.areturn, 1) := dk_176 (dk_at dksX2_copy_15 21 rfl rfl)
abbrev cX2_night : ByteArray := prog_19_method_27_code
def yX2_night : MethodName := ⟨RX2, "night", "()V"⟩
def dkwX2_night_7 : List UInt8 := [192, 0, 120, 89, 180, 1, 36, 4, 96, 181, 1, 36, 132, 1, 1, 167, 255, 218, 177]
abbrev dktX2_night_7 : List UInt8 := dkwX2_night_7 ++ []
def dkwX2_night_6 : List UInt8 := [60, 27, 42, 180, 0, 43, 185, 0, 97, 1, 0, 162, 0, 31, 42, 180, 0, 43, 27, 185, 0, 101, 2, 0]
abbrev dktX2_night_6 : List UInt8 := dkwX2_night_6 ++ dktX2_night_7
def dkwX2_night_5 : List UInt8 := [181, 0, 171, 42, 89, 180, 0, 82, 29, 96, 181, 0, 82, 132, 1, 1, 167, 255, 188, 42, 182, 0, 174, 3]
abbrev dktX2_night_5 : List UInt8 := dkwX2_night_5 ++ dktX2_night_6
def dkwX2_night_4 : List UInt8 := [180, 0, 167, 153, 0, 34, 44, 180, 0, 171, 16, 9, 96, 16, 10, 108, 62, 44, 89, 180, 0, 171, 29, 100]
abbrev dktX2_night_4 : List UInt8 := dkwX2_night_4 ++ dktX2_night_5
def dkwX2_night_3 : List UInt8 := [185, 0, 97, 1, 0, 162, 0, 61, 42, 180, 0, 34, 27, 185, 0, 101, 2, 0, 192, 0, 109, 77, 44]
abbrev dktX2_night_3 : List UInt8 := dkwX2_night_3 ++ dktX2_night_4
def dkwX2_night_2 : List UInt8 := [182, 1, 29, 132, 1, 1, 167, 255, 223, 42, 182, 1, 33, 3, 60, 27, 42, 180, 0, 34]
abbrev dktX2_night_2 : List UInt8 := dkwX2_night_2 ++ dktX2_night_3
def dkwX2_night_1 : List UInt8 := [185, 0, 97, 1, 0, 162, 0, 26, 42, 42, 180, 0, 34, 27, 185, 0, 101, 2, 0, 192, 0, 109]
abbrev dktX2_night_1 : List UInt8 := dkwX2_night_1 ++ dktX2_night_2
def dkwX2_night_0 : List UInt8 := [42, 89, 180, 0, 73, 4, 96, 181, 0, 73, 42, 182, 1, 26, 3, 60, 27, 42, 180, 0, 34]
abbrev dktX2_night_0 : List UInt8 := dkwX2_night_0 ++ dktX2_night_1
theorem dksX2_night_0 : cX2_night.data.toList.drop 0 = dktX2_night_0 := by decide +kernel
theorem dksX2_night_1 : cX2_night.data.toList.drop 21 = dktX2_night_1 := dk_seg dksX2_night_0 21 rfl rfl
theorem dksX2_night_2 : cX2_night.data.toList.drop 43 = dktX2_night_2 := dk_seg dksX2_night_1 22 rfl rfl
theorem dksX2_night_3 : cX2_night.data.toList.drop 63 = dktX2_night_3 := dk_seg dksX2_night_2 20 rfl rfl
theorem dksX2_night_4 : cX2_night.data.toList.drop 86 = dktX2_night_4 := dk_seg dksX2_night_3 23 rfl rfl
theorem dksX2_night_5 : cX2_night.data.toList.drop 110 = dktX2_night_5 := dk_seg dksX2_night_4 24 rfl rfl
theorem dksX2_night_6 : cX2_night.data.toList.drop 134 = dktX2_night_6 := dk_seg dksX2_night_5 24 rfl rfl
theorem dksX2_night_7 : cX2_night.data.toList.drop 158 = dktX2_night_7 := dk_seg dksX2_night_6 24 rfl rfl
theorem dX2_night_0 : decode cX2_night 0 = .ok (.aload_n 0, 1) := dk_42 (dk_at dksX2_night_0 0 rfl rfl)
theorem dX2_night_1 : decode cX2_night 1 = .ok (.dup, 1) := dk_89 (dk_at dksX2_night_0 1 rfl rfl)
theorem dX2_night_2 : decode cX2_night 2 = .ok (.getfield 73, 3) := dk_180 0 73 (dk_at dksX2_night_0 2 rfl rfl)
theorem dX2_night_5 : decode cX2_night 5 = .ok (.iconst 1, 1) := dk_4 (dk_at dksX2_night_0 5 rfl rfl)
theorem dX2_night_6 : decode cX2_night 6 = .ok (.iadd, 1) := dk_96 (dk_at dksX2_night_0 6 rfl rfl)
theorem dX2_night_7 : decode cX2_night 7 = .ok (.putfield 73, 3) := dk_181 0 73 (dk_at dksX2_night_0 7 rfl rfl)
theorem dX2_night_10 : decode cX2_night 10 = .ok (.aload_n 0, 1) := dk_42 (dk_at dksX2_night_0 10 rfl rfl)
theorem dX2_night_11 : decode cX2_night 11 = .ok (.invokevirtual 282, 3) := dk_182 1 26 (dk_at dksX2_night_0 11 rfl rfl)
theorem dX2_night_14 : decode cX2_night 14 = .ok (.iconst 0, 1) := dk_3 (dk_at dksX2_night_0 14 rfl rfl)
theorem dX2_night_15 : decode cX2_night 15 = .ok (.istore_n 1, 1) := dk_60 (dk_at dksX2_night_0 15 rfl rfl)
theorem dX2_night_16 : decode cX2_night 16 = .ok (.iload_n 1, 1) := dk_27 (dk_at dksX2_night_0 16 rfl rfl)
theorem dX2_night_17 : decode cX2_night 17 = .ok (.aload_n 0, 1) := dk_42 (dk_at dksX2_night_0 17 rfl rfl)
theorem dX2_night_18 : decode cX2_night 18 = .ok (.getfield 34, 3) := dk_180 0 34 (dk_at dksX2_night_0 18 rfl rfl)
theorem dX2_night_21 : decode cX2_night 21 = .ok (.invokeinterface 97 1, 5) := by decide +kernel
theorem dX2_night_26 : decode cX2_night 26 = .ok (.if_icmp .ge 26, 3) := dk_162 0 26 (dk_at dksX2_night_1 5 rfl rfl)
theorem dX2_night_29 : decode cX2_night 29 = .ok (.aload_n 0, 1) := dk_42 (dk_at dksX2_night_1 8 rfl rfl)
theorem dX2_night_30 : decode cX2_night 30 = .ok (.aload_n 0, 1) := dk_42 (dk_at dksX2_night_1 9 rfl rfl)
theorem dX2_night_31 : decode cX2_night 31 = .ok (.getfield 34, 3) := dk_180 0 34 (dk_at dksX2_night_1 10 rfl rfl)
theorem dX2_night_34 : decode cX2_night 34 = .ok (.iload_n 1, 1) := dk_27 (dk_at dksX2_night_1 13 rfl rfl)
theorem dX2_night_35 : decode cX2_night 35 = .ok (.invokeinterface 101 2, 5) := by decide +kernel
theorem dX2_night_40 : decode cX2_night 40 = .ok (.checkcast 109, 3) := dk_192 0 109 (dk_at dksX2_night_1 19 rfl rfl)
theorem dX2_night_43 : decode cX2_night 43 = .ok (.invokevirtual 285, 3) := dk_182 1 29 (dk_at dksX2_night_2 0 rfl rfl)
theorem dX2_night_46 : decode cX2_night 46 = .ok (.iinc 1 1, 3) := dk_132 1 1 (dk_at dksX2_night_2 3 rfl rfl)
theorem dX2_night_49 : decode cX2_night 49 = .ok (.goto (-33), 3) := dk_167 255 223 (dk_at dksX2_night_2 6 rfl rfl)
theorem dX2_night_52 : decode cX2_night 52 = .ok (.aload_n 0, 1) := dk_42 (dk_at dksX2_night_2 9 rfl rfl)
theorem dX2_night_53 : decode cX2_night 53 = .ok (.invokevirtual 289, 3) := dk_182 1 33 (dk_at dksX2_night_2 10 rfl rfl)
theorem dX2_night_56 : decode cX2_night 56 = .ok (.iconst 0, 1) := dk_3 (dk_at dksX2_night_2 13 rfl rfl)
theorem dX2_night_57 : decode cX2_night 57 = .ok (.istore_n 1, 1) := dk_60 (dk_at dksX2_night_2 14 rfl rfl)
theorem dX2_night_58 : decode cX2_night 58 = .ok (.iload_n 1, 1) := dk_27 (dk_at dksX2_night_2 15 rfl rfl)
theorem dX2_night_59 : decode cX2_night 59 = .ok (.aload_n 0, 1) := dk_42 (dk_at dksX2_night_2 16 rfl rfl)
theorem dX2_night_60 : decode cX2_night 60 = .ok (.getfield 34, 3) := dk_180 0 34 (dk_at dksX2_night_2 17 rfl rfl)
theorem dX2_night_63 : decode cX2_night 63 = .ok (.invokeinterface 97 1, 5) := by decide +kernel
theorem dX2_night_68 : decode cX2_night 68 = .ok (.if_icmp .ge 61, 3) := dk_162 0 61 (dk_at dksX2_night_3 5 rfl rfl)
theorem dX2_night_71 : decode cX2_night 71 = .ok (.aload_n 0, 1) := dk_42 (dk_at dksX2_night_3 8 rfl rfl)
theorem dX2_night_72 : decode cX2_night 72 = .ok (.getfield 34, 3) := dk_180 0 34 (dk_at dksX2_night_3 9 rfl rfl)
theorem dX2_night_75 : decode cX2_night 75 = .ok (.iload_n 1, 1) := dk_27 (dk_at dksX2_night_3 12 rfl rfl)
theorem dX2_night_76 : decode cX2_night 76 = .ok (.invokeinterface 101 2, 5) := by decide +kernel
theorem dX2_night_81 : decode cX2_night 81 = .ok (.checkcast 109, 3) := dk_192 0 109 (dk_at dksX2_night_3 18 rfl rfl)
theorem dX2_night_84 : decode cX2_night 84 = .ok (.astore_n 2, 1) := dk_77 (dk_at dksX2_night_3 21 rfl rfl)
theorem dX2_night_85 : decode cX2_night 85 = .ok (.aload_n 2, 1) := dk_44 (dk_at dksX2_night_3 22 rfl rfl)
theorem dX2_night_86 : decode cX2_night 86 = .ok (.getfield 167, 3) := dk_180 0 167 (dk_at dksX2_night_4 0 rfl rfl)
theorem dX2_night_89 : decode cX2_night 89 = .ok (.ifCond .eq 34, 3) := dk_153 0 34 (dk_at dksX2_night_4 3 rfl rfl)
theorem dX2_night_92 : decode cX2_night 92 = .ok (.aload_n 2, 1) := dk_44 (dk_at dksX2_night_4 6 rfl rfl)
theorem dX2_night_93 : decode cX2_night 93 = .ok (.getfield 171, 3) := dk_180 0 171 (dk_at dksX2_night_4 7 rfl rfl)
theorem dX2_night_96 : decode cX2_night 96 = .ok (.bipush 9, 2) := dk_16 9 (dk_at dksX2_night_4 10 rfl rfl)
theorem dX2_night_98 : decode cX2_night 98 = .ok (.iadd, 1) := dk_96 (dk_at dksX2_night_4 12 rfl rfl)
theorem dX2_night_99 : decode cX2_night 99 = .ok (.bipush 10, 2) := dk_16 10 (dk_at dksX2_night_4 13 rfl rfl)
theorem dX2_night_101 : decode cX2_night 101 = .ok (.idiv, 1) := dk_108 (dk_at dksX2_night_4 15 rfl rfl)
theorem dX2_night_102 : decode cX2_night 102 = .ok (.istore_n 3, 1) := dk_62 (dk_at dksX2_night_4 16 rfl rfl)
theorem dX2_night_103 : decode cX2_night 103 = .ok (.aload_n 2, 1) := dk_44 (dk_at dksX2_night_4 17 rfl rfl)
theorem dX2_night_104 : decode cX2_night 104 = .ok (.dup, 1) := dk_89 (dk_at dksX2_night_4 18 rfl rfl)
theorem dX2_night_105 : decode cX2_night 105 = .ok (.getfield 171, 3) := dk_180 0 171 (dk_at dksX2_night_4 19 rfl rfl)
theorem dX2_night_108 : decode cX2_night 108 = .ok (.iload_n 3, 1) := dk_29 (dk_at dksX2_night_4 22 rfl rfl)
theorem dX2_night_109 : decode cX2_night 109 = .ok (.isub, 1) := dk_100 (dk_at dksX2_night_4 23 rfl rfl)
theorem dX2_night_110 : decode cX2_night 110 = .ok (.putfield 171, 3) := dk_181 0 171 (dk_at dksX2_night_5 0 rfl rfl)
theorem dX2_night_113 : decode cX2_night 113 = .ok (.aload_n 0, 1) := dk_42 (dk_at dksX2_night_5 3 rfl rfl)
theorem dX2_night_114 : decode cX2_night 114 = .ok (.dup, 1) := dk_89 (dk_at dksX2_night_5 4 rfl rfl)
theorem dX2_night_115 : decode cX2_night 115 = .ok (.getfield 82, 3) := dk_180 0 82 (dk_at dksX2_night_5 5 rfl rfl)
theorem dX2_night_118 : decode cX2_night 118 = .ok (.iload_n 3, 1) := dk_29 (dk_at dksX2_night_5 8 rfl rfl)
theorem dX2_night_119 : decode cX2_night 119 = .ok (.iadd, 1) := dk_96 (dk_at dksX2_night_5 9 rfl rfl)
theorem dX2_night_120 : decode cX2_night 120 = .ok (.putfield 82, 3) := dk_181 0 82 (dk_at dksX2_night_5 10 rfl rfl)
theorem dX2_night_123 : decode cX2_night 123 = .ok (.iinc 1 1, 3) := dk_132 1 1 (dk_at dksX2_night_5 13 rfl rfl)
theorem dX2_night_126 : decode cX2_night 126 = .ok (.goto (-68), 3) := dk_167 255 188 (dk_at dksX2_night_5 16 rfl rfl)
theorem dX2_night_129 : decode cX2_night 129 = .ok (.aload_n 0, 1) := dk_42 (dk_at dksX2_night_5 19 rfl rfl)
theorem dX2_night_130 : decode cX2_night 130 = .ok (.invokevirtual 174, 3) := dk_182 0 174 (dk_at dksX2_night_5 20 rfl rfl)
theorem dX2_night_133 : decode cX2_night 133 = .ok (.iconst 0, 1) := dk_3 (dk_at dksX2_night_5 23 rfl rfl)
theorem dX2_night_134 : decode cX2_night 134 = .ok (.istore_n 1, 1) := dk_60 (dk_at dksX2_night_6 0 rfl rfl)
theorem dX2_night_135 : decode cX2_night 135 = .ok (.iload_n 1, 1) := dk_27 (dk_at dksX2_night_6 1 rfl rfl)
theorem dX2_night_136 : decode cX2_night 136 = .ok (.aload_n 0, 1) := dk_42 (dk_at dksX2_night_6 2 rfl rfl)
theorem dX2_night_137 : decode cX2_night 137 = .ok (.getfield 43, 3) := dk_180 0 43 (dk_at dksX2_night_6 3 rfl rfl)
theorem dX2_night_140 : decode cX2_night 140 = .ok (.invokeinterface 97 1, 5) := by decide +kernel
theorem dX2_night_145 : decode cX2_night 145 = .ok (.if_icmp .ge 31, 3) := dk_162 0 31 (dk_at dksX2_night_6 11 rfl rfl)
theorem dX2_night_148 : decode cX2_night 148 = .ok (.aload_n 0, 1) := dk_42 (dk_at dksX2_night_6 14 rfl rfl)
theorem dX2_night_149 : decode cX2_night 149 = .ok (.getfield 43, 3) := dk_180 0 43 (dk_at dksX2_night_6 15 rfl rfl)
theorem dX2_night_152 : decode cX2_night 152 = .ok (.iload_n 1, 1) := dk_27 (dk_at dksX2_night_6 18 rfl rfl)
theorem dX2_night_153 : decode cX2_night 153 = .ok (.invokeinterface 101 2, 5) := by decide +kernel
theorem dX2_night_158 : decode cX2_night 158 = .ok (.checkcast 120, 3) := dk_192 0 120 (dk_at dksX2_night_7 0 rfl rfl)
theorem dX2_night_161 : decode cX2_night 161 = .ok (.dup, 1) := dk_89 (dk_at dksX2_night_7 3 rfl rfl)
theorem dX2_night_162 : decode cX2_night 162 = .ok (.getfield 292, 3) := dk_180 1 36 (dk_at dksX2_night_7 4 rfl rfl)
theorem dX2_night_165 : decode cX2_night 165 = .ok (.iconst 1, 1) := dk_4 (dk_at dksX2_night_7 7 rfl rfl)
theorem dX2_night_166 : decode cX2_night 166 = .ok (.iadd, 1) := dk_96 (dk_at dksX2_night_7 8 rfl rfl)
theorem dX2_night_167 : decode cX2_night 167 = .ok (.putfield 292, 3) := dk_181 1 36 (dk_at dksX2_night_7 9 rfl rfl)
theorem dX2_night_170 : decode cX2_night 170 = .ok (.iinc 1 1, 3) := dk_132 1 1 (dk_at dksX2_night_7 12 rfl rfl)
theorem dX2_night_173 : decode cX2_night 173 = .ok (.goto (-38), 3) := dk_167 255 218 (dk_at dksX2_night_7 15 rfl rfl)
theorem dX2_night_176 : decode cX2_night 176 = .ok (.return_, 1) := dk_177 (dk_at dksX2_night_7 18 rfl rfl)
abbrev cX2_heat : ByteArray := prog_19_method_28_code
def yX2_heat : MethodName := ⟨RX2, "heat", "()V"⟩
def dkwX2_heat_1 : List UInt8 := [89, 180, 0, 9, 27, 100, 181, 0, 9, 177]
abbrev dktX2_heat_1 : List UInt8 := dkwX2_heat_1 ++ []
def dkwX2_heat_0 : List UInt8 := [7, 42, 180, 0, 76, 104, 60, 27, 42, 180, 0, 9, 164, 0, 11, 42, 3, 181, 0, 76, 167, 0, 13, 42]
abbrev dktX2_heat_0 : List UInt8 := dkwX2_heat_0 ++ dktX2_heat_1
theorem dksX2_heat_0 : cX2_heat.data.toList.drop 0 = dktX2_heat_0 := by decide +kernel
theorem dksX2_heat_1 : cX2_heat.data.toList.drop 24 = dktX2_heat_1 := dk_seg dksX2_heat_0 24 rfl rfl
theorem dX2_heat_0 : decode cX2_heat 0 = .ok (.iconst 4, 1) := dk_7 (dk_at dksX2_heat_0 0 rfl rfl)
theorem dX2_heat_1 : decode cX2_heat 1 = .ok (.aload_n 0, 1) := dk_42 (dk_at dksX2_heat_0 1 rfl rfl)
theorem dX2_heat_2 : decode cX2_heat 2 = .ok (.getfield 76, 3) := dk_180 0 76 (dk_at dksX2_heat_0 2 rfl rfl)
theorem dX2_heat_5 : decode cX2_heat 5 = .ok (.imul, 1) := dk_104 (dk_at dksX2_heat_0 5 rfl rfl)
theorem dX2_heat_6 : decode cX2_heat 6 = .ok (.istore_n 1, 1) := dk_60 (dk_at dksX2_heat_0 6 rfl rfl)
theorem dX2_heat_7 : decode cX2_heat 7 = .ok (.iload_n 1, 1) := dk_27 (dk_at dksX2_heat_0 7 rfl rfl)
theorem dX2_heat_8 : decode cX2_heat 8 = .ok (.aload_n 0, 1) := dk_42 (dk_at dksX2_heat_0 8 rfl rfl)
theorem dX2_heat_9 : decode cX2_heat 9 = .ok (.getfield 9, 3) := dk_180 0 9 (dk_at dksX2_heat_0 9 rfl rfl)
theorem dX2_heat_12 : decode cX2_heat 12 = .ok (.if_icmp .le 11, 3) := dk_164 0 11 (dk_at dksX2_heat_0 12 rfl rfl)
theorem dX2_heat_15 : decode cX2_heat 15 = .ok (.aload_n 0, 1) := dk_42 (dk_at dksX2_heat_0 15 rfl rfl)
theorem dX2_heat_16 : decode cX2_heat 16 = .ok (.iconst 0, 1) := dk_3 (dk_at dksX2_heat_0 16 rfl rfl)
theorem dX2_heat_17 : decode cX2_heat 17 = .ok (.putfield 76, 3) := dk_181 0 76 (dk_at dksX2_heat_0 17 rfl rfl)
theorem dX2_heat_20 : decode cX2_heat 20 = .ok (.goto 13, 3) := dk_167 0 13 (dk_at dksX2_heat_0 20 rfl rfl)
theorem dX2_heat_23 : decode cX2_heat 23 = .ok (.aload_n 0, 1) := dk_42 (dk_at dksX2_heat_0 23 rfl rfl)
theorem dX2_heat_24 : decode cX2_heat 24 = .ok (.dup, 1) := dk_89 (dk_at dksX2_heat_1 0 rfl rfl)
theorem dX2_heat_25 : decode cX2_heat 25 = .ok (.getfield 9, 3) := dk_180 0 9 (dk_at dksX2_heat_1 1 rfl rfl)
theorem dX2_heat_28 : decode cX2_heat 28 = .ok (.iload_n 1, 1) := dk_27 (dk_at dksX2_heat_1 4 rfl rfl)
theorem dX2_heat_29 : decode cX2_heat 29 = .ok (.isub, 1) := dk_100 (dk_at dksX2_heat_1 5 rfl rfl)
theorem dX2_heat_30 : decode cX2_heat 30 = .ok (.putfield 9, 3) := dk_181 0 9 (dk_at dksX2_heat_1 6 rfl rfl)
theorem dX2_heat_33 : decode cX2_heat 33 = .ok (.return_, 1) := dk_177 (dk_at dksX2_heat_1 9 rfl rfl)
abbrev cX2_dry : ByteArray := prog_19_method_29_code
def yX2_dry : MethodName := ⟨RX2, "dry", "(LPaperMill$Bale;)V"⟩
def dkwX2_dry_2 : List UInt8 := [4, 96, 167, 0, 4, 3, 181, 1, 42, 43, 180, 1, 42, 8, 160, 0, 8, 42, 43, 182, 1, 45, 177]
abbrev dktX2_dry_2 : List UInt8 := dkwX2_dry_2 ++ []
def dkwX2_dry_1 : List UInt8 := [181, 1, 39, 43, 180, 0, 167, 154, 0, 39, 43, 43, 180, 1, 39, 16, 30, 161, 0, 12, 43, 180, 1, 42]
abbrev dktX2_dry_1 : List UInt8 := dkwX2_dry_1 ++ dktX2_dry_2
def dkwX2_dry_0 : List UInt8 := [43, 180, 1, 39, 4, 100, 42, 180, 0, 76, 100, 61, 43, 28, 156, 0, 7, 3, 167, 0, 4, 28]
abbrev dktX2_dry_0 : List UInt8 := dkwX2_dry_0 ++ dktX2_dry_1
theorem dksX2_dry_0 : cX2_dry.data.toList.drop 0 = dktX2_dry_0 := by decide +kernel
theorem dksX2_dry_1 : cX2_dry.data.toList.drop 22 = dktX2_dry_1 := dk_seg dksX2_dry_0 22 rfl rfl
theorem dksX2_dry_2 : cX2_dry.data.toList.drop 46 = dktX2_dry_2 := dk_seg dksX2_dry_1 24 rfl rfl
theorem dX2_dry_0 : decode cX2_dry 0 = .ok (.aload_n 1, 1) := dk_43 (dk_at dksX2_dry_0 0 rfl rfl)
theorem dX2_dry_1 : decode cX2_dry 1 = .ok (.getfield 295, 3) := dk_180 1 39 (dk_at dksX2_dry_0 1 rfl rfl)
theorem dX2_dry_4 : decode cX2_dry 4 = .ok (.iconst 1, 1) := dk_4 (dk_at dksX2_dry_0 4 rfl rfl)
theorem dX2_dry_5 : decode cX2_dry 5 = .ok (.isub, 1) := dk_100 (dk_at dksX2_dry_0 5 rfl rfl)
theorem dX2_dry_6 : decode cX2_dry 6 = .ok (.aload_n 0, 1) := dk_42 (dk_at dksX2_dry_0 6 rfl rfl)
theorem dX2_dry_7 : decode cX2_dry 7 = .ok (.getfield 76, 3) := dk_180 0 76 (dk_at dksX2_dry_0 7 rfl rfl)
theorem dX2_dry_10 : decode cX2_dry 10 = .ok (.isub, 1) := dk_100 (dk_at dksX2_dry_0 10 rfl rfl)
theorem dX2_dry_11 : decode cX2_dry 11 = .ok (.istore_n 2, 1) := dk_61 (dk_at dksX2_dry_0 11 rfl rfl)
theorem dX2_dry_12 : decode cX2_dry 12 = .ok (.aload_n 1, 1) := dk_43 (dk_at dksX2_dry_0 12 rfl rfl)
theorem dX2_dry_13 : decode cX2_dry 13 = .ok (.iload_n 2, 1) := dk_28 (dk_at dksX2_dry_0 13 rfl rfl)
theorem dX2_dry_14 : decode cX2_dry 14 = .ok (.ifCond .ge 7, 3) := dk_156 0 7 (dk_at dksX2_dry_0 14 rfl rfl)
theorem dX2_dry_17 : decode cX2_dry 17 = .ok (.iconst 0, 1) := dk_3 (dk_at dksX2_dry_0 17 rfl rfl)
theorem dX2_dry_18 : decode cX2_dry 18 = .ok (.goto 4, 3) := dk_167 0 4 (dk_at dksX2_dry_0 18 rfl rfl)
theorem dX2_dry_21 : decode cX2_dry 21 = .ok (.iload_n 2, 1) := dk_28 (dk_at dksX2_dry_0 21 rfl rfl)
theorem dX2_dry_22 : decode cX2_dry 22 = .ok (.putfield 295, 3) := dk_181 1 39 (dk_at dksX2_dry_1 0 rfl rfl)
theorem dX2_dry_25 : decode cX2_dry 25 = .ok (.aload_n 1, 1) := dk_43 (dk_at dksX2_dry_1 3 rfl rfl)
theorem dX2_dry_26 : decode cX2_dry 26 = .ok (.getfield 167, 3) := dk_180 0 167 (dk_at dksX2_dry_1 4 rfl rfl)
theorem dX2_dry_29 : decode cX2_dry 29 = .ok (.ifCond .ne 39, 3) := dk_154 0 39 (dk_at dksX2_dry_1 7 rfl rfl)
theorem dX2_dry_32 : decode cX2_dry 32 = .ok (.aload_n 1, 1) := dk_43 (dk_at dksX2_dry_1 10 rfl rfl)
theorem dX2_dry_33 : decode cX2_dry 33 = .ok (.aload_n 1, 1) := dk_43 (dk_at dksX2_dry_1 11 rfl rfl)
theorem dX2_dry_34 : decode cX2_dry 34 = .ok (.getfield 295, 3) := dk_180 1 39 (dk_at dksX2_dry_1 12 rfl rfl)
theorem dX2_dry_37 : decode cX2_dry 37 = .ok (.bipush 30, 2) := dk_16 30 (dk_at dksX2_dry_1 15 rfl rfl)
theorem dX2_dry_39 : decode cX2_dry 39 = .ok (.if_icmp .lt 12, 3) := dk_161 0 12 (dk_at dksX2_dry_1 17 rfl rfl)
theorem dX2_dry_42 : decode cX2_dry 42 = .ok (.aload_n 1, 1) := dk_43 (dk_at dksX2_dry_1 20 rfl rfl)
theorem dX2_dry_43 : decode cX2_dry 43 = .ok (.getfield 298, 3) := dk_180 1 42 (dk_at dksX2_dry_1 21 rfl rfl)
theorem dX2_dry_46 : decode cX2_dry 46 = .ok (.iconst 1, 1) := dk_4 (dk_at dksX2_dry_2 0 rfl rfl)
theorem dX2_dry_47 : decode cX2_dry 47 = .ok (.iadd, 1) := dk_96 (dk_at dksX2_dry_2 1 rfl rfl)
theorem dX2_dry_48 : decode cX2_dry 48 = .ok (.goto 4, 3) := dk_167 0 4 (dk_at dksX2_dry_2 2 rfl rfl)
theorem dX2_dry_51 : decode cX2_dry 51 = .ok (.iconst 0, 1) := dk_3 (dk_at dksX2_dry_2 5 rfl rfl)
theorem dX2_dry_52 : decode cX2_dry 52 = .ok (.putfield 298, 3) := dk_181 1 42 (dk_at dksX2_dry_2 6 rfl rfl)
theorem dX2_dry_55 : decode cX2_dry 55 = .ok (.aload_n 1, 1) := dk_43 (dk_at dksX2_dry_2 9 rfl rfl)
theorem dX2_dry_56 : decode cX2_dry 56 = .ok (.getfield 298, 3) := dk_180 1 42 (dk_at dksX2_dry_2 10 rfl rfl)
theorem dX2_dry_59 : decode cX2_dry 59 = .ok (.iconst 5, 1) := dk_8 (dk_at dksX2_dry_2 13 rfl rfl)
theorem dX2_dry_60 : decode cX2_dry 60 = .ok (.if_icmp .ne 8, 3) := dk_160 0 8 (dk_at dksX2_dry_2 14 rfl rfl)
theorem dX2_dry_63 : decode cX2_dry 63 = .ok (.aload_n 0, 1) := dk_42 (dk_at dksX2_dry_2 17 rfl rfl)
theorem dX2_dry_64 : decode cX2_dry 64 = .ok (.aload_n 1, 1) := dk_43 (dk_at dksX2_dry_2 18 rfl rfl)
theorem dX2_dry_65 : decode cX2_dry 65 = .ok (.invokevirtual 301, 3) := dk_182 1 45 (dk_at dksX2_dry_2 19 rfl rfl)
theorem dX2_dry_68 : decode cX2_dry 68 = .ok (.return_, 1) := dk_177 (dk_at dksX2_dry_2 22 rfl rfl)
abbrev cX2_becomeMouldy : ByteArray := prog_19_method_30_code
def yX2_becomeMouldy : MethodName := ⟨RX2, "becomeMouldy", "(LPaperMill$Bale;)V"⟩
def dkwX2_becomeMouldy_0 : List UInt8 := [43, 4, 181, 0, 167, 42, 89, 180, 0, 94, 4, 96, 181, 0, 94, 177]
abbrev dktX2_becomeMouldy_0 : List UInt8 := dkwX2_becomeMouldy_0 ++ []
theorem dksX2_becomeMouldy_0 : cX2_becomeMouldy.data.toList.drop 0 = dktX2_becomeMouldy_0 := by decide +kernel
theorem dX2_becomeMouldy_0 : decode cX2_becomeMouldy 0 = .ok (.aload_n 1, 1) := dk_43 (dk_at dksX2_becomeMouldy_0 0 rfl rfl)
theorem dX2_becomeMouldy_1 : decode cX2_becomeMouldy 1 = .ok (.iconst 1, 1) := dk_4 (dk_at dksX2_becomeMouldy_0 1 rfl rfl)
theorem dX2_becomeMouldy_2 : decode cX2_becomeMouldy 2 = .ok (.putfield 167, 3) := dk_181 0 167 (dk_at dksX2_becomeMouldy_0 2 rfl rfl)
theorem dX2_becomeMouldy_5 : decode cX2_becomeMouldy 5 = .ok (.aload_n 0, 1) := dk_42 (dk_at dksX2_becomeMouldy_0 5 rfl rfl)
theorem dX2_becomeMouldy_6 : decode cX2_becomeMouldy 6 = .ok (.dup, 1) := dk_89 (dk_at dksX2_becomeMouldy_0 6 rfl rfl)
theorem dX2_becomeMouldy_7 : decode cX2_becomeMouldy 7 = .ok (.getfield 94, 3) := dk_180 0 94 (dk_at dksX2_becomeMouldy_0 7 rfl rfl)
theorem dX2_becomeMouldy_10 : decode cX2_becomeMouldy 10 = .ok (.iconst 1, 1) := dk_4 (dk_at dksX2_becomeMouldy_0 10 rfl rfl)
theorem dX2_becomeMouldy_11 : decode cX2_becomeMouldy 11 = .ok (.iadd, 1) := dk_96 (dk_at dksX2_becomeMouldy_0 11 rfl rfl)
theorem dX2_becomeMouldy_12 : decode cX2_becomeMouldy 12 = .ok (.putfield 94, 3) := dk_181 0 94 (dk_at dksX2_becomeMouldy_0 12 rfl rfl)
theorem dX2_becomeMouldy_15 : decode cX2_becomeMouldy 15 = .ok (.return_, 1) := dk_177 (dk_at dksX2_becomeMouldy_0 15 rfl rfl)
abbrev cX2_spreadMould : ByteArray := prog_19_method_31_code
def yX2_spreadMould : MethodName := ⟨RX2, "spreadMould", "()V"⟩
def dkwX2_spreadMould_5 : List UInt8 := [185, 0, 101, 2, 0, 192, 0, 109, 182, 1, 45, 132, 3, 1, 167, 255, 173, 177]
abbrev dktX2_spreadMould_5 : List UInt8 := dkwX2_spreadMould_5 ++ []
def dkwX2_spreadMould_4 : List UInt8 := [29, 185, 0, 101, 2, 0, 192, 0, 109, 182, 0, 180, 153, 0, 20, 42, 42, 180, 0, 34, 29]
abbrev dktX2_spreadMould_4 : List UInt8 := dkwX2_spreadMould_4 ++ dktX2_spreadMould_5
def dkwX2_spreadMould_3 : List UInt8 := [44, 29, 4, 96, 51, 153, 0, 7, 4, 167, 0, 4, 3, 54, 4, 21, 4, 153, 0, 39, 42, 180, 0, 34]
abbrev dktX2_spreadMould_3 : List UInt8 := dkwX2_spreadMould_3 ++ dktX2_spreadMould_4
def dkwX2_spreadMould_2 : List UInt8 := [29, 27, 162, 0, 84, 29, 158, 0, 11, 44, 29, 4, 100, 51, 154, 0, 18, 29, 27, 4, 100, 162, 0, 15]
abbrev dktX2_spreadMould_2 : List UInt8 := dkwX2_spreadMould_2 ++ dktX2_spreadMould_3
def dkwX2_spreadMould_1 : List UInt8 := [180, 0, 34, 29, 185, 0, 101, 2, 0, 192, 0, 109, 180, 0, 167, 84, 132, 3, 1, 167, 255, 229, 3, 62]
abbrev dktX2_spreadMould_1 : List UInt8 := dkwX2_spreadMould_1 ++ dktX2_spreadMould_2
def dkwX2_spreadMould_0 : List UInt8 := [42, 180, 0, 34, 185, 0, 97, 1, 0, 60, 27, 188, 4, 77, 3, 62, 29, 27, 162, 0, 28, 44, 29, 42]
abbrev dktX2_spreadMould_0 : List UInt8 := dkwX2_spreadMould_0 ++ dktX2_spreadMould_1
theorem dksX2_spreadMould_0 : cX2_spreadMould.data.toList.drop 0 = dktX2_spreadMould_0 := by decide +kernel
theorem dksX2_spreadMould_1 : cX2_spreadMould.data.toList.drop 24 = dktX2_spreadMould_1 := dk_seg dksX2_spreadMould_0 24 rfl rfl
theorem dksX2_spreadMould_2 : cX2_spreadMould.data.toList.drop 48 = dktX2_spreadMould_2 := dk_seg dksX2_spreadMould_1 24 rfl rfl
theorem dksX2_spreadMould_3 : cX2_spreadMould.data.toList.drop 72 = dktX2_spreadMould_3 := dk_seg dksX2_spreadMould_2 24 rfl rfl
theorem dksX2_spreadMould_4 : cX2_spreadMould.data.toList.drop 96 = dktX2_spreadMould_4 := dk_seg dksX2_spreadMould_3 24 rfl rfl
theorem dksX2_spreadMould_5 : cX2_spreadMould.data.toList.drop 117 = dktX2_spreadMould_5 := dk_seg dksX2_spreadMould_4 21 rfl rfl
theorem dX2_spreadMould_0 : decode cX2_spreadMould 0 = .ok (.aload_n 0, 1) := dk_42 (dk_at dksX2_spreadMould_0 0 rfl rfl)
theorem dX2_spreadMould_1 : decode cX2_spreadMould 1 = .ok (.getfield 34, 3) := dk_180 0 34 (dk_at dksX2_spreadMould_0 1 rfl rfl)
theorem dX2_spreadMould_4 : decode cX2_spreadMould 4 = .ok (.invokeinterface 97 1, 5) := by decide +kernel
theorem dX2_spreadMould_9 : decode cX2_spreadMould 9 = .ok (.istore_n 1, 1) := dk_60 (dk_at dksX2_spreadMould_0 9 rfl rfl)
theorem dX2_spreadMould_10 : decode cX2_spreadMould 10 = .ok (.iload_n 1, 1) := dk_27 (dk_at dksX2_spreadMould_0 10 rfl rfl)
theorem dX2_spreadMould_11 : decode cX2_spreadMould 11 = .ok (.newarray .boolean, 2) := dk_188_4 (dk_at dksX2_spreadMould_0 11 rfl rfl)
theorem dX2_spreadMould_13 : decode cX2_spreadMould 13 = .ok (.astore_n 2, 1) := dk_77 (dk_at dksX2_spreadMould_0 13 rfl rfl)
theorem dX2_spreadMould_14 : decode cX2_spreadMould 14 = .ok (.iconst 0, 1) := dk_3 (dk_at dksX2_spreadMould_0 14 rfl rfl)
theorem dX2_spreadMould_15 : decode cX2_spreadMould 15 = .ok (.istore_n 3, 1) := dk_62 (dk_at dksX2_spreadMould_0 15 rfl rfl)
theorem dX2_spreadMould_16 : decode cX2_spreadMould 16 = .ok (.iload_n 3, 1) := dk_29 (dk_at dksX2_spreadMould_0 16 rfl rfl)
theorem dX2_spreadMould_17 : decode cX2_spreadMould 17 = .ok (.iload_n 1, 1) := dk_27 (dk_at dksX2_spreadMould_0 17 rfl rfl)
theorem dX2_spreadMould_18 : decode cX2_spreadMould 18 = .ok (.if_icmp .ge 28, 3) := dk_162 0 28 (dk_at dksX2_spreadMould_0 18 rfl rfl)
theorem dX2_spreadMould_21 : decode cX2_spreadMould 21 = .ok (.aload_n 2, 1) := dk_44 (dk_at dksX2_spreadMould_0 21 rfl rfl)
theorem dX2_spreadMould_22 : decode cX2_spreadMould 22 = .ok (.iload_n 3, 1) := dk_29 (dk_at dksX2_spreadMould_0 22 rfl rfl)
theorem dX2_spreadMould_23 : decode cX2_spreadMould 23 = .ok (.aload_n 0, 1) := dk_42 (dk_at dksX2_spreadMould_0 23 rfl rfl)
theorem dX2_spreadMould_24 : decode cX2_spreadMould 24 = .ok (.getfield 34, 3) := dk_180 0 34 (dk_at dksX2_spreadMould_1 0 rfl rfl)
theorem dX2_spreadMould_27 : decode cX2_spreadMould 27 = .ok (.iload_n 3, 1) := dk_29 (dk_at dksX2_spreadMould_1 3 rfl rfl)
theorem dX2_spreadMould_28 : decode cX2_spreadMould 28 = .ok (.invokeinterface 101 2, 5) := by decide +kernel
theorem dX2_spreadMould_33 : decode cX2_spreadMould 33 = .ok (.checkcast 109, 3) := dk_192 0 109 (dk_at dksX2_spreadMould_1 9 rfl rfl)
theorem dX2_spreadMould_36 : decode cX2_spreadMould 36 = .ok (.getfield 167, 3) := dk_180 0 167 (dk_at dksX2_spreadMould_1 12 rfl rfl)
theorem dX2_spreadMould_39 : decode cX2_spreadMould 39 = .ok (.bastore, 1) := dk_84 (dk_at dksX2_spreadMould_1 15 rfl rfl)
theorem dX2_spreadMould_40 : decode cX2_spreadMould 40 = .ok (.iinc 3 1, 3) := dk_132 3 1 (dk_at dksX2_spreadMould_1 16 rfl rfl)
theorem dX2_spreadMould_43 : decode cX2_spreadMould 43 = .ok (.goto (-27), 3) := dk_167 255 229 (dk_at dksX2_spreadMould_1 19 rfl rfl)
theorem dX2_spreadMould_46 : decode cX2_spreadMould 46 = .ok (.iconst 0, 1) := dk_3 (dk_at dksX2_spreadMould_1 22 rfl rfl)
theorem dX2_spreadMould_47 : decode cX2_spreadMould 47 = .ok (.istore_n 3, 1) := dk_62 (dk_at dksX2_spreadMould_1 23 rfl rfl)
theorem dX2_spreadMould_48 : decode cX2_spreadMould 48 = .ok (.iload_n 3, 1) := dk_29 (dk_at dksX2_spreadMould_2 0 rfl rfl)
theorem dX2_spreadMould_49 : decode cX2_spreadMould 49 = .ok (.iload_n 1, 1) := dk_27 (dk_at dksX2_spreadMould_2 1 rfl rfl)
theorem dX2_spreadMould_50 : decode cX2_spreadMould 50 = .ok (.if_icmp .ge 84, 3) := dk_162 0 84 (dk_at dksX2_spreadMould_2 2 rfl rfl)
theorem dX2_spreadMould_53 : decode cX2_spreadMould 53 = .ok (.iload_n 3, 1) := dk_29 (dk_at dksX2_spreadMould_2 5 rfl rfl)
theorem dX2_spreadMould_54 : decode cX2_spreadMould 54 = .ok (.ifCond .le 11, 3) := dk_158 0 11 (dk_at dksX2_spreadMould_2 6 rfl rfl)
theorem dX2_spreadMould_57 : decode cX2_spreadMould 57 = .ok (.aload_n 2, 1) := dk_44 (dk_at dksX2_spreadMould_2 9 rfl rfl)
theorem dX2_spreadMould_58 : decode cX2_spreadMould 58 = .ok (.iload_n 3, 1) := dk_29 (dk_at dksX2_spreadMould_2 10 rfl rfl)
theorem dX2_spreadMould_59 : decode cX2_spreadMould 59 = .ok (.iconst 1, 1) := dk_4 (dk_at dksX2_spreadMould_2 11 rfl rfl)
theorem dX2_spreadMould_60 : decode cX2_spreadMould 60 = .ok (.isub, 1) := dk_100 (dk_at dksX2_spreadMould_2 12 rfl rfl)
theorem dX2_spreadMould_61 : decode cX2_spreadMould 61 = .ok (.baload, 1) := dk_51 (dk_at dksX2_spreadMould_2 13 rfl rfl)
theorem dX2_spreadMould_62 : decode cX2_spreadMould 62 = .ok (.ifCond .ne 18, 3) := dk_154 0 18 (dk_at dksX2_spreadMould_2 14 rfl rfl)
theorem dX2_spreadMould_65 : decode cX2_spreadMould 65 = .ok (.iload_n 3, 1) := dk_29 (dk_at dksX2_spreadMould_2 17 rfl rfl)
theorem dX2_spreadMould_66 : decode cX2_spreadMould 66 = .ok (.iload_n 1, 1) := dk_27 (dk_at dksX2_spreadMould_2 18 rfl rfl)
theorem dX2_spreadMould_67 : decode cX2_spreadMould 67 = .ok (.iconst 1, 1) := dk_4 (dk_at dksX2_spreadMould_2 19 rfl rfl)
theorem dX2_spreadMould_68 : decode cX2_spreadMould 68 = .ok (.isub, 1) := dk_100 (dk_at dksX2_spreadMould_2 20 rfl rfl)
theorem dX2_spreadMould_69 : decode cX2_spreadMould 69 = .ok (.if_icmp .ge 15, 3) := dk_162 0 15 (dk_at dksX2_spreadMould_2 21 rfl rfl)
theorem dX2_spreadMould_72 : decode cX2_spreadMould 72 = .ok (.aload_n 2, 1) := dk_44 (dk_at dksX2_spreadMould_3 0 rfl rfl)
theorem dX2_spreadMould_73 : decode cX2_spreadMould 73 = .ok (.iload_n 3, 1) := dk_29 (dk_at dksX2_spreadMould_3 1 rfl rfl)
theorem dX2_spreadMould_74 : decode cX2_spreadMould 74 = .ok (.iconst 1, 1) := dk_4 (dk_at dksX2_spreadMould_3 2 rfl rfl)
theorem dX2_spreadMould_75 : decode cX2_spreadMould 75 = .ok (.iadd, 1) := dk_96 (dk_at dksX2_spreadMould_3 3 rfl rfl)
theorem dX2_spreadMould_76 : decode cX2_spreadMould 76 = .ok (.baload, 1) := dk_51 (dk_at dksX2_spreadMould_3 4 rfl rfl)
theorem dX2_spreadMould_77 : decode cX2_spreadMould 77 = .ok (.ifCond .eq 7, 3) := dk_153 0 7 (dk_at dksX2_spreadMould_3 5 rfl rfl)
theorem dX2_spreadMould_80 : decode cX2_spreadMould 80 = .ok (.iconst 1, 1) := dk_4 (dk_at dksX2_spreadMould_3 8 rfl rfl)
theorem dX2_spreadMould_81 : decode cX2_spreadMould 81 = .ok (.goto 4, 3) := dk_167 0 4 (dk_at dksX2_spreadMould_3 9 rfl rfl)
theorem dX2_spreadMould_84 : decode cX2_spreadMould 84 = .ok (.iconst 0, 1) := dk_3 (dk_at dksX2_spreadMould_3 12 rfl rfl)
theorem dX2_spreadMould_85 : decode cX2_spreadMould 85 = .ok (.istore 4, 2) := dk_54 4 (dk_at dksX2_spreadMould_3 13 rfl rfl)
theorem dX2_spreadMould_87 : decode cX2_spreadMould 87 = .ok (.iload 4, 2) := dk_21 4 (dk_at dksX2_spreadMould_3 15 rfl rfl)
theorem dX2_spreadMould_89 : decode cX2_spreadMould 89 = .ok (.ifCond .eq 39, 3) := dk_153 0 39 (dk_at dksX2_spreadMould_3 17 rfl rfl)
theorem dX2_spreadMould_92 : decode cX2_spreadMould 92 = .ok (.aload_n 0, 1) := dk_42 (dk_at dksX2_spreadMould_3 20 rfl rfl)
theorem dX2_spreadMould_93 : decode cX2_spreadMould 93 = .ok (.getfield 34, 3) := dk_180 0 34 (dk_at dksX2_spreadMould_3 21 rfl rfl)
theorem dX2_spreadMould_96 : decode cX2_spreadMould 96 = .ok (.iload_n 3, 1) := dk_29 (dk_at dksX2_spreadMould_4 0 rfl rfl)
theorem dX2_spreadMould_97 : decode cX2_spreadMould 97 = .ok (.invokeinterface 101 2, 5) := by decide +kernel
theorem dX2_spreadMould_102 : decode cX2_spreadMould 102 = .ok (.checkcast 109, 3) := dk_192 0 109 (dk_at dksX2_spreadMould_4 6 rfl rfl)
theorem dX2_spreadMould_105 : decode cX2_spreadMould 105 = .ok (.invokevirtual 180, 3) := dk_182 0 180 (dk_at dksX2_spreadMould_4 9 rfl rfl)
theorem dX2_spreadMould_108 : decode cX2_spreadMould 108 = .ok (.ifCond .eq 20, 3) := dk_153 0 20 (dk_at dksX2_spreadMould_4 12 rfl rfl)
theorem dX2_spreadMould_111 : decode cX2_spreadMould 111 = .ok (.aload_n 0, 1) := dk_42 (dk_at dksX2_spreadMould_4 15 rfl rfl)
theorem dX2_spreadMould_112 : decode cX2_spreadMould 112 = .ok (.aload_n 0, 1) := dk_42 (dk_at dksX2_spreadMould_4 16 rfl rfl)
theorem dX2_spreadMould_113 : decode cX2_spreadMould 113 = .ok (.getfield 34, 3) := dk_180 0 34 (dk_at dksX2_spreadMould_4 17 rfl rfl)
theorem dX2_spreadMould_116 : decode cX2_spreadMould 116 = .ok (.iload_n 3, 1) := dk_29 (dk_at dksX2_spreadMould_4 20 rfl rfl)
theorem dX2_spreadMould_117 : decode cX2_spreadMould 117 = .ok (.invokeinterface 101 2, 5) := by decide +kernel
theorem dX2_spreadMould_122 : decode cX2_spreadMould 122 = .ok (.checkcast 109, 3) := dk_192 0 109 (dk_at dksX2_spreadMould_5 5 rfl rfl)
theorem dX2_spreadMould_125 : decode cX2_spreadMould 125 = .ok (.invokevirtual 301, 3) := dk_182 1 45 (dk_at dksX2_spreadMould_5 8 rfl rfl)
theorem dX2_spreadMould_128 : decode cX2_spreadMould 128 = .ok (.iinc 3 1, 3) := dk_132 3 1 (dk_at dksX2_spreadMould_5 11 rfl rfl)
theorem dX2_spreadMould_131 : decode cX2_spreadMould 131 = .ok (.goto (-83), 3) := dk_167 255 173 (dk_at dksX2_spreadMould_5 14 rfl rfl)
theorem dX2_spreadMould_134 : decode cX2_spreadMould 134 = .ok (.return_, 1) := dk_177 (dk_at dksX2_spreadMould_5 17 rfl rfl)
abbrev cX2_dropEmptyBales : ByteArray := prog_19_method_11_code
def yX2_dropEmptyBales : MethodName := ⟨RX2, "dropEmptyBales", "()V"⟩
def dkwX2_dropEmptyBales_2 : List UInt8 := [87, 132, 1, 255, 167, 255, 219, 177]
abbrev dktX2_dropEmptyBales_2 : List UInt8 := dkwX2_dropEmptyBales_2 ++ []
def dkwX2_dropEmptyBales_1 : List UInt8 := [185, 0, 101, 2, 0, 192, 0, 109, 180, 0, 171, 154, 0, 14, 42, 180, 0, 34, 27, 185, 0, 177, 2, 0]
abbrev dktX2_dropEmptyBales_1 : List UInt8 := dkwX2_dropEmptyBales_1 ++ dktX2_dropEmptyBales_2
def dkwX2_dropEmptyBales_0 : List UInt8 := [42, 180, 0, 34, 185, 0, 97, 1, 0, 4, 100, 60, 27, 155, 0, 39, 42, 180, 0, 34, 27]
abbrev dktX2_dropEmptyBales_0 : List UInt8 := dkwX2_dropEmptyBales_0 ++ dktX2_dropEmptyBales_1
theorem dksX2_dropEmptyBales_0 : cX2_dropEmptyBales.data.toList.drop 0 = dktX2_dropEmptyBales_0 := by decide +kernel
theorem dksX2_dropEmptyBales_1 : cX2_dropEmptyBales.data.toList.drop 21 = dktX2_dropEmptyBales_1 := dk_seg dksX2_dropEmptyBales_0 21 rfl rfl
theorem dksX2_dropEmptyBales_2 : cX2_dropEmptyBales.data.toList.drop 45 = dktX2_dropEmptyBales_2 := dk_seg dksX2_dropEmptyBales_1 24 rfl rfl
theorem dX2_dropEmptyBales_0 : decode cX2_dropEmptyBales 0 = .ok (.aload_n 0, 1) := dk_42 (dk_at dksX2_dropEmptyBales_0 0 rfl rfl)
theorem dX2_dropEmptyBales_1 : decode cX2_dropEmptyBales 1 = .ok (.getfield 34, 3) := dk_180 0 34 (dk_at dksX2_dropEmptyBales_0 1 rfl rfl)
theorem dX2_dropEmptyBales_4 : decode cX2_dropEmptyBales 4 = .ok (.invokeinterface 97 1, 5) := by decide +kernel
theorem dX2_dropEmptyBales_9 : decode cX2_dropEmptyBales 9 = .ok (.iconst 1, 1) := dk_4 (dk_at dksX2_dropEmptyBales_0 9 rfl rfl)
theorem dX2_dropEmptyBales_10 : decode cX2_dropEmptyBales 10 = .ok (.isub, 1) := dk_100 (dk_at dksX2_dropEmptyBales_0 10 rfl rfl)
theorem dX2_dropEmptyBales_11 : decode cX2_dropEmptyBales 11 = .ok (.istore_n 1, 1) := dk_60 (dk_at dksX2_dropEmptyBales_0 11 rfl rfl)
theorem dX2_dropEmptyBales_12 : decode cX2_dropEmptyBales 12 = .ok (.iload_n 1, 1) := dk_27 (dk_at dksX2_dropEmptyBales_0 12 rfl rfl)
theorem dX2_dropEmptyBales_13 : decode cX2_dropEmptyBales 13 = .ok (.ifCond .lt 39, 3) := dk_155 0 39 (dk_at dksX2_dropEmptyBales_0 13 rfl rfl)
theorem dX2_dropEmptyBales_16 : decode cX2_dropEmptyBales 16 = .ok (.aload_n 0, 1) := dk_42 (dk_at dksX2_dropEmptyBales_0 16 rfl rfl)
theorem dX2_dropEmptyBales_17 : decode cX2_dropEmptyBales 17 = .ok (.getfield 34, 3) := dk_180 0 34 (dk_at dksX2_dropEmptyBales_0 17 rfl rfl)
theorem dX2_dropEmptyBales_20 : decode cX2_dropEmptyBales 20 = .ok (.iload_n 1, 1) := dk_27 (dk_at dksX2_dropEmptyBales_0 20 rfl rfl)
theorem dX2_dropEmptyBales_21 : decode cX2_dropEmptyBales 21 = .ok (.invokeinterface 101 2, 5) := by decide +kernel
theorem dX2_dropEmptyBales_26 : decode cX2_dropEmptyBales 26 = .ok (.checkcast 109, 3) := dk_192 0 109 (dk_at dksX2_dropEmptyBales_1 5 rfl rfl)
theorem dX2_dropEmptyBales_29 : decode cX2_dropEmptyBales 29 = .ok (.getfield 171, 3) := dk_180 0 171 (dk_at dksX2_dropEmptyBales_1 8 rfl rfl)
theorem dX2_dropEmptyBales_32 : decode cX2_dropEmptyBales 32 = .ok (.ifCond .ne 14, 3) := dk_154 0 14 (dk_at dksX2_dropEmptyBales_1 11 rfl rfl)
theorem dX2_dropEmptyBales_35 : decode cX2_dropEmptyBales 35 = .ok (.aload_n 0, 1) := dk_42 (dk_at dksX2_dropEmptyBales_1 14 rfl rfl)
theorem dX2_dropEmptyBales_36 : decode cX2_dropEmptyBales 36 = .ok (.getfield 34, 3) := dk_180 0 34 (dk_at dksX2_dropEmptyBales_1 15 rfl rfl)
theorem dX2_dropEmptyBales_39 : decode cX2_dropEmptyBales 39 = .ok (.iload_n 1, 1) := dk_27 (dk_at dksX2_dropEmptyBales_1 18 rfl rfl)
theorem dX2_dropEmptyBales_40 : decode cX2_dropEmptyBales 40 = .ok (.invokeinterface 177 2, 5) := by decide +kernel
theorem dX2_dropEmptyBales_45 : decode cX2_dropEmptyBales 45 = .ok (.pop, 1) := dk_87 (dk_at dksX2_dropEmptyBales_2 0 rfl rfl)
theorem dX2_dropEmptyBales_46 : decode cX2_dropEmptyBales 46 = .ok (.iinc 1 (-1), 3) := dk_132 1 255 (dk_at dksX2_dropEmptyBales_2 1 rfl rfl)
theorem dX2_dropEmptyBales_49 : decode cX2_dropEmptyBales 49 = .ok (.goto (-37), 3) := dk_167 255 219 (dk_at dksX2_dropEmptyBales_2 4 rfl rfl)
theorem dX2_dropEmptyBales_52 : decode cX2_dropEmptyBales 52 = .ok (.return_, 1) := dk_177 (dk_at dksX2_dropEmptyBales_2 7 rfl rfl)
abbrev cX2_deliver : ByteArray := prog_19_method_8_code
def yX2_deliver : MethodName := ⟨RX2, "deliver", "(IIII)Z"⟩
def dkwX2_deliver_4 : List UInt8 := [185, 0, 53, 2, 0, 87, 21, 5, 172]
abbrev dktX2_deliver_4 : List UInt8 := dkwX2_deliver_4 ++ []
def dkwX2_deliver_3 : List UInt8 := [181, 0, 79, 21, 6, 158, 0, 25, 42, 180, 0, 34, 187, 0, 109, 89, 28, 21, 6, 21, 4, 183, 0, 161]
abbrev dktX2_deliver_3 : List UInt8 := dkwX2_deliver_3 ++ dktX2_deliver_4
def dkwX2_deliver_2 : List UInt8 := [89, 180, 0, 134, 42, 27, 29, 182, 0, 157, 96, 181, 0, 134, 42, 89, 180, 0, 79, 21, 6, 96]
abbrev dktX2_deliver_2 : List UInt8 := dkwX2_deliver_2 ++ dktX2_deliver_3
def dkwX2_deliver_1 : List UInt8 := [16, 100, 21, 4, 100, 104, 16, 100, 108, 54, 6, 42, 180, 0, 30, 27, 185, 0, 101, 2, 0, 192, 0, 50]
abbrev dktX2_deliver_1 : List UInt8 := dkwX2_deliver_1 ++ dktX2_deliver_2
def dkwX2_deliver_0 : List UInt8 := [42, 27, 29, 21, 4, 182, 0, 153, 154, 0, 7, 4, 167, 0, 4, 3, 54, 5, 21, 5, 153, 0, 80, 29]
abbrev dktX2_deliver_0 : List UInt8 := dkwX2_deliver_0 ++ dktX2_deliver_1
theorem dksX2_deliver_0 : cX2_deliver.data.toList.drop 0 = dktX2_deliver_0 := by decide +kernel
theorem dksX2_deliver_1 : cX2_deliver.data.toList.drop 24 = dktX2_deliver_1 := dk_seg dksX2_deliver_0 24 rfl rfl
theorem dksX2_deliver_2 : cX2_deliver.data.toList.drop 48 = dktX2_deliver_2 := dk_seg dksX2_deliver_1 24 rfl rfl
theorem dksX2_deliver_3 : cX2_deliver.data.toList.drop 70 = dktX2_deliver_3 := dk_seg dksX2_deliver_2 22 rfl rfl
theorem dksX2_deliver_4 : cX2_deliver.data.toList.drop 94 = dktX2_deliver_4 := dk_seg dksX2_deliver_3 24 rfl rfl
theorem dX2_deliver_0 : decode cX2_deliver 0 = .ok (.aload_n 0, 1) := dk_42 (dk_at dksX2_deliver_0 0 rfl rfl)
theorem dX2_deliver_1 : decode cX2_deliver 1 = .ok (.iload_n 1, 1) := dk_27 (dk_at dksX2_deliver_0 1 rfl rfl)
theorem dX2_deliver_2 : decode cX2_deliver 2 = .ok (.iload_n 3, 1) := dk_29 (dk_at dksX2_deliver_0 2 rfl rfl)
theorem dX2_deliver_3 : decode cX2_deliver 3 = .ok (.iload 4, 2) := dk_21 4 (dk_at dksX2_deliver_0 3 rfl rfl)
theorem dX2_deliver_5 : decode cX2_deliver 5 = .ok (.invokevirtual 153, 3) := dk_182 0 153 (dk_at dksX2_deliver_0 5 rfl rfl)
theorem dX2_deliver_8 : decode cX2_deliver 8 = .ok (.ifCond .ne 7, 3) := dk_154 0 7 (dk_at dksX2_deliver_0 8 rfl rfl)
theorem dX2_deliver_11 : decode cX2_deliver 11 = .ok (.iconst 1, 1) := dk_4 (dk_at dksX2_deliver_0 11 rfl rfl)
theorem dX2_deliver_12 : decode cX2_deliver 12 = .ok (.goto 4, 3) := dk_167 0 4 (dk_at dksX2_deliver_0 12 rfl rfl)
theorem dX2_deliver_15 : decode cX2_deliver 15 = .ok (.iconst 0, 1) := dk_3 (dk_at dksX2_deliver_0 15 rfl rfl)
theorem dX2_deliver_16 : decode cX2_deliver 16 = .ok (.istore 5, 2) := dk_54 5 (dk_at dksX2_deliver_0 16 rfl rfl)
theorem dX2_deliver_18 : decode cX2_deliver 18 = .ok (.iload 5, 2) := dk_21 5 (dk_at dksX2_deliver_0 18 rfl rfl)
theorem dX2_deliver_20 : decode cX2_deliver 20 = .ok (.ifCond .eq 80, 3) := dk_153 0 80 (dk_at dksX2_deliver_0 20 rfl rfl)
theorem dX2_deliver_23 : decode cX2_deliver 23 = .ok (.iload_n 3, 1) := dk_29 (dk_at dksX2_deliver_0 23 rfl rfl)
theorem dX2_deliver_24 : decode cX2_deliver 24 = .ok (.bipush 100, 2) := dk_16 100 (dk_at dksX2_deliver_1 0 rfl rfl)
theorem dX2_deliver_26 : decode cX2_deliver 26 = .ok (.iload 4, 2) := dk_21 4 (dk_at dksX2_deliver_1 2 rfl rfl)
theorem dX2_deliver_28 : decode cX2_deliver 28 = .ok (.isub, 1) := dk_100 (dk_at dksX2_deliver_1 4 rfl rfl)
theorem dX2_deliver_29 : decode cX2_deliver 29 = .ok (.imul, 1) := dk_104 (dk_at dksX2_deliver_1 5 rfl rfl)
theorem dX2_deliver_30 : decode cX2_deliver 30 = .ok (.bipush 100, 2) := dk_16 100 (dk_at dksX2_deliver_1 6 rfl rfl)
theorem dX2_deliver_32 : decode cX2_deliver 32 = .ok (.idiv, 1) := dk_108 (dk_at dksX2_deliver_1 8 rfl rfl)
theorem dX2_deliver_33 : decode cX2_deliver 33 = .ok (.istore 6, 2) := dk_54 6 (dk_at dksX2_deliver_1 9 rfl rfl)
theorem dX2_deliver_35 : decode cX2_deliver 35 = .ok (.aload_n 0, 1) := dk_42 (dk_at dksX2_deliver_1 11 rfl rfl)
theorem dX2_deliver_36 : decode cX2_deliver 36 = .ok (.getfield 30, 3) := dk_180 0 30 (dk_at dksX2_deliver_1 12 rfl rfl)
theorem dX2_deliver_39 : decode cX2_deliver 39 = .ok (.iload_n 1, 1) := dk_27 (dk_at dksX2_deliver_1 15 rfl rfl)
theorem dX2_deliver_40 : decode cX2_deliver 40 = .ok (.invokeinterface 101 2, 5) := by decide +kernel
theorem dX2_deliver_45 : decode cX2_deliver 45 = .ok (.checkcast 50, 3) := dk_192 0 50 (dk_at dksX2_deliver_1 21 rfl rfl)
theorem dX2_deliver_48 : decode cX2_deliver 48 = .ok (.dup, 1) := dk_89 (dk_at dksX2_deliver_2 0 rfl rfl)
theorem dX2_deliver_49 : decode cX2_deliver 49 = .ok (.getfield 134, 3) := dk_180 0 134 (dk_at dksX2_deliver_2 1 rfl rfl)
theorem dX2_deliver_52 : decode cX2_deliver 52 = .ok (.aload_n 0, 1) := dk_42 (dk_at dksX2_deliver_2 4 rfl rfl)
theorem dX2_deliver_53 : decode cX2_deliver 53 = .ok (.iload_n 1, 1) := dk_27 (dk_at dksX2_deliver_2 5 rfl rfl)
theorem dX2_deliver_54 : decode cX2_deliver 54 = .ok (.iload_n 3, 1) := dk_29 (dk_at dksX2_deliver_2 6 rfl rfl)
theorem dX2_deliver_55 : decode cX2_deliver 55 = .ok (.invokevirtual 157, 3) := dk_182 0 157 (dk_at dksX2_deliver_2 7 rfl rfl)
theorem dX2_deliver_58 : decode cX2_deliver 58 = .ok (.iadd, 1) := dk_96 (dk_at dksX2_deliver_2 10 rfl rfl)
theorem dX2_deliver_59 : decode cX2_deliver 59 = .ok (.putfield 134, 3) := dk_181 0 134 (dk_at dksX2_deliver_2 11 rfl rfl)
theorem dX2_deliver_62 : decode cX2_deliver 62 = .ok (.aload_n 0, 1) := dk_42 (dk_at dksX2_deliver_2 14 rfl rfl)
theorem dX2_deliver_63 : decode cX2_deliver 63 = .ok (.dup, 1) := dk_89 (dk_at dksX2_deliver_2 15 rfl rfl)
theorem dX2_deliver_64 : decode cX2_deliver 64 = .ok (.getfield 79, 3) := dk_180 0 79 (dk_at dksX2_deliver_2 16 rfl rfl)
theorem dX2_deliver_67 : decode cX2_deliver 67 = .ok (.iload 6, 2) := dk_21 6 (dk_at dksX2_deliver_2 19 rfl rfl)
theorem dX2_deliver_69 : decode cX2_deliver 69 = .ok (.iadd, 1) := dk_96 (dk_at dksX2_deliver_2 21 rfl rfl)
theorem dX2_deliver_70 : decode cX2_deliver 70 = .ok (.putfield 79, 3) := dk_181 0 79 (dk_at dksX2_deliver_3 0 rfl rfl)
theorem dX2_deliver_73 : decode cX2_deliver 73 = .ok (.iload 6, 2) := dk_21 6 (dk_at dksX2_deliver_3 3 rfl rfl)
theorem dX2_deliver_75 : decode cX2_deliver 75 = .ok (.ifCond .le 25, 3) := dk_158 0 25 (dk_at dksX2_deliver_3 5 rfl rfl)
theorem dX2_deliver_78 : decode cX2_deliver 78 = .ok (.aload_n 0, 1) := dk_42 (dk_at dksX2_deliver_3 8 rfl rfl)
theorem dX2_deliver_79 : decode cX2_deliver 79 = .ok (.getfield 34, 3) := dk_180 0 34 (dk_at dksX2_deliver_3 9 rfl rfl)
theorem dX2_deliver_82 : decode cX2_deliver 82 = .ok (.new 109, 3) := dk_187 0 109 (dk_at dksX2_deliver_3 12 rfl rfl)
theorem dX2_deliver_85 : decode cX2_deliver 85 = .ok (.dup, 1) := dk_89 (dk_at dksX2_deliver_3 15 rfl rfl)
theorem dX2_deliver_86 : decode cX2_deliver 86 = .ok (.iload_n 2, 1) := dk_28 (dk_at dksX2_deliver_3 16 rfl rfl)
theorem dX2_deliver_87 : decode cX2_deliver 87 = .ok (.iload 6, 2) := dk_21 6 (dk_at dksX2_deliver_3 17 rfl rfl)
theorem dX2_deliver_89 : decode cX2_deliver 89 = .ok (.iload 4, 2) := dk_21 4 (dk_at dksX2_deliver_3 19 rfl rfl)
theorem dX2_deliver_91 : decode cX2_deliver 91 = .ok (.invokespecial 161, 3) := dk_183 0 161 (dk_at dksX2_deliver_3 21 rfl rfl)
theorem dX2_deliver_94 : decode cX2_deliver 94 = .ok (.invokeinterface 53 2, 5) := by decide +kernel
theorem dX2_deliver_99 : decode cX2_deliver 99 = .ok (.pop, 1) := dk_87 (dk_at dksX2_deliver_4 5 rfl rfl)
theorem dX2_deliver_100 : decode cX2_deliver 100 = .ok (.iload 5, 2) := dk_21 5 (dk_at dksX2_deliver_4 6 rfl rfl)
theorem dX2_deliver_102 : decode cX2_deliver 102 = .ok (.ireturn, 1) := dk_172 (dk_at dksX2_deliver_4 8 rfl rfl)
abbrev cX2_whyNotIn : ByteArray := prog_19_method_7_code
def yX2_whyNotIn : MethodName := ⟨RX2, "whyNotIn", "(III)I"⟩
def dkwX2_whyNotIn_1 : List UInt8 := [5, 42, 27, 28, 186, 0, 146, 0, 0, 83, 58, 4, 25, 4, 184, 0, 149, 172]
abbrev dktX2_whyNotIn_1 : List UInt8 := dkwX2_whyNotIn_1 ++ []
def dkwX2_whyNotIn_0 : List UInt8 := [6, 189, 0, 137, 89, 3, 42, 186, 0, 139, 0, 0, 83, 89, 4, 42, 29, 186, 0, 143, 0, 0, 83, 89]
abbrev dktX2_whyNotIn_0 : List UInt8 := dkwX2_whyNotIn_0 ++ dktX2_whyNotIn_1
theorem dksX2_whyNotIn_0 : cX2_whyNotIn.data.toList.drop 0 = dktX2_whyNotIn_0 := by decide +kernel
theorem dksX2_whyNotIn_1 : cX2_whyNotIn.data.toList.drop 24 = dktX2_whyNotIn_1 := dk_seg dksX2_whyNotIn_0 24 rfl rfl
theorem dX2_whyNotIn_0 : decode cX2_whyNotIn 0 = .ok (.iconst 3, 1) := dk_6 (dk_at dksX2_whyNotIn_0 0 rfl rfl)
theorem dX2_whyNotIn_1 : decode cX2_whyNotIn 1 = .ok (.anewarray 137, 3) := dk_189 0 137 (dk_at dksX2_whyNotIn_0 1 rfl rfl)
theorem dX2_whyNotIn_4 : decode cX2_whyNotIn 4 = .ok (.dup, 1) := dk_89 (dk_at dksX2_whyNotIn_0 4 rfl rfl)
theorem dX2_whyNotIn_5 : decode cX2_whyNotIn 5 = .ok (.iconst 0, 1) := dk_3 (dk_at dksX2_whyNotIn_0 5 rfl rfl)
theorem dX2_whyNotIn_6 : decode cX2_whyNotIn 6 = .ok (.aload_n 0, 1) := dk_42 (dk_at dksX2_whyNotIn_0 6 rfl rfl)
theorem dX2_whyNotIn_7 : decode cX2_whyNotIn 7 = .ok (.invokedynamic 139, 5) := by decide +kernel
theorem dX2_whyNotIn_12 : decode cX2_whyNotIn 12 = .ok (.aastore, 1) := dk_83 (dk_at dksX2_whyNotIn_0 12 rfl rfl)
theorem dX2_whyNotIn_13 : decode cX2_whyNotIn 13 = .ok (.dup, 1) := dk_89 (dk_at dksX2_whyNotIn_0 13 rfl rfl)
theorem dX2_whyNotIn_14 : decode cX2_whyNotIn 14 = .ok (.iconst 1, 1) := dk_4 (dk_at dksX2_whyNotIn_0 14 rfl rfl)
theorem dX2_whyNotIn_15 : decode cX2_whyNotIn 15 = .ok (.aload_n 0, 1) := dk_42 (dk_at dksX2_whyNotIn_0 15 rfl rfl)
theorem dX2_whyNotIn_16 : decode cX2_whyNotIn 16 = .ok (.iload_n 3, 1) := dk_29 (dk_at dksX2_whyNotIn_0 16 rfl rfl)
theorem dX2_whyNotIn_17 : decode cX2_whyNotIn 17 = .ok (.invokedynamic 143, 5) := by decide +kernel
theorem dX2_whyNotIn_22 : decode cX2_whyNotIn 22 = .ok (.aastore, 1) := dk_83 (dk_at dksX2_whyNotIn_0 22 rfl rfl)
theorem dX2_whyNotIn_23 : decode cX2_whyNotIn 23 = .ok (.dup, 1) := dk_89 (dk_at dksX2_whyNotIn_0 23 rfl rfl)
theorem dX2_whyNotIn_24 : decode cX2_whyNotIn 24 = .ok (.iconst 2, 1) := dk_5 (dk_at dksX2_whyNotIn_1 0 rfl rfl)
theorem dX2_whyNotIn_25 : decode cX2_whyNotIn 25 = .ok (.aload_n 0, 1) := dk_42 (dk_at dksX2_whyNotIn_1 1 rfl rfl)
theorem dX2_whyNotIn_26 : decode cX2_whyNotIn 26 = .ok (.iload_n 1, 1) := dk_27 (dk_at dksX2_whyNotIn_1 2 rfl rfl)
theorem dX2_whyNotIn_27 : decode cX2_whyNotIn 27 = .ok (.iload_n 2, 1) := dk_28 (dk_at dksX2_whyNotIn_1 3 rfl rfl)
theorem dX2_whyNotIn_28 : decode cX2_whyNotIn 28 = .ok (.invokedynamic 146, 5) := by decide +kernel
theorem dX2_whyNotIn_33 : decode cX2_whyNotIn 33 = .ok (.aastore, 1) := dk_83 (dk_at dksX2_whyNotIn_1 9 rfl rfl)
theorem dX2_whyNotIn_34 : decode cX2_whyNotIn 34 = .ok (.astore 4, 2) := dk_58 4 (dk_at dksX2_whyNotIn_1 10 rfl rfl)
theorem dX2_whyNotIn_36 : decode cX2_whyNotIn 36 = .ok (.aload 4, 2) := dk_25 4 (dk_at dksX2_whyNotIn_1 12 rfl rfl)
theorem dX2_whyNotIn_38 : decode cX2_whyNotIn 38 = .ok (.invokestatic 149, 3) := dk_184 0 149 (dk_at dksX2_whyNotIn_1 14 rfl rfl)
theorem dX2_whyNotIn_41 : decode cX2_whyNotIn 41 = .ok (.ireturn, 1) := dk_172 (dk_at dksX2_whyNotIn_1 17 rfl rfl)
abbrev cX2_lambda_whyNotIn_0 : ByteArray := prog_19_method_41_code
def yX2_lambda_whyNotIn_0 : MethodName := ⟨RX2, "lambda$whyNotIn$0", "()Z"⟩
def dkwX2_lambda_whyNotIn_0_0 : List UInt8 := [42, 180, 0, 34, 185, 0, 97, 1, 0, 16, 24, 160, 0, 7, 4, 167, 0, 4, 3, 172]
abbrev dktX2_lambda_whyNotIn_0_0 : List UInt8 := dkwX2_lambda_whyNotIn_0_0 ++ []
theorem dksX2_lambda_whyNotIn_0_0 : cX2_lambda_whyNotIn_0.data.toList.drop 0 = dktX2_lambda_whyNotIn_0_0 := by decide +kernel
theorem dX2_lambda_whyNotIn_0_0 : decode cX2_lambda_whyNotIn_0 0 = .ok (.aload_n 0, 1) := dk_42 (dk_at dksX2_lambda_whyNotIn_0_0 0 rfl rfl)
theorem dX2_lambda_whyNotIn_0_1 : decode cX2_lambda_whyNotIn_0 1 = .ok (.getfield 34, 3) := dk_180 0 34 (dk_at dksX2_lambda_whyNotIn_0_0 1 rfl rfl)
theorem dX2_lambda_whyNotIn_0_4 : decode cX2_lambda_whyNotIn_0 4 = .ok (.invokeinterface 97 1, 5) := by decide +kernel
theorem dX2_lambda_whyNotIn_0_9 : decode cX2_lambda_whyNotIn_0 9 = .ok (.bipush 24, 2) := dk_16 24 (dk_at dksX2_lambda_whyNotIn_0_0 9 rfl rfl)
theorem dX2_lambda_whyNotIn_0_11 : decode cX2_lambda_whyNotIn_0 11 = .ok (.if_icmp .ne 7, 3) := dk_160 0 7 (dk_at dksX2_lambda_whyNotIn_0_0 11 rfl rfl)
theorem dX2_lambda_whyNotIn_0_14 : decode cX2_lambda_whyNotIn_0 14 = .ok (.iconst 1, 1) := dk_4 (dk_at dksX2_lambda_whyNotIn_0_0 14 rfl rfl)
theorem dX2_lambda_whyNotIn_0_15 : decode cX2_lambda_whyNotIn_0 15 = .ok (.goto 4, 3) := dk_167 0 4 (dk_at dksX2_lambda_whyNotIn_0_0 15 rfl rfl)
theorem dX2_lambda_whyNotIn_0_18 : decode cX2_lambda_whyNotIn_0 18 = .ok (.iconst 0, 1) := dk_3 (dk_at dksX2_lambda_whyNotIn_0_0 18 rfl rfl)
theorem dX2_lambda_whyNotIn_0_19 : decode cX2_lambda_whyNotIn_0 19 = .ok (.ireturn, 1) := dk_172 (dk_at dksX2_lambda_whyNotIn_0_0 19 rfl rfl)
abbrev cX2_lambda_whyNotIn_1 : ByteArray := prog_19_method_40_code
def yX2_lambda_whyNotIn_1 : MethodName := ⟨RX2, "lambda$whyNotIn$1", "(I)Z"⟩
def dkwX2_lambda_whyNotIn_1_0 : List UInt8 := [27, 42, 180, 0, 15, 164, 0, 7, 4, 167, 0, 4, 3, 172]
abbrev dktX2_lambda_whyNotIn_1_0 : List UInt8 := dkwX2_lambda_whyNotIn_1_0 ++ []
theorem dksX2_lambda_whyNotIn_1_0 : cX2_lambda_whyNotIn_1.data.toList.drop 0 = dktX2_lambda_whyNotIn_1_0 := by decide +kernel
theorem dX2_lambda_whyNotIn_1_0 : decode cX2_lambda_whyNotIn_1 0 = .ok (.iload_n 1, 1) := dk_27 (dk_at dksX2_lambda_whyNotIn_1_0 0 rfl rfl)
theorem dX2_lambda_whyNotIn_1_1 : decode cX2_lambda_whyNotIn_1 1 = .ok (.aload_n 0, 1) := dk_42 (dk_at dksX2_lambda_whyNotIn_1_0 1 rfl rfl)
theorem dX2_lambda_whyNotIn_1_2 : decode cX2_lambda_whyNotIn_1 2 = .ok (.getfield 15, 3) := dk_180 0 15 (dk_at dksX2_lambda_whyNotIn_1_0 2 rfl rfl)
theorem dX2_lambda_whyNotIn_1_5 : decode cX2_lambda_whyNotIn_1 5 = .ok (.if_icmp .le 7, 3) := dk_164 0 7 (dk_at dksX2_lambda_whyNotIn_1_0 5 rfl rfl)
theorem dX2_lambda_whyNotIn_1_8 : decode cX2_lambda_whyNotIn_1 8 = .ok (.iconst 1, 1) := dk_4 (dk_at dksX2_lambda_whyNotIn_1_0 8 rfl rfl)
theorem dX2_lambda_whyNotIn_1_9 : decode cX2_lambda_whyNotIn_1 9 = .ok (.goto 4, 3) := dk_167 0 4 (dk_at dksX2_lambda_whyNotIn_1_0 9 rfl rfl)
theorem dX2_lambda_whyNotIn_1_12 : decode cX2_lambda_whyNotIn_1 12 = .ok (.iconst 0, 1) := dk_3 (dk_at dksX2_lambda_whyNotIn_1_0 12 rfl rfl)
theorem dX2_lambda_whyNotIn_1_13 : decode cX2_lambda_whyNotIn_1 13 = .ok (.ireturn, 1) := dk_172 (dk_at dksX2_lambda_whyNotIn_1_0 13 rfl rfl)
abbrev cX2_lambda_whyNotIn_2 : ByteArray := prog_19_method_39_code
def yX2_lambda_whyNotIn_2 : MethodName := ⟨RX2, "lambda$whyNotIn$2", "(II)Z"⟩
def dkwX2_lambda_whyNotIn_2_0 : List UInt8 := [42, 27, 42, 27, 28, 182, 0, 157, 182, 1, 50, 154, 0, 7, 4, 167, 0, 4, 3, 172]
abbrev dktX2_lambda_whyNotIn_2_0 : List UInt8 := dkwX2_lambda_whyNotIn_2_0 ++ []
theorem dksX2_lambda_whyNotIn_2_0 : cX2_lambda_whyNotIn_2.data.toList.drop 0 = dktX2_lambda_whyNotIn_2_0 := by decide +kernel
theorem dX2_lambda_whyNotIn_2_0 : decode cX2_lambda_whyNotIn_2 0 = .ok (.aload_n 0, 1) := dk_42 (dk_at dksX2_lambda_whyNotIn_2_0 0 rfl rfl)
theorem dX2_lambda_whyNotIn_2_1 : decode cX2_lambda_whyNotIn_2 1 = .ok (.iload_n 1, 1) := dk_27 (dk_at dksX2_lambda_whyNotIn_2_0 1 rfl rfl)
theorem dX2_lambda_whyNotIn_2_2 : decode cX2_lambda_whyNotIn_2 2 = .ok (.aload_n 0, 1) := dk_42 (dk_at dksX2_lambda_whyNotIn_2_0 2 rfl rfl)
theorem dX2_lambda_whyNotIn_2_3 : decode cX2_lambda_whyNotIn_2 3 = .ok (.iload_n 1, 1) := dk_27 (dk_at dksX2_lambda_whyNotIn_2_0 3 rfl rfl)
theorem dX2_lambda_whyNotIn_2_4 : decode cX2_lambda_whyNotIn_2 4 = .ok (.iload_n 2, 1) := dk_28 (dk_at dksX2_lambda_whyNotIn_2_0 4 rfl rfl)
theorem dX2_lambda_whyNotIn_2_5 : decode cX2_lambda_whyNotIn_2 5 = .ok (.invokevirtual 157, 3) := dk_182 0 157 (dk_at dksX2_lambda_whyNotIn_2_0 5 rfl rfl)
theorem dX2_lambda_whyNotIn_2_8 : decode cX2_lambda_whyNotIn_2 8 = .ok (.invokevirtual 306, 3) := dk_182 1 50 (dk_at dksX2_lambda_whyNotIn_2_0 8 rfl rfl)
theorem dX2_lambda_whyNotIn_2_11 : decode cX2_lambda_whyNotIn_2 11 = .ok (.ifCond .ne 7, 3) := dk_154 0 7 (dk_at dksX2_lambda_whyNotIn_2_0 11 rfl rfl)
theorem dX2_lambda_whyNotIn_2_14 : decode cX2_lambda_whyNotIn_2 14 = .ok (.iconst 1, 1) := dk_4 (dk_at dksX2_lambda_whyNotIn_2_0 14 rfl rfl)
theorem dX2_lambda_whyNotIn_2_15 : decode cX2_lambda_whyNotIn_2 15 = .ok (.goto 4, 3) := dk_167 0 4 (dk_at dksX2_lambda_whyNotIn_2_0 15 rfl rfl)
theorem dX2_lambda_whyNotIn_2_18 : decode cX2_lambda_whyNotIn_2 18 = .ok (.iconst 0, 1) := dk_3 (dk_at dksX2_lambda_whyNotIn_2_0 18 rfl rfl)
theorem dX2_lambda_whyNotIn_2_19 : decode cX2_lambda_whyNotIn_2 19 = .ok (.ireturn, 1) := dk_172 (dk_at dksX2_lambda_whyNotIn_2_0 19 rfl rfl)
abbrev cX2_toll : ByteArray := prog_19_method_5_code
def yX2_toll : MethodName := ⟨RX2, "toll", "(II)I"⟩
def dkwX2_toll_1 : List UInt8 := [29, 172]
abbrev dktX2_toll_1 : List UInt8 := dkwX2_toll_1 ++ []
def dkwX2_toll_0 : List UInt8 := [28, 16, 9, 96, 16, 10, 108, 5, 104, 62, 42, 27, 182, 0, 130, 158, 0, 9, 29, 5, 108, 167, 0, 4]
abbrev dktX2_toll_0 : List UInt8 := dkwX2_toll_0 ++ dktX2_toll_1
theorem dksX2_toll_0 : cX2_toll.data.toList.drop 0 = dktX2_toll_0 := by decide +kernel
theorem dksX2_toll_1 : cX2_toll.data.toList.drop 24 = dktX2_toll_1 := dk_seg dksX2_toll_0 24 rfl rfl
theorem dX2_toll_0 : decode cX2_toll 0 = .ok (.iload_n 2, 1) := dk_28 (dk_at dksX2_toll_0 0 rfl rfl)
theorem dX2_toll_1 : decode cX2_toll 1 = .ok (.bipush 9, 2) := dk_16 9 (dk_at dksX2_toll_0 1 rfl rfl)
theorem dX2_toll_3 : decode cX2_toll 3 = .ok (.iadd, 1) := dk_96 (dk_at dksX2_toll_0 3 rfl rfl)
theorem dX2_toll_4 : decode cX2_toll 4 = .ok (.bipush 10, 2) := dk_16 10 (dk_at dksX2_toll_0 4 rfl rfl)
theorem dX2_toll_6 : decode cX2_toll 6 = .ok (.idiv, 1) := dk_108 (dk_at dksX2_toll_0 6 rfl rfl)
theorem dX2_toll_7 : decode cX2_toll 7 = .ok (.iconst 2, 1) := dk_5 (dk_at dksX2_toll_0 7 rfl rfl)
theorem dX2_toll_8 : decode cX2_toll 8 = .ok (.imul, 1) := dk_104 (dk_at dksX2_toll_0 8 rfl rfl)
theorem dX2_toll_9 : decode cX2_toll 9 = .ok (.istore_n 3, 1) := dk_62 (dk_at dksX2_toll_0 9 rfl rfl)
theorem dX2_toll_10 : decode cX2_toll 10 = .ok (.aload_n 0, 1) := dk_42 (dk_at dksX2_toll_0 10 rfl rfl)
theorem dX2_toll_11 : decode cX2_toll 11 = .ok (.iload_n 1, 1) := dk_27 (dk_at dksX2_toll_0 11 rfl rfl)
theorem dX2_toll_12 : decode cX2_toll 12 = .ok (.invokevirtual 130, 3) := dk_182 0 130 (dk_at dksX2_toll_0 12 rfl rfl)
theorem dX2_toll_15 : decode cX2_toll 15 = .ok (.ifCond .le 9, 3) := dk_158 0 9 (dk_at dksX2_toll_0 15 rfl rfl)
theorem dX2_toll_18 : decode cX2_toll 18 = .ok (.iload_n 3, 1) := dk_29 (dk_at dksX2_toll_0 18 rfl rfl)
theorem dX2_toll_19 : decode cX2_toll 19 = .ok (.iconst 2, 1) := dk_5 (dk_at dksX2_toll_0 19 rfl rfl)
theorem dX2_toll_20 : decode cX2_toll 20 = .ok (.idiv, 1) := dk_108 (dk_at dksX2_toll_0 20 rfl rfl)
theorem dX2_toll_21 : decode cX2_toll 21 = .ok (.goto 4, 3) := dk_167 0 4 (dk_at dksX2_toll_0 21 rfl rfl)
theorem dX2_toll_24 : decode cX2_toll 24 = .ok (.iload_n 3, 1) := dk_29 (dk_at dksX2_toll_1 0 rfl rfl)
theorem dX2_toll_25 : decode cX2_toll 25 = .ok (.ireturn, 1) := dk_172 (dk_at dksX2_toll_1 1 rfl rfl)
abbrev cX2_passLeft : ByteArray := prog_19_method_4_code
def yX2_passLeft : MethodName := ⟨RX2, "passLeft", "(I)I"⟩
def dkwX2_passLeft_1 : List UInt8 := [28, 158, 0, 7, 28, 167, 0, 4, 3, 172]
abbrev dktX2_passLeft_1 : List UInt8 := dkwX2_passLeft_1 ++ []
def dkwX2_passLeft_0 : List UInt8 := [42, 180, 0, 30, 27, 185, 0, 101, 2, 0, 192, 0, 50, 180, 0, 127, 42, 180, 0, 73, 100, 4, 96, 61]
abbrev dktX2_passLeft_0 : List UInt8 := dkwX2_passLeft_0 ++ dktX2_passLeft_1
theorem dksX2_passLeft_0 : cX2_passLeft.data.toList.drop 0 = dktX2_passLeft_0 := by decide +kernel
theorem dksX2_passLeft_1 : cX2_passLeft.data.toList.drop 24 = dktX2_passLeft_1 := dk_seg dksX2_passLeft_0 24 rfl rfl
theorem dX2_passLeft_0 : decode cX2_passLeft 0 = .ok (.aload_n 0, 1) := dk_42 (dk_at dksX2_passLeft_0 0 rfl rfl)
theorem dX2_passLeft_1 : decode cX2_passLeft 1 = .ok (.getfield 30, 3) := dk_180 0 30 (dk_at dksX2_passLeft_0 1 rfl rfl)
theorem dX2_passLeft_4 : decode cX2_passLeft 4 = .ok (.iload_n 1, 1) := dk_27 (dk_at dksX2_passLeft_0 4 rfl rfl)
theorem dX2_passLeft_5 : decode cX2_passLeft 5 = .ok (.invokeinterface 101 2, 5) := by decide +kernel
theorem dX2_passLeft_10 : decode cX2_passLeft 10 = .ok (.checkcast 50, 3) := dk_192 0 50 (dk_at dksX2_passLeft_0 10 rfl rfl)
theorem dX2_passLeft_13 : decode cX2_passLeft 13 = .ok (.getfield 127, 3) := dk_180 0 127 (dk_at dksX2_passLeft_0 13 rfl rfl)
theorem dX2_passLeft_16 : decode cX2_passLeft 16 = .ok (.aload_n 0, 1) := dk_42 (dk_at dksX2_passLeft_0 16 rfl rfl)
theorem dX2_passLeft_17 : decode cX2_passLeft 17 = .ok (.getfield 73, 3) := dk_180 0 73 (dk_at dksX2_passLeft_0 17 rfl rfl)
theorem dX2_passLeft_20 : decode cX2_passLeft 20 = .ok (.isub, 1) := dk_100 (dk_at dksX2_passLeft_0 20 rfl rfl)
theorem dX2_passLeft_21 : decode cX2_passLeft 21 = .ok (.iconst 1, 1) := dk_4 (dk_at dksX2_passLeft_0 21 rfl rfl)
theorem dX2_passLeft_22 : decode cX2_passLeft 22 = .ok (.iadd, 1) := dk_96 (dk_at dksX2_passLeft_0 22 rfl rfl)
theorem dX2_passLeft_23 : decode cX2_passLeft 23 = .ok (.istore_n 2, 1) := dk_61 (dk_at dksX2_passLeft_0 23 rfl rfl)
theorem dX2_passLeft_24 : decode cX2_passLeft 24 = .ok (.iload_n 2, 1) := dk_28 (dk_at dksX2_passLeft_1 0 rfl rfl)
theorem dX2_passLeft_25 : decode cX2_passLeft 25 = .ok (.ifCond .le 7, 3) := dk_158 0 7 (dk_at dksX2_passLeft_1 1 rfl rfl)
theorem dX2_passLeft_28 : decode cX2_passLeft 28 = .ok (.iload_n 2, 1) := dk_28 (dk_at dksX2_passLeft_1 4 rfl rfl)
theorem dX2_passLeft_29 : decode cX2_passLeft 29 = .ok (.goto 4, 3) := dk_167 0 4 (dk_at dksX2_passLeft_1 5 rfl rfl)
theorem dX2_passLeft_32 : decode cX2_passLeft 32 = .ok (.iconst 0, 1) := dk_3 (dk_at dksX2_passLeft_1 8 rfl rfl)
theorem dX2_passLeft_33 : decode cX2_passLeft 33 = .ok (.ireturn, 1) := dk_172 (dk_at dksX2_passLeft_1 9 rfl rfl)
abbrev cX2_canOwe : ByteArray := prog_19_method_6_code
def yX2_canOwe : MethodName := ⟨RX2, "canOwe", "(II)Z"⟩
def dkwX2_canOwe_1 : List UInt8 := [4, 167, 0, 4, 3, 172]
abbrev dktX2_canOwe_1 : List UInt8 := dkwX2_canOwe_1 ++ []
def dkwX2_canOwe_0 : List UInt8 := [42, 180, 0, 30, 27, 185, 0, 101, 2, 0, 192, 0, 50, 180, 0, 134, 28, 96, 17, 1, 44, 163, 0, 7]
abbrev dktX2_canOwe_0 : List UInt8 := dkwX2_canOwe_0 ++ dktX2_canOwe_1
theorem dksX2_canOwe_0 : cX2_canOwe.data.toList.drop 0 = dktX2_canOwe_0 := by decide +kernel
theorem dksX2_canOwe_1 : cX2_canOwe.data.toList.drop 24 = dktX2_canOwe_1 := dk_seg dksX2_canOwe_0 24 rfl rfl
theorem dX2_canOwe_0 : decode cX2_canOwe 0 = .ok (.aload_n 0, 1) := dk_42 (dk_at dksX2_canOwe_0 0 rfl rfl)
theorem dX2_canOwe_1 : decode cX2_canOwe 1 = .ok (.getfield 30, 3) := dk_180 0 30 (dk_at dksX2_canOwe_0 1 rfl rfl)
theorem dX2_canOwe_4 : decode cX2_canOwe 4 = .ok (.iload_n 1, 1) := dk_27 (dk_at dksX2_canOwe_0 4 rfl rfl)
theorem dX2_canOwe_5 : decode cX2_canOwe 5 = .ok (.invokeinterface 101 2, 5) := by decide +kernel
theorem dX2_canOwe_10 : decode cX2_canOwe 10 = .ok (.checkcast 50, 3) := dk_192 0 50 (dk_at dksX2_canOwe_0 10 rfl rfl)
theorem dX2_canOwe_13 : decode cX2_canOwe 13 = .ok (.getfield 134, 3) := dk_180 0 134 (dk_at dksX2_canOwe_0 13 rfl rfl)
theorem dX2_canOwe_16 : decode cX2_canOwe 16 = .ok (.iload_n 2, 1) := dk_28 (dk_at dksX2_canOwe_0 16 rfl rfl)
theorem dX2_canOwe_17 : decode cX2_canOwe 17 = .ok (.iadd, 1) := dk_96 (dk_at dksX2_canOwe_0 17 rfl rfl)
theorem dX2_canOwe_18 : decode cX2_canOwe 18 = .ok (.sipush 300, 3) := dk_17 1 44 (dk_at dksX2_canOwe_0 18 rfl rfl)
theorem dX2_canOwe_21 : decode cX2_canOwe 21 = .ok (.if_icmp .gt 7, 3) := dk_163 0 7 (dk_at dksX2_canOwe_0 21 rfl rfl)
theorem dX2_canOwe_24 : decode cX2_canOwe 24 = .ok (.iconst 1, 1) := dk_4 (dk_at dksX2_canOwe_1 0 rfl rfl)
theorem dX2_canOwe_25 : decode cX2_canOwe 25 = .ok (.goto 4, 3) := dk_167 0 4 (dk_at dksX2_canOwe_1 1 rfl rfl)
theorem dX2_canOwe_28 : decode cX2_canOwe 28 = .ok (.iconst 0, 1) := dk_3 (dk_at dksX2_canOwe_1 4 rfl rfl)
theorem dX2_canOwe_29 : decode cX2_canOwe 29 = .ok (.ireturn, 1) := dk_172 (dk_at dksX2_canOwe_1 5 rfl rfl)
abbrev cX2_beat : ByteArray := prog_19_method_15_code
def yX2_beat : MethodName := ⟨RX2, "beat", "(II)Z"⟩
def dkwX2_beat_4 : List UInt8 := [181, 0, 206, 25, 5, 3, 181, 0, 209, 25, 5, 21, 6, 28, 108, 181, 0, 212, 29, 172]
abbrev dktX2_beat_4 : List UInt8 := dkwX2_beat_4 ++ []
def dkwX2_beat_3 : List UInt8 := [21, 7, 46, 21, 7, 184, 0, 203, 104, 96, 54, 6, 132, 7, 1, 167, 255, 220, 25, 5, 16, 40, 28, 104]
abbrev dktX2_beat_3 : List UInt8 := dkwX2_beat_3 ++ dktX2_beat_4
def dkwX2_beat_2 : List UInt8 := [54, 7, 21, 7, 7, 162, 0, 36, 42, 21, 7, 25, 4, 21, 7, 46, 182, 0, 200, 21, 6, 25, 4]
abbrev dktX2_beat_2 : List UInt8 := dkwX2_beat_2 ++ dktX2_beat_3
def dkwX2_beat_1 : List UInt8 := [184, 0, 190, 58, 4, 42, 180, 0, 37, 27, 185, 0, 101, 2, 0, 192, 0, 59, 58, 5, 3, 54, 6, 3]
abbrev dktX2_beat_1 : List UInt8 := dkwX2_beat_1 ++ dktX2_beat_2
def dkwX2_beat_0 : List UInt8 := [42, 27, 28, 182, 0, 197, 154, 0, 7, 4, 167, 0, 4, 3, 62, 29, 153, 0, 97, 42, 180, 0, 23, 28]
abbrev dktX2_beat_0 : List UInt8 := dkwX2_beat_0 ++ dktX2_beat_1
theorem dksX2_beat_0 : cX2_beat.data.toList.drop 0 = dktX2_beat_0 := by decide +kernel
theorem dksX2_beat_1 : cX2_beat.data.toList.drop 24 = dktX2_beat_1 := dk_seg dksX2_beat_0 24 rfl rfl
theorem dksX2_beat_2 : cX2_beat.data.toList.drop 48 = dktX2_beat_2 := dk_seg dksX2_beat_1 24 rfl rfl
theorem dksX2_beat_3 : cX2_beat.data.toList.drop 71 = dktX2_beat_3 := dk_seg dksX2_beat_2 23 rfl rfl
theorem dksX2_beat_4 : cX2_beat.data.toList.drop 95 = dktX2_beat_4 := dk_seg dksX2_beat_3 24 rfl rfl
theorem dX2_beat_0 : decode cX2_beat 0 = .ok (.aload_n 0, 1) := dk_42 (dk_at dksX2_beat_0 0 rfl rfl)
theorem dX2_beat_1 : decode cX2_beat 1 = .ok (.iload_n 1, 1) := dk_27 (dk_at dksX2_beat_0 1 rfl rfl)
theorem dX2_beat_2 : decode cX2_beat 2 = .ok (.iload_n 2, 1) := dk_28 (dk_at dksX2_beat_0 2 rfl rfl)
theorem dX2_beat_3 : decode cX2_beat 3 = .ok (.invokevirtual 197, 3) := dk_182 0 197 (dk_at dksX2_beat_0 3 rfl rfl)
theorem dX2_beat_6 : decode cX2_beat 6 = .ok (.ifCond .ne 7, 3) := dk_154 0 7 (dk_at dksX2_beat_0 6 rfl rfl)
theorem dX2_beat_9 : decode cX2_beat 9 = .ok (.iconst 1, 1) := dk_4 (dk_at dksX2_beat_0 9 rfl rfl)
theorem dX2_beat_10 : decode cX2_beat 10 = .ok (.goto 4, 3) := dk_167 0 4 (dk_at dksX2_beat_0 10 rfl rfl)
theorem dX2_beat_13 : decode cX2_beat 13 = .ok (.iconst 0, 1) := dk_3 (dk_at dksX2_beat_0 13 rfl rfl)
theorem dX2_beat_14 : decode cX2_beat 14 = .ok (.istore_n 3, 1) := dk_62 (dk_at dksX2_beat_0 14 rfl rfl)
theorem dX2_beat_15 : decode cX2_beat 15 = .ok (.iload_n 3, 1) := dk_29 (dk_at dksX2_beat_0 15 rfl rfl)
theorem dX2_beat_16 : decode cX2_beat 16 = .ok (.ifCond .eq 97, 3) := dk_153 0 97 (dk_at dksX2_beat_0 16 rfl rfl)
theorem dX2_beat_19 : decode cX2_beat 19 = .ok (.aload_n 0, 1) := dk_42 (dk_at dksX2_beat_0 19 rfl rfl)
theorem dX2_beat_20 : decode cX2_beat 20 = .ok (.getfield 23, 3) := dk_180 0 23 (dk_at dksX2_beat_0 20 rfl rfl)
theorem dX2_beat_23 : decode cX2_beat 23 = .ok (.iload_n 2, 1) := dk_28 (dk_at dksX2_beat_0 23 rfl rfl)
theorem dX2_beat_24 : decode cX2_beat 24 = .ok (.invokestatic 190, 3) := dk_184 0 190 (dk_at dksX2_beat_1 0 rfl rfl)
theorem dX2_beat_27 : decode cX2_beat 27 = .ok (.astore 4, 2) := dk_58 4 (dk_at dksX2_beat_1 3 rfl rfl)
theorem dX2_beat_29 : decode cX2_beat 29 = .ok (.aload_n 0, 1) := dk_42 (dk_at dksX2_beat_1 5 rfl rfl)
theorem dX2_beat_30 : decode cX2_beat 30 = .ok (.getfield 37, 3) := dk_180 0 37 (dk_at dksX2_beat_1 6 rfl rfl)
theorem dX2_beat_33 : decode cX2_beat 33 = .ok (.iload_n 1, 1) := dk_27 (dk_at dksX2_beat_1 9 rfl rfl)
theorem dX2_beat_34 : decode cX2_beat 34 = .ok (.invokeinterface 101 2, 5) := by decide +kernel
theorem dX2_beat_39 : decode cX2_beat 39 = .ok (.checkcast 59, 3) := dk_192 0 59 (dk_at dksX2_beat_1 15 rfl rfl)
theorem dX2_beat_42 : decode cX2_beat 42 = .ok (.astore 5, 2) := dk_58 5 (dk_at dksX2_beat_1 18 rfl rfl)
theorem dX2_beat_44 : decode cX2_beat 44 = .ok (.iconst 0, 1) := dk_3 (dk_at dksX2_beat_1 20 rfl rfl)
theorem dX2_beat_45 : decode cX2_beat 45 = .ok (.istore 6, 2) := dk_54 6 (dk_at dksX2_beat_1 21 rfl rfl)
theorem dX2_beat_47 : decode cX2_beat 47 = .ok (.iconst 0, 1) := dk_3 (dk_at dksX2_beat_1 23 rfl rfl)
theorem dX2_beat_48 : decode cX2_beat 48 = .ok (.istore 7, 2) := dk_54 7 (dk_at dksX2_beat_2 0 rfl rfl)
theorem dX2_beat_50 : decode cX2_beat 50 = .ok (.iload 7, 2) := dk_21 7 (dk_at dksX2_beat_2 2 rfl rfl)
theorem dX2_beat_52 : decode cX2_beat 52 = .ok (.iconst 4, 1) := dk_7 (dk_at dksX2_beat_2 4 rfl rfl)
theorem dX2_beat_53 : decode cX2_beat 53 = .ok (.if_icmp .ge 36, 3) := dk_162 0 36 (dk_at dksX2_beat_2 5 rfl rfl)
theorem dX2_beat_56 : decode cX2_beat 56 = .ok (.aload_n 0, 1) := dk_42 (dk_at dksX2_beat_2 8 rfl rfl)
theorem dX2_beat_57 : decode cX2_beat 57 = .ok (.iload 7, 2) := dk_21 7 (dk_at dksX2_beat_2 9 rfl rfl)
theorem dX2_beat_59 : decode cX2_beat 59 = .ok (.aload 4, 2) := dk_25 4 (dk_at dksX2_beat_2 11 rfl rfl)
theorem dX2_beat_61 : decode cX2_beat 61 = .ok (.iload 7, 2) := dk_21 7 (dk_at dksX2_beat_2 13 rfl rfl)
theorem dX2_beat_63 : decode cX2_beat 63 = .ok (.iaload, 1) := dk_46 (dk_at dksX2_beat_2 15 rfl rfl)
theorem dX2_beat_64 : decode cX2_beat 64 = .ok (.invokevirtual 200, 3) := dk_182 0 200 (dk_at dksX2_beat_2 16 rfl rfl)
theorem dX2_beat_67 : decode cX2_beat 67 = .ok (.iload 6, 2) := dk_21 6 (dk_at dksX2_beat_2 19 rfl rfl)
theorem dX2_beat_69 : decode cX2_beat 69 = .ok (.aload 4, 2) := dk_25 4 (dk_at dksX2_beat_2 21 rfl rfl)
theorem dX2_beat_71 : decode cX2_beat 71 = .ok (.iload 7, 2) := dk_21 7 (dk_at dksX2_beat_3 0 rfl rfl)
theorem dX2_beat_73 : decode cX2_beat 73 = .ok (.iaload, 1) := dk_46 (dk_at dksX2_beat_3 2 rfl rfl)
theorem dX2_beat_74 : decode cX2_beat 74 = .ok (.iload 7, 2) := dk_21 7 (dk_at dksX2_beat_3 3 rfl rfl)
theorem dX2_beat_76 : decode cX2_beat 76 = .ok (.invokestatic 203, 3) := dk_184 0 203 (dk_at dksX2_beat_3 5 rfl rfl)
theorem dX2_beat_79 : decode cX2_beat 79 = .ok (.imul, 1) := dk_104 (dk_at dksX2_beat_3 8 rfl rfl)
theorem dX2_beat_80 : decode cX2_beat 80 = .ok (.iadd, 1) := dk_96 (dk_at dksX2_beat_3 9 rfl rfl)
theorem dX2_beat_81 : decode cX2_beat 81 = .ok (.istore 6, 2) := dk_54 6 (dk_at dksX2_beat_3 10 rfl rfl)
theorem dX2_beat_83 : decode cX2_beat 83 = .ok (.iinc 7 1, 3) := dk_132 7 1 (dk_at dksX2_beat_3 12 rfl rfl)
theorem dX2_beat_86 : decode cX2_beat 86 = .ok (.goto (-36), 3) := dk_167 255 220 (dk_at dksX2_beat_3 15 rfl rfl)
theorem dX2_beat_89 : decode cX2_beat 89 = .ok (.aload 5, 2) := dk_25 5 (dk_at dksX2_beat_3 18 rfl rfl)
theorem dX2_beat_91 : decode cX2_beat 91 = .ok (.bipush 40, 2) := dk_16 40 (dk_at dksX2_beat_3 20 rfl rfl)
theorem dX2_beat_93 : decode cX2_beat 93 = .ok (.iload_n 2, 1) := dk_28 (dk_at dksX2_beat_3 22 rfl rfl)
theorem dX2_beat_94 : decode cX2_beat 94 = .ok (.imul, 1) := dk_104 (dk_at dksX2_beat_3 23 rfl rfl)
theorem dX2_beat_95 : decode cX2_beat 95 = .ok (.putfield 206, 3) := dk_181 0 206 (dk_at dksX2_beat_4 0 rfl rfl)
theorem dX2_beat_98 : decode cX2_beat 98 = .ok (.aload 5, 2) := dk_25 5 (dk_at dksX2_beat_4 3 rfl rfl)
theorem dX2_beat_100 : decode cX2_beat 100 = .ok (.iconst 0, 1) := dk_3 (dk_at dksX2_beat_4 5 rfl rfl)
theorem dX2_beat_101 : decode cX2_beat 101 = .ok (.putfield 209, 3) := dk_181 0 209 (dk_at dksX2_beat_4 6 rfl rfl)
theorem dX2_beat_104 : decode cX2_beat 104 = .ok (.aload 5, 2) := dk_25 5 (dk_at dksX2_beat_4 9 rfl rfl)
theorem dX2_beat_106 : decode cX2_beat 106 = .ok (.iload 6, 2) := dk_21 6 (dk_at dksX2_beat_4 11 rfl rfl)
theorem dX2_beat_108 : decode cX2_beat 108 = .ok (.iload_n 2, 1) := dk_28 (dk_at dksX2_beat_4 13 rfl rfl)
theorem dX2_beat_109 : decode cX2_beat 109 = .ok (.idiv, 1) := dk_108 (dk_at dksX2_beat_4 14 rfl rfl)
theorem dX2_beat_110 : decode cX2_beat 110 = .ok (.putfield 212, 3) := dk_181 0 212 (dk_at dksX2_beat_4 15 rfl rfl)
theorem dX2_beat_113 : decode cX2_beat 113 = .ok (.iload_n 3, 1) := dk_29 (dk_at dksX2_beat_4 18 rfl rfl)
theorem dX2_beat_114 : decode cX2_beat 114 = .ok (.ireturn, 1) := dk_172 (dk_at dksX2_beat_4 19 rfl rfl)
abbrev cX2_whyNotBeaten : ByteArray := prog_19_method_14_code
def yX2_whyNotBeaten : MethodName := ⟨RX2, "whyNotBeaten", "(II)I"⟩
def dkwX2_whyNotBeaten_2 : List UInt8 := [21, 4, 46, 162, 0, 8, 5, 21, 4, 96, 172, 132, 4, 1, 167, 255, 229, 3, 172]
abbrev dktX2_whyNotBeaten_2 : List UInt8 := dkwX2_whyNotBeaten_2 ++ []
def dkwX2_whyNotBeaten_1 : List UInt8 := [180, 0, 23, 28, 184, 0, 190, 78, 3, 54, 4, 21, 4, 7, 162, 0, 27, 42, 21, 4, 182, 0, 194, 45]
abbrev dktX2_whyNotBeaten_1 : List UInt8 := dkwX2_whyNotBeaten_1 ++ dktX2_whyNotBeaten_2
def dkwX2_whyNotBeaten_0 : List UInt8 := [42, 180, 0, 37, 27, 185, 0, 101, 2, 0, 192, 0, 59, 182, 0, 187, 154, 0, 5, 4, 172, 42]
abbrev dktX2_whyNotBeaten_0 : List UInt8 := dkwX2_whyNotBeaten_0 ++ dktX2_whyNotBeaten_1
theorem dksX2_whyNotBeaten_0 : cX2_whyNotBeaten.data.toList.drop 0 = dktX2_whyNotBeaten_0 := by decide +kernel
theorem dksX2_whyNotBeaten_1 : cX2_whyNotBeaten.data.toList.drop 22 = dktX2_whyNotBeaten_1 := dk_seg dksX2_whyNotBeaten_0 22 rfl rfl
theorem dksX2_whyNotBeaten_2 : cX2_whyNotBeaten.data.toList.drop 46 = dktX2_whyNotBeaten_2 := dk_seg dksX2_whyNotBeaten_1 24 rfl rfl
theorem dX2_whyNotBeaten_0 : decode cX2_whyNotBeaten 0 = .ok (.aload_n 0, 1) := dk_42 (dk_at dksX2_whyNotBeaten_0 0 rfl rfl)
theorem dX2_whyNotBeaten_1 : decode cX2_whyNotBeaten 1 = .ok (.getfield 37, 3) := dk_180 0 37 (dk_at dksX2_whyNotBeaten_0 1 rfl rfl)
theorem dX2_whyNotBeaten_4 : decode cX2_whyNotBeaten 4 = .ok (.iload_n 1, 1) := dk_27 (dk_at dksX2_whyNotBeaten_0 4 rfl rfl)
theorem dX2_whyNotBeaten_5 : decode cX2_whyNotBeaten 5 = .ok (.invokeinterface 101 2, 5) := by decide +kernel
theorem dX2_whyNotBeaten_10 : decode cX2_whyNotBeaten 10 = .ok (.checkcast 59, 3) := dk_192 0 59 (dk_at dksX2_whyNotBeaten_0 10 rfl rfl)
theorem dX2_whyNotBeaten_13 : decode cX2_whyNotBeaten 13 = .ok (.invokevirtual 187, 3) := dk_182 0 187 (dk_at dksX2_whyNotBeaten_0 13 rfl rfl)
theorem dX2_whyNotBeaten_16 : decode cX2_whyNotBeaten 16 = .ok (.ifCond .ne 5, 3) := dk_154 0 5 (dk_at dksX2_whyNotBeaten_0 16 rfl rfl)
theorem dX2_whyNotBeaten_19 : decode cX2_whyNotBeaten 19 = .ok (.iconst 1, 1) := dk_4 (dk_at dksX2_whyNotBeaten_0 19 rfl rfl)
theorem dX2_whyNotBeaten_20 : decode cX2_whyNotBeaten 20 = .ok (.ireturn, 1) := dk_172 (dk_at dksX2_whyNotBeaten_0 20 rfl rfl)
theorem dX2_whyNotBeaten_21 : decode cX2_whyNotBeaten 21 = .ok (.aload_n 0, 1) := dk_42 (dk_at dksX2_whyNotBeaten_0 21 rfl rfl)
theorem dX2_whyNotBeaten_22 : decode cX2_whyNotBeaten 22 = .ok (.getfield 23, 3) := dk_180 0 23 (dk_at dksX2_whyNotBeaten_1 0 rfl rfl)
theorem dX2_whyNotBeaten_25 : decode cX2_whyNotBeaten 25 = .ok (.iload_n 2, 1) := dk_28 (dk_at dksX2_whyNotBeaten_1 3 rfl rfl)
theorem dX2_whyNotBeaten_26 : decode cX2_whyNotBeaten 26 = .ok (.invokestatic 190, 3) := dk_184 0 190 (dk_at dksX2_whyNotBeaten_1 4 rfl rfl)
theorem dX2_whyNotBeaten_29 : decode cX2_whyNotBeaten 29 = .ok (.astore_n 3, 1) := dk_78 (dk_at dksX2_whyNotBeaten_1 7 rfl rfl)
theorem dX2_whyNotBeaten_30 : decode cX2_whyNotBeaten 30 = .ok (.iconst 0, 1) := dk_3 (dk_at dksX2_whyNotBeaten_1 8 rfl rfl)
theorem dX2_whyNotBeaten_31 : decode cX2_whyNotBeaten 31 = .ok (.istore 4, 2) := dk_54 4 (dk_at dksX2_whyNotBeaten_1 9 rfl rfl)
theorem dX2_whyNotBeaten_33 : decode cX2_whyNotBeaten 33 = .ok (.iload 4, 2) := dk_21 4 (dk_at dksX2_whyNotBeaten_1 11 rfl rfl)
theorem dX2_whyNotBeaten_35 : decode cX2_whyNotBeaten 35 = .ok (.iconst 4, 1) := dk_7 (dk_at dksX2_whyNotBeaten_1 13 rfl rfl)
theorem dX2_whyNotBeaten_36 : decode cX2_whyNotBeaten 36 = .ok (.if_icmp .ge 27, 3) := dk_162 0 27 (dk_at dksX2_whyNotBeaten_1 14 rfl rfl)
theorem dX2_whyNotBeaten_39 : decode cX2_whyNotBeaten 39 = .ok (.aload_n 0, 1) := dk_42 (dk_at dksX2_whyNotBeaten_1 17 rfl rfl)
theorem dX2_whyNotBeaten_40 : decode cX2_whyNotBeaten 40 = .ok (.iload 4, 2) := dk_21 4 (dk_at dksX2_whyNotBeaten_1 18 rfl rfl)
theorem dX2_whyNotBeaten_42 : decode cX2_whyNotBeaten 42 = .ok (.invokevirtual 194, 3) := dk_182 0 194 (dk_at dksX2_whyNotBeaten_1 20 rfl rfl)
theorem dX2_whyNotBeaten_45 : decode cX2_whyNotBeaten 45 = .ok (.aload_n 3, 1) := dk_45 (dk_at dksX2_whyNotBeaten_1 23 rfl rfl)
theorem dX2_whyNotBeaten_46 : decode cX2_whyNotBeaten 46 = .ok (.iload 4, 2) := dk_21 4 (dk_at dksX2_whyNotBeaten_2 0 rfl rfl)
theorem dX2_whyNotBeaten_48 : decode cX2_whyNotBeaten 48 = .ok (.iaload, 1) := dk_46 (dk_at dksX2_whyNotBeaten_2 2 rfl rfl)
theorem dX2_whyNotBeaten_49 : decode cX2_whyNotBeaten 49 = .ok (.if_icmp .ge 8, 3) := dk_162 0 8 (dk_at dksX2_whyNotBeaten_2 3 rfl rfl)
theorem dX2_whyNotBeaten_52 : decode cX2_whyNotBeaten 52 = .ok (.iconst 2, 1) := dk_5 (dk_at dksX2_whyNotBeaten_2 6 rfl rfl)
theorem dX2_whyNotBeaten_53 : decode cX2_whyNotBeaten 53 = .ok (.iload 4, 2) := dk_21 4 (dk_at dksX2_whyNotBeaten_2 7 rfl rfl)
theorem dX2_whyNotBeaten_55 : decode cX2_whyNotBeaten 55 = .ok (.iadd, 1) := dk_96 (dk_at dksX2_whyNotBeaten_2 9 rfl rfl)
theorem dX2_whyNotBeaten_56 : decode cX2_whyNotBeaten 56 = .ok (.ireturn, 1) := dk_172 (dk_at dksX2_whyNotBeaten_2 10 rfl rfl)
theorem dX2_whyNotBeaten_57 : decode cX2_whyNotBeaten 57 = .ok (.iinc 4 1, 3) := dk_132 4 1 (dk_at dksX2_whyNotBeaten_2 11 rfl rfl)
theorem dX2_whyNotBeaten_60 : decode cX2_whyNotBeaten 60 = .ok (.goto (-27), 3) := dk_167 255 229 (dk_at dksX2_whyNotBeaten_2 14 rfl rfl)
theorem dX2_whyNotBeaten_63 : decode cX2_whyNotBeaten 63 = .ok (.iconst 0, 1) := dk_3 (dk_at dksX2_whyNotBeaten_2 17 rfl rfl)
theorem dX2_whyNotBeaten_64 : decode cX2_whyNotBeaten 64 = .ok (.ireturn, 1) := dk_172 (dk_at dksX2_whyNotBeaten_2 18 rfl rfl)
abbrev cX2_goodRags : ByteArray := prog_19_method_9_code
def yX2_goodRags : MethodName := ⟨RX2, "goodRags", "(I)I"⟩
def dkwX2_goodRags_3 : List UInt8 := [172]
abbrev dktX2_goodRags_3 : List UInt8 := dkwX2_goodRags_3 ++ []
def dkwX2_goodRags_2 : List UInt8 := [180, 0, 167, 154, 0, 11, 25, 4, 180, 0, 171, 167, 0, 4, 3, 96, 61, 132, 3, 1, 167, 255, 196, 28]
abbrev dktX2_goodRags_2 : List UInt8 := dkwX2_goodRags_2 ++ dktX2_goodRags_3
def dkwX2_goodRags_1 : List UInt8 := [185, 0, 101, 2, 0, 192, 0, 109, 58, 4, 28, 25, 4, 180, 0, 164, 27, 160, 0, 19, 25, 4]
abbrev dktX2_goodRags_1 : List UInt8 := dkwX2_goodRags_1 ++ dktX2_goodRags_2
def dkwX2_goodRags_0 : List UInt8 := [3, 61, 3, 62, 29, 42, 180, 0, 34, 185, 0, 97, 1, 0, 162, 0, 53, 42, 180, 0, 34, 29]
abbrev dktX2_goodRags_0 : List UInt8 := dkwX2_goodRags_0 ++ dktX2_goodRags_1
theorem dksX2_goodRags_0 : cX2_goodRags.data.toList.drop 0 = dktX2_goodRags_0 := by decide +kernel
theorem dksX2_goodRags_1 : cX2_goodRags.data.toList.drop 22 = dktX2_goodRags_1 := dk_seg dksX2_goodRags_0 22 rfl rfl
theorem dksX2_goodRags_2 : cX2_goodRags.data.toList.drop 44 = dktX2_goodRags_2 := dk_seg dksX2_goodRags_1 22 rfl rfl
theorem dksX2_goodRags_3 : cX2_goodRags.data.toList.drop 68 = dktX2_goodRags_3 := dk_seg dksX2_goodRags_2 24 rfl rfl
theorem dX2_goodRags_0 : decode cX2_goodRags 0 = .ok (.iconst 0, 1) := dk_3 (dk_at dksX2_goodRags_0 0 rfl rfl)
theorem dX2_goodRags_1 : decode cX2_goodRags 1 = .ok (.istore_n 2, 1) := dk_61 (dk_at dksX2_goodRags_0 1 rfl rfl)
theorem dX2_goodRags_2 : decode cX2_goodRags 2 = .ok (.iconst 0, 1) := dk_3 (dk_at dksX2_goodRags_0 2 rfl rfl)
theorem dX2_goodRags_3 : decode cX2_goodRags 3 = .ok (.istore_n 3, 1) := dk_62 (dk_at dksX2_goodRags_0 3 rfl rfl)
theorem dX2_goodRags_4 : decode cX2_goodRags 4 = .ok (.iload_n 3, 1) := dk_29 (dk_at dksX2_goodRags_0 4 rfl rfl)
theorem dX2_goodRags_5 : decode cX2_goodRags 5 = .ok (.aload_n 0, 1) := dk_42 (dk_at dksX2_goodRags_0 5 rfl rfl)
theorem dX2_goodRags_6 : decode cX2_goodRags 6 = .ok (.getfield 34, 3) := dk_180 0 34 (dk_at dksX2_goodRags_0 6 rfl rfl)
theorem dX2_goodRags_9 : decode cX2_goodRags 9 = .ok (.invokeinterface 97 1, 5) := by decide +kernel
theorem dX2_goodRags_14 : decode cX2_goodRags 14 = .ok (.if_icmp .ge 53, 3) := dk_162 0 53 (dk_at dksX2_goodRags_0 14 rfl rfl)
theorem dX2_goodRags_17 : decode cX2_goodRags 17 = .ok (.aload_n 0, 1) := dk_42 (dk_at dksX2_goodRags_0 17 rfl rfl)
theorem dX2_goodRags_18 : decode cX2_goodRags 18 = .ok (.getfield 34, 3) := dk_180 0 34 (dk_at dksX2_goodRags_0 18 rfl rfl)
theorem dX2_goodRags_21 : decode cX2_goodRags 21 = .ok (.iload_n 3, 1) := dk_29 (dk_at dksX2_goodRags_0 21 rfl rfl)
theorem dX2_goodRags_22 : decode cX2_goodRags 22 = .ok (.invokeinterface 101 2, 5) := by decide +kernel
theorem dX2_goodRags_27 : decode cX2_goodRags 27 = .ok (.checkcast 109, 3) := dk_192 0 109 (dk_at dksX2_goodRags_1 5 rfl rfl)
theorem dX2_goodRags_30 : decode cX2_goodRags 30 = .ok (.astore 4, 2) := dk_58 4 (dk_at dksX2_goodRags_1 8 rfl rfl)
theorem dX2_goodRags_32 : decode cX2_goodRags 32 = .ok (.iload_n 2, 1) := dk_28 (dk_at dksX2_goodRags_1 10 rfl rfl)
theorem dX2_goodRags_33 : decode cX2_goodRags 33 = .ok (.aload 4, 2) := dk_25 4 (dk_at dksX2_goodRags_1 11 rfl rfl)
theorem dX2_goodRags_35 : decode cX2_goodRags 35 = .ok (.getfield 164, 3) := dk_180 0 164 (dk_at dksX2_goodRags_1 13 rfl rfl)
theorem dX2_goodRags_38 : decode cX2_goodRags 38 = .ok (.iload_n 1, 1) := dk_27 (dk_at dksX2_goodRags_1 16 rfl rfl)
theorem dX2_goodRags_39 : decode cX2_goodRags 39 = .ok (.if_icmp .ne 19, 3) := dk_160 0 19 (dk_at dksX2_goodRags_1 17 rfl rfl)
theorem dX2_goodRags_42 : decode cX2_goodRags 42 = .ok (.aload 4, 2) := dk_25 4 (dk_at dksX2_goodRags_1 20 rfl rfl)
theorem dX2_goodRags_44 : decode cX2_goodRags 44 = .ok (.getfield 167, 3) := dk_180 0 167 (dk_at dksX2_goodRags_2 0 rfl rfl)
theorem dX2_goodRags_47 : decode cX2_goodRags 47 = .ok (.ifCond .ne 11, 3) := dk_154 0 11 (dk_at dksX2_goodRags_2 3 rfl rfl)
theorem dX2_goodRags_50 : decode cX2_goodRags 50 = .ok (.aload 4, 2) := dk_25 4 (dk_at dksX2_goodRags_2 6 rfl rfl)
theorem dX2_goodRags_52 : decode cX2_goodRags 52 = .ok (.getfield 171, 3) := dk_180 0 171 (dk_at dksX2_goodRags_2 8 rfl rfl)
theorem dX2_goodRags_55 : decode cX2_goodRags 55 = .ok (.goto 4, 3) := dk_167 0 4 (dk_at dksX2_goodRags_2 11 rfl rfl)
theorem dX2_goodRags_58 : decode cX2_goodRags 58 = .ok (.iconst 0, 1) := dk_3 (dk_at dksX2_goodRags_2 14 rfl rfl)
theorem dX2_goodRags_59 : decode cX2_goodRags 59 = .ok (.iadd, 1) := dk_96 (dk_at dksX2_goodRags_2 15 rfl rfl)
theorem dX2_goodRags_60 : decode cX2_goodRags 60 = .ok (.istore_n 2, 1) := dk_61 (dk_at dksX2_goodRags_2 16 rfl rfl)
theorem dX2_goodRags_61 : decode cX2_goodRags 61 = .ok (.iinc 3 1, 3) := dk_132 3 1 (dk_at dksX2_goodRags_2 17 rfl rfl)
theorem dX2_goodRags_64 : decode cX2_goodRags 64 = .ok (.goto (-60), 3) := dk_167 255 196 (dk_at dksX2_goodRags_2 20 rfl rfl)
theorem dX2_goodRags_67 : decode cX2_goodRags 67 = .ok (.iload_n 2, 1) := dk_28 (dk_at dksX2_goodRags_2 23 rfl rfl)
theorem dX2_goodRags_68 : decode cX2_goodRags 68 = .ok (.ireturn, 1) := dk_172 (dk_at dksX2_goodRags_3 0 rfl rfl)
abbrev cX2_take : ByteArray := prog_19_method_10_code
def yX2_take : MethodName := ⟨RX2, "take", "(II)V"⟩
def dkwX2_take_4 : List UInt8 := [132, 4, 1, 167, 255, 165, 42, 182, 0, 174, 177]
abbrev dktX2_take_4 : List UInt8 := dkwX2_take_4 ++ []
def dkwX2_take_3 : List UInt8 := [167, 0, 4, 29, 54, 6, 25, 5, 89, 180, 0, 171, 21, 6, 100, 181, 0, 171, 29, 21, 6, 100, 62]
abbrev dktX2_take_3 : List UInt8 := dkwX2_take_3 ++ dktX2_take_4
def dkwX2_take_2 : List UInt8 := [25, 5, 180, 0, 167, 154, 0, 40, 25, 5, 180, 0, 171, 29, 162, 0, 11, 25, 5, 180, 0, 171]
abbrev dktX2_take_2 : List UInt8 := dkwX2_take_2 ++ dktX2_take_3
def dkwX2_take_1 : List UInt8 := [180, 0, 34, 21, 4, 185, 0, 101, 2, 0, 192, 0, 109, 58, 5, 25, 5, 180, 0, 164, 27, 160, 0, 48]
abbrev dktX2_take_1 : List UInt8 := dkwX2_take_1 ++ dktX2_take_2
def dkwX2_take_0 : List UInt8 := [28, 62, 3, 54, 4, 21, 4, 42, 180, 0, 34, 185, 0, 97, 1, 0, 162, 0, 83, 29, 158, 0, 79, 42]
abbrev dktX2_take_0 : List UInt8 := dkwX2_take_0 ++ dktX2_take_1
theorem dksX2_take_0 : cX2_take.data.toList.drop 0 = dktX2_take_0 := by decide +kernel
theorem dksX2_take_1 : cX2_take.data.toList.drop 24 = dktX2_take_1 := dk_seg dksX2_take_0 24 rfl rfl
theorem dksX2_take_2 : cX2_take.data.toList.drop 48 = dktX2_take_2 := dk_seg dksX2_take_1 24 rfl rfl
theorem dksX2_take_3 : cX2_take.data.toList.drop 70 = dktX2_take_3 := dk_seg dksX2_take_2 22 rfl rfl
theorem dksX2_take_4 : cX2_take.data.toList.drop 93 = dktX2_take_4 := dk_seg dksX2_take_3 23 rfl rfl
theorem dX2_take_0 : decode cX2_take 0 = .ok (.iload_n 2, 1) := dk_28 (dk_at dksX2_take_0 0 rfl rfl)
theorem dX2_take_1 : decode cX2_take 1 = .ok (.istore_n 3, 1) := dk_62 (dk_at dksX2_take_0 1 rfl rfl)
theorem dX2_take_2 : decode cX2_take 2 = .ok (.iconst 0, 1) := dk_3 (dk_at dksX2_take_0 2 rfl rfl)
theorem dX2_take_3 : decode cX2_take 3 = .ok (.istore 4, 2) := dk_54 4 (dk_at dksX2_take_0 3 rfl rfl)
theorem dX2_take_5 : decode cX2_take 5 = .ok (.iload 4, 2) := dk_21 4 (dk_at dksX2_take_0 5 rfl rfl)
theorem dX2_take_7 : decode cX2_take 7 = .ok (.aload_n 0, 1) := dk_42 (dk_at dksX2_take_0 7 rfl rfl)
theorem dX2_take_8 : decode cX2_take 8 = .ok (.getfield 34, 3) := dk_180 0 34 (dk_at dksX2_take_0 8 rfl rfl)
theorem dX2_take_11 : decode cX2_take 11 = .ok (.invokeinterface 97 1, 5) := by decide +kernel
theorem dX2_take_16 : decode cX2_take 16 = .ok (.if_icmp .ge 83, 3) := dk_162 0 83 (dk_at dksX2_take_0 16 rfl rfl)
theorem dX2_take_19 : decode cX2_take 19 = .ok (.iload_n 3, 1) := dk_29 (dk_at dksX2_take_0 19 rfl rfl)
theorem dX2_take_20 : decode cX2_take 20 = .ok (.ifCond .le 79, 3) := dk_158 0 79 (dk_at dksX2_take_0 20 rfl rfl)
theorem dX2_take_23 : decode cX2_take 23 = .ok (.aload_n 0, 1) := dk_42 (dk_at dksX2_take_0 23 rfl rfl)
theorem dX2_take_24 : decode cX2_take 24 = .ok (.getfield 34, 3) := dk_180 0 34 (dk_at dksX2_take_1 0 rfl rfl)
theorem dX2_take_27 : decode cX2_take 27 = .ok (.iload 4, 2) := dk_21 4 (dk_at dksX2_take_1 3 rfl rfl)
theorem dX2_take_29 : decode cX2_take 29 = .ok (.invokeinterface 101 2, 5) := by decide +kernel
theorem dX2_take_34 : decode cX2_take 34 = .ok (.checkcast 109, 3) := dk_192 0 109 (dk_at dksX2_take_1 10 rfl rfl)
theorem dX2_take_37 : decode cX2_take 37 = .ok (.astore 5, 2) := dk_58 5 (dk_at dksX2_take_1 13 rfl rfl)
theorem dX2_take_39 : decode cX2_take 39 = .ok (.aload 5, 2) := dk_25 5 (dk_at dksX2_take_1 15 rfl rfl)
theorem dX2_take_41 : decode cX2_take 41 = .ok (.getfield 164, 3) := dk_180 0 164 (dk_at dksX2_take_1 17 rfl rfl)
theorem dX2_take_44 : decode cX2_take 44 = .ok (.iload_n 1, 1) := dk_27 (dk_at dksX2_take_1 20 rfl rfl)
theorem dX2_take_45 : decode cX2_take 45 = .ok (.if_icmp .ne 48, 3) := dk_160 0 48 (dk_at dksX2_take_1 21 rfl rfl)
theorem dX2_take_48 : decode cX2_take 48 = .ok (.aload 5, 2) := dk_25 5 (dk_at dksX2_take_2 0 rfl rfl)
theorem dX2_take_50 : decode cX2_take 50 = .ok (.getfield 167, 3) := dk_180 0 167 (dk_at dksX2_take_2 2 rfl rfl)
theorem dX2_take_53 : decode cX2_take 53 = .ok (.ifCond .ne 40, 3) := dk_154 0 40 (dk_at dksX2_take_2 5 rfl rfl)
theorem dX2_take_56 : decode cX2_take 56 = .ok (.aload 5, 2) := dk_25 5 (dk_at dksX2_take_2 8 rfl rfl)
theorem dX2_take_58 : decode cX2_take 58 = .ok (.getfield 171, 3) := dk_180 0 171 (dk_at dksX2_take_2 10 rfl rfl)
theorem dX2_take_61 : decode cX2_take 61 = .ok (.iload_n 3, 1) := dk_29 (dk_at dksX2_take_2 13 rfl rfl)
theorem dX2_take_62 : decode cX2_take 62 = .ok (.if_icmp .ge 11, 3) := dk_162 0 11 (dk_at dksX2_take_2 14 rfl rfl)
theorem dX2_take_65 : decode cX2_take 65 = .ok (.aload 5, 2) := dk_25 5 (dk_at dksX2_take_2 17 rfl rfl)
theorem dX2_take_67 : decode cX2_take 67 = .ok (.getfield 171, 3) := dk_180 0 171 (dk_at dksX2_take_2 19 rfl rfl)
theorem dX2_take_70 : decode cX2_take 70 = .ok (.goto 4, 3) := dk_167 0 4 (dk_at dksX2_take_3 0 rfl rfl)
theorem dX2_take_73 : decode cX2_take 73 = .ok (.iload_n 3, 1) := dk_29 (dk_at dksX2_take_3 3 rfl rfl)
theorem dX2_take_74 : decode cX2_take 74 = .ok (.istore 6, 2) := dk_54 6 (dk_at dksX2_take_3 4 rfl rfl)
theorem dX2_take_76 : decode cX2_take 76 = .ok (.aload 5, 2) := dk_25 5 (dk_at dksX2_take_3 6 rfl rfl)
theorem dX2_take_78 : decode cX2_take 78 = .ok (.dup, 1) := dk_89 (dk_at dksX2_take_3 8 rfl rfl)
theorem dX2_take_79 : decode cX2_take 79 = .ok (.getfield 171, 3) := dk_180 0 171 (dk_at dksX2_take_3 9 rfl rfl)
theorem dX2_take_82 : decode cX2_take 82 = .ok (.iload 6, 2) := dk_21 6 (dk_at dksX2_take_3 12 rfl rfl)
theorem dX2_take_84 : decode cX2_take 84 = .ok (.isub, 1) := dk_100 (dk_at dksX2_take_3 14 rfl rfl)
theorem dX2_take_85 : decode cX2_take 85 = .ok (.putfield 171, 3) := dk_181 0 171 (dk_at dksX2_take_3 15 rfl rfl)
theorem dX2_take_88 : decode cX2_take 88 = .ok (.iload_n 3, 1) := dk_29 (dk_at dksX2_take_3 18 rfl rfl)
theorem dX2_take_89 : decode cX2_take 89 = .ok (.iload 6, 2) := dk_21 6 (dk_at dksX2_take_3 19 rfl rfl)
theorem dX2_take_91 : decode cX2_take 91 = .ok (.isub, 1) := dk_100 (dk_at dksX2_take_3 21 rfl rfl)
theorem dX2_take_92 : decode cX2_take 92 = .ok (.istore_n 3, 1) := dk_62 (dk_at dksX2_take_3 22 rfl rfl)
theorem dX2_take_93 : decode cX2_take 93 = .ok (.iinc 4 1, 3) := dk_132 4 1 (dk_at dksX2_take_4 0 rfl rfl)
theorem dX2_take_96 : decode cX2_take 96 = .ok (.goto (-91), 3) := dk_167 255 165 (dk_at dksX2_take_4 3 rfl rfl)
theorem dX2_take_99 : decode cX2_take 99 = .ok (.aload_n 0, 1) := dk_42 (dk_at dksX2_take_4 6 rfl rfl)
theorem dX2_take_100 : decode cX2_take 100 = .ok (.invokevirtual 174, 3) := dk_182 0 174 (dk_at dksX2_take_4 7 rfl rfl)
theorem dX2_take_103 : decode cX2_take 103 = .ok (.return_, 1) := dk_177 (dk_at dksX2_take_4 10 rfl rfl)
abbrev cX2_stamp : ByteArray := prog_19_method_17_code
def yX2_stamp : MethodName := ⟨RX2, "stamp", "(II)Z"⟩
def dkwX2_stamp_1 : List UInt8 := [89, 180, 0, 209, 28, 96, 181, 0, 209, 29, 172]
abbrev dktX2_stamp_1 : List UInt8 := dkwX2_stamp_1 ++ []
def dkwX2_stamp_0 : List UInt8 := [42, 27, 28, 182, 0, 214, 62, 29, 153, 0, 25, 42, 180, 0, 37, 27, 185, 0, 101, 2, 0, 192, 0, 59]
abbrev dktX2_stamp_0 : List UInt8 := dkwX2_stamp_0 ++ dktX2_stamp_1
theorem dksX2_stamp_0 : cX2_stamp.data.toList.drop 0 = dktX2_stamp_0 := by decide +kernel
theorem dksX2_stamp_1 : cX2_stamp.data.toList.drop 24 = dktX2_stamp_1 := dk_seg dksX2_stamp_0 24 rfl rfl
theorem dX2_stamp_0 : decode cX2_stamp 0 = .ok (.aload_n 0, 1) := dk_42 (dk_at dksX2_stamp_0 0 rfl rfl)
theorem dX2_stamp_1 : decode cX2_stamp 1 = .ok (.iload_n 1, 1) := dk_27 (dk_at dksX2_stamp_0 1 rfl rfl)
theorem dX2_stamp_2 : decode cX2_stamp 2 = .ok (.iload_n 2, 1) := dk_28 (dk_at dksX2_stamp_0 2 rfl rfl)
theorem dX2_stamp_3 : decode cX2_stamp 3 = .ok (.invokevirtual 214, 3) := dk_182 0 214 (dk_at dksX2_stamp_0 3 rfl rfl)
theorem dX2_stamp_6 : decode cX2_stamp 6 = .ok (.istore_n 3, 1) := dk_62 (dk_at dksX2_stamp_0 6 rfl rfl)
theorem dX2_stamp_7 : decode cX2_stamp 7 = .ok (.iload_n 3, 1) := dk_29 (dk_at dksX2_stamp_0 7 rfl rfl)
theorem dX2_stamp_8 : decode cX2_stamp 8 = .ok (.ifCond .eq 25, 3) := dk_153 0 25 (dk_at dksX2_stamp_0 8 rfl rfl)
theorem dX2_stamp_11 : decode cX2_stamp 11 = .ok (.aload_n 0, 1) := dk_42 (dk_at dksX2_stamp_0 11 rfl rfl)
theorem dX2_stamp_12 : decode cX2_stamp 12 = .ok (.getfield 37, 3) := dk_180 0 37 (dk_at dksX2_stamp_0 12 rfl rfl)
theorem dX2_stamp_15 : decode cX2_stamp 15 = .ok (.iload_n 1, 1) := dk_27 (dk_at dksX2_stamp_0 15 rfl rfl)
theorem dX2_stamp_16 : decode cX2_stamp 16 = .ok (.invokeinterface 101 2, 5) := by decide +kernel
theorem dX2_stamp_21 : decode cX2_stamp 21 = .ok (.checkcast 59, 3) := dk_192 0 59 (dk_at dksX2_stamp_0 21 rfl rfl)
theorem dX2_stamp_24 : decode cX2_stamp 24 = .ok (.dup, 1) := dk_89 (dk_at dksX2_stamp_1 0 rfl rfl)
theorem dX2_stamp_25 : decode cX2_stamp 25 = .ok (.getfield 209, 3) := dk_180 0 209 (dk_at dksX2_stamp_1 1 rfl rfl)
theorem dX2_stamp_28 : decode cX2_stamp 28 = .ok (.iload_n 2, 1) := dk_28 (dk_at dksX2_stamp_1 4 rfl rfl)
theorem dX2_stamp_29 : decode cX2_stamp 29 = .ok (.iadd, 1) := dk_96 (dk_at dksX2_stamp_1 5 rfl rfl)
theorem dX2_stamp_30 : decode cX2_stamp 30 = .ok (.putfield 209, 3) := dk_181 0 209 (dk_at dksX2_stamp_1 6 rfl rfl)
theorem dX2_stamp_33 : decode cX2_stamp 33 = .ok (.iload_n 3, 1) := dk_29 (dk_at dksX2_stamp_1 9 rfl rfl)
theorem dX2_stamp_34 : decode cX2_stamp 34 = .ok (.ireturn, 1) := dk_172 (dk_at dksX2_stamp_1 10 rfl rfl)
abbrev cX2_canStamp : ByteArray := prog_19_method_16_code
def yX2_canStamp : MethodName := ⟨RX2, "canStamp", "(II)Z"⟩
def dkwX2_canStamp_1 : List UInt8 := [185, 0, 101, 2, 0, 192, 0, 59, 180, 0, 209, 28, 96, 16, 48, 163, 0, 7, 4, 167, 0, 4, 3, 172]
abbrev dktX2_canStamp_1 : List UInt8 := dkwX2_canStamp_1 ++ []
def dkwX2_canStamp_0 : List UInt8 := [42, 180, 0, 37, 27, 185, 0, 101, 2, 0, 192, 0, 59, 182, 0, 187, 154, 0, 30, 42, 180, 0, 37, 27]
abbrev dktX2_canStamp_0 : List UInt8 := dkwX2_canStamp_0 ++ dktX2_canStamp_1
theorem dksX2_canStamp_0 : cX2_canStamp.data.toList.drop 0 = dktX2_canStamp_0 := by decide +kernel
theorem dksX2_canStamp_1 : cX2_canStamp.data.toList.drop 24 = dktX2_canStamp_1 := dk_seg dksX2_canStamp_0 24 rfl rfl
theorem dX2_canStamp_0 : decode cX2_canStamp 0 = .ok (.aload_n 0, 1) := dk_42 (dk_at dksX2_canStamp_0 0 rfl rfl)
theorem dX2_canStamp_1 : decode cX2_canStamp 1 = .ok (.getfield 37, 3) := dk_180 0 37 (dk_at dksX2_canStamp_0 1 rfl rfl)
theorem dX2_canStamp_4 : decode cX2_canStamp 4 = .ok (.iload_n 1, 1) := dk_27 (dk_at dksX2_canStamp_0 4 rfl rfl)
theorem dX2_canStamp_5 : decode cX2_canStamp 5 = .ok (.invokeinterface 101 2, 5) := by decide +kernel
theorem dX2_canStamp_10 : decode cX2_canStamp 10 = .ok (.checkcast 59, 3) := dk_192 0 59 (dk_at dksX2_canStamp_0 10 rfl rfl)
theorem dX2_canStamp_13 : decode cX2_canStamp 13 = .ok (.invokevirtual 187, 3) := dk_182 0 187 (dk_at dksX2_canStamp_0 13 rfl rfl)
theorem dX2_canStamp_16 : decode cX2_canStamp 16 = .ok (.ifCond .ne 30, 3) := dk_154 0 30 (dk_at dksX2_canStamp_0 16 rfl rfl)
theorem dX2_canStamp_19 : decode cX2_canStamp 19 = .ok (.aload_n 0, 1) := dk_42 (dk_at dksX2_canStamp_0 19 rfl rfl)
theorem dX2_canStamp_20 : decode cX2_canStamp 20 = .ok (.getfield 37, 3) := dk_180 0 37 (dk_at dksX2_canStamp_0 20 rfl rfl)
theorem dX2_canStamp_23 : decode cX2_canStamp 23 = .ok (.iload_n 1, 1) := dk_27 (dk_at dksX2_canStamp_0 23 rfl rfl)
theorem dX2_canStamp_24 : decode cX2_canStamp 24 = .ok (.invokeinterface 101 2, 5) := by decide +kernel
theorem dX2_canStamp_29 : decode cX2_canStamp 29 = .ok (.checkcast 59, 3) := dk_192 0 59 (dk_at dksX2_canStamp_1 5 rfl rfl)
theorem dX2_canStamp_32 : decode cX2_canStamp 32 = .ok (.getfield 209, 3) := dk_180 0 209 (dk_at dksX2_canStamp_1 8 rfl rfl)
theorem dX2_canStamp_35 : decode cX2_canStamp 35 = .ok (.iload_n 2, 1) := dk_28 (dk_at dksX2_canStamp_1 11 rfl rfl)
theorem dX2_canStamp_36 : decode cX2_canStamp 36 = .ok (.iadd, 1) := dk_96 (dk_at dksX2_canStamp_1 12 rfl rfl)
theorem dX2_canStamp_37 : decode cX2_canStamp 37 = .ok (.bipush 48, 2) := dk_16 48 (dk_at dksX2_canStamp_1 13 rfl rfl)
theorem dX2_canStamp_39 : decode cX2_canStamp 39 = .ok (.if_icmp .gt 7, 3) := dk_163 0 7 (dk_at dksX2_canStamp_1 15 rfl rfl)
theorem dX2_canStamp_42 : decode cX2_canStamp 42 = .ok (.iconst 1, 1) := dk_4 (dk_at dksX2_canStamp_1 18 rfl rfl)
theorem dX2_canStamp_43 : decode cX2_canStamp 43 = .ok (.goto 4, 3) := dk_167 0 4 (dk_at dksX2_canStamp_1 19 rfl rfl)
theorem dX2_canStamp_46 : decode cX2_canStamp 46 = .ok (.iconst 0, 1) := dk_3 (dk_at dksX2_canStamp_1 22 rfl rfl)
theorem dX2_canStamp_47 : decode cX2_canStamp 47 = .ok (.ireturn, 1) := dk_172 (dk_at dksX2_canStamp_1 23 rfl rfl)
abbrev cX2_make : ByteArray := prog_19_method_20_code
def yX2_make : MethodName := ⟨RX2, "make", "(III)I"⟩
def dkwX2_make_5 : List UInt8 := [184, 1, 0, 21, 6, 183, 1, 6, 185, 0, 53, 2, 0, 87, 21, 6, 172]
abbrev dktX2_make_5 : List UInt8 := dkwX2_make_5 ++ []
def dkwX2_make_4 : List UInt8 := [158, 0, 37, 42, 180, 0, 43, 187, 0, 120, 89, 25, 5, 180, 0, 253, 25, 5, 180, 0, 244, 21, 4]
abbrev dktX2_make_4 : List UInt8 := dkwX2_make_4 ++ dktX2_make_5
def dkwX2_make_3 : List UInt8 := [185, 0, 101, 2, 0, 192, 0, 59, 21, 6, 25, 5, 180, 0, 244, 182, 0, 247, 104, 182, 0, 249, 21, 6]
abbrev dktX2_make_3 : List UInt8 := dkwX2_make_3 ++ dktX2_make_4
def dkwX2_make_2 : List UInt8 := [182, 0, 241, 100, 54, 6, 25, 5, 89, 180, 0, 221, 29, 96, 181, 0, 221, 42, 180, 0, 37, 27]
abbrev dktX2_make_2 : List UInt8 := dkwX2_make_2 ++ dktX2_make_3
def dkwX2_make_1 : List UInt8 := [28, 185, 0, 101, 2, 0, 192, 0, 62, 58, 5, 29, 25, 5, 29, 16, 100, 21, 4, 100, 7, 108]
abbrev dktX2_make_1 : List UInt8 := dkwX2_make_1 ++ dktX2_make_2
def dkwX2_make_0 : List UInt8 := [42, 27, 28, 29, 182, 0, 235, 158, 0, 5, 2, 172, 42, 27, 28, 182, 0, 238, 54, 4, 42, 180, 0, 40]
abbrev dktX2_make_0 : List UInt8 := dkwX2_make_0 ++ dktX2_make_1
theorem dksX2_make_0 : cX2_make.data.toList.drop 0 = dktX2_make_0 := by decide +kernel
theorem dksX2_make_1 : cX2_make.data.toList.drop 24 = dktX2_make_1 := dk_seg dksX2_make_0 24 rfl rfl
theorem dksX2_make_2 : cX2_make.data.toList.drop 46 = dktX2_make_2 := dk_seg dksX2_make_1 22 rfl rfl
theorem dksX2_make_3 : cX2_make.data.toList.drop 68 = dktX2_make_3 := dk_seg dksX2_make_2 22 rfl rfl
theorem dksX2_make_4 : cX2_make.data.toList.drop 92 = dktX2_make_4 := dk_seg dksX2_make_3 24 rfl rfl
theorem dksX2_make_5 : cX2_make.data.toList.drop 115 = dktX2_make_5 := dk_seg dksX2_make_4 23 rfl rfl
theorem dX2_make_0 : decode cX2_make 0 = .ok (.aload_n 0, 1) := dk_42 (dk_at dksX2_make_0 0 rfl rfl)
theorem dX2_make_1 : decode cX2_make 1 = .ok (.iload_n 1, 1) := dk_27 (dk_at dksX2_make_0 1 rfl rfl)
theorem dX2_make_2 : decode cX2_make 2 = .ok (.iload_n 2, 1) := dk_28 (dk_at dksX2_make_0 2 rfl rfl)
theorem dX2_make_3 : decode cX2_make 3 = .ok (.iload_n 3, 1) := dk_29 (dk_at dksX2_make_0 3 rfl rfl)
theorem dX2_make_4 : decode cX2_make 4 = .ok (.invokevirtual 235, 3) := dk_182 0 235 (dk_at dksX2_make_0 4 rfl rfl)
theorem dX2_make_7 : decode cX2_make 7 = .ok (.ifCond .le 5, 3) := dk_158 0 5 (dk_at dksX2_make_0 7 rfl rfl)
theorem dX2_make_10 : decode cX2_make 10 = .ok (.iconst (-1), 1) := dk_2 (dk_at dksX2_make_0 10 rfl rfl)
theorem dX2_make_11 : decode cX2_make 11 = .ok (.ireturn, 1) := dk_172 (dk_at dksX2_make_0 11 rfl rfl)
theorem dX2_make_12 : decode cX2_make 12 = .ok (.aload_n 0, 1) := dk_42 (dk_at dksX2_make_0 12 rfl rfl)
theorem dX2_make_13 : decode cX2_make 13 = .ok (.iload_n 1, 1) := dk_27 (dk_at dksX2_make_0 13 rfl rfl)
theorem dX2_make_14 : decode cX2_make 14 = .ok (.iload_n 2, 1) := dk_28 (dk_at dksX2_make_0 14 rfl rfl)
theorem dX2_make_15 : decode cX2_make 15 = .ok (.invokevirtual 238, 3) := dk_182 0 238 (dk_at dksX2_make_0 15 rfl rfl)
theorem dX2_make_18 : decode cX2_make 18 = .ok (.istore 4, 2) := dk_54 4 (dk_at dksX2_make_0 18 rfl rfl)
theorem dX2_make_20 : decode cX2_make 20 = .ok (.aload_n 0, 1) := dk_42 (dk_at dksX2_make_0 20 rfl rfl)
theorem dX2_make_21 : decode cX2_make 21 = .ok (.getfield 40, 3) := dk_180 0 40 (dk_at dksX2_make_0 21 rfl rfl)
theorem dX2_make_24 : decode cX2_make 24 = .ok (.iload_n 2, 1) := dk_28 (dk_at dksX2_make_1 0 rfl rfl)
theorem dX2_make_25 : decode cX2_make 25 = .ok (.invokeinterface 101 2, 5) := by decide +kernel
theorem dX2_make_30 : decode cX2_make 30 = .ok (.checkcast 62, 3) := dk_192 0 62 (dk_at dksX2_make_1 6 rfl rfl)
theorem dX2_make_33 : decode cX2_make 33 = .ok (.astore 5, 2) := dk_58 5 (dk_at dksX2_make_1 9 rfl rfl)
theorem dX2_make_35 : decode cX2_make 35 = .ok (.iload_n 3, 1) := dk_29 (dk_at dksX2_make_1 11 rfl rfl)
theorem dX2_make_36 : decode cX2_make 36 = .ok (.aload 5, 2) := dk_25 5 (dk_at dksX2_make_1 12 rfl rfl)
theorem dX2_make_38 : decode cX2_make 38 = .ok (.iload_n 3, 1) := dk_29 (dk_at dksX2_make_1 14 rfl rfl)
theorem dX2_make_39 : decode cX2_make 39 = .ok (.bipush 100, 2) := dk_16 100 (dk_at dksX2_make_1 15 rfl rfl)
theorem dX2_make_41 : decode cX2_make 41 = .ok (.iload 4, 2) := dk_21 4 (dk_at dksX2_make_1 17 rfl rfl)
theorem dX2_make_43 : decode cX2_make 43 = .ok (.isub, 1) := dk_100 (dk_at dksX2_make_1 19 rfl rfl)
theorem dX2_make_44 : decode cX2_make 44 = .ok (.iconst 4, 1) := dk_7 (dk_at dksX2_make_1 20 rfl rfl)
theorem dX2_make_45 : decode cX2_make 45 = .ok (.idiv, 1) := dk_108 (dk_at dksX2_make_1 21 rfl rfl)
theorem dX2_make_46 : decode cX2_make 46 = .ok (.invokevirtual 241, 3) := dk_182 0 241 (dk_at dksX2_make_2 0 rfl rfl)
theorem dX2_make_49 : decode cX2_make 49 = .ok (.isub, 1) := dk_100 (dk_at dksX2_make_2 3 rfl rfl)
theorem dX2_make_50 : decode cX2_make 50 = .ok (.istore 6, 2) := dk_54 6 (dk_at dksX2_make_2 4 rfl rfl)
theorem dX2_make_52 : decode cX2_make 52 = .ok (.aload 5, 2) := dk_25 5 (dk_at dksX2_make_2 6 rfl rfl)
theorem dX2_make_54 : decode cX2_make 54 = .ok (.dup, 1) := dk_89 (dk_at dksX2_make_2 8 rfl rfl)
theorem dX2_make_55 : decode cX2_make 55 = .ok (.getfield 221, 3) := dk_180 0 221 (dk_at dksX2_make_2 9 rfl rfl)
theorem dX2_make_58 : decode cX2_make 58 = .ok (.iload_n 3, 1) := dk_29 (dk_at dksX2_make_2 12 rfl rfl)
theorem dX2_make_59 : decode cX2_make 59 = .ok (.iadd, 1) := dk_96 (dk_at dksX2_make_2 13 rfl rfl)
theorem dX2_make_60 : decode cX2_make 60 = .ok (.putfield 221, 3) := dk_181 0 221 (dk_at dksX2_make_2 14 rfl rfl)
theorem dX2_make_63 : decode cX2_make 63 = .ok (.aload_n 0, 1) := dk_42 (dk_at dksX2_make_2 17 rfl rfl)
theorem dX2_make_64 : decode cX2_make 64 = .ok (.getfield 37, 3) := dk_180 0 37 (dk_at dksX2_make_2 18 rfl rfl)
theorem dX2_make_67 : decode cX2_make 67 = .ok (.iload_n 1, 1) := dk_27 (dk_at dksX2_make_2 21 rfl rfl)
theorem dX2_make_68 : decode cX2_make 68 = .ok (.invokeinterface 101 2, 5) := by decide +kernel
theorem dX2_make_73 : decode cX2_make 73 = .ok (.checkcast 59, 3) := dk_192 0 59 (dk_at dksX2_make_3 5 rfl rfl)
theorem dX2_make_76 : decode cX2_make 76 = .ok (.iload 6, 2) := dk_21 6 (dk_at dksX2_make_3 8 rfl rfl)
theorem dX2_make_78 : decode cX2_make 78 = .ok (.aload 5, 2) := dk_25 5 (dk_at dksX2_make_3 10 rfl rfl)
theorem dX2_make_80 : decode cX2_make 80 = .ok (.getfield 244, 3) := dk_180 0 244 (dk_at dksX2_make_3 12 rfl rfl)
theorem dX2_make_83 : decode cX2_make 83 = .ok (.invokevirtual 247, 3) := dk_182 0 247 (dk_at dksX2_make_3 15 rfl rfl)
theorem dX2_make_86 : decode cX2_make 86 = .ok (.imul, 1) := dk_104 (dk_at dksX2_make_3 18 rfl rfl)
theorem dX2_make_87 : decode cX2_make 87 = .ok (.invokevirtual 249, 3) := dk_182 0 249 (dk_at dksX2_make_3 19 rfl rfl)
theorem dX2_make_90 : decode cX2_make 90 = .ok (.iload 6, 2) := dk_21 6 (dk_at dksX2_make_3 22 rfl rfl)
theorem dX2_make_92 : decode cX2_make 92 = .ok (.ifCond .le 37, 3) := dk_158 0 37 (dk_at dksX2_make_4 0 rfl rfl)
theorem dX2_make_95 : decode cX2_make 95 = .ok (.aload_n 0, 1) := dk_42 (dk_at dksX2_make_4 3 rfl rfl)
theorem dX2_make_96 : decode cX2_make 96 = .ok (.getfield 43, 3) := dk_180 0 43 (dk_at dksX2_make_4 4 rfl rfl)
theorem dX2_make_99 : decode cX2_make 99 = .ok (.new 120, 3) := dk_187 0 120 (dk_at dksX2_make_4 7 rfl rfl)
theorem dX2_make_102 : decode cX2_make 102 = .ok (.dup, 1) := dk_89 (dk_at dksX2_make_4 10 rfl rfl)
theorem dX2_make_103 : decode cX2_make 103 = .ok (.aload 5, 2) := dk_25 5 (dk_at dksX2_make_4 11 rfl rfl)
theorem dX2_make_105 : decode cX2_make 105 = .ok (.getfield 253, 3) := dk_180 0 253 (dk_at dksX2_make_4 13 rfl rfl)
theorem dX2_make_108 : decode cX2_make 108 = .ok (.aload 5, 2) := dk_25 5 (dk_at dksX2_make_4 16 rfl rfl)
theorem dX2_make_110 : decode cX2_make 110 = .ok (.getfield 244, 3) := dk_180 0 244 (dk_at dksX2_make_4 18 rfl rfl)
theorem dX2_make_113 : decode cX2_make 113 = .ok (.iload 4, 2) := dk_21 4 (dk_at dksX2_make_4 21 rfl rfl)
theorem dX2_make_115 : decode cX2_make 115 = .ok (.invokestatic 256, 3) := dk_184 1 0 (dk_at dksX2_make_5 0 rfl rfl)
theorem dX2_make_118 : decode cX2_make 118 = .ok (.iload 6, 2) := dk_21 6 (dk_at dksX2_make_5 3 rfl rfl)
theorem dX2_make_120 : decode cX2_make 120 = .ok (.invokespecial 262, 3) := dk_183 1 6 (dk_at dksX2_make_5 5 rfl rfl)
theorem dX2_make_123 : decode cX2_make 123 = .ok (.invokeinterface 53 2, 5) := by decide +kernel
theorem dX2_make_128 : decode cX2_make 128 = .ok (.pop, 1) := dk_87 (dk_at dksX2_make_5 13 rfl rfl)
theorem dX2_make_129 : decode cX2_make 129 = .ok (.iload 6, 2) := dk_21 6 (dk_at dksX2_make_5 14 rfl rfl)
theorem dX2_make_131 : decode cX2_make 131 = .ok (.ireturn, 1) := dk_172 (dk_at dksX2_make_5 16 rfl rfl)
abbrev cX2_whyNotMade : ByteArray := prog_19_method_19_code
def yX2_whyNotMade : MethodName := ⟨RX2, "whyNotMade", "(III)I"⟩
def dkwX2_whyNotMade_4 : List UInt8 := [184, 0, 149, 172]
abbrev dktX2_whyNotMade_4 : List UInt8 := dkwX2_whyNotMade_4 ++ []
def dkwX2_whyNotMade_3 : List UInt8 := [89, 6, 42, 186, 0, 233, 0, 0, 83, 89, 7, 42, 27, 28, 186, 0, 234, 0, 0, 83, 58, 6, 25, 6]
abbrev dktX2_whyNotMade_3 : List UInt8 := dkwX2_whyNotMade_3 ++ dktX2_whyNotMade_4
def dkwX2_whyNotMade_2 : List UInt8 := [89, 4, 29, 25, 5, 25, 4, 186, 0, 227, 0, 0, 83, 89, 5, 25, 5, 29, 186, 0, 230, 0, 0, 83]
abbrev dktX2_whyNotMade_2 : List UInt8 := dkwX2_whyNotMade_2 ++ dktX2_whyNotMade_3
def dkwX2_whyNotMade_1 : List UInt8 := [185, 0, 101, 2, 0, 192, 0, 62, 58, 5, 8, 189, 0, 137, 89, 3, 25, 4, 186, 0, 224, 0, 0, 83]
abbrev dktX2_whyNotMade_1 : List UInt8 := dkwX2_whyNotMade_1 ++ dktX2_whyNotMade_2
def dkwX2_whyNotMade_0 : List UInt8 := [42, 180, 0, 37, 27, 185, 0, 101, 2, 0, 192, 0, 59, 58, 4, 42, 180, 0, 40, 28]
abbrev dktX2_whyNotMade_0 : List UInt8 := dkwX2_whyNotMade_0 ++ dktX2_whyNotMade_1
theorem dksX2_whyNotMade_0 : cX2_whyNotMade.data.toList.drop 0 = dktX2_whyNotMade_0 := by decide +kernel
theorem dksX2_whyNotMade_1 : cX2_whyNotMade.data.toList.drop 20 = dktX2_whyNotMade_1 := dk_seg dksX2_whyNotMade_0 20 rfl rfl
theorem dksX2_whyNotMade_2 : cX2_whyNotMade.data.toList.drop 44 = dktX2_whyNotMade_2 := dk_seg dksX2_whyNotMade_1 24 rfl rfl
theorem dksX2_whyNotMade_3 : cX2_whyNotMade.data.toList.drop 68 = dktX2_whyNotMade_3 := dk_seg dksX2_whyNotMade_2 24 rfl rfl
theorem dksX2_whyNotMade_4 : cX2_whyNotMade.data.toList.drop 92 = dktX2_whyNotMade_4 := dk_seg dksX2_whyNotMade_3 24 rfl rfl
theorem dX2_whyNotMade_0 : decode cX2_whyNotMade 0 = .ok (.aload_n 0, 1) := dk_42 (dk_at dksX2_whyNotMade_0 0 rfl rfl)
theorem dX2_whyNotMade_1 : decode cX2_whyNotMade 1 = .ok (.getfield 37, 3) := dk_180 0 37 (dk_at dksX2_whyNotMade_0 1 rfl rfl)
theorem dX2_whyNotMade_4 : decode cX2_whyNotMade 4 = .ok (.iload_n 1, 1) := dk_27 (dk_at dksX2_whyNotMade_0 4 rfl rfl)
theorem dX2_whyNotMade_5 : decode cX2_whyNotMade 5 = .ok (.invokeinterface 101 2, 5) := by decide +kernel
theorem dX2_whyNotMade_10 : decode cX2_whyNotMade 10 = .ok (.checkcast 59, 3) := dk_192 0 59 (dk_at dksX2_whyNotMade_0 10 rfl rfl)
theorem dX2_whyNotMade_13 : decode cX2_whyNotMade 13 = .ok (.astore 4, 2) := dk_58 4 (dk_at dksX2_whyNotMade_0 13 rfl rfl)
theorem dX2_whyNotMade_15 : decode cX2_whyNotMade 15 = .ok (.aload_n 0, 1) := dk_42 (dk_at dksX2_whyNotMade_0 15 rfl rfl)
theorem dX2_whyNotMade_16 : decode cX2_whyNotMade 16 = .ok (.getfield 40, 3) := dk_180 0 40 (dk_at dksX2_whyNotMade_0 16 rfl rfl)
theorem dX2_whyNotMade_19 : decode cX2_whyNotMade 19 = .ok (.iload_n 2, 1) := dk_28 (dk_at dksX2_whyNotMade_0 19 rfl rfl)
theorem dX2_whyNotMade_20 : decode cX2_whyNotMade 20 = .ok (.invokeinterface 101 2, 5) := by decide +kernel
theorem dX2_whyNotMade_25 : decode cX2_whyNotMade 25 = .ok (.checkcast 62, 3) := dk_192 0 62 (dk_at dksX2_whyNotMade_1 5 rfl rfl)
theorem dX2_whyNotMade_28 : decode cX2_whyNotMade 28 = .ok (.astore 5, 2) := dk_58 5 (dk_at dksX2_whyNotMade_1 8 rfl rfl)
theorem dX2_whyNotMade_30 : decode cX2_whyNotMade 30 = .ok (.iconst 5, 1) := dk_8 (dk_at dksX2_whyNotMade_1 10 rfl rfl)
theorem dX2_whyNotMade_31 : decode cX2_whyNotMade 31 = .ok (.anewarray 137, 3) := dk_189 0 137 (dk_at dksX2_whyNotMade_1 11 rfl rfl)
theorem dX2_whyNotMade_34 : decode cX2_whyNotMade 34 = .ok (.dup, 1) := dk_89 (dk_at dksX2_whyNotMade_1 14 rfl rfl)
theorem dX2_whyNotMade_35 : decode cX2_whyNotMade 35 = .ok (.iconst 0, 1) := dk_3 (dk_at dksX2_whyNotMade_1 15 rfl rfl)
theorem dX2_whyNotMade_36 : decode cX2_whyNotMade 36 = .ok (.aload 4, 2) := dk_25 4 (dk_at dksX2_whyNotMade_1 16 rfl rfl)
theorem dX2_whyNotMade_38 : decode cX2_whyNotMade 38 = .ok (.invokedynamic 224, 5) := by decide +kernel
theorem dX2_whyNotMade_43 : decode cX2_whyNotMade 43 = .ok (.aastore, 1) := dk_83 (dk_at dksX2_whyNotMade_1 23 rfl rfl)
theorem dX2_whyNotMade_44 : decode cX2_whyNotMade 44 = .ok (.dup, 1) := dk_89 (dk_at dksX2_whyNotMade_2 0 rfl rfl)
theorem dX2_whyNotMade_45 : decode cX2_whyNotMade 45 = .ok (.iconst 1, 1) := dk_4 (dk_at dksX2_whyNotMade_2 1 rfl rfl)
theorem dX2_whyNotMade_46 : decode cX2_whyNotMade 46 = .ok (.iload_n 3, 1) := dk_29 (dk_at dksX2_whyNotMade_2 2 rfl rfl)
theorem dX2_whyNotMade_47 : decode cX2_whyNotMade 47 = .ok (.aload 5, 2) := dk_25 5 (dk_at dksX2_whyNotMade_2 3 rfl rfl)
theorem dX2_whyNotMade_49 : decode cX2_whyNotMade 49 = .ok (.aload 4, 2) := dk_25 4 (dk_at dksX2_whyNotMade_2 5 rfl rfl)
theorem dX2_whyNotMade_51 : decode cX2_whyNotMade 51 = .ok (.invokedynamic 227, 5) := by decide +kernel
theorem dX2_whyNotMade_56 : decode cX2_whyNotMade 56 = .ok (.aastore, 1) := dk_83 (dk_at dksX2_whyNotMade_2 12 rfl rfl)
theorem dX2_whyNotMade_57 : decode cX2_whyNotMade 57 = .ok (.dup, 1) := dk_89 (dk_at dksX2_whyNotMade_2 13 rfl rfl)
theorem dX2_whyNotMade_58 : decode cX2_whyNotMade 58 = .ok (.iconst 2, 1) := dk_5 (dk_at dksX2_whyNotMade_2 14 rfl rfl)
theorem dX2_whyNotMade_59 : decode cX2_whyNotMade 59 = .ok (.aload 5, 2) := dk_25 5 (dk_at dksX2_whyNotMade_2 15 rfl rfl)
theorem dX2_whyNotMade_61 : decode cX2_whyNotMade 61 = .ok (.iload_n 3, 1) := dk_29 (dk_at dksX2_whyNotMade_2 17 rfl rfl)
theorem dX2_whyNotMade_62 : decode cX2_whyNotMade 62 = .ok (.invokedynamic 230, 5) := by decide +kernel
theorem dX2_whyNotMade_67 : decode cX2_whyNotMade 67 = .ok (.aastore, 1) := dk_83 (dk_at dksX2_whyNotMade_2 23 rfl rfl)
theorem dX2_whyNotMade_68 : decode cX2_whyNotMade 68 = .ok (.dup, 1) := dk_89 (dk_at dksX2_whyNotMade_3 0 rfl rfl)
theorem dX2_whyNotMade_69 : decode cX2_whyNotMade 69 = .ok (.iconst 3, 1) := dk_6 (dk_at dksX2_whyNotMade_3 1 rfl rfl)
theorem dX2_whyNotMade_70 : decode cX2_whyNotMade 70 = .ok (.aload_n 0, 1) := dk_42 (dk_at dksX2_whyNotMade_3 2 rfl rfl)
theorem dX2_whyNotMade_71 : decode cX2_whyNotMade 71 = .ok (.invokedynamic 233, 5) := by decide +kernel
theorem dX2_whyNotMade_76 : decode cX2_whyNotMade 76 = .ok (.aastore, 1) := dk_83 (dk_at dksX2_whyNotMade_3 8 rfl rfl)
theorem dX2_whyNotMade_77 : decode cX2_whyNotMade 77 = .ok (.dup, 1) := dk_89 (dk_at dksX2_whyNotMade_3 9 rfl rfl)
theorem dX2_whyNotMade_78 : decode cX2_whyNotMade 78 = .ok (.iconst 4, 1) := dk_7 (dk_at dksX2_whyNotMade_3 10 rfl rfl)
theorem dX2_whyNotMade_79 : decode cX2_whyNotMade 79 = .ok (.aload_n 0, 1) := dk_42 (dk_at dksX2_whyNotMade_3 11 rfl rfl)
theorem dX2_whyNotMade_80 : decode cX2_whyNotMade 80 = .ok (.iload_n 1, 1) := dk_27 (dk_at dksX2_whyNotMade_3 12 rfl rfl)
theorem dX2_whyNotMade_81 : decode cX2_whyNotMade 81 = .ok (.iload_n 2, 1) := dk_28 (dk_at dksX2_whyNotMade_3 13 rfl rfl)
theorem dX2_whyNotMade_82 : decode cX2_whyNotMade 82 = .ok (.invokedynamic 234, 5) := by decide +kernel
theorem dX2_whyNotMade_87 : decode cX2_whyNotMade 87 = .ok (.aastore, 1) := dk_83 (dk_at dksX2_whyNotMade_3 19 rfl rfl)
theorem dX2_whyNotMade_88 : decode cX2_whyNotMade 88 = .ok (.astore 6, 2) := dk_58 6 (dk_at dksX2_whyNotMade_3 20 rfl rfl)
theorem dX2_whyNotMade_90 : decode cX2_whyNotMade 90 = .ok (.aload 6, 2) := dk_25 6 (dk_at dksX2_whyNotMade_3 22 rfl rfl)
theorem dX2_whyNotMade_92 : decode cX2_whyNotMade 92 = .ok (.invokestatic 149, 3) := dk_184 0 149 (dk_at dksX2_whyNotMade_4 0 rfl rfl)
theorem dX2_whyNotMade_95 : decode cX2_whyNotMade 95 = .ok (.ireturn, 1) := dk_172 (dk_at dksX2_whyNotMade_4 3 rfl rfl)
abbrev cX2_lambda_whyNotMade_3 : ByteArray := prog_19_method_38_code
def yX2_lambda_whyNotMade_3 : MethodName := ⟨RX2, "lambda$whyNotMade$3", "(LPaperMill$Vat;)Z"⟩
theorem dX2_lambda_whyNotMade_3_0 : decode cX2_lambda_whyNotMade_3 0 = .ok (.aload_n 0, 1) := by decide +kernel
theorem dX2_lambda_whyNotMade_3_1 : decode cX2_lambda_whyNotMade_3 1 = .ok (.invokevirtual 187, 3) := by decide +kernel
theorem dX2_lambda_whyNotMade_3_4 : decode cX2_lambda_whyNotMade_3 4 = .ok (.ireturn, 1) := by decide +kernel
abbrev cX2_lambda_whyNotMade_4 : ByteArray := prog_19_method_37_code
def yX2_lambda_whyNotMade_4 : MethodName := ⟨RX2, "lambda$whyNotMade$4", "(ILPaperMill$Mould;LPaperMill$Vat;)Z"⟩
def dkwX2_lambda_whyNotMade_4_0 : List UInt8 := [26, 43, 180, 0, 244, 182, 0, 247, 104, 44, 180, 0, 206, 164, 0, 7, 4, 167, 0, 4, 3, 172]
abbrev dktX2_lambda_whyNotMade_4_0 : List UInt8 := dkwX2_lambda_whyNotMade_4_0 ++ []
theorem dksX2_lambda_whyNotMade_4_0 : cX2_lambda_whyNotMade_4.data.toList.drop 0 = dktX2_lambda_whyNotMade_4_0 := by decide +kernel
theorem dX2_lambda_whyNotMade_4_0 : decode cX2_lambda_whyNotMade_4 0 = .ok (.iload_n 0, 1) := dk_26 (dk_at dksX2_lambda_whyNotMade_4_0 0 rfl rfl)
theorem dX2_lambda_whyNotMade_4_1 : decode cX2_lambda_whyNotMade_4 1 = .ok (.aload_n 1, 1) := dk_43 (dk_at dksX2_lambda_whyNotMade_4_0 1 rfl rfl)
theorem dX2_lambda_whyNotMade_4_2 : decode cX2_lambda_whyNotMade_4 2 = .ok (.getfield 244, 3) := dk_180 0 244 (dk_at dksX2_lambda_whyNotMade_4_0 2 rfl rfl)
theorem dX2_lambda_whyNotMade_4_5 : decode cX2_lambda_whyNotMade_4 5 = .ok (.invokevirtual 247, 3) := dk_182 0 247 (dk_at dksX2_lambda_whyNotMade_4_0 5 rfl rfl)
theorem dX2_lambda_whyNotMade_4_8 : decode cX2_lambda_whyNotMade_4 8 = .ok (.imul, 1) := dk_104 (dk_at dksX2_lambda_whyNotMade_4_0 8 rfl rfl)
theorem dX2_lambda_whyNotMade_4_9 : decode cX2_lambda_whyNotMade_4 9 = .ok (.aload_n 2, 1) := dk_44 (dk_at dksX2_lambda_whyNotMade_4_0 9 rfl rfl)
theorem dX2_lambda_whyNotMade_4_10 : decode cX2_lambda_whyNotMade_4 10 = .ok (.getfield 206, 3) := dk_180 0 206 (dk_at dksX2_lambda_whyNotMade_4_0 10 rfl rfl)
theorem dX2_lambda_whyNotMade_4_13 : decode cX2_lambda_whyNotMade_4 13 = .ok (.if_icmp .le 7, 3) := dk_164 0 7 (dk_at dksX2_lambda_whyNotMade_4_0 13 rfl rfl)
theorem dX2_lambda_whyNotMade_4_16 : decode cX2_lambda_whyNotMade_4 16 = .ok (.iconst 1, 1) := dk_4 (dk_at dksX2_lambda_whyNotMade_4_0 16 rfl rfl)
theorem dX2_lambda_whyNotMade_4_17 : decode cX2_lambda_whyNotMade_4 17 = .ok (.goto 4, 3) := dk_167 0 4 (dk_at dksX2_lambda_whyNotMade_4_0 17 rfl rfl)
theorem dX2_lambda_whyNotMade_4_20 : decode cX2_lambda_whyNotMade_4 20 = .ok (.iconst 0, 1) := dk_3 (dk_at dksX2_lambda_whyNotMade_4_0 20 rfl rfl)
theorem dX2_lambda_whyNotMade_4_21 : decode cX2_lambda_whyNotMade_4 21 = .ok (.ireturn, 1) := dk_172 (dk_at dksX2_lambda_whyNotMade_4_0 21 rfl rfl)
abbrev cX2_lambda_whyNotMade_5 : ByteArray := prog_19_method_36_code
def yX2_lambda_whyNotMade_5 : MethodName := ⟨RX2, "lambda$whyNotMade$5", "(LPaperMill$Mould;I)Z"⟩
def dkwX2_lambda_whyNotMade_5_0 : List UInt8 := [42, 180, 0, 221, 27, 96, 17, 7, 208, 164, 0, 7, 4, 167, 0, 4, 3, 172]
abbrev dktX2_lambda_whyNotMade_5_0 : List UInt8 := dkwX2_lambda_whyNotMade_5_0 ++ []
theorem dksX2_lambda_whyNotMade_5_0 : cX2_lambda_whyNotMade_5.data.toList.drop 0 = dktX2_lambda_whyNotMade_5_0 := by decide +kernel
theorem dX2_lambda_whyNotMade_5_0 : decode cX2_lambda_whyNotMade_5 0 = .ok (.aload_n 0, 1) := dk_42 (dk_at dksX2_lambda_whyNotMade_5_0 0 rfl rfl)
theorem dX2_lambda_whyNotMade_5_1 : decode cX2_lambda_whyNotMade_5 1 = .ok (.getfield 221, 3) := dk_180 0 221 (dk_at dksX2_lambda_whyNotMade_5_0 1 rfl rfl)
theorem dX2_lambda_whyNotMade_5_4 : decode cX2_lambda_whyNotMade_5 4 = .ok (.iload_n 1, 1) := dk_27 (dk_at dksX2_lambda_whyNotMade_5_0 4 rfl rfl)
theorem dX2_lambda_whyNotMade_5_5 : decode cX2_lambda_whyNotMade_5 5 = .ok (.iadd, 1) := dk_96 (dk_at dksX2_lambda_whyNotMade_5_0 5 rfl rfl)
theorem dX2_lambda_whyNotMade_5_6 : decode cX2_lambda_whyNotMade_5 6 = .ok (.sipush 2000, 3) := dk_17 7 208 (dk_at dksX2_lambda_whyNotMade_5_0 6 rfl rfl)
theorem dX2_lambda_whyNotMade_5_9 : decode cX2_lambda_whyNotMade_5 9 = .ok (.if_icmp .le 7, 3) := dk_164 0 7 (dk_at dksX2_lambda_whyNotMade_5_0 9 rfl rfl)
theorem dX2_lambda_whyNotMade_5_12 : decode cX2_lambda_whyNotMade_5 12 = .ok (.iconst 1, 1) := dk_4 (dk_at dksX2_lambda_whyNotMade_5_0 12 rfl rfl)
theorem dX2_lambda_whyNotMade_5_13 : decode cX2_lambda_whyNotMade_5 13 = .ok (.goto 4, 3) := dk_167 0 4 (dk_at dksX2_lambda_whyNotMade_5_0 13 rfl rfl)
theorem dX2_lambda_whyNotMade_5_16 : decode cX2_lambda_whyNotMade_5 16 = .ok (.iconst 0, 1) := dk_3 (dk_at dksX2_lambda_whyNotMade_5_0 16 rfl rfl)
theorem dX2_lambda_whyNotMade_5_17 : decode cX2_lambda_whyNotMade_5 17 = .ok (.ireturn, 1) := dk_172 (dk_at dksX2_lambda_whyNotMade_5_0 17 rfl rfl)
abbrev cX2_lambda_whyNotMade_6 : ByteArray := prog_19_method_35_code
def yX2_lambda_whyNotMade_6 : MethodName := ⟨RX2, "lambda$whyNotMade$6", "()Z"⟩
def dkwX2_lambda_whyNotMade_6_0 : List UInt8 := [42, 180, 0, 43, 185, 0, 97, 1, 0, 16, 12, 160, 0, 7, 4, 167, 0, 4, 3, 172]
abbrev dktX2_lambda_whyNotMade_6_0 : List UInt8 := dkwX2_lambda_whyNotMade_6_0 ++ []
theorem dksX2_lambda_whyNotMade_6_0 : cX2_lambda_whyNotMade_6.data.toList.drop 0 = dktX2_lambda_whyNotMade_6_0 := by decide +kernel
theorem dX2_lambda_whyNotMade_6_0 : decode cX2_lambda_whyNotMade_6 0 = .ok (.aload_n 0, 1) := dk_42 (dk_at dksX2_lambda_whyNotMade_6_0 0 rfl rfl)
theorem dX2_lambda_whyNotMade_6_1 : decode cX2_lambda_whyNotMade_6 1 = .ok (.getfield 43, 3) := dk_180 0 43 (dk_at dksX2_lambda_whyNotMade_6_0 1 rfl rfl)
theorem dX2_lambda_whyNotMade_6_4 : decode cX2_lambda_whyNotMade_6 4 = .ok (.invokeinterface 97 1, 5) := by decide +kernel
theorem dX2_lambda_whyNotMade_6_9 : decode cX2_lambda_whyNotMade_6 9 = .ok (.bipush 12, 2) := dk_16 12 (dk_at dksX2_lambda_whyNotMade_6_0 9 rfl rfl)
theorem dX2_lambda_whyNotMade_6_11 : decode cX2_lambda_whyNotMade_6 11 = .ok (.if_icmp .ne 7, 3) := dk_160 0 7 (dk_at dksX2_lambda_whyNotMade_6_0 11 rfl rfl)
theorem dX2_lambda_whyNotMade_6_14 : decode cX2_lambda_whyNotMade_6 14 = .ok (.iconst 1, 1) := dk_4 (dk_at dksX2_lambda_whyNotMade_6_0 14 rfl rfl)
theorem dX2_lambda_whyNotMade_6_15 : decode cX2_lambda_whyNotMade_6 15 = .ok (.goto 4, 3) := dk_167 0 4 (dk_at dksX2_lambda_whyNotMade_6_0 15 rfl rfl)
theorem dX2_lambda_whyNotMade_6_18 : decode cX2_lambda_whyNotMade_6 18 = .ok (.iconst 0, 1) := dk_3 (dk_at dksX2_lambda_whyNotMade_6_0 18 rfl rfl)
theorem dX2_lambda_whyNotMade_6_19 : decode cX2_lambda_whyNotMade_6 19 = .ok (.ireturn, 1) := dk_172 (dk_at dksX2_lambda_whyNotMade_6_0 19 rfl rfl)
abbrev cX2_lambda_whyNotMade_7 : ByteArray := prog_19_method_34_code
def yX2_lambda_whyNotMade_7 : MethodName := ⟨RX2, "lambda$whyNotMade$7", "(II)Z"⟩
def dkwX2_lambda_whyNotMade_7_0 : List UInt8 := [42, 27, 28, 182, 0, 238, 184, 1, 0, 199, 0, 7, 4, 167, 0, 4, 3, 172]
abbrev dktX2_lambda_whyNotMade_7_0 : List UInt8 := dkwX2_lambda_whyNotMade_7_0 ++ []
theorem dksX2_lambda_whyNotMade_7_0 : cX2_lambda_whyNotMade_7.data.toList.drop 0 = dktX2_lambda_whyNotMade_7_0 := by decide +kernel
theorem dX2_lambda_whyNotMade_7_0 : decode cX2_lambda_whyNotMade_7 0 = .ok (.aload_n 0, 1) := dk_42 (dk_at dksX2_lambda_whyNotMade_7_0 0 rfl rfl)
theorem dX2_lambda_whyNotMade_7_1 : decode cX2_lambda_whyNotMade_7 1 = .ok (.iload_n 1, 1) := dk_27 (dk_at dksX2_lambda_whyNotMade_7_0 1 rfl rfl)
theorem dX2_lambda_whyNotMade_7_2 : decode cX2_lambda_whyNotMade_7 2 = .ok (.iload_n 2, 1) := dk_28 (dk_at dksX2_lambda_whyNotMade_7_0 2 rfl rfl)
theorem dX2_lambda_whyNotMade_7_3 : decode cX2_lambda_whyNotMade_7 3 = .ok (.invokevirtual 238, 3) := dk_182 0 238 (dk_at dksX2_lambda_whyNotMade_7_0 3 rfl rfl)
theorem dX2_lambda_whyNotMade_7_6 : decode cX2_lambda_whyNotMade_7 6 = .ok (.invokestatic 256, 3) := dk_184 1 0 (dk_at dksX2_lambda_whyNotMade_7_0 6 rfl rfl)
theorem dX2_lambda_whyNotMade_7_9 : decode cX2_lambda_whyNotMade_7 9 = .ok (.ifnonnull 7, 3) := dk_199 0 7 (dk_at dksX2_lambda_whyNotMade_7_0 9 rfl rfl)
theorem dX2_lambda_whyNotMade_7_12 : decode cX2_lambda_whyNotMade_7 12 = .ok (.iconst 1, 1) := dk_4 (dk_at dksX2_lambda_whyNotMade_7_0 12 rfl rfl)
theorem dX2_lambda_whyNotMade_7_13 : decode cX2_lambda_whyNotMade_7 13 = .ok (.goto 4, 3) := dk_167 0 4 (dk_at dksX2_lambda_whyNotMade_7_0 13 rfl rfl)
theorem dX2_lambda_whyNotMade_7_16 : decode cX2_lambda_whyNotMade_7 16 = .ok (.iconst 0, 1) := dk_3 (dk_at dksX2_lambda_whyNotMade_7_0 16 rfl rfl)
theorem dX2_lambda_whyNotMade_7_17 : decode cX2_lambda_whyNotMade_7 17 = .ok (.ireturn, 1) := dk_172 (dk_at dksX2_lambda_whyNotMade_7_0 17 rfl rfl)
abbrev cX2_points : ByteArray := prog_19_method_18_code
def yX2_points : MethodName := ⟨RX2, "points", "(II)I"⟩
def dkwX2_points_1 : List UInt8 := [180, 0, 40, 28, 185, 0, 101, 2, 0, 192, 0, 62, 180, 0, 221, 16, 100, 108, 100, 172]
abbrev dktX2_points_1 : List UInt8 := dkwX2_points_1 ++ []
def dkwX2_points_0 : List UInt8 := [42, 180, 0, 37, 27, 185, 0, 101, 2, 0, 192, 0, 59, 78, 45, 180, 0, 212, 45, 182, 0, 218, 96, 42]
abbrev dktX2_points_0 : List UInt8 := dkwX2_points_0 ++ dktX2_points_1
theorem dksX2_points_0 : cX2_points.data.toList.drop 0 = dktX2_points_0 := by decide +kernel
theorem dksX2_points_1 : cX2_points.data.toList.drop 24 = dktX2_points_1 := dk_seg dksX2_points_0 24 rfl rfl
theorem dX2_points_0 : decode cX2_points 0 = .ok (.aload_n 0, 1) := dk_42 (dk_at dksX2_points_0 0 rfl rfl)
theorem dX2_points_1 : decode cX2_points 1 = .ok (.getfield 37, 3) := dk_180 0 37 (dk_at dksX2_points_0 1 rfl rfl)
theorem dX2_points_4 : decode cX2_points 4 = .ok (.iload_n 1, 1) := dk_27 (dk_at dksX2_points_0 4 rfl rfl)
theorem dX2_points_5 : decode cX2_points 5 = .ok (.invokeinterface 101 2, 5) := by decide +kernel
theorem dX2_points_10 : decode cX2_points 10 = .ok (.checkcast 59, 3) := dk_192 0 59 (dk_at dksX2_points_0 10 rfl rfl)
theorem dX2_points_13 : decode cX2_points 13 = .ok (.astore_n 3, 1) := dk_78 (dk_at dksX2_points_0 13 rfl rfl)
theorem dX2_points_14 : decode cX2_points 14 = .ok (.aload_n 3, 1) := dk_45 (dk_at dksX2_points_0 14 rfl rfl)
theorem dX2_points_15 : decode cX2_points 15 = .ok (.getfield 212, 3) := dk_180 0 212 (dk_at dksX2_points_0 15 rfl rfl)
theorem dX2_points_18 : decode cX2_points 18 = .ok (.aload_n 3, 1) := dk_45 (dk_at dksX2_points_0 18 rfl rfl)
theorem dX2_points_19 : decode cX2_points 19 = .ok (.invokevirtual 218, 3) := dk_182 0 218 (dk_at dksX2_points_0 19 rfl rfl)
theorem dX2_points_22 : decode cX2_points 22 = .ok (.iadd, 1) := dk_96 (dk_at dksX2_points_0 22 rfl rfl)
theorem dX2_points_23 : decode cX2_points 23 = .ok (.aload_n 0, 1) := dk_42 (dk_at dksX2_points_0 23 rfl rfl)
theorem dX2_points_24 : decode cX2_points 24 = .ok (.getfield 40, 3) := dk_180 0 40 (dk_at dksX2_points_1 0 rfl rfl)
theorem dX2_points_27 : decode cX2_points 27 = .ok (.iload_n 2, 1) := dk_28 (dk_at dksX2_points_1 3 rfl rfl)
theorem dX2_points_28 : decode cX2_points 28 = .ok (.invokeinterface 101 2, 5) := by decide +kernel
theorem dX2_points_33 : decode cX2_points 33 = .ok (.checkcast 62, 3) := dk_192 0 62 (dk_at dksX2_points_1 9 rfl rfl)
theorem dX2_points_36 : decode cX2_points 36 = .ok (.getfield 221, 3) := dk_180 0 221 (dk_at dksX2_points_1 12 rfl rfl)
theorem dX2_points_39 : decode cX2_points 39 = .ok (.bipush 100, 2) := dk_16 100 (dk_at dksX2_points_1 15 rfl rfl)
theorem dX2_points_41 : decode cX2_points 41 = .ok (.idiv, 1) := dk_108 (dk_at dksX2_points_1 17 rfl rfl)
theorem dX2_points_42 : decode cX2_points 42 = .ok (.isub, 1) := dk_100 (dk_at dksX2_points_1 18 rfl rfl)
theorem dX2_points_43 : decode cX2_points 43 = .ok (.ireturn, 1) := dk_172 (dk_at dksX2_points_1 19 rfl rfl)
abbrev cX2_pass : ByteArray := prog_19_method_26_code
def yX2_pass : MethodName := ⟨RX2, "pass", "(I)Z"⟩
def dkwX2_pass_1 : List UInt8 := [167, 255, 240, 28, 172]
abbrev dktX2_pass_1 : List UInt8 := dkwX2_pass_1 ++ []
def dkwX2_pass_0 : List UInt8 := [42, 27, 182, 1, 19, 61, 3, 62, 29, 27, 162, 0, 17, 28, 153, 0, 13, 42, 182, 1, 23, 132, 3, 1]
abbrev dktX2_pass_0 : List UInt8 := dkwX2_pass_0 ++ dktX2_pass_1
theorem dksX2_pass_0 : cX2_pass.data.toList.drop 0 = dktX2_pass_0 := by decide +kernel
theorem dksX2_pass_1 : cX2_pass.data.toList.drop 24 = dktX2_pass_1 := dk_seg dksX2_pass_0 24 rfl rfl
theorem dX2_pass_0 : decode cX2_pass 0 = .ok (.aload_n 0, 1) := dk_42 (dk_at dksX2_pass_0 0 rfl rfl)
theorem dX2_pass_1 : decode cX2_pass 1 = .ok (.iload_n 1, 1) := dk_27 (dk_at dksX2_pass_0 1 rfl rfl)
theorem dX2_pass_2 : decode cX2_pass 2 = .ok (.invokevirtual 275, 3) := dk_182 1 19 (dk_at dksX2_pass_0 2 rfl rfl)
theorem dX2_pass_5 : decode cX2_pass 5 = .ok (.istore_n 2, 1) := dk_61 (dk_at dksX2_pass_0 5 rfl rfl)
theorem dX2_pass_6 : decode cX2_pass 6 = .ok (.iconst 0, 1) := dk_3 (dk_at dksX2_pass_0 6 rfl rfl)
theorem dX2_pass_7 : decode cX2_pass 7 = .ok (.istore_n 3, 1) := dk_62 (dk_at dksX2_pass_0 7 rfl rfl)
theorem dX2_pass_8 : decode cX2_pass 8 = .ok (.iload_n 3, 1) := dk_29 (dk_at dksX2_pass_0 8 rfl rfl)
theorem dX2_pass_9 : decode cX2_pass 9 = .ok (.iload_n 1, 1) := dk_27 (dk_at dksX2_pass_0 9 rfl rfl)
theorem dX2_pass_10 : decode cX2_pass 10 = .ok (.if_icmp .ge 17, 3) := dk_162 0 17 (dk_at dksX2_pass_0 10 rfl rfl)
theorem dX2_pass_13 : decode cX2_pass 13 = .ok (.iload_n 2, 1) := dk_28 (dk_at dksX2_pass_0 13 rfl rfl)
theorem dX2_pass_14 : decode cX2_pass 14 = .ok (.ifCond .eq 13, 3) := dk_153 0 13 (dk_at dksX2_pass_0 14 rfl rfl)
theorem dX2_pass_17 : decode cX2_pass 17 = .ok (.aload_n 0, 1) := dk_42 (dk_at dksX2_pass_0 17 rfl rfl)
theorem dX2_pass_18 : decode cX2_pass 18 = .ok (.invokevirtual 279, 3) := dk_182 1 23 (dk_at dksX2_pass_0 18 rfl rfl)
theorem dX2_pass_21 : decode cX2_pass 21 = .ok (.iinc 3 1, 3) := dk_132 3 1 (dk_at dksX2_pass_0 21 rfl rfl)
theorem dX2_pass_24 : decode cX2_pass 24 = .ok (.goto (-16), 3) := dk_167 255 240 (dk_at dksX2_pass_1 0 rfl rfl)
theorem dX2_pass_27 : decode cX2_pass 27 = .ok (.iload_n 2, 1) := dk_28 (dk_at dksX2_pass_1 3 rfl rfl)
theorem dX2_pass_28 : decode cX2_pass 28 = .ok (.ireturn, 1) := dk_172 (dk_at dksX2_pass_1 4 rfl rfl)
abbrev cX2_canPass : ByteArray := prog_19_method_25_code
def yX2_canPass : MethodName := ⟨RX2, "canPass", "(I)Z"⟩
def dkwX2_canPass_0 : List UInt8 := [42, 180, 0, 73, 27, 96, 17, 3, 231, 163, 0, 7, 4, 167, 0, 4, 3, 172]
abbrev dktX2_canPass_0 : List UInt8 := dkwX2_canPass_0 ++ []
theorem dksX2_canPass_0 : cX2_canPass.data.toList.drop 0 = dktX2_canPass_0 := by decide +kernel
theorem dX2_canPass_0 : decode cX2_canPass 0 = .ok (.aload_n 0, 1) := dk_42 (dk_at dksX2_canPass_0 0 rfl rfl)
theorem dX2_canPass_1 : decode cX2_canPass 1 = .ok (.getfield 73, 3) := dk_180 0 73 (dk_at dksX2_canPass_0 1 rfl rfl)
theorem dX2_canPass_4 : decode cX2_canPass 4 = .ok (.iload_n 1, 1) := dk_27 (dk_at dksX2_canPass_0 4 rfl rfl)
theorem dX2_canPass_5 : decode cX2_canPass 5 = .ok (.iadd, 1) := dk_96 (dk_at dksX2_canPass_0 5 rfl rfl)
theorem dX2_canPass_6 : decode cX2_canPass 6 = .ok (.sipush 999, 3) := dk_17 3 231 (dk_at dksX2_canPass_0 6 rfl rfl)
theorem dX2_canPass_9 : decode cX2_canPass 9 = .ok (.if_icmp .gt 7, 3) := dk_163 0 7 (dk_at dksX2_canPass_0 9 rfl rfl)
theorem dX2_canPass_12 : decode cX2_canPass 12 = .ok (.iconst 1, 1) := dk_4 (dk_at dksX2_canPass_0 12 rfl rfl)
theorem dX2_canPass_13 : decode cX2_canPass 13 = .ok (.goto 4, 3) := dk_167 0 4 (dk_at dksX2_canPass_0 13 rfl rfl)
theorem dX2_canPass_16 : decode cX2_canPass 16 = .ok (.iconst 0, 1) := dk_3 (dk_at dksX2_canPass_0 16 rfl rfl)
theorem dX2_canPass_17 : decode cX2_canPass 17 = .ok (.ireturn, 1) := dk_172 (dk_at dksX2_canPass_0 17 rfl rfl)
abbrev cX2_drySheets : ByteArray := prog_19_method_22_code
def yX2_drySheets : MethodName := ⟨RX2, "drySheets", "(ILPaperMill$Size;LPaperMill$Grade;)I"⟩
def dkwX2_drySheets_3 : List UInt8 := [132, 5, 1, 167, 255, 190, 21, 4, 172]
abbrev dktX2_drySheets_3 : List UInt8 := dkwX2_drySheets_3 ++ []
def dkwX2_drySheets_2 : List UInt8 := [180, 0, 43, 21, 5, 185, 0, 101, 2, 0, 192, 0, 120, 180, 1, 13, 167, 0, 4, 3, 96, 54, 4]
abbrev dktX2_drySheets_2 : List UInt8 := dkwX2_drySheets_2 ++ dktX2_drySheets_3
def dkwX2_drySheets_1 : List UInt8 := [180, 0, 43, 21, 5, 185, 0, 101, 2, 0, 192, 0, 120, 27, 44, 45, 182, 1, 9, 153, 0, 23, 42]
abbrev dktX2_drySheets_1 : List UInt8 := dkwX2_drySheets_1 ++ dktX2_drySheets_2
def dkwX2_drySheets_0 : List UInt8 := [3, 54, 4, 3, 54, 5, 21, 5, 42, 180, 0, 43, 185, 0, 97, 1, 0, 162, 0, 58, 21, 4, 42]
abbrev dktX2_drySheets_0 : List UInt8 := dkwX2_drySheets_0 ++ dktX2_drySheets_1
theorem dksX2_drySheets_0 : cX2_drySheets.data.toList.drop 0 = dktX2_drySheets_0 := by decide +kernel
theorem dksX2_drySheets_1 : cX2_drySheets.data.toList.drop 23 = dktX2_drySheets_1 := dk_seg dksX2_drySheets_0 23 rfl rfl
theorem dksX2_drySheets_2 : cX2_drySheets.data.toList.drop 46 = dktX2_drySheets_2 := dk_seg dksX2_drySheets_1 23 rfl rfl
theorem dksX2_drySheets_3 : cX2_drySheets.data.toList.drop 69 = dktX2_drySheets_3 := dk_seg dksX2_drySheets_2 23 rfl rfl
theorem dX2_drySheets_0 : decode cX2_drySheets 0 = .ok (.iconst 0, 1) := dk_3 (dk_at dksX2_drySheets_0 0 rfl rfl)
theorem dX2_drySheets_1 : decode cX2_drySheets 1 = .ok (.istore 4, 2) := dk_54 4 (dk_at dksX2_drySheets_0 1 rfl rfl)
theorem dX2_drySheets_3 : decode cX2_drySheets 3 = .ok (.iconst 0, 1) := dk_3 (dk_at dksX2_drySheets_0 3 rfl rfl)
theorem dX2_drySheets_4 : decode cX2_drySheets 4 = .ok (.istore 5, 2) := dk_54 5 (dk_at dksX2_drySheets_0 4 rfl rfl)
theorem dX2_drySheets_6 : decode cX2_drySheets 6 = .ok (.iload 5, 2) := dk_21 5 (dk_at dksX2_drySheets_0 6 rfl rfl)
theorem dX2_drySheets_8 : decode cX2_drySheets 8 = .ok (.aload_n 0, 1) := dk_42 (dk_at dksX2_drySheets_0 8 rfl rfl)
theorem dX2_drySheets_9 : decode cX2_drySheets 9 = .ok (.getfield 43, 3) := dk_180 0 43 (dk_at dksX2_drySheets_0 9 rfl rfl)
theorem dX2_drySheets_12 : decode cX2_drySheets 12 = .ok (.invokeinterface 97 1, 5) := by decide +kernel
theorem dX2_drySheets_17 : decode cX2_drySheets 17 = .ok (.if_icmp .ge 58, 3) := dk_162 0 58 (dk_at dksX2_drySheets_0 17 rfl rfl)
theorem dX2_drySheets_20 : decode cX2_drySheets 20 = .ok (.iload 4, 2) := dk_21 4 (dk_at dksX2_drySheets_0 20 rfl rfl)
theorem dX2_drySheets_22 : decode cX2_drySheets 22 = .ok (.aload_n 0, 1) := dk_42 (dk_at dksX2_drySheets_0 22 rfl rfl)
theorem dX2_drySheets_23 : decode cX2_drySheets 23 = .ok (.getfield 43, 3) := dk_180 0 43 (dk_at dksX2_drySheets_1 0 rfl rfl)
theorem dX2_drySheets_26 : decode cX2_drySheets 26 = .ok (.iload 5, 2) := dk_21 5 (dk_at dksX2_drySheets_1 3 rfl rfl)
theorem dX2_drySheets_28 : decode cX2_drySheets 28 = .ok (.invokeinterface 101 2, 5) := by decide +kernel
theorem dX2_drySheets_33 : decode cX2_drySheets 33 = .ok (.checkcast 120, 3) := dk_192 0 120 (dk_at dksX2_drySheets_1 10 rfl rfl)
theorem dX2_drySheets_36 : decode cX2_drySheets 36 = .ok (.iload_n 1, 1) := dk_27 (dk_at dksX2_drySheets_1 13 rfl rfl)
theorem dX2_drySheets_37 : decode cX2_drySheets 37 = .ok (.aload_n 2, 1) := dk_44 (dk_at dksX2_drySheets_1 14 rfl rfl)
theorem dX2_drySheets_38 : decode cX2_drySheets 38 = .ok (.aload_n 3, 1) := dk_45 (dk_at dksX2_drySheets_1 15 rfl rfl)
theorem dX2_drySheets_39 : decode cX2_drySheets 39 = .ok (.invokevirtual 265, 3) := dk_182 1 9 (dk_at dksX2_drySheets_1 16 rfl rfl)
theorem dX2_drySheets_42 : decode cX2_drySheets 42 = .ok (.ifCond .eq 23, 3) := dk_153 0 23 (dk_at dksX2_drySheets_1 19 rfl rfl)
theorem dX2_drySheets_45 : decode cX2_drySheets 45 = .ok (.aload_n 0, 1) := dk_42 (dk_at dksX2_drySheets_1 22 rfl rfl)
theorem dX2_drySheets_46 : decode cX2_drySheets 46 = .ok (.getfield 43, 3) := dk_180 0 43 (dk_at dksX2_drySheets_2 0 rfl rfl)
theorem dX2_drySheets_49 : decode cX2_drySheets 49 = .ok (.iload 5, 2) := dk_21 5 (dk_at dksX2_drySheets_2 3 rfl rfl)
theorem dX2_drySheets_51 : decode cX2_drySheets 51 = .ok (.invokeinterface 101 2, 5) := by decide +kernel
theorem dX2_drySheets_56 : decode cX2_drySheets 56 = .ok (.checkcast 120, 3) := dk_192 0 120 (dk_at dksX2_drySheets_2 10 rfl rfl)
theorem dX2_drySheets_59 : decode cX2_drySheets 59 = .ok (.getfield 269, 3) := dk_180 1 13 (dk_at dksX2_drySheets_2 13 rfl rfl)
theorem dX2_drySheets_62 : decode cX2_drySheets 62 = .ok (.goto 4, 3) := dk_167 0 4 (dk_at dksX2_drySheets_2 16 rfl rfl)
theorem dX2_drySheets_65 : decode cX2_drySheets 65 = .ok (.iconst 0, 1) := dk_3 (dk_at dksX2_drySheets_2 19 rfl rfl)
theorem dX2_drySheets_66 : decode cX2_drySheets 66 = .ok (.iadd, 1) := dk_96 (dk_at dksX2_drySheets_2 20 rfl rfl)
theorem dX2_drySheets_67 : decode cX2_drySheets 67 = .ok (.istore 4, 2) := dk_54 4 (dk_at dksX2_drySheets_2 21 rfl rfl)
theorem dX2_drySheets_69 : decode cX2_drySheets 69 = .ok (.iinc 5 1, 3) := dk_132 5 1 (dk_at dksX2_drySheets_3 0 rfl rfl)
theorem dX2_drySheets_72 : decode cX2_drySheets 72 = .ok (.goto (-66), 3) := dk_167 255 190 (dk_at dksX2_drySheets_3 3 rfl rfl)
theorem dX2_drySheets_75 : decode cX2_drySheets 75 = .ok (.iload 4, 2) := dk_21 4 (dk_at dksX2_drySheets_3 6 rfl rfl)
theorem dX2_drySheets_77 : decode cX2_drySheets 77 = .ok (.ireturn, 1) := dk_172 (dk_at dksX2_drySheets_3 8 rfl rfl)
abbrev cX2_hasRoomForReam : ByteArray := prog_19_method_23_code
def yX2_hasRoomForReam : MethodName := ⟨RX2, "hasRoomForReam", "()Z"⟩
def dkwX2_hasRoomForReam_0 : List UInt8 := [42, 180, 0, 46, 185, 0, 97, 1, 0, 16, 30, 162, 0, 7, 4, 167, 0, 4, 3, 172]
abbrev dktX2_hasRoomForReam_0 : List UInt8 := dkwX2_hasRoomForReam_0 ++ []
theorem dksX2_hasRoomForReam_0 : cX2_hasRoomForReam.data.toList.drop 0 = dktX2_hasRoomForReam_0 := by decide +kernel
theorem dX2_hasRoomForReam_0 : decode cX2_hasRoomForReam 0 = .ok (.aload_n 0, 1) := dk_42 (dk_at dksX2_hasRoomForReam_0 0 rfl rfl)
theorem dX2_hasRoomForReam_1 : decode cX2_hasRoomForReam 1 = .ok (.getfield 46, 3) := dk_180 0 46 (dk_at dksX2_hasRoomForReam_0 1 rfl rfl)
theorem dX2_hasRoomForReam_4 : decode cX2_hasRoomForReam 4 = .ok (.invokeinterface 97 1, 5) := by decide +kernel
theorem dX2_hasRoomForReam_9 : decode cX2_hasRoomForReam 9 = .ok (.bipush 30, 2) := dk_16 30 (dk_at dksX2_hasRoomForReam_0 9 rfl rfl)
theorem dX2_hasRoomForReam_11 : decode cX2_hasRoomForReam 11 = .ok (.if_icmp .ge 7, 3) := dk_162 0 7 (dk_at dksX2_hasRoomForReam_0 11 rfl rfl)
theorem dX2_hasRoomForReam_14 : decode cX2_hasRoomForReam 14 = .ok (.iconst 1, 1) := dk_4 (dk_at dksX2_hasRoomForReam_0 14 rfl rfl)
theorem dX2_hasRoomForReam_15 : decode cX2_hasRoomForReam 15 = .ok (.goto 4, 3) := dk_167 0 4 (dk_at dksX2_hasRoomForReam_0 15 rfl rfl)
theorem dX2_hasRoomForReam_18 : decode cX2_hasRoomForReam 18 = .ok (.iconst 0, 1) := dk_3 (dk_at dksX2_hasRoomForReam_0 18 rfl rfl)
theorem dX2_hasRoomForReam_19 : decode cX2_hasRoomForReam 19 = .ok (.ireturn, 1) := dk_172 (dk_at dksX2_hasRoomForReam_0 19 rfl rfl)
abbrev cX2_pack : ByteArray := prog_19_method_24_code
def yX2_pack : MethodName := ⟨RX2, "pack", "(ILPaperMill$Size;LPaperMill$Grade;I)V"⟩
def dkwX2_pack_7 : List UInt8 := [89, 44, 45, 21, 4, 183, 1, 16, 185, 0, 53, 2, 0, 87, 177]
abbrev dktX2_pack_7 : List UInt8 := dkwX2_pack_7 ++ []
def dkwX2_pack_6 : List UInt8 := [180, 0, 43, 21, 6, 185, 0, 177, 2, 0, 87, 132, 6, 255, 167, 255, 216, 42, 180, 0, 46, 187, 0, 125]
abbrev dktX2_pack_6 : List UInt8 := dkwX2_pack_6 ++ dktX2_pack_7
def dkwX2_pack_5 : List UInt8 := [155, 0, 41, 42, 180, 0, 43, 21, 6, 185, 0, 101, 2, 0, 192, 0, 120, 180, 1, 13, 154, 0, 15, 42]
abbrev dktX2_pack_5 : List UInt8 := dkwX2_pack_5 ++ dktX2_pack_6
def dkwX2_pack_4 : List UInt8 := [54, 5, 132, 6, 1, 167, 255, 166, 42, 180, 0, 43, 185, 0, 97, 1, 0, 4, 100, 54, 6, 21, 6]
abbrev dktX2_pack_4 : List UInt8 := dkwX2_pack_4 ++ dktX2_pack_5
def dkwX2_pack_3 : List UInt8 := [167, 0, 5, 21, 5, 54, 8, 25, 7, 89, 180, 1, 13, 21, 8, 100, 181, 1, 13, 21, 5, 21, 8, 100]
abbrev dktX2_pack_3 : List UInt8 := dkwX2_pack_3 ++ dktX2_pack_4
def dkwX2_pack_2 : List UInt8 := [44, 45, 182, 1, 9, 153, 0, 44, 25, 7, 180, 1, 13, 21, 5, 162, 0, 11, 25, 7, 180, 1, 13]
abbrev dktX2_pack_2 : List UInt8 := dkwX2_pack_2 ++ dktX2_pack_3
def dkwX2_pack_1 : List UInt8 := [21, 5, 158, 0, 77, 42, 180, 0, 43, 21, 6, 185, 0, 101, 2, 0, 192, 0, 120, 58, 7, 25, 7, 27]
abbrev dktX2_pack_1 : List UInt8 := dkwX2_pack_1 ++ dktX2_pack_2
def dkwX2_pack_0 : List UInt8 := [16, 24, 21, 4, 104, 54, 5, 3, 54, 6, 21, 6, 42, 180, 0, 43, 185, 0, 97, 1, 0, 162, 0, 82]
abbrev dktX2_pack_0 : List UInt8 := dkwX2_pack_0 ++ dktX2_pack_1
theorem dksX2_pack_0 : cX2_pack.data.toList.drop 0 = dktX2_pack_0 := by decide +kernel
theorem dksX2_pack_1 : cX2_pack.data.toList.drop 24 = dktX2_pack_1 := dk_seg dksX2_pack_0 24 rfl rfl
theorem dksX2_pack_2 : cX2_pack.data.toList.drop 48 = dktX2_pack_2 := dk_seg dksX2_pack_1 24 rfl rfl
theorem dksX2_pack_3 : cX2_pack.data.toList.drop 71 = dktX2_pack_3 := dk_seg dksX2_pack_2 23 rfl rfl
theorem dksX2_pack_4 : cX2_pack.data.toList.drop 95 = dktX2_pack_4 := dk_seg dksX2_pack_3 24 rfl rfl
theorem dksX2_pack_5 : cX2_pack.data.toList.drop 118 = dktX2_pack_5 := dk_seg dksX2_pack_4 23 rfl rfl
theorem dksX2_pack_6 : cX2_pack.data.toList.drop 142 = dktX2_pack_6 := dk_seg dksX2_pack_5 24 rfl rfl
theorem dksX2_pack_7 : cX2_pack.data.toList.drop 166 = dktX2_pack_7 := dk_seg dksX2_pack_6 24 rfl rfl
theorem dX2_pack_0 : decode cX2_pack 0 = .ok (.bipush 24, 2) := dk_16 24 (dk_at dksX2_pack_0 0 rfl rfl)
theorem dX2_pack_2 : decode cX2_pack 2 = .ok (.iload 4, 2) := dk_21 4 (dk_at dksX2_pack_0 2 rfl rfl)
theorem dX2_pack_4 : decode cX2_pack 4 = .ok (.imul, 1) := dk_104 (dk_at dksX2_pack_0 4 rfl rfl)
theorem dX2_pack_5 : decode cX2_pack 5 = .ok (.istore 5, 2) := dk_54 5 (dk_at dksX2_pack_0 5 rfl rfl)
theorem dX2_pack_7 : decode cX2_pack 7 = .ok (.iconst 0, 1) := dk_3 (dk_at dksX2_pack_0 7 rfl rfl)
theorem dX2_pack_8 : decode cX2_pack 8 = .ok (.istore 6, 2) := dk_54 6 (dk_at dksX2_pack_0 8 rfl rfl)
theorem dX2_pack_10 : decode cX2_pack 10 = .ok (.iload 6, 2) := dk_21 6 (dk_at dksX2_pack_0 10 rfl rfl)
theorem dX2_pack_12 : decode cX2_pack 12 = .ok (.aload_n 0, 1) := dk_42 (dk_at dksX2_pack_0 12 rfl rfl)
theorem dX2_pack_13 : decode cX2_pack 13 = .ok (.getfield 43, 3) := dk_180 0 43 (dk_at dksX2_pack_0 13 rfl rfl)
theorem dX2_pack_16 : decode cX2_pack 16 = .ok (.invokeinterface 97 1, 5) := by decide +kernel
theorem dX2_pack_21 : decode cX2_pack 21 = .ok (.if_icmp .ge 82, 3) := dk_162 0 82 (dk_at dksX2_pack_0 21 rfl rfl)
theorem dX2_pack_24 : decode cX2_pack 24 = .ok (.iload 5, 2) := dk_21 5 (dk_at dksX2_pack_1 0 rfl rfl)
theorem dX2_pack_26 : decode cX2_pack 26 = .ok (.ifCond .le 77, 3) := dk_158 0 77 (dk_at dksX2_pack_1 2 rfl rfl)
theorem dX2_pack_29 : decode cX2_pack 29 = .ok (.aload_n 0, 1) := dk_42 (dk_at dksX2_pack_1 5 rfl rfl)
theorem dX2_pack_30 : decode cX2_pack 30 = .ok (.getfield 43, 3) := dk_180 0 43 (dk_at dksX2_pack_1 6 rfl rfl)
theorem dX2_pack_33 : decode cX2_pack 33 = .ok (.iload 6, 2) := dk_21 6 (dk_at dksX2_pack_1 9 rfl rfl)
theorem dX2_pack_35 : decode cX2_pack 35 = .ok (.invokeinterface 101 2, 5) := by decide +kernel
theorem dX2_pack_40 : decode cX2_pack 40 = .ok (.checkcast 120, 3) := dk_192 0 120 (dk_at dksX2_pack_1 16 rfl rfl)
theorem dX2_pack_43 : decode cX2_pack 43 = .ok (.astore 7, 2) := dk_58 7 (dk_at dksX2_pack_1 19 rfl rfl)
theorem dX2_pack_45 : decode cX2_pack 45 = .ok (.aload 7, 2) := dk_25 7 (dk_at dksX2_pack_1 21 rfl rfl)
theorem dX2_pack_47 : decode cX2_pack 47 = .ok (.iload_n 1, 1) := dk_27 (dk_at dksX2_pack_1 23 rfl rfl)
theorem dX2_pack_48 : decode cX2_pack 48 = .ok (.aload_n 2, 1) := dk_44 (dk_at dksX2_pack_2 0 rfl rfl)
theorem dX2_pack_49 : decode cX2_pack 49 = .ok (.aload_n 3, 1) := dk_45 (dk_at dksX2_pack_2 1 rfl rfl)
theorem dX2_pack_50 : decode cX2_pack 50 = .ok (.invokevirtual 265, 3) := dk_182 1 9 (dk_at dksX2_pack_2 2 rfl rfl)
theorem dX2_pack_53 : decode cX2_pack 53 = .ok (.ifCond .eq 44, 3) := dk_153 0 44 (dk_at dksX2_pack_2 5 rfl rfl)
theorem dX2_pack_56 : decode cX2_pack 56 = .ok (.aload 7, 2) := dk_25 7 (dk_at dksX2_pack_2 8 rfl rfl)
theorem dX2_pack_58 : decode cX2_pack 58 = .ok (.getfield 269, 3) := dk_180 1 13 (dk_at dksX2_pack_2 10 rfl rfl)
theorem dX2_pack_61 : decode cX2_pack 61 = .ok (.iload 5, 2) := dk_21 5 (dk_at dksX2_pack_2 13 rfl rfl)
theorem dX2_pack_63 : decode cX2_pack 63 = .ok (.if_icmp .ge 11, 3) := dk_162 0 11 (dk_at dksX2_pack_2 15 rfl rfl)
theorem dX2_pack_66 : decode cX2_pack 66 = .ok (.aload 7, 2) := dk_25 7 (dk_at dksX2_pack_2 18 rfl rfl)
theorem dX2_pack_68 : decode cX2_pack 68 = .ok (.getfield 269, 3) := dk_180 1 13 (dk_at dksX2_pack_2 20 rfl rfl)
theorem dX2_pack_71 : decode cX2_pack 71 = .ok (.goto 5, 3) := dk_167 0 5 (dk_at dksX2_pack_3 0 rfl rfl)
theorem dX2_pack_74 : decode cX2_pack 74 = .ok (.iload 5, 2) := dk_21 5 (dk_at dksX2_pack_3 3 rfl rfl)
theorem dX2_pack_76 : decode cX2_pack 76 = .ok (.istore 8, 2) := dk_54 8 (dk_at dksX2_pack_3 5 rfl rfl)
theorem dX2_pack_78 : decode cX2_pack 78 = .ok (.aload 7, 2) := dk_25 7 (dk_at dksX2_pack_3 7 rfl rfl)
theorem dX2_pack_80 : decode cX2_pack 80 = .ok (.dup, 1) := dk_89 (dk_at dksX2_pack_3 9 rfl rfl)
theorem dX2_pack_81 : decode cX2_pack 81 = .ok (.getfield 269, 3) := dk_180 1 13 (dk_at dksX2_pack_3 10 rfl rfl)
theorem dX2_pack_84 : decode cX2_pack 84 = .ok (.iload 8, 2) := dk_21 8 (dk_at dksX2_pack_3 13 rfl rfl)
theorem dX2_pack_86 : decode cX2_pack 86 = .ok (.isub, 1) := dk_100 (dk_at dksX2_pack_3 15 rfl rfl)
theorem dX2_pack_87 : decode cX2_pack 87 = .ok (.putfield 269, 3) := dk_181 1 13 (dk_at dksX2_pack_3 16 rfl rfl)
theorem dX2_pack_90 : decode cX2_pack 90 = .ok (.iload 5, 2) := dk_21 5 (dk_at dksX2_pack_3 19 rfl rfl)
theorem dX2_pack_92 : decode cX2_pack 92 = .ok (.iload 8, 2) := dk_21 8 (dk_at dksX2_pack_3 21 rfl rfl)
theorem dX2_pack_94 : decode cX2_pack 94 = .ok (.isub, 1) := dk_100 (dk_at dksX2_pack_3 23 rfl rfl)
theorem dX2_pack_95 : decode cX2_pack 95 = .ok (.istore 5, 2) := dk_54 5 (dk_at dksX2_pack_4 0 rfl rfl)
theorem dX2_pack_97 : decode cX2_pack 97 = .ok (.iinc 6 1, 3) := dk_132 6 1 (dk_at dksX2_pack_4 2 rfl rfl)
theorem dX2_pack_100 : decode cX2_pack 100 = .ok (.goto (-90), 3) := dk_167 255 166 (dk_at dksX2_pack_4 5 rfl rfl)
theorem dX2_pack_103 : decode cX2_pack 103 = .ok (.aload_n 0, 1) := dk_42 (dk_at dksX2_pack_4 8 rfl rfl)
theorem dX2_pack_104 : decode cX2_pack 104 = .ok (.getfield 43, 3) := dk_180 0 43 (dk_at dksX2_pack_4 9 rfl rfl)
theorem dX2_pack_107 : decode cX2_pack 107 = .ok (.invokeinterface 97 1, 5) := by decide +kernel
theorem dX2_pack_112 : decode cX2_pack 112 = .ok (.iconst 1, 1) := dk_4 (dk_at dksX2_pack_4 17 rfl rfl)
theorem dX2_pack_113 : decode cX2_pack 113 = .ok (.isub, 1) := dk_100 (dk_at dksX2_pack_4 18 rfl rfl)
theorem dX2_pack_114 : decode cX2_pack 114 = .ok (.istore 6, 2) := dk_54 6 (dk_at dksX2_pack_4 19 rfl rfl)
theorem dX2_pack_116 : decode cX2_pack 116 = .ok (.iload 6, 2) := dk_21 6 (dk_at dksX2_pack_4 21 rfl rfl)
theorem dX2_pack_118 : decode cX2_pack 118 = .ok (.ifCond .lt 41, 3) := dk_155 0 41 (dk_at dksX2_pack_5 0 rfl rfl)
theorem dX2_pack_121 : decode cX2_pack 121 = .ok (.aload_n 0, 1) := dk_42 (dk_at dksX2_pack_5 3 rfl rfl)
theorem dX2_pack_122 : decode cX2_pack 122 = .ok (.getfield 43, 3) := dk_180 0 43 (dk_at dksX2_pack_5 4 rfl rfl)
theorem dX2_pack_125 : decode cX2_pack 125 = .ok (.iload 6, 2) := dk_21 6 (dk_at dksX2_pack_5 7 rfl rfl)
theorem dX2_pack_127 : decode cX2_pack 127 = .ok (.invokeinterface 101 2, 5) := by decide +kernel
theorem dX2_pack_132 : decode cX2_pack 132 = .ok (.checkcast 120, 3) := dk_192 0 120 (dk_at dksX2_pack_5 14 rfl rfl)
theorem dX2_pack_135 : decode cX2_pack 135 = .ok (.getfield 269, 3) := dk_180 1 13 (dk_at dksX2_pack_5 17 rfl rfl)
theorem dX2_pack_138 : decode cX2_pack 138 = .ok (.ifCond .ne 15, 3) := dk_154 0 15 (dk_at dksX2_pack_5 20 rfl rfl)
theorem dX2_pack_141 : decode cX2_pack 141 = .ok (.aload_n 0, 1) := dk_42 (dk_at dksX2_pack_5 23 rfl rfl)
theorem dX2_pack_142 : decode cX2_pack 142 = .ok (.getfield 43, 3) := dk_180 0 43 (dk_at dksX2_pack_6 0 rfl rfl)
theorem dX2_pack_145 : decode cX2_pack 145 = .ok (.iload 6, 2) := dk_21 6 (dk_at dksX2_pack_6 3 rfl rfl)
theorem dX2_pack_147 : decode cX2_pack 147 = .ok (.invokeinterface 177 2, 5) := by decide +kernel
theorem dX2_pack_152 : decode cX2_pack 152 = .ok (.pop, 1) := dk_87 (dk_at dksX2_pack_6 10 rfl rfl)
theorem dX2_pack_153 : decode cX2_pack 153 = .ok (.iinc 6 (-1), 3) := dk_132 6 255 (dk_at dksX2_pack_6 11 rfl rfl)
theorem dX2_pack_156 : decode cX2_pack 156 = .ok (.goto (-40), 3) := dk_167 255 216 (dk_at dksX2_pack_6 14 rfl rfl)
theorem dX2_pack_159 : decode cX2_pack 159 = .ok (.aload_n 0, 1) := dk_42 (dk_at dksX2_pack_6 17 rfl rfl)
theorem dX2_pack_160 : decode cX2_pack 160 = .ok (.getfield 46, 3) := dk_180 0 46 (dk_at dksX2_pack_6 18 rfl rfl)
theorem dX2_pack_163 : decode cX2_pack 163 = .ok (.new 125, 3) := dk_187 0 125 (dk_at dksX2_pack_6 21 rfl rfl)
theorem dX2_pack_166 : decode cX2_pack 166 = .ok (.dup, 1) := dk_89 (dk_at dksX2_pack_7 0 rfl rfl)
theorem dX2_pack_167 : decode cX2_pack 167 = .ok (.aload_n 2, 1) := dk_44 (dk_at dksX2_pack_7 1 rfl rfl)
theorem dX2_pack_168 : decode cX2_pack 168 = .ok (.aload_n 3, 1) := dk_45 (dk_at dksX2_pack_7 2 rfl rfl)
theorem dX2_pack_169 : decode cX2_pack 169 = .ok (.iload 4, 2) := dk_21 4 (dk_at dksX2_pack_7 3 rfl rfl)
theorem dX2_pack_171 : decode cX2_pack 171 = .ok (.invokespecial 272, 3) := dk_183 1 16 (dk_at dksX2_pack_7 5 rfl rfl)
theorem dX2_pack_174 : decode cX2_pack 174 = .ok (.invokeinterface 53 2, 5) := by decide +kernel
theorem dX2_pack_179 : decode cX2_pack 179 = .ok (.pop, 1) := dk_87 (dk_at dksX2_pack_7 13 rfl rfl)
theorem dX2_pack_180 : decode cX2_pack 180 = .ok (.return_, 1) := dk_177 (dk_at dksX2_pack_7 14 rfl rfl)
abbrev cX2_mouldReach : ByteArray := prog_19_method_13_code
def yX2_mouldReach : MethodName := ⟨RX2, "mouldReach", "(I)I"⟩
def dkwX2_mouldReach_0 : List UInt8 := [42, 27, 4, 182, 0, 184, 42, 27, 2, 182, 0, 184, 96, 172]
abbrev dktX2_mouldReach_0 : List UInt8 := dkwX2_mouldReach_0 ++ []
theorem dksX2_mouldReach_0 : cX2_mouldReach.data.toList.drop 0 = dktX2_mouldReach_0 := by decide +kernel
theorem dX2_mouldReach_0 : decode cX2_mouldReach 0 = .ok (.aload_n 0, 1) := dk_42 (dk_at dksX2_mouldReach_0 0 rfl rfl)
theorem dX2_mouldReach_1 : decode cX2_mouldReach 1 = .ok (.iload_n 1, 1) := dk_27 (dk_at dksX2_mouldReach_0 1 rfl rfl)
theorem dX2_mouldReach_2 : decode cX2_mouldReach 2 = .ok (.iconst 1, 1) := dk_4 (dk_at dksX2_mouldReach_0 2 rfl rfl)
theorem dX2_mouldReach_3 : decode cX2_mouldReach 3 = .ok (.invokevirtual 184, 3) := dk_182 0 184 (dk_at dksX2_mouldReach_0 3 rfl rfl)
theorem dX2_mouldReach_6 : decode cX2_mouldReach 6 = .ok (.aload_n 0, 1) := dk_42 (dk_at dksX2_mouldReach_0 6 rfl rfl)
theorem dX2_mouldReach_7 : decode cX2_mouldReach 7 = .ok (.iload_n 1, 1) := dk_27 (dk_at dksX2_mouldReach_0 7 rfl rfl)
theorem dX2_mouldReach_8 : decode cX2_mouldReach 8 = .ok (.iconst (-1), 1) := dk_2 (dk_at dksX2_mouldReach_0 8 rfl rfl)
theorem dX2_mouldReach_9 : decode cX2_mouldReach 9 = .ok (.invokevirtual 184, 3) := dk_182 0 184 (dk_at dksX2_mouldReach_0 9 rfl rfl)
theorem dX2_mouldReach_12 : decode cX2_mouldReach 12 = .ok (.iadd, 1) := dk_96 (dk_at dksX2_mouldReach_0 12 rfl rfl)
theorem dX2_mouldReach_13 : decode cX2_mouldReach 13 = .ok (.ireturn, 1) := dk_172 (dk_at dksX2_mouldReach_0 13 rfl rfl)
abbrev cX2_reach : ByteArray := prog_19_method_12_code
def yX2_reach : MethodName := ⟨RX2, "reach", "(II)I"⟩
def dkwX2_reach_2 : List UInt8 := [132, 3, 1, 21, 4, 28, 96, 54, 4, 167, 255, 208, 29, 172]
abbrev dktX2_reach_2 : List UInt8 := dkwX2_reach_2 ++ []
def dkwX2_reach_1 : List UInt8 := [162, 0, 35, 42, 180, 0, 34, 21, 4, 185, 0, 101, 2, 0, 192, 0, 109, 182, 0, 180, 153, 0, 15]
abbrev dktX2_reach_1 : List UInt8 := dkwX2_reach_1 ++ dktX2_reach_2
def dkwX2_reach_0 : List UInt8 := [3, 62, 27, 28, 96, 54, 4, 21, 4, 155, 0, 49, 21, 4, 42, 180, 0, 34, 185, 0, 97, 1, 0]
abbrev dktX2_reach_0 : List UInt8 := dkwX2_reach_0 ++ dktX2_reach_1
theorem dksX2_reach_0 : cX2_reach.data.toList.drop 0 = dktX2_reach_0 := by decide +kernel
theorem dksX2_reach_1 : cX2_reach.data.toList.drop 23 = dktX2_reach_1 := dk_seg dksX2_reach_0 23 rfl rfl
theorem dksX2_reach_2 : cX2_reach.data.toList.drop 46 = dktX2_reach_2 := dk_seg dksX2_reach_1 23 rfl rfl
theorem dX2_reach_0 : decode cX2_reach 0 = .ok (.iconst 0, 1) := dk_3 (dk_at dksX2_reach_0 0 rfl rfl)
theorem dX2_reach_1 : decode cX2_reach 1 = .ok (.istore_n 3, 1) := dk_62 (dk_at dksX2_reach_0 1 rfl rfl)
theorem dX2_reach_2 : decode cX2_reach 2 = .ok (.iload_n 1, 1) := dk_27 (dk_at dksX2_reach_0 2 rfl rfl)
theorem dX2_reach_3 : decode cX2_reach 3 = .ok (.iload_n 2, 1) := dk_28 (dk_at dksX2_reach_0 3 rfl rfl)
theorem dX2_reach_4 : decode cX2_reach 4 = .ok (.iadd, 1) := dk_96 (dk_at dksX2_reach_0 4 rfl rfl)
theorem dX2_reach_5 : decode cX2_reach 5 = .ok (.istore 4, 2) := dk_54 4 (dk_at dksX2_reach_0 5 rfl rfl)
theorem dX2_reach_7 : decode cX2_reach 7 = .ok (.iload 4, 2) := dk_21 4 (dk_at dksX2_reach_0 7 rfl rfl)
theorem dX2_reach_9 : decode cX2_reach 9 = .ok (.ifCond .lt 49, 3) := dk_155 0 49 (dk_at dksX2_reach_0 9 rfl rfl)
theorem dX2_reach_12 : decode cX2_reach 12 = .ok (.iload 4, 2) := dk_21 4 (dk_at dksX2_reach_0 12 rfl rfl)
theorem dX2_reach_14 : decode cX2_reach 14 = .ok (.aload_n 0, 1) := dk_42 (dk_at dksX2_reach_0 14 rfl rfl)
theorem dX2_reach_15 : decode cX2_reach 15 = .ok (.getfield 34, 3) := dk_180 0 34 (dk_at dksX2_reach_0 15 rfl rfl)
theorem dX2_reach_18 : decode cX2_reach 18 = .ok (.invokeinterface 97 1, 5) := by decide +kernel
theorem dX2_reach_23 : decode cX2_reach 23 = .ok (.if_icmp .ge 35, 3) := dk_162 0 35 (dk_at dksX2_reach_1 0 rfl rfl)
theorem dX2_reach_26 : decode cX2_reach 26 = .ok (.aload_n 0, 1) := dk_42 (dk_at dksX2_reach_1 3 rfl rfl)
theorem dX2_reach_27 : decode cX2_reach 27 = .ok (.getfield 34, 3) := dk_180 0 34 (dk_at dksX2_reach_1 4 rfl rfl)
theorem dX2_reach_30 : decode cX2_reach 30 = .ok (.iload 4, 2) := dk_21 4 (dk_at dksX2_reach_1 7 rfl rfl)
theorem dX2_reach_32 : decode cX2_reach 32 = .ok (.invokeinterface 101 2, 5) := by decide +kernel
theorem dX2_reach_37 : decode cX2_reach 37 = .ok (.checkcast 109, 3) := dk_192 0 109 (dk_at dksX2_reach_1 14 rfl rfl)
theorem dX2_reach_40 : decode cX2_reach 40 = .ok (.invokevirtual 180, 3) := dk_182 0 180 (dk_at dksX2_reach_1 17 rfl rfl)
theorem dX2_reach_43 : decode cX2_reach 43 = .ok (.ifCond .eq 15, 3) := dk_153 0 15 (dk_at dksX2_reach_1 20 rfl rfl)
theorem dX2_reach_46 : decode cX2_reach 46 = .ok (.iinc 3 1, 3) := dk_132 3 1 (dk_at dksX2_reach_2 0 rfl rfl)
theorem dX2_reach_49 : decode cX2_reach 49 = .ok (.iload 4, 2) := dk_21 4 (dk_at dksX2_reach_2 3 rfl rfl)
theorem dX2_reach_51 : decode cX2_reach 51 = .ok (.iload_n 2, 1) := dk_28 (dk_at dksX2_reach_2 5 rfl rfl)
theorem dX2_reach_52 : decode cX2_reach 52 = .ok (.iadd, 1) := dk_96 (dk_at dksX2_reach_2 6 rfl rfl)
theorem dX2_reach_53 : decode cX2_reach 53 = .ok (.istore 4, 2) := dk_54 4 (dk_at dksX2_reach_2 7 rfl rfl)
theorem dX2_reach_55 : decode cX2_reach 55 = .ok (.goto (-48), 3) := dk_167 255 208 (dk_at dksX2_reach_2 9 rfl rfl)
theorem dX2_reach_58 : decode cX2_reach 58 = .ok (.iload_n 3, 1) := dk_29 (dk_at dksX2_reach_2 12 rfl rfl)
theorem dX2_reach_59 : decode cX2_reach 59 = .ok (.ireturn, 1) := dk_172 (dk_at dksX2_reach_2 13 rfl rfl)
abbrev cX2_sheetsFrom : ByteArray := prog_19_method_21_code
def yX2_sheetsFrom : MethodName := ⟨RX2, "sheetsFrom", "(II)I"⟩
def dkwX2_sheetsFrom_5 : List UInt8 := [167, 0, 6, 17, 1, 224, 172]
abbrev dktX2_sheetsFrom_5 : List UInt8 := dkwX2_sheetsFrom_5 ++ []
def dkwX2_sheetsFrom_4 : List UInt8 := [162, 0, 8, 21, 5, 167, 0, 5, 21, 6, 54, 7, 21, 7, 17, 1, 224, 162, 0, 8, 21, 7]
abbrev dktX2_sheetsFrom_4 : List UInt8 := dkwX2_sheetsFrom_4 ++ dktX2_sheetsFrom_5
def dkwX2_sheetsFrom_3 : List UInt8 := [180, 0, 244, 182, 0, 247, 108, 54, 5, 17, 7, 208, 25, 4, 180, 0, 221, 100, 54, 6, 21, 5, 21, 6]
abbrev dktX2_sheetsFrom_3 : List UInt8 := dkwX2_sheetsFrom_3 ++ dktX2_sheetsFrom_4
def dkwX2_sheetsFrom_2 : List UInt8 := [159, 0, 15, 42, 27, 28, 182, 0, 238, 184, 1, 0, 199, 0, 5, 3, 172, 45, 180, 0, 206, 25, 4]
abbrev dktX2_sheetsFrom_2 : List UInt8 := dkwX2_sheetsFrom_2 ++ dktX2_sheetsFrom_3
def dkwX2_sheetsFrom_1 : List UInt8 := [192, 0, 62, 58, 4, 45, 182, 0, 187, 154, 0, 29, 42, 180, 0, 43, 185, 0, 97, 1, 0, 16, 12]
abbrev dktX2_sheetsFrom_1 : List UInt8 := dkwX2_sheetsFrom_1 ++ dktX2_sheetsFrom_2
def dkwX2_sheetsFrom_0 : List UInt8 := [42, 180, 0, 37, 27, 185, 0, 101, 2, 0, 192, 0, 59, 78, 42, 180, 0, 40, 28, 185, 0, 101, 2, 0]
abbrev dktX2_sheetsFrom_0 : List UInt8 := dkwX2_sheetsFrom_0 ++ dktX2_sheetsFrom_1
theorem dksX2_sheetsFrom_0 : cX2_sheetsFrom.data.toList.drop 0 = dktX2_sheetsFrom_0 := by decide +kernel
theorem dksX2_sheetsFrom_1 : cX2_sheetsFrom.data.toList.drop 24 = dktX2_sheetsFrom_1 := dk_seg dksX2_sheetsFrom_0 24 rfl rfl
theorem dksX2_sheetsFrom_2 : cX2_sheetsFrom.data.toList.drop 47 = dktX2_sheetsFrom_2 := dk_seg dksX2_sheetsFrom_1 23 rfl rfl
theorem dksX2_sheetsFrom_3 : cX2_sheetsFrom.data.toList.drop 70 = dktX2_sheetsFrom_3 := dk_seg dksX2_sheetsFrom_2 23 rfl rfl
theorem dksX2_sheetsFrom_4 : cX2_sheetsFrom.data.toList.drop 94 = dktX2_sheetsFrom_4 := dk_seg dksX2_sheetsFrom_3 24 rfl rfl
theorem dksX2_sheetsFrom_5 : cX2_sheetsFrom.data.toList.drop 116 = dktX2_sheetsFrom_5 := dk_seg dksX2_sheetsFrom_4 22 rfl rfl
theorem dX2_sheetsFrom_0 : decode cX2_sheetsFrom 0 = .ok (.aload_n 0, 1) := dk_42 (dk_at dksX2_sheetsFrom_0 0 rfl rfl)
theorem dX2_sheetsFrom_1 : decode cX2_sheetsFrom 1 = .ok (.getfield 37, 3) := dk_180 0 37 (dk_at dksX2_sheetsFrom_0 1 rfl rfl)
theorem dX2_sheetsFrom_4 : decode cX2_sheetsFrom 4 = .ok (.iload_n 1, 1) := dk_27 (dk_at dksX2_sheetsFrom_0 4 rfl rfl)
theorem dX2_sheetsFrom_5 : decode cX2_sheetsFrom 5 = .ok (.invokeinterface 101 2, 5) := by decide +kernel
theorem dX2_sheetsFrom_10 : decode cX2_sheetsFrom 10 = .ok (.checkcast 59, 3) := dk_192 0 59 (dk_at dksX2_sheetsFrom_0 10 rfl rfl)
theorem dX2_sheetsFrom_13 : decode cX2_sheetsFrom 13 = .ok (.astore_n 3, 1) := dk_78 (dk_at dksX2_sheetsFrom_0 13 rfl rfl)
theorem dX2_sheetsFrom_14 : decode cX2_sheetsFrom 14 = .ok (.aload_n 0, 1) := dk_42 (dk_at dksX2_sheetsFrom_0 14 rfl rfl)
theorem dX2_sheetsFrom_15 : decode cX2_sheetsFrom 15 = .ok (.getfield 40, 3) := dk_180 0 40 (dk_at dksX2_sheetsFrom_0 15 rfl rfl)
theorem dX2_sheetsFrom_18 : decode cX2_sheetsFrom 18 = .ok (.iload_n 2, 1) := dk_28 (dk_at dksX2_sheetsFrom_0 18 rfl rfl)
theorem dX2_sheetsFrom_19 : decode cX2_sheetsFrom 19 = .ok (.invokeinterface 101 2, 5) := by decide +kernel
theorem dX2_sheetsFrom_24 : decode cX2_sheetsFrom 24 = .ok (.checkcast 62, 3) := dk_192 0 62 (dk_at dksX2_sheetsFrom_1 0 rfl rfl)
theorem dX2_sheetsFrom_27 : decode cX2_sheetsFrom 27 = .ok (.astore 4, 2) := dk_58 4 (dk_at dksX2_sheetsFrom_1 3 rfl rfl)
theorem dX2_sheetsFrom_29 : decode cX2_sheetsFrom 29 = .ok (.aload_n 3, 1) := dk_45 (dk_at dksX2_sheetsFrom_1 5 rfl rfl)
theorem dX2_sheetsFrom_30 : decode cX2_sheetsFrom 30 = .ok (.invokevirtual 187, 3) := dk_182 0 187 (dk_at dksX2_sheetsFrom_1 6 rfl rfl)
theorem dX2_sheetsFrom_33 : decode cX2_sheetsFrom 33 = .ok (.ifCond .ne 29, 3) := dk_154 0 29 (dk_at dksX2_sheetsFrom_1 9 rfl rfl)
theorem dX2_sheetsFrom_36 : decode cX2_sheetsFrom 36 = .ok (.aload_n 0, 1) := dk_42 (dk_at dksX2_sheetsFrom_1 12 rfl rfl)
theorem dX2_sheetsFrom_37 : decode cX2_sheetsFrom 37 = .ok (.getfield 43, 3) := dk_180 0 43 (dk_at dksX2_sheetsFrom_1 13 rfl rfl)
theorem dX2_sheetsFrom_40 : decode cX2_sheetsFrom 40 = .ok (.invokeinterface 97 1, 5) := by decide +kernel
theorem dX2_sheetsFrom_45 : decode cX2_sheetsFrom 45 = .ok (.bipush 12, 2) := dk_16 12 (dk_at dksX2_sheetsFrom_1 21 rfl rfl)
theorem dX2_sheetsFrom_47 : decode cX2_sheetsFrom 47 = .ok (.if_icmp .eq 15, 3) := dk_159 0 15 (dk_at dksX2_sheetsFrom_2 0 rfl rfl)
theorem dX2_sheetsFrom_50 : decode cX2_sheetsFrom 50 = .ok (.aload_n 0, 1) := dk_42 (dk_at dksX2_sheetsFrom_2 3 rfl rfl)
theorem dX2_sheetsFrom_51 : decode cX2_sheetsFrom 51 = .ok (.iload_n 1, 1) := dk_27 (dk_at dksX2_sheetsFrom_2 4 rfl rfl)
theorem dX2_sheetsFrom_52 : decode cX2_sheetsFrom 52 = .ok (.iload_n 2, 1) := dk_28 (dk_at dksX2_sheetsFrom_2 5 rfl rfl)
theorem dX2_sheetsFrom_53 : decode cX2_sheetsFrom 53 = .ok (.invokevirtual 238, 3) := dk_182 0 238 (dk_at dksX2_sheetsFrom_2 6 rfl rfl)
theorem dX2_sheetsFrom_56 : decode cX2_sheetsFrom 56 = .ok (.invokestatic 256, 3) := dk_184 1 0 (dk_at dksX2_sheetsFrom_2 9 rfl rfl)
theorem dX2_sheetsFrom_59 : decode cX2_sheetsFrom 59 = .ok (.ifnonnull 5, 3) := dk_199 0 5 (dk_at dksX2_sheetsFrom_2 12 rfl rfl)
theorem dX2_sheetsFrom_62 : decode cX2_sheetsFrom 62 = .ok (.iconst 0, 1) := dk_3 (dk_at dksX2_sheetsFrom_2 15 rfl rfl)
theorem dX2_sheetsFrom_63 : decode cX2_sheetsFrom 63 = .ok (.ireturn, 1) := dk_172 (dk_at dksX2_sheetsFrom_2 16 rfl rfl)
theorem dX2_sheetsFrom_64 : decode cX2_sheetsFrom 64 = .ok (.aload_n 3, 1) := dk_45 (dk_at dksX2_sheetsFrom_2 17 rfl rfl)
theorem dX2_sheetsFrom_65 : decode cX2_sheetsFrom 65 = .ok (.getfield 206, 3) := dk_180 0 206 (dk_at dksX2_sheetsFrom_2 18 rfl rfl)
theorem dX2_sheetsFrom_68 : decode cX2_sheetsFrom 68 = .ok (.aload 4, 2) := dk_25 4 (dk_at dksX2_sheetsFrom_2 21 rfl rfl)
theorem dX2_sheetsFrom_70 : decode cX2_sheetsFrom 70 = .ok (.getfield 244, 3) := dk_180 0 244 (dk_at dksX2_sheetsFrom_3 0 rfl rfl)
theorem dX2_sheetsFrom_73 : decode cX2_sheetsFrom 73 = .ok (.invokevirtual 247, 3) := dk_182 0 247 (dk_at dksX2_sheetsFrom_3 3 rfl rfl)
theorem dX2_sheetsFrom_76 : decode cX2_sheetsFrom 76 = .ok (.idiv, 1) := dk_108 (dk_at dksX2_sheetsFrom_3 6 rfl rfl)
theorem dX2_sheetsFrom_77 : decode cX2_sheetsFrom 77 = .ok (.istore 5, 2) := dk_54 5 (dk_at dksX2_sheetsFrom_3 7 rfl rfl)
theorem dX2_sheetsFrom_79 : decode cX2_sheetsFrom 79 = .ok (.sipush 2000, 3) := dk_17 7 208 (dk_at dksX2_sheetsFrom_3 9 rfl rfl)
theorem dX2_sheetsFrom_82 : decode cX2_sheetsFrom 82 = .ok (.aload 4, 2) := dk_25 4 (dk_at dksX2_sheetsFrom_3 12 rfl rfl)
theorem dX2_sheetsFrom_84 : decode cX2_sheetsFrom 84 = .ok (.getfield 221, 3) := dk_180 0 221 (dk_at dksX2_sheetsFrom_3 14 rfl rfl)
theorem dX2_sheetsFrom_87 : decode cX2_sheetsFrom 87 = .ok (.isub, 1) := dk_100 (dk_at dksX2_sheetsFrom_3 17 rfl rfl)
theorem dX2_sheetsFrom_88 : decode cX2_sheetsFrom 88 = .ok (.istore 6, 2) := dk_54 6 (dk_at dksX2_sheetsFrom_3 18 rfl rfl)
theorem dX2_sheetsFrom_90 : decode cX2_sheetsFrom 90 = .ok (.iload 5, 2) := dk_21 5 (dk_at dksX2_sheetsFrom_3 20 rfl rfl)
theorem dX2_sheetsFrom_92 : decode cX2_sheetsFrom 92 = .ok (.iload 6, 2) := dk_21 6 (dk_at dksX2_sheetsFrom_3 22 rfl rfl)
theorem dX2_sheetsFrom_94 : decode cX2_sheetsFrom 94 = .ok (.if_icmp .ge 8, 3) := dk_162 0 8 (dk_at dksX2_sheetsFrom_4 0 rfl rfl)
theorem dX2_sheetsFrom_97 : decode cX2_sheetsFrom 97 = .ok (.iload 5, 2) := dk_21 5 (dk_at dksX2_sheetsFrom_4 3 rfl rfl)
theorem dX2_sheetsFrom_99 : decode cX2_sheetsFrom 99 = .ok (.goto 5, 3) := dk_167 0 5 (dk_at dksX2_sheetsFrom_4 5 rfl rfl)
theorem dX2_sheetsFrom_102 : decode cX2_sheetsFrom 102 = .ok (.iload 6, 2) := dk_21 6 (dk_at dksX2_sheetsFrom_4 8 rfl rfl)
theorem dX2_sheetsFrom_104 : decode cX2_sheetsFrom 104 = .ok (.istore 7, 2) := dk_54 7 (dk_at dksX2_sheetsFrom_4 10 rfl rfl)
theorem dX2_sheetsFrom_106 : decode cX2_sheetsFrom 106 = .ok (.iload 7, 2) := dk_21 7 (dk_at dksX2_sheetsFrom_4 12 rfl rfl)
theorem dX2_sheetsFrom_108 : decode cX2_sheetsFrom 108 = .ok (.sipush 480, 3) := dk_17 1 224 (dk_at dksX2_sheetsFrom_4 14 rfl rfl)
theorem dX2_sheetsFrom_111 : decode cX2_sheetsFrom 111 = .ok (.if_icmp .ge 8, 3) := dk_162 0 8 (dk_at dksX2_sheetsFrom_4 17 rfl rfl)
theorem dX2_sheetsFrom_114 : decode cX2_sheetsFrom 114 = .ok (.iload 7, 2) := dk_21 7 (dk_at dksX2_sheetsFrom_4 20 rfl rfl)
theorem dX2_sheetsFrom_116 : decode cX2_sheetsFrom 116 = .ok (.goto 6, 3) := dk_167 0 6 (dk_at dksX2_sheetsFrom_5 0 rfl rfl)
theorem dX2_sheetsFrom_119 : decode cX2_sheetsFrom 119 = .ok (.sipush 480, 3) := dk_17 1 224 (dk_at dksX2_sheetsFrom_5 3 rfl rfl)
theorem dX2_sheetsFrom_122 : decode cX2_sheetsFrom 122 = .ok (.ireturn, 1) := dk_172 (dk_at dksX2_sheetsFrom_5 6 rfl rfl)
theorem q113 : (Jvm.Cond.initialized "PaperMill$State") ∈ lw_all := lw_g (lw_at lw_m1 2 rfl) rfl
theorem q163 : (Jvm.Cond.static ({ cls := "PaperMill$State", name := "begin", desc := "()LPaperMill$State;" } : Jvm.MethodName)) ∈ lw_all := lw_g (lw_at lw_m1 52 rfl) rfl
theorem q164 : (Jvm.Cond.code ({ cls := "PaperMill$State", name := "begin", desc := "()LPaperMill$State;" } : Jvm.MethodName) prog_19_method_2_code (2 : Nat) (Option.some (Jvm.ClassFile.FieldType.object "PaperMill$State"))) ∈ lw_all := lw_g (lw_at lw_m1 53 rfl) rfl
theorem q165 : (Jvm.Cond.classLink "PaperMill$State" (10 : Nat) "PaperMill$State") ∈ lw_all := lw_g (lw_at lw_m1 54 rfl) rfl
theorem q166 : (Jvm.Cond.instantiable "PaperMill$State" (17 : Nat)) ∈ lw_all := lw_g (lw_at lw_m1 55 rfl) rfl
theorem q167 : (Jvm.Cond.methodLink "PaperMill$State" (49 : Nat) ({ cls := "PaperMill$State", name := "<init>", desc := "()V" } : Jvm.MethodName)) ∈ lw_all := lw_g (lw_at lw_m1 56 rfl) rfl
theorem q168 : (Jvm.Cond.instanceMethod ({ cls := "PaperMill$State", name := "<init>", desc := "()V" } : Jvm.MethodName)) ∈ lw_all := lw_g (lw_at lw_m1 57 rfl) rfl
theorem q169 : (Jvm.Cond.code ({ cls := "PaperMill$State", name := "<init>", desc := "()V" } : Jvm.MethodName) prog_19_method_1_code (1 : Nat) (Option.none : Option Jvm.ClassFile.FieldType)) ∈ lw_all := lw_g (lw_at lw_m1 58 rfl) rfl
theorem q170 : (Jvm.Cond.methodLink "PaperMill$State" (3 : Nat) ({ cls := "java/lang/Object", name := "<init>", desc := "()V" } : Jvm.MethodName)) ∈ lw_all := lw_g (lw_at lw_m1 59 rfl) rfl
theorem q171 : (Jvm.Cond.classLink "PaperMill$State" (18 : Nat) "PaperMill$Rag") ∈ lw_all := lw_g (lw_at lw_m1 60 rfl) rfl
theorem q173 : (Jvm.Cond.methodLink "PaperMill$State" (20 : Nat) ({ cls := "PaperMill$Rag", name := "<init>", desc := "(II)V" } : Jvm.MethodName)) ∈ lw_all := lw_g (lw_at lw_m1 62 rfl) rfl
theorem q186 : (Jvm.Cond.classLink "PaperMill$State" (27 : Nat) "java/util/ArrayList") ∈ lw_all := lw_g (lw_at lw_m1 75 rfl) rfl
theorem q188 : (Jvm.Cond.methodLink "PaperMill$State" (29 : Nat) ({ cls := "java/util/ArrayList", name := "<init>", desc := "()V" } : Jvm.MethodName)) ∈ lw_all := lw_g (lw_at lw_m1 77 rfl) rfl
theorem q212 : (Jvm.Cond.fieldLink "PaperMill$State" (73 : Nat) "PaperMill$State" "day" "I") ∈ lw_all := lw_g (lw_at lw_m1 101 rfl) rfl
theorem q214 : (Jvm.Cond.fieldLink "PaperMill$State" (9 : Nat) "PaperMill$State" "purse" "I") ∈ lw_all := lw_g (lw_at lw_m1 103 rfl) rfl
theorem q216 : (Jvm.Cond.fieldLink "PaperMill$State" (15 : Nat) "PaperMill$State" "limit" "I") ∈ lw_all := lw_g (lw_at lw_m1 105 rfl) rfl
theorem q218 : (Jvm.Cond.fieldLink "PaperMill$State" (76 : Nat) "PaperMill$State" "stove" "I") ∈ lw_all := lw_g (lw_at lw_m1 107 rfl) rfl
theorem q220 : (Jvm.Cond.fieldLink "PaperMill$State" (23 : Nat) "PaperMill$State" "recipe" "LPaperMill$Mix;") ∈ lw_all := lw_g (lw_at lw_m1 109 rfl) rfl
theorem q223 : (Jvm.Cond.fieldLink "PaperMill$State" (79 : Nat) "PaperMill$State" "brought" "I") ∈ lw_all := lw_g (lw_at lw_m1 112 rfl) rfl
theorem q224 : (Jvm.Cond.fieldLink "PaperMill$State" (82 : Nat) "PaperMill$State" "lost" "I") ∈ lw_all := lw_g (lw_at lw_m1 113 rfl) rfl
theorem q226 : (Jvm.Cond.fieldLink "PaperMill$State" (85 : Nat) "PaperMill$State" "burnt" "I") ∈ lw_all := lw_g (lw_at lw_m1 115 rfl) rfl
theorem q228 : (Jvm.Cond.fieldLink "PaperMill$State" (88 : Nat) "PaperMill$State" "drained" "I") ∈ lw_all := lw_g (lw_at lw_m1 117 rfl) rfl
theorem q230 : (Jvm.Cond.fieldLink "PaperMill$State" (91 : Nat) "PaperMill$State" "sent" "I") ∈ lw_all := lw_g (lw_at lw_m1 119 rfl) rfl
theorem q232 : (Jvm.Cond.fieldLink "PaperMill$State" (94 : Nat) "PaperMill$State" "mouldings" "I") ∈ lw_all := lw_g (lw_at lw_m1 121 rfl) rfl
theorem q234 : (Jvm.Cond.fieldLink "PaperMill$State" (30 : Nat) "PaperMill$State" "carters" "Ljava/util/List;") ∈ lw_all := lw_g (lw_at lw_m1 123 rfl) rfl
theorem q236 : (Jvm.Cond.fieldLink "PaperMill$State" (34 : Nat) "PaperMill$State" "bales" "Ljava/util/List;") ∈ lw_all := lw_g (lw_at lw_m1 125 rfl) rfl
theorem q238 : (Jvm.Cond.fieldLink "PaperMill$State" (37 : Nat) "PaperMill$State" "vats" "Ljava/util/List;") ∈ lw_all := lw_g (lw_at lw_m1 127 rfl) rfl
theorem q240 : (Jvm.Cond.fieldLink "PaperMill$State" (40 : Nat) "PaperMill$State" "moulds" "Ljava/util/List;") ∈ lw_all := lw_g (lw_at lw_m1 129 rfl) rfl
theorem q242 : (Jvm.Cond.fieldLink "PaperMill$State" (43 : Nat) "PaperMill$State" "piles" "Ljava/util/List;") ∈ lw_all := lw_g (lw_at lw_m1 131 rfl) rfl
theorem q244 : (Jvm.Cond.fieldLink "PaperMill$State" (46 : Nat) "PaperMill$State" "reams" "Ljava/util/List;") ∈ lw_all := lw_g (lw_at lw_m1 133 rfl) rfl
theorem q246 : (Jvm.Cond.lays "PaperMill$State" "PaperMill$State" "day" "I") ∈ lw_all := lw_g (lw_at lw_m1 135 rfl) rfl
theorem q247 : (Jvm.Cond.soleField "PaperMill$State" "day") ∈ lw_all := lw_g (lw_at lw_m1 136 rfl) rfl
theorem q248 : (Jvm.Cond.lays "PaperMill$State" "PaperMill$State" "purse" "I") ∈ lw_all := lw_g (lw_at lw_m1 137 rfl) rfl
theorem q249 : (Jvm.Cond.soleField "PaperMill$State" "purse") ∈ lw_all := lw_g (lw_at lw_m1 138 rfl) rfl
theorem q250 : (Jvm.Cond.lays "PaperMill$State" "PaperMill$State" "limit" "I") ∈ lw_all := lw_g (lw_at lw_m1 139 rfl) rfl
theorem q251 : (Jvm.Cond.soleField "PaperMill$State" "limit") ∈ lw_all := lw_g (lw_at lw_m1 140 rfl) rfl
theorem q252 : (Jvm.Cond.lays "PaperMill$State" "PaperMill$State" "stove" "I") ∈ lw_all := lw_g (lw_at lw_m1 141 rfl) rfl
theorem q253 : (Jvm.Cond.soleField "PaperMill$State" "stove") ∈ lw_all := lw_g (lw_at lw_m1 142 rfl) rfl
theorem q254 : (Jvm.Cond.lays "PaperMill$State" "PaperMill$State" "recipe" "LPaperMill$Mix;") ∈ lw_all := lw_g (lw_at lw_m1 143 rfl) rfl
theorem q255 : (Jvm.Cond.soleField "PaperMill$State" "recipe") ∈ lw_all := lw_g (lw_at lw_m1 144 rfl) rfl
theorem q256 : (Jvm.Cond.lays "PaperMill$State" "PaperMill$State" "brought" "I") ∈ lw_all := lw_g (lw_at lw_m1 145 rfl) rfl
theorem q257 : (Jvm.Cond.soleField "PaperMill$State" "brought") ∈ lw_all := lw_g (lw_at lw_m1 146 rfl) rfl
theorem q258 : (Jvm.Cond.lays "PaperMill$State" "PaperMill$State" "lost" "I") ∈ lw_all := lw_g (lw_at lw_m1 147 rfl) rfl
theorem q259 : (Jvm.Cond.soleField "PaperMill$State" "lost") ∈ lw_all := lw_g (lw_at lw_m1 148 rfl) rfl
theorem q260 : (Jvm.Cond.lays "PaperMill$State" "PaperMill$State" "burnt" "I") ∈ lw_all := lw_g (lw_at lw_m1 149 rfl) rfl
theorem q261 : (Jvm.Cond.soleField "PaperMill$State" "burnt") ∈ lw_all := lw_g (lw_at lw_m1 150 rfl) rfl
theorem q262 : (Jvm.Cond.lays "PaperMill$State" "PaperMill$State" "drained" "I") ∈ lw_all := lw_g (lw_at lw_m1 151 rfl) rfl
theorem q263 : (Jvm.Cond.soleField "PaperMill$State" "drained") ∈ lw_all := lw_g (lw_at lw_m1 152 rfl) rfl
theorem q264 : (Jvm.Cond.lays "PaperMill$State" "PaperMill$State" "sent" "I") ∈ lw_all := lw_g (lw_at lw_m1 153 rfl) rfl
theorem q265 : (Jvm.Cond.soleField "PaperMill$State" "sent") ∈ lw_all := lw_g (lw_at lw_m1 154 rfl) rfl
theorem q266 : (Jvm.Cond.lays "PaperMill$State" "PaperMill$State" "mouldings" "I") ∈ lw_all := lw_g (lw_at lw_m1 155 rfl) rfl
theorem q267 : (Jvm.Cond.soleField "PaperMill$State" "mouldings") ∈ lw_all := lw_g (lw_at lw_m1 156 rfl) rfl
theorem q268 : (Jvm.Cond.laysFinal "PaperMill$State" "PaperMill$State" "carters" "Ljava/util/List;") ∈ lw_all := lw_g (lw_at lw_m1 157 rfl) rfl
theorem q269 : (Jvm.Cond.soleField "PaperMill$State" "carters") ∈ lw_all := lw_g (lw_at lw_m1 158 rfl) rfl
theorem q270 : (Jvm.Cond.laysFinal "PaperMill$State" "PaperMill$State" "bales" "Ljava/util/List;") ∈ lw_all := lw_g (lw_at lw_m1 159 rfl) rfl
theorem q271 : (Jvm.Cond.soleField "PaperMill$State" "bales") ∈ lw_all := lw_g (lw_at lw_m1 160 rfl) rfl
theorem q272 : (Jvm.Cond.laysFinal "PaperMill$State" "PaperMill$State" "vats" "Ljava/util/List;") ∈ lw_all := lw_g (lw_at lw_m1 161 rfl) rfl
theorem q273 : (Jvm.Cond.soleField "PaperMill$State" "vats") ∈ lw_all := lw_g (lw_at lw_m1 162 rfl) rfl
theorem q274 : (Jvm.Cond.laysFinal "PaperMill$State" "PaperMill$State" "moulds" "Ljava/util/List;") ∈ lw_all := lw_g (lw_at lw_m1 163 rfl) rfl
theorem q275 : (Jvm.Cond.soleField "PaperMill$State" "moulds") ∈ lw_all := lw_g (lw_at lw_m1 164 rfl) rfl
theorem q276 : (Jvm.Cond.laysFinal "PaperMill$State" "PaperMill$State" "piles" "Ljava/util/List;") ∈ lw_all := lw_g (lw_at lw_m1 165 rfl) rfl
theorem q277 : (Jvm.Cond.soleField "PaperMill$State" "piles") ∈ lw_all := lw_g (lw_at lw_m1 166 rfl) rfl
theorem q278 : (Jvm.Cond.laysFinal "PaperMill$State" "PaperMill$State" "reams" "Ljava/util/List;") ∈ lw_all := lw_g (lw_at lw_m1 167 rfl) rfl
theorem q279 : (Jvm.Cond.soleField "PaperMill$State" "reams") ∈ lw_all := lw_g (lw_at lw_m1 168 rfl) rfl
theorem q280 : (Jvm.Cond.superclass "PaperMill$State" "java/lang/Object") ∈ lw_all := lw_g (lw_at lw_m1 169 rfl) rfl
theorem q281 : (Jvm.Cond.classLink "PaperMill$State" (50 : Nat) "PaperMill$Carter") ∈ lw_all := lw_g (lw_at lw_m1 170 rfl) rfl
theorem q283 : (Jvm.Cond.methodLinkNest "PaperMill$State" (52 : Nat) ({ cls := "PaperMill$Carter", name := "<init>", desc := "()V" } : Jvm.MethodName) "PaperMill") ∈ lw_tbl := lw_at lw_m1 172 rfl
theorem q288 : (Jvm.Cond.fieldLink "PaperMill$State" (134 : Nat) "PaperMill$Carter" "debt" "I") ∈ lw_all := lw_g (lw_at lw_m1 177 rfl) rfl
theorem q291 : (Jvm.Cond.fieldLink "PaperMill$State" (127 : Nat) "PaperMill$Carter" "passDay" "I") ∈ lw_all := lw_g (lw_at lw_m1 180 rfl) rfl
theorem q298 : (Jvm.Cond.interfaceEntry "PaperMill$State" (53 : Nat)) ∈ lw_tbl := lw_at lw_m1 187 rfl
theorem q299 : (Jvm.Cond.methodLink "PaperMill$State" (53 : Nat) ({ cls := "java/util/List", name := "add", desc := "(Ljava/lang/Object;)Z" } : Jvm.MethodName)) ∈ lw_all := lw_g (lw_at lw_m1 188 rfl) rfl
theorem q350 : (Jvm.Cond.selects "PaperMill$State" ({ cls := "java/lang/Object", name := "getClass", desc := "()Ljava/lang/Class;" } : Jvm.MethodName) ({ cls := "java/lang/Object", name := "getClass", desc := "()Ljava/lang/Class;" } : Jvm.MethodName)) ∈ lw_all := lw_g (lw_at lw_m1 239 rfl) rfl
theorem q380 : (Jvm.Cond.classLink "PaperMill$State" (59 : Nat) "PaperMill$Vat") ∈ lw_all := lw_g (lw_at lw_m2 29 rfl) rfl
theorem q382 : (Jvm.Cond.methodLinkNest "PaperMill$State" (61 : Nat) ({ cls := "PaperMill$Vat", name := "<init>", desc := "()V" } : Jvm.MethodName) "PaperMill") ∈ lw_tbl := lw_at lw_m2 31 rfl
theorem q387 : (Jvm.Cond.fieldLink "PaperMill$State" (206 : Nat) "PaperMill$Vat" "units" "I") ∈ lw_all := lw_g (lw_at lw_m2 36 rfl) rfl
theorem q390 : (Jvm.Cond.fieldLink "PaperMill$State" (209 : Nat) "PaperMill$Vat" "hours" "I") ∈ lw_all := lw_g (lw_at lw_m2 39 rfl) rfl
theorem q393 : (Jvm.Cond.fieldLink "PaperMill$State" (212 : Nat) "PaperMill$Vat" "strength" "I") ∈ lw_all := lw_g (lw_at lw_m2 42 rfl) rfl
theorem q402 : (Jvm.Cond.classLink "PaperMill$State" (62 : Nat) "PaperMill$Mould") ∈ lw_all := lw_g (lw_at lw_m2 51 rfl) rfl
theorem q404 : (Jvm.Cond.methodLink "PaperMill$State" (64 : Nat) ({ cls := "PaperMill$Size", name := "of", desc := "(I)LPaperMill$Size;" } : Jvm.MethodName)) ∈ lw_all := lw_g (lw_at lw_m2 53 rfl) rfl
theorem q413 : (Jvm.Cond.methodLink "PaperMill$State" (70 : Nat) ({ cls := "PaperMill$Mould", name := "<init>", desc := "(ILPaperMill$Size;)V" } : Jvm.MethodName)) ∈ lw_all := lw_g (lw_at lw_m2 62 rfl) rfl
theorem q418 : (Jvm.Cond.fieldLink "PaperMill$State" (244 : Nat) "PaperMill$Mould" "size" "LPaperMill$Size;") ∈ lw_all := lw_g (lw_at lw_m2 67 rfl) rfl
theorem q420 : (Jvm.Cond.fieldLink "PaperMill$State" (253 : Nat) "PaperMill$Mould" "mark" "I") ∈ lw_all := lw_g (lw_at lw_m2 69 rfl) rfl
theorem q423 : (Jvm.Cond.fieldLink "PaperMill$State" (221 : Nat) "PaperMill$Mould" "wear" "I") ∈ lw_all := lw_g (lw_at lw_m2 72 rfl) rfl
theorem q543 : (Jvm.Cond.instanceMethod ({ cls := "PaperMill$State", name := "unitsByPlaces", desc := "()I" } : Jvm.MethodName)) ∈ lw_all := lw_g (lw_at lw_m2 192 rfl) rfl
theorem q544 : (Jvm.Cond.selects "PaperMill$State" ({ cls := "PaperMill$State", name := "unitsByPlaces", desc := "()I" } : Jvm.MethodName) ({ cls := "PaperMill$State", name := "unitsByPlaces", desc := "()I" } : Jvm.MethodName)) ∈ lw_all := lw_g (lw_at lw_m2 193 rfl) rfl
theorem q545 : (Jvm.Cond.code ({ cls := "PaperMill$State", name := "unitsByPlaces", desc := "()I" } : Jvm.MethodName) prog_19_method_32_code (3 : Nat) (Option.some Jvm.ClassFile.FieldType.int)) ∈ lw_all := lw_g (lw_at lw_m2 194 rfl) rfl
theorem q546 : (Jvm.Cond.interfaceEntry "PaperMill$State" (97 : Nat)) ∈ lw_tbl := lw_at lw_m2 195 rfl
theorem q547 : (Jvm.Cond.methodLink "PaperMill$State" (97 : Nat) ({ cls := "java/util/List", name := "size", desc := "()I" } : Jvm.MethodName)) ∈ lw_all := lw_g (lw_at lw_m2 196 rfl) rfl
theorem q548 : (Jvm.Cond.interfaceEntry "PaperMill$State" (101 : Nat)) ∈ lw_tbl := lw_at lw_m2 197 rfl
theorem q549 : (Jvm.Cond.methodLink "PaperMill$State" (101 : Nat) ({ cls := "java/util/List", name := "get", desc := "(I)Ljava/lang/Object;" } : Jvm.MethodName)) ∈ lw_all := lw_g (lw_at lw_m2 198 rfl) rfl
theorem q567 : (Jvm.Cond.classLink "PaperMill$State" (109 : Nat) "PaperMill$Bale") ∈ lw_all := lw_g (lw_at lw_m2 216 rfl) rfl
theorem q568 : (Jvm.Cond.classLink "PaperMill$State" (120 : Nat) "PaperMill$Pile") ∈ lw_all := lw_g (lw_at lw_m2 217 rfl) rfl
theorem q569 : (Jvm.Cond.methodLink "PaperMill$State" (247 : Nat) ({ cls := "PaperMill$Size", name := "units", desc := "()I" } : Jvm.MethodName)) ∈ lw_all := lw_g (lw_at lw_m2 218 rfl) rfl
theorem q581 : (Jvm.Cond.classLink "PaperMill$State" (125 : Nat) "PaperMill$Ream") ∈ lw_all := lw_g (lw_at lw_m2 230 rfl) rfl
theorem q582 : (Jvm.Cond.methodLink "PaperMill$State" (305 : Nat) ({ cls := "PaperMill$Ream", name := "units", desc := "()I" } : Jvm.MethodName)) ∈ lw_all := lw_g (lw_at lw_m2 231 rfl) rfl
theorem q592 : (Jvm.Cond.instanceMethod ({ cls := "PaperMill$State", name := "unitsByAccount", desc := "()I" } : Jvm.MethodName)) ∈ lw_all := lw_g (lw_at lw_m3 1 rfl) rfl
theorem q593 : (Jvm.Cond.selects "PaperMill$State" ({ cls := "PaperMill$State", name := "unitsByAccount", desc := "()I" } : Jvm.MethodName) ({ cls := "PaperMill$State", name := "unitsByAccount", desc := "()I" } : Jvm.MethodName)) ∈ lw_all := lw_g (lw_at lw_m3 2 rfl) rfl
theorem q594 : (Jvm.Cond.code ({ cls := "PaperMill$State", name := "unitsByAccount", desc := "()I" } : Jvm.MethodName) prog_19_method_33_code (1 : Nat) (Option.some Jvm.ClassFile.FieldType.int)) ∈ lw_all := lw_g (lw_at lw_m3 3 rfl) rfl
theorem q616 : (Jvm.Cond.instanceMethod ({ cls := "PaperMill$State", name := "copy", desc := "()LPaperMill$State;" } : Jvm.MethodName)) ∈ lw_all := lw_g (lw_at lw_m3 25 rfl) rfl
theorem q617 : (Jvm.Cond.selects "PaperMill$State" ({ cls := "PaperMill$State", name := "copy", desc := "()LPaperMill$State;" } : Jvm.MethodName) ({ cls := "PaperMill$State", name := "copy", desc := "()LPaperMill$State;" } : Jvm.MethodName)) ∈ lw_all := lw_g (lw_at lw_m3 26 rfl) rfl
theorem q618 : (Jvm.Cond.code ({ cls := "PaperMill$State", name := "copy", desc := "()LPaperMill$State;" } : Jvm.MethodName) prog_19_method_3_code (3 : Nat) (Option.some (Jvm.ClassFile.FieldType.object "PaperMill$State"))) ∈ lw_all := lw_g (lw_at lw_m3 27 rfl) rfl
theorem q619 : (Jvm.Cond.methodLink "PaperMill$State" (105 : Nat) ({ cls := "PaperMill$Carter", name := "copy", desc := "()LPaperMill$Carter;" } : Jvm.MethodName)) ∈ lw_all := lw_g (lw_at lw_m3 28 rfl) rfl
theorem q625 : (Jvm.Cond.methodLink "PaperMill$State" (111 : Nat) ({ cls := "PaperMill$Bale", name := "copy", desc := "()LPaperMill$Bale;" } : Jvm.MethodName)) ∈ lw_all := lw_g (lw_at lw_m3 34 rfl) rfl
theorem q636 : (Jvm.Cond.fieldLink "PaperMill$State" (164 : Nat) "PaperMill$Bale" "sort" "I") ∈ lw_all := lw_g (lw_at lw_m3 45 rfl) rfl
theorem q639 : (Jvm.Cond.fieldLink "PaperMill$State" (171 : Nat) "PaperMill$Bale" "rags" "I") ∈ lw_all := lw_g (lw_at lw_m3 48 rfl) rfl
theorem q642 : (Jvm.Cond.fieldLink "PaperMill$State" (295 : Nat) "PaperMill$Bale" "damp" "I") ∈ lw_all := lw_g (lw_at lw_m3 51 rfl) rfl
theorem q645 : (Jvm.Cond.fieldLink "PaperMill$State" (298 : Nat) "PaperMill$Bale" "wetDays" "I") ∈ lw_all := lw_g (lw_at lw_m3 54 rfl) rfl
theorem q648 : (Jvm.Cond.fieldLink "PaperMill$State" (167 : Nat) "PaperMill$Bale" "isMouldy" "Z") ∈ lw_all := lw_g (lw_at lw_m3 57 rfl) rfl
theorem q661 : (Jvm.Cond.methodLink "PaperMill$State" (114 : Nat) ({ cls := "PaperMill$Vat", name := "copy", desc := "()LPaperMill$Vat;" } : Jvm.MethodName)) ∈ lw_all := lw_g (lw_at lw_m3 70 rfl) rfl
theorem q667 : (Jvm.Cond.methodLink "PaperMill$State" (117 : Nat) ({ cls := "PaperMill$Mould", name := "copy", desc := "()LPaperMill$Mould;" } : Jvm.MethodName)) ∈ lw_all := lw_g (lw_at lw_m3 76 rfl) rfl
theorem q673 : (Jvm.Cond.methodLink "PaperMill$State" (122 : Nat) ({ cls := "PaperMill$Pile", name := "copy", desc := "()LPaperMill$Pile;" } : Jvm.MethodName)) ∈ lw_all := lw_g (lw_at lw_m3 82 rfl) rfl
theorem q685 : (Jvm.Cond.fieldLink "PaperMill$State" (304 : Nat) "PaperMill$Pile" "size" "LPaperMill$Size;") ∈ lw_all := lw_g (lw_at lw_m3 94 rfl) rfl
theorem q689 : (Jvm.Cond.fieldLink "PaperMill$State" (269 : Nat) "PaperMill$Pile" "sheets" "I") ∈ lw_all := lw_g (lw_at lw_m3 98 rfl) rfl
theorem q692 : (Jvm.Cond.fieldLink "PaperMill$State" (292 : Nat) "PaperMill$Pile" "days" "I") ∈ lw_all := lw_g (lw_at lw_m3 101 rfl) rfl
theorem q705 : (Jvm.Cond.instanceMethod ({ cls := "PaperMill$State", name := "night", desc := "()V" } : Jvm.MethodName)) ∈ lw_all := lw_g (lw_at lw_m3 114 rfl) rfl
theorem q706 : (Jvm.Cond.selects "PaperMill$State" ({ cls := "PaperMill$State", name := "night", desc := "()V" } : Jvm.MethodName) ({ cls := "PaperMill$State", name := "night", desc := "()V" } : Jvm.MethodName)) ∈ lw_all := lw_g (lw_at lw_m3 115 rfl) rfl
theorem q707 : (Jvm.Cond.code ({ cls := "PaperMill$State", name := "night", desc := "()V" } : Jvm.MethodName) prog_19_method_27_code (4 : Nat) (Option.none : Option Jvm.ClassFile.FieldType)) ∈ lw_all := lw_g (lw_at lw_m3 116 rfl) rfl
theorem q708 : (Jvm.Cond.methodLink "PaperMill$State" (282 : Nat) ({ cls := "PaperMill$State", name := "heat", desc := "()V" } : Jvm.MethodName)) ∈ lw_all := lw_g (lw_at lw_m3 117 rfl) rfl
theorem q709 : (Jvm.Cond.privateMethod ({ cls := "PaperMill$State", name := "heat", desc := "()V" } : Jvm.MethodName)) ∈ lw_tbl := lw_at lw_m3 118 rfl
theorem q710 : (Jvm.Cond.instanceMethod ({ cls := "PaperMill$State", name := "heat", desc := "()V" } : Jvm.MethodName)) ∈ lw_all := lw_g (lw_at lw_m3 119 rfl) rfl
theorem q711 : (Jvm.Cond.code ({ cls := "PaperMill$State", name := "heat", desc := "()V" } : Jvm.MethodName) prog_19_method_28_code (2 : Nat) (Option.none : Option Jvm.ClassFile.FieldType)) ∈ lw_all := lw_g (lw_at lw_m3 120 rfl) rfl
theorem q712 : (Jvm.Cond.methodLink "PaperMill$State" (285 : Nat) ({ cls := "PaperMill$State", name := "dry", desc := "(LPaperMill$Bale;)V" } : Jvm.MethodName)) ∈ lw_all := lw_g (lw_at lw_m3 121 rfl) rfl
theorem q713 : (Jvm.Cond.privateMethod ({ cls := "PaperMill$State", name := "dry", desc := "(LPaperMill$Bale;)V" } : Jvm.MethodName)) ∈ lw_tbl := lw_at lw_m3 122 rfl
theorem q714 : (Jvm.Cond.instanceMethod ({ cls := "PaperMill$State", name := "dry", desc := "(LPaperMill$Bale;)V" } : Jvm.MethodName)) ∈ lw_all := lw_g (lw_at lw_m3 123 rfl) rfl
theorem q715 : (Jvm.Cond.code ({ cls := "PaperMill$State", name := "dry", desc := "(LPaperMill$Bale;)V" } : Jvm.MethodName) prog_19_method_29_code (3 : Nat) (Option.none : Option Jvm.ClassFile.FieldType)) ∈ lw_all := lw_g (lw_at lw_m3 124 rfl) rfl
theorem q716 : (Jvm.Cond.methodLink "PaperMill$State" (301 : Nat) ({ cls := "PaperMill$State", name := "becomeMouldy", desc := "(LPaperMill$Bale;)V" } : Jvm.MethodName)) ∈ lw_all := lw_g (lw_at lw_m3 125 rfl) rfl
theorem q717 : (Jvm.Cond.privateMethod ({ cls := "PaperMill$State", name := "becomeMouldy", desc := "(LPaperMill$Bale;)V" } : Jvm.MethodName)) ∈ lw_tbl := lw_at lw_m3 126 rfl
theorem q718 : (Jvm.Cond.instanceMethod ({ cls := "PaperMill$State", name := "becomeMouldy", desc := "(LPaperMill$Bale;)V" } : Jvm.MethodName)) ∈ lw_all := lw_g (lw_at lw_m3 127 rfl) rfl
theorem q719 : (Jvm.Cond.code ({ cls := "PaperMill$State", name := "becomeMouldy", desc := "(LPaperMill$Bale;)V" } : Jvm.MethodName) prog_19_method_30_code (2 : Nat) (Option.none : Option Jvm.ClassFile.FieldType)) ∈ lw_all := lw_g (lw_at lw_m3 128 rfl) rfl
theorem q720 : (Jvm.Cond.methodLink "PaperMill$State" (289 : Nat) ({ cls := "PaperMill$State", name := "spreadMould", desc := "()V" } : Jvm.MethodName)) ∈ lw_all := lw_g (lw_at lw_m3 129 rfl) rfl
theorem q721 : (Jvm.Cond.privateMethod ({ cls := "PaperMill$State", name := "spreadMould", desc := "()V" } : Jvm.MethodName)) ∈ lw_tbl := lw_at lw_m3 130 rfl
theorem q722 : (Jvm.Cond.instanceMethod ({ cls := "PaperMill$State", name := "spreadMould", desc := "()V" } : Jvm.MethodName)) ∈ lw_all := lw_g (lw_at lw_m3 131 rfl) rfl
theorem q723 : (Jvm.Cond.code ({ cls := "PaperMill$State", name := "spreadMould", desc := "()V" } : Jvm.MethodName) prog_19_method_31_code (5 : Nat) (Option.none : Option Jvm.ClassFile.FieldType)) ∈ lw_all := lw_g (lw_at lw_m3 132 rfl) rfl
theorem q724 : (Jvm.Cond.methodLink "PaperMill$State" (180 : Nat) ({ cls := "PaperMill$Bale", name := "catchesMould", desc := "()Z" } : Jvm.MethodName)) ∈ lw_all := lw_g (lw_at lw_m3 133 rfl) rfl
theorem q728 : (Jvm.Cond.methodLink "PaperMill$State" (174 : Nat) ({ cls := "PaperMill$State", name := "dropEmptyBales", desc := "()V" } : Jvm.MethodName)) ∈ lw_all := lw_g (lw_at lw_m3 137 rfl) rfl
theorem q729 : (Jvm.Cond.privateMethod ({ cls := "PaperMill$State", name := "dropEmptyBales", desc := "()V" } : Jvm.MethodName)) ∈ lw_tbl := lw_at lw_m3 138 rfl
theorem q730 : (Jvm.Cond.instanceMethod ({ cls := "PaperMill$State", name := "dropEmptyBales", desc := "()V" } : Jvm.MethodName)) ∈ lw_all := lw_g (lw_at lw_m3 139 rfl) rfl
theorem q731 : (Jvm.Cond.code ({ cls := "PaperMill$State", name := "dropEmptyBales", desc := "()V" } : Jvm.MethodName) prog_19_method_11_code (2 : Nat) (Option.none : Option Jvm.ClassFile.FieldType)) ∈ lw_all := lw_g (lw_at lw_m3 140 rfl) rfl
theorem q732 : (Jvm.Cond.interfaceEntry "PaperMill$State" (177 : Nat)) ∈ lw_tbl := lw_at lw_m3 141 rfl
theorem q733 : (Jvm.Cond.methodLink "PaperMill$State" (177 : Nat) ({ cls := "java/util/List", name := "remove", desc := "(I)Ljava/lang/Object;" } : Jvm.MethodName)) ∈ lw_all := lw_g (lw_at lw_m3 142 rfl) rfl
theorem q1227 : (Jvm.Cond.instanceMethod ({ cls := "PaperMill$State", name := "deliver", desc := "(IIII)Z" } : Jvm.MethodName)) ∈ lw_all := lw_g (lw_at lw_m5 156 rfl) rfl
theorem q1228 : (Jvm.Cond.selects "PaperMill$State" ({ cls := "PaperMill$State", name := "deliver", desc := "(IIII)Z" } : Jvm.MethodName) ({ cls := "PaperMill$State", name := "deliver", desc := "(IIII)Z" } : Jvm.MethodName)) ∈ lw_all := lw_g (lw_at lw_m5 157 rfl) rfl
theorem q1229 : (Jvm.Cond.code ({ cls := "PaperMill$State", name := "deliver", desc := "(IIII)Z" } : Jvm.MethodName) prog_19_method_8_code (7 : Nat) (Option.some Jvm.ClassFile.FieldType.boolean)) ∈ lw_all := lw_g (lw_at lw_m5 158 rfl) rfl
theorem q1230 : (Jvm.Cond.methodLink "PaperMill$State" (153 : Nat) ({ cls := "PaperMill$State", name := "whyNotIn", desc := "(III)I" } : Jvm.MethodName)) ∈ lw_all := lw_g (lw_at lw_m5 159 rfl) rfl
theorem q1231 : (Jvm.Cond.instanceMethod ({ cls := "PaperMill$State", name := "whyNotIn", desc := "(III)I" } : Jvm.MethodName)) ∈ lw_all := lw_g (lw_at lw_m5 160 rfl) rfl
theorem q1232 : (Jvm.Cond.selects "PaperMill$State" ({ cls := "PaperMill$State", name := "whyNotIn", desc := "(III)I" } : Jvm.MethodName) ({ cls := "PaperMill$State", name := "whyNotIn", desc := "(III)I" } : Jvm.MethodName)) ∈ lw_all := lw_g (lw_at lw_m5 161 rfl) rfl
theorem q1233 : (Jvm.Cond.code ({ cls := "PaperMill$State", name := "whyNotIn", desc := "(III)I" } : Jvm.MethodName) prog_19_method_7_code (5 : Nat) (Option.some Jvm.ClassFile.FieldType.int)) ∈ lw_all := lw_g (lw_at lw_m5 162 rfl) rfl
theorem q1234 : (Jvm.Cond.classLink "PaperMill$State" (137 : Nat) "PaperMill$Reason") ∈ lw_all := lw_g (lw_at lw_m5 163 rfl) rfl
theorem q1236 : (Jvm.Cond.privateMethod ({ cls := "PaperMill$State", name := "lambda$whyNotIn$0", desc := "()Z" } : Jvm.MethodName)) ∈ lw_tbl := lw_at lw_m5 165 rfl
theorem q1237 : (Jvm.Cond.instanceMethod ({ cls := "PaperMill$State", name := "lambda$whyNotIn$0", desc := "()Z" } : Jvm.MethodName)) ∈ lw_all := lw_g (lw_at lw_m5 166 rfl) rfl
theorem q1238 : (Jvm.Cond.code ({ cls := "PaperMill$State", name := "lambda$whyNotIn$0", desc := "()Z" } : Jvm.MethodName) prog_19_method_41_code (1 : Nat) (Option.some Jvm.ClassFile.FieldType.boolean)) ∈ lw_all := lw_g (lw_at lw_m5 167 rfl) rfl
theorem q1239 : (Jvm.Cond.privateMethod ({ cls := "PaperMill$State", name := "lambda$whyNotIn$1", desc := "(I)Z" } : Jvm.MethodName)) ∈ lw_tbl := lw_at lw_m5 168 rfl
theorem q1240 : (Jvm.Cond.instanceMethod ({ cls := "PaperMill$State", name := "lambda$whyNotIn$1", desc := "(I)Z" } : Jvm.MethodName)) ∈ lw_all := lw_g (lw_at lw_m5 169 rfl) rfl
theorem q1241 : (Jvm.Cond.code ({ cls := "PaperMill$State", name := "lambda$whyNotIn$1", desc := "(I)Z" } : Jvm.MethodName) prog_19_method_40_code (2 : Nat) (Option.some Jvm.ClassFile.FieldType.boolean)) ∈ lw_all := lw_g (lw_at lw_m5 170 rfl) rfl
theorem q1242 : (Jvm.Cond.privateMethod ({ cls := "PaperMill$State", name := "lambda$whyNotIn$2", desc := "(II)Z" } : Jvm.MethodName)) ∈ lw_tbl := lw_at lw_m5 171 rfl
theorem q1243 : (Jvm.Cond.instanceMethod ({ cls := "PaperMill$State", name := "lambda$whyNotIn$2", desc := "(II)Z" } : Jvm.MethodName)) ∈ lw_all := lw_g (lw_at lw_m5 172 rfl) rfl
theorem q1244 : (Jvm.Cond.code ({ cls := "PaperMill$State", name := "lambda$whyNotIn$2", desc := "(II)Z" } : Jvm.MethodName) prog_19_method_39_code (3 : Nat) (Option.some Jvm.ClassFile.FieldType.boolean)) ∈ lw_all := lw_g (lw_at lw_m5 173 rfl) rfl
theorem q1245 : (Jvm.Cond.methodLink "PaperMill$State" (157 : Nat) ({ cls := "PaperMill$State", name := "toll", desc := "(II)I" } : Jvm.MethodName)) ∈ lw_all := lw_g (lw_at lw_m5 174 rfl) rfl
theorem q1246 : (Jvm.Cond.instanceMethod ({ cls := "PaperMill$State", name := "toll", desc := "(II)I" } : Jvm.MethodName)) ∈ lw_all := lw_g (lw_at lw_m5 175 rfl) rfl
theorem q1247 : (Jvm.Cond.selects "PaperMill$State" ({ cls := "PaperMill$State", name := "toll", desc := "(II)I" } : Jvm.MethodName) ({ cls := "PaperMill$State", name := "toll", desc := "(II)I" } : Jvm.MethodName)) ∈ lw_all := lw_g (lw_at lw_m5 176 rfl) rfl
theorem q1248 : (Jvm.Cond.code ({ cls := "PaperMill$State", name := "toll", desc := "(II)I" } : Jvm.MethodName) prog_19_method_5_code (4 : Nat) (Option.some Jvm.ClassFile.FieldType.int)) ∈ lw_all := lw_g (lw_at lw_m5 177 rfl) rfl
theorem q1249 : (Jvm.Cond.methodLink "PaperMill$State" (130 : Nat) ({ cls := "PaperMill$State", name := "passLeft", desc := "(I)I" } : Jvm.MethodName)) ∈ lw_all := lw_g (lw_at lw_m5 178 rfl) rfl
theorem q1250 : (Jvm.Cond.instanceMethod ({ cls := "PaperMill$State", name := "passLeft", desc := "(I)I" } : Jvm.MethodName)) ∈ lw_all := lw_g (lw_at lw_m5 179 rfl) rfl
theorem q1251 : (Jvm.Cond.selects "PaperMill$State" ({ cls := "PaperMill$State", name := "passLeft", desc := "(I)I" } : Jvm.MethodName) ({ cls := "PaperMill$State", name := "passLeft", desc := "(I)I" } : Jvm.MethodName)) ∈ lw_all := lw_g (lw_at lw_m5 180 rfl) rfl
theorem q1252 : (Jvm.Cond.code ({ cls := "PaperMill$State", name := "passLeft", desc := "(I)I" } : Jvm.MethodName) prog_19_method_4_code (3 : Nat) (Option.some Jvm.ClassFile.FieldType.int)) ∈ lw_all := lw_g (lw_at lw_m5 181 rfl) rfl
theorem q1253 : (Jvm.Cond.methodLink "PaperMill$State" (306 : Nat) ({ cls := "PaperMill$State", name := "canOwe", desc := "(II)Z" } : Jvm.MethodName)) ∈ lw_all := lw_g (lw_at lw_m5 182 rfl) rfl
theorem q1254 : (Jvm.Cond.instanceMethod ({ cls := "PaperMill$State", name := "canOwe", desc := "(II)Z" } : Jvm.MethodName)) ∈ lw_all := lw_g (lw_at lw_m5 183 rfl) rfl
theorem q1255 : (Jvm.Cond.selects "PaperMill$State" ({ cls := "PaperMill$State", name := "canOwe", desc := "(II)Z" } : Jvm.MethodName) ({ cls := "PaperMill$State", name := "canOwe", desc := "(II)Z" } : Jvm.MethodName)) ∈ lw_all := lw_g (lw_at lw_m5 184 rfl) rfl
theorem q1256 : (Jvm.Cond.code ({ cls := "PaperMill$State", name := "canOwe", desc := "(II)Z" } : Jvm.MethodName) prog_19_method_6_code (3 : Nat) (Option.some Jvm.ClassFile.FieldType.boolean)) ∈ lw_all := lw_g (lw_at lw_m5 185 rfl) rfl
theorem q1257 : (Jvm.Cond.methodLinkNest "PaperMill$State" (149 : Nat) ({ cls := "PaperMill", name := "first", desc := "([LPaperMill$Reason;)I" } : Jvm.MethodName) "PaperMill") ∈ lw_tbl := lw_at lw_m5 186 rfl
theorem q1264 : (Jvm.Cond.methodLink "PaperMill$State" (161 : Nat) ({ cls := "PaperMill$Bale", name := "<init>", desc := "(III)V" } : Jvm.MethodName)) ∈ lw_all := lw_g (lw_at lw_m5 193 rfl) rfl
theorem q1272 : (Jvm.Cond.instanceMethod ({ cls := "PaperMill$State", name := "beat", desc := "(II)Z" } : Jvm.MethodName)) ∈ lw_all := lw_g (lw_at lw_m5 201 rfl) rfl
theorem q1273 : (Jvm.Cond.selects "PaperMill$State" ({ cls := "PaperMill$State", name := "beat", desc := "(II)Z" } : Jvm.MethodName) ({ cls := "PaperMill$State", name := "beat", desc := "(II)Z" } : Jvm.MethodName)) ∈ lw_all := lw_g (lw_at lw_m5 202 rfl) rfl
theorem q1274 : (Jvm.Cond.code ({ cls := "PaperMill$State", name := "beat", desc := "(II)Z" } : Jvm.MethodName) prog_19_method_15_code (8 : Nat) (Option.some Jvm.ClassFile.FieldType.boolean)) ∈ lw_all := lw_g (lw_at lw_m5 203 rfl) rfl
theorem q1275 : (Jvm.Cond.methodLink "PaperMill$State" (197 : Nat) ({ cls := "PaperMill$State", name := "whyNotBeaten", desc := "(II)I" } : Jvm.MethodName)) ∈ lw_all := lw_g (lw_at lw_m5 204 rfl) rfl
theorem q1276 : (Jvm.Cond.instanceMethod ({ cls := "PaperMill$State", name := "whyNotBeaten", desc := "(II)I" } : Jvm.MethodName)) ∈ lw_all := lw_g (lw_at lw_m5 205 rfl) rfl
theorem q1277 : (Jvm.Cond.selects "PaperMill$State" ({ cls := "PaperMill$State", name := "whyNotBeaten", desc := "(II)I" } : Jvm.MethodName) ({ cls := "PaperMill$State", name := "whyNotBeaten", desc := "(II)I" } : Jvm.MethodName)) ∈ lw_all := lw_g (lw_at lw_m5 206 rfl) rfl
theorem q1278 : (Jvm.Cond.code ({ cls := "PaperMill$State", name := "whyNotBeaten", desc := "(II)I" } : Jvm.MethodName) prog_19_method_14_code (5 : Nat) (Option.some Jvm.ClassFile.FieldType.int)) ∈ lw_all := lw_g (lw_at lw_m5 207 rfl) rfl
theorem q1279 : (Jvm.Cond.methodLink "PaperMill$State" (187 : Nat) ({ cls := "PaperMill$Vat", name := "isEmpty", desc := "()Z" } : Jvm.MethodName)) ∈ lw_all := lw_g (lw_at lw_m5 208 rfl) rfl
theorem q1283 : (Jvm.Cond.methodLinkNest "PaperMill$State" (190 : Nat) ({ cls := "PaperMill", name := "shares", desc := "(LPaperMill$Mix;I)[I" } : Jvm.MethodName) "PaperMill") ∈ lw_tbl := lw_at lw_m5 212 rfl
theorem q1289 : (Jvm.Cond.methodLink "PaperMill$State" (194 : Nat) ({ cls := "PaperMill$State", name := "goodRags", desc := "(I)I" } : Jvm.MethodName)) ∈ lw_all := lw_g (lw_at lw_m5 218 rfl) rfl
theorem q1290 : (Jvm.Cond.instanceMethod ({ cls := "PaperMill$State", name := "goodRags", desc := "(I)I" } : Jvm.MethodName)) ∈ lw_all := lw_g (lw_at lw_m5 219 rfl) rfl
theorem q1291 : (Jvm.Cond.selects "PaperMill$State" ({ cls := "PaperMill$State", name := "goodRags", desc := "(I)I" } : Jvm.MethodName) ({ cls := "PaperMill$State", name := "goodRags", desc := "(I)I" } : Jvm.MethodName)) ∈ lw_all := lw_g (lw_at lw_m5 220 rfl) rfl
theorem q1292 : (Jvm.Cond.code ({ cls := "PaperMill$State", name := "goodRags", desc := "(I)I" } : Jvm.MethodName) prog_19_method_9_code (5 : Nat) (Option.some Jvm.ClassFile.FieldType.int)) ∈ lw_all := lw_g (lw_at lw_m5 221 rfl) rfl
theorem q1293 : (Jvm.Cond.methodLink "PaperMill$State" (200 : Nat) ({ cls := "PaperMill$State", name := "take", desc := "(II)V" } : Jvm.MethodName)) ∈ lw_all := lw_g (lw_at lw_m5 222 rfl) rfl
theorem q1294 : (Jvm.Cond.privateMethod ({ cls := "PaperMill$State", name := "take", desc := "(II)V" } : Jvm.MethodName)) ∈ lw_tbl := lw_at lw_m5 223 rfl
theorem q1295 : (Jvm.Cond.instanceMethod ({ cls := "PaperMill$State", name := "take", desc := "(II)V" } : Jvm.MethodName)) ∈ lw_all := lw_g (lw_at lw_m5 224 rfl) rfl
theorem q1296 : (Jvm.Cond.code ({ cls := "PaperMill$State", name := "take", desc := "(II)V" } : Jvm.MethodName) prog_19_method_10_code (7 : Nat) (Option.none : Option Jvm.ClassFile.FieldType)) ∈ lw_all := lw_g (lw_at lw_m5 225 rfl) rfl
theorem q1297 : (Jvm.Cond.methodLinkNest "PaperMill$State" (203 : Nat) ({ cls := "PaperMill", name := "strength", desc := "(I)I" } : Jvm.MethodName) "PaperMill") ∈ lw_tbl := lw_at lw_m5 226 rfl
theorem q1307 : (Jvm.Cond.instanceMethod ({ cls := "PaperMill$State", name := "stamp", desc := "(II)Z" } : Jvm.MethodName)) ∈ lw_all := lw_g (lw_at lw_m5 236 rfl) rfl
theorem q1308 : (Jvm.Cond.selects "PaperMill$State" ({ cls := "PaperMill$State", name := "stamp", desc := "(II)Z" } : Jvm.MethodName) ({ cls := "PaperMill$State", name := "stamp", desc := "(II)Z" } : Jvm.MethodName)) ∈ lw_all := lw_g (lw_at lw_m5 237 rfl) rfl
theorem q1309 : (Jvm.Cond.code ({ cls := "PaperMill$State", name := "stamp", desc := "(II)Z" } : Jvm.MethodName) prog_19_method_17_code (4 : Nat) (Option.some Jvm.ClassFile.FieldType.boolean)) ∈ lw_all := lw_g (lw_at lw_m5 238 rfl) rfl
theorem q1310 : (Jvm.Cond.methodLink "PaperMill$State" (214 : Nat) ({ cls := "PaperMill$State", name := "canStamp", desc := "(II)Z" } : Jvm.MethodName)) ∈ lw_all := lw_g (lw_at lw_m5 239 rfl) rfl
theorem q1311 : (Jvm.Cond.instanceMethod ({ cls := "PaperMill$State", name := "canStamp", desc := "(II)Z" } : Jvm.MethodName)) ∈ lw_all := lw_g (lw_at lw_m6 0 rfl) rfl
theorem q1312 : (Jvm.Cond.selects "PaperMill$State" ({ cls := "PaperMill$State", name := "canStamp", desc := "(II)Z" } : Jvm.MethodName) ({ cls := "PaperMill$State", name := "canStamp", desc := "(II)Z" } : Jvm.MethodName)) ∈ lw_all := lw_g (lw_at lw_m6 1 rfl) rfl
theorem q1313 : (Jvm.Cond.code ({ cls := "PaperMill$State", name := "canStamp", desc := "(II)Z" } : Jvm.MethodName) prog_19_method_16_code (3 : Nat) (Option.some Jvm.ClassFile.FieldType.boolean)) ∈ lw_all := lw_g (lw_at lw_m6 2 rfl) rfl
theorem q1321 : (Jvm.Cond.instanceMethod ({ cls := "PaperMill$State", name := "make", desc := "(III)I" } : Jvm.MethodName)) ∈ lw_all := lw_g (lw_at lw_m6 10 rfl) rfl
theorem q1322 : (Jvm.Cond.selects "PaperMill$State" ({ cls := "PaperMill$State", name := "make", desc := "(III)I" } : Jvm.MethodName) ({ cls := "PaperMill$State", name := "make", desc := "(III)I" } : Jvm.MethodName)) ∈ lw_all := lw_g (lw_at lw_m6 11 rfl) rfl
theorem q1323 : (Jvm.Cond.code ({ cls := "PaperMill$State", name := "make", desc := "(III)I" } : Jvm.MethodName) prog_19_method_20_code (7 : Nat) (Option.some Jvm.ClassFile.FieldType.int)) ∈ lw_all := lw_g (lw_at lw_m6 12 rfl) rfl
theorem q1324 : (Jvm.Cond.methodLink "PaperMill$State" (235 : Nat) ({ cls := "PaperMill$State", name := "whyNotMade", desc := "(III)I" } : Jvm.MethodName)) ∈ lw_all := lw_g (lw_at lw_m6 13 rfl) rfl
theorem q1325 : (Jvm.Cond.instanceMethod ({ cls := "PaperMill$State", name := "whyNotMade", desc := "(III)I" } : Jvm.MethodName)) ∈ lw_all := lw_g (lw_at lw_m6 14 rfl) rfl
theorem q1326 : (Jvm.Cond.selects "PaperMill$State" ({ cls := "PaperMill$State", name := "whyNotMade", desc := "(III)I" } : Jvm.MethodName) ({ cls := "PaperMill$State", name := "whyNotMade", desc := "(III)I" } : Jvm.MethodName)) ∈ lw_all := lw_g (lw_at lw_m6 15 rfl) rfl
theorem q1327 : (Jvm.Cond.code ({ cls := "PaperMill$State", name := "whyNotMade", desc := "(III)I" } : Jvm.MethodName) prog_19_method_19_code (7 : Nat) (Option.some Jvm.ClassFile.FieldType.int)) ∈ lw_all := lw_g (lw_at lw_m6 16 rfl) rfl
theorem q1328 : (Jvm.Cond.static ({ cls := "PaperMill$State", name := "lambda$whyNotMade$3", desc := "(LPaperMill$Vat;)Z" } : Jvm.MethodName)) ∈ lw_all := lw_g (lw_at lw_m6 17 rfl) rfl
theorem q1329 : (Jvm.Cond.code ({ cls := "PaperMill$State", name := "lambda$whyNotMade$3", desc := "(LPaperMill$Vat;)Z" } : Jvm.MethodName) prog_19_method_38_code (1 : Nat) (Option.some Jvm.ClassFile.FieldType.boolean)) ∈ lw_all := lw_g (lw_at lw_m6 18 rfl) rfl
theorem q1330 : (Jvm.Cond.static ({ cls := "PaperMill$State", name := "lambda$whyNotMade$4", desc := "(ILPaperMill$Mould;LPaperMill$Vat;)Z" } : Jvm.MethodName)) ∈ lw_all := lw_g (lw_at lw_m6 19 rfl) rfl
theorem q1331 : (Jvm.Cond.code ({ cls := "PaperMill$State", name := "lambda$whyNotMade$4", desc := "(ILPaperMill$Mould;LPaperMill$Vat;)Z" } : Jvm.MethodName) prog_19_method_37_code (3 : Nat) (Option.some Jvm.ClassFile.FieldType.boolean)) ∈ lw_all := lw_g (lw_at lw_m6 20 rfl) rfl
theorem q1332 : (Jvm.Cond.static ({ cls := "PaperMill$State", name := "lambda$whyNotMade$5", desc := "(LPaperMill$Mould;I)Z" } : Jvm.MethodName)) ∈ lw_all := lw_g (lw_at lw_m6 21 rfl) rfl
theorem q1333 : (Jvm.Cond.code ({ cls := "PaperMill$State", name := "lambda$whyNotMade$5", desc := "(LPaperMill$Mould;I)Z" } : Jvm.MethodName) prog_19_method_36_code (2 : Nat) (Option.some Jvm.ClassFile.FieldType.boolean)) ∈ lw_all := lw_g (lw_at lw_m6 22 rfl) rfl
theorem q1334 : (Jvm.Cond.privateMethod ({ cls := "PaperMill$State", name := "lambda$whyNotMade$6", desc := "()Z" } : Jvm.MethodName)) ∈ lw_tbl := lw_at lw_m6 23 rfl
theorem q1335 : (Jvm.Cond.instanceMethod ({ cls := "PaperMill$State", name := "lambda$whyNotMade$6", desc := "()Z" } : Jvm.MethodName)) ∈ lw_all := lw_g (lw_at lw_m6 24 rfl) rfl
theorem q1336 : (Jvm.Cond.code ({ cls := "PaperMill$State", name := "lambda$whyNotMade$6", desc := "()Z" } : Jvm.MethodName) prog_19_method_35_code (1 : Nat) (Option.some Jvm.ClassFile.FieldType.boolean)) ∈ lw_all := lw_g (lw_at lw_m6 25 rfl) rfl
theorem q1337 : (Jvm.Cond.privateMethod ({ cls := "PaperMill$State", name := "lambda$whyNotMade$7", desc := "(II)Z" } : Jvm.MethodName)) ∈ lw_tbl := lw_at lw_m6 26 rfl
theorem q1338 : (Jvm.Cond.instanceMethod ({ cls := "PaperMill$State", name := "lambda$whyNotMade$7", desc := "(II)Z" } : Jvm.MethodName)) ∈ lw_all := lw_g (lw_at lw_m6 27 rfl) rfl
theorem q1339 : (Jvm.Cond.code ({ cls := "PaperMill$State", name := "lambda$whyNotMade$7", desc := "(II)Z" } : Jvm.MethodName) prog_19_method_34_code (3 : Nat) (Option.some Jvm.ClassFile.FieldType.boolean)) ∈ lw_all := lw_g (lw_at lw_m6 28 rfl) rfl
theorem q1340 : (Jvm.Cond.methodLink "PaperMill$State" (238 : Nat) ({ cls := "PaperMill$State", name := "points", desc := "(II)I" } : Jvm.MethodName)) ∈ lw_all := lw_g (lw_at lw_m6 29 rfl) rfl
theorem q1341 : (Jvm.Cond.instanceMethod ({ cls := "PaperMill$State", name := "points", desc := "(II)I" } : Jvm.MethodName)) ∈ lw_all := lw_g (lw_at lw_m6 30 rfl) rfl
theorem q1342 : (Jvm.Cond.selects "PaperMill$State" ({ cls := "PaperMill$State", name := "points", desc := "(II)I" } : Jvm.MethodName) ({ cls := "PaperMill$State", name := "points", desc := "(II)I" } : Jvm.MethodName)) ∈ lw_all := lw_g (lw_at lw_m6 31 rfl) rfl
theorem q1343 : (Jvm.Cond.code ({ cls := "PaperMill$State", name := "points", desc := "(II)I" } : Jvm.MethodName) prog_19_method_18_code (4 : Nat) (Option.some Jvm.ClassFile.FieldType.int)) ∈ lw_all := lw_g (lw_at lw_m6 32 rfl) rfl
theorem q1344 : (Jvm.Cond.methodLink "PaperMill$State" (218 : Nat) ({ cls := "PaperMill$Vat", name := "fineness", desc := "()I" } : Jvm.MethodName)) ∈ lw_all := lw_g (lw_at lw_m6 33 rfl) rfl
theorem q1348 : (Jvm.Cond.methodLink "PaperMill$State" (256 : Nat) ({ cls := "PaperMill$Grade", name := "with", desc := "(I)LPaperMill$Grade;" } : Jvm.MethodName)) ∈ lw_all := lw_g (lw_at lw_m6 37 rfl) rfl
theorem q1369 : (Jvm.Cond.methodLink "PaperMill$State" (241 : Nat) ({ cls := "PaperMill$Mould", name := "spoil", desc := "(II)I" } : Jvm.MethodName)) ∈ lw_all := lw_g (lw_at lw_m6 58 rfl) rfl
theorem q1373 : (Jvm.Cond.methodLink "PaperMill$State" (249 : Nat) ({ cls := "PaperMill$Vat", name := "use", desc := "(I)V" } : Jvm.MethodName)) ∈ lw_all := lw_g (lw_at lw_m6 62 rfl) rfl
theorem q1377 : (Jvm.Cond.methodLink "PaperMill$State" (262 : Nat) ({ cls := "PaperMill$Pile", name := "<init>", desc := "(ILPaperMill$Size;LPaperMill$Grade;I)V" } : Jvm.MethodName)) ∈ lw_all := lw_g (lw_at lw_m6 66 rfl) rfl
theorem q1385 : (Jvm.Cond.instanceMethod ({ cls := "PaperMill$State", name := "pass", desc := "(I)Z" } : Jvm.MethodName)) ∈ lw_all := lw_g (lw_at lw_m6 74 rfl) rfl
theorem q1386 : (Jvm.Cond.selects "PaperMill$State" ({ cls := "PaperMill$State", name := "pass", desc := "(I)Z" } : Jvm.MethodName) ({ cls := "PaperMill$State", name := "pass", desc := "(I)Z" } : Jvm.MethodName)) ∈ lw_all := lw_g (lw_at lw_m6 75 rfl) rfl
theorem q1387 : (Jvm.Cond.code ({ cls := "PaperMill$State", name := "pass", desc := "(I)Z" } : Jvm.MethodName) prog_19_method_26_code (4 : Nat) (Option.some Jvm.ClassFile.FieldType.boolean)) ∈ lw_all := lw_g (lw_at lw_m6 76 rfl) rfl
theorem q1388 : (Jvm.Cond.methodLink "PaperMill$State" (275 : Nat) ({ cls := "PaperMill$State", name := "canPass", desc := "(I)Z" } : Jvm.MethodName)) ∈ lw_all := lw_g (lw_at lw_m6 77 rfl) rfl
theorem q1389 : (Jvm.Cond.instanceMethod ({ cls := "PaperMill$State", name := "canPass", desc := "(I)Z" } : Jvm.MethodName)) ∈ lw_all := lw_g (lw_at lw_m6 78 rfl) rfl
theorem q1390 : (Jvm.Cond.selects "PaperMill$State" ({ cls := "PaperMill$State", name := "canPass", desc := "(I)Z" } : Jvm.MethodName) ({ cls := "PaperMill$State", name := "canPass", desc := "(I)Z" } : Jvm.MethodName)) ∈ lw_all := lw_g (lw_at lw_m6 79 rfl) rfl
theorem q1391 : (Jvm.Cond.code ({ cls := "PaperMill$State", name := "canPass", desc := "(I)Z" } : Jvm.MethodName) prog_19_method_25_code (2 : Nat) (Option.some Jvm.ClassFile.FieldType.boolean)) ∈ lw_all := lw_g (lw_at lw_m6 80 rfl) rfl
theorem q1392 : (Jvm.Cond.methodLink "PaperMill$State" (279 : Nat) ({ cls := "PaperMill$State", name := "night", desc := "()V" } : Jvm.MethodName)) ∈ lw_all := lw_g (lw_at lw_m6 81 rfl) rfl
theorem q1665 : (Jvm.Cond.instanceMethod ({ cls := "PaperMill$State", name := "drySheets", desc := "(ILPaperMill$Size;LPaperMill$Grade;)I" } : Jvm.MethodName)) ∈ lw_all := lw_g (lw_at lw_m7 114 rfl) rfl
theorem q1666 : (Jvm.Cond.selects "PaperMill$State" ({ cls := "PaperMill$State", name := "drySheets", desc := "(ILPaperMill$Size;LPaperMill$Grade;)I" } : Jvm.MethodName) ({ cls := "PaperMill$State", name := "drySheets", desc := "(ILPaperMill$Size;LPaperMill$Grade;)I" } : Jvm.MethodName)) ∈ lw_all := lw_g (lw_at lw_m7 115 rfl) rfl
theorem q1667 : (Jvm.Cond.code ({ cls := "PaperMill$State", name := "drySheets", desc := "(ILPaperMill$Size;LPaperMill$Grade;)I" } : Jvm.MethodName) prog_19_method_22_code (6 : Nat) (Option.some Jvm.ClassFile.FieldType.int)) ∈ lw_all := lw_g (lw_at lw_m7 116 rfl) rfl
theorem q1668 : (Jvm.Cond.methodLink "PaperMill$State" (265 : Nat) ({ cls := "PaperMill$Pile", name := "isDryOf", desc := "(ILPaperMill$Size;LPaperMill$Grade;)Z" } : Jvm.MethodName)) ∈ lw_all := lw_g (lw_at lw_m7 117 rfl) rfl
theorem q1673 : (Jvm.Cond.instanceMethod ({ cls := "PaperMill$State", name := "hasRoomForReam", desc := "()Z" } : Jvm.MethodName)) ∈ lw_all := lw_g (lw_at lw_m7 122 rfl) rfl
theorem q1674 : (Jvm.Cond.selects "PaperMill$State" ({ cls := "PaperMill$State", name := "hasRoomForReam", desc := "()Z" } : Jvm.MethodName) ({ cls := "PaperMill$State", name := "hasRoomForReam", desc := "()Z" } : Jvm.MethodName)) ∈ lw_all := lw_g (lw_at lw_m7 123 rfl) rfl
theorem q1675 : (Jvm.Cond.code ({ cls := "PaperMill$State", name := "hasRoomForReam", desc := "()Z" } : Jvm.MethodName) prog_19_method_23_code (1 : Nat) (Option.some Jvm.ClassFile.FieldType.boolean)) ∈ lw_all := lw_g (lw_at lw_m7 124 rfl) rfl
theorem q1677 : (Jvm.Cond.instanceMethod ({ cls := "PaperMill$State", name := "pack", desc := "(ILPaperMill$Size;LPaperMill$Grade;I)V" } : Jvm.MethodName)) ∈ lw_all := lw_g (lw_at lw_m7 126 rfl) rfl
theorem q1678 : (Jvm.Cond.selects "PaperMill$State" ({ cls := "PaperMill$State", name := "pack", desc := "(ILPaperMill$Size;LPaperMill$Grade;I)V" } : Jvm.MethodName) ({ cls := "PaperMill$State", name := "pack", desc := "(ILPaperMill$Size;LPaperMill$Grade;I)V" } : Jvm.MethodName)) ∈ lw_all := lw_g (lw_at lw_m7 127 rfl) rfl
theorem q1679 : (Jvm.Cond.code ({ cls := "PaperMill$State", name := "pack", desc := "(ILPaperMill$Size;LPaperMill$Grade;I)V" } : Jvm.MethodName) prog_19_method_24_code (9 : Nat) (Option.none : Option Jvm.ClassFile.FieldType)) ∈ lw_all := lw_g (lw_at lw_m7 128 rfl) rfl
theorem q1681 : (Jvm.Cond.methodLink "PaperMill$State" (272 : Nat) ({ cls := "PaperMill$Ream", name := "<init>", desc := "(LPaperMill$Size;LPaperMill$Grade;I)V" } : Jvm.MethodName)) ∈ lw_all := lw_g (lw_at lw_m7 130 rfl) rfl
theorem q1835 : (Jvm.Cond.instanceMethod ({ cls := "PaperMill$State", name := "mouldReach", desc := "(I)I" } : Jvm.MethodName)) ∈ lw_all := lw_g (lw_at lw_m8 44 rfl) rfl
theorem q1836 : (Jvm.Cond.selects "PaperMill$State" ({ cls := "PaperMill$State", name := "mouldReach", desc := "(I)I" } : Jvm.MethodName) ({ cls := "PaperMill$State", name := "mouldReach", desc := "(I)I" } : Jvm.MethodName)) ∈ lw_all := lw_g (lw_at lw_m8 45 rfl) rfl
theorem q1837 : (Jvm.Cond.code ({ cls := "PaperMill$State", name := "mouldReach", desc := "(I)I" } : Jvm.MethodName) prog_19_method_13_code (2 : Nat) (Option.some Jvm.ClassFile.FieldType.int)) ∈ lw_all := lw_g (lw_at lw_m8 46 rfl) rfl
theorem q1838 : (Jvm.Cond.methodLink "PaperMill$State" (184 : Nat) ({ cls := "PaperMill$State", name := "reach", desc := "(II)I" } : Jvm.MethodName)) ∈ lw_all := lw_g (lw_at lw_m8 47 rfl) rfl
theorem q1839 : (Jvm.Cond.privateMethod ({ cls := "PaperMill$State", name := "reach", desc := "(II)I" } : Jvm.MethodName)) ∈ lw_tbl := lw_at lw_m8 48 rfl
theorem q1840 : (Jvm.Cond.instanceMethod ({ cls := "PaperMill$State", name := "reach", desc := "(II)I" } : Jvm.MethodName)) ∈ lw_all := lw_g (lw_at lw_m8 49 rfl) rfl
theorem q1841 : (Jvm.Cond.code ({ cls := "PaperMill$State", name := "reach", desc := "(II)I" } : Jvm.MethodName) prog_19_method_12_code (5 : Nat) (Option.some Jvm.ClassFile.FieldType.int)) ∈ lw_all := lw_g (lw_at lw_m8 50 rfl) rfl
theorem q1922 : (Jvm.Cond.instanceMethod ({ cls := "PaperMill$State", name := "sheetsFrom", desc := "(II)I" } : Jvm.MethodName)) ∈ lw_all := lw_g (lw_at lw_m8 131 rfl) rfl
theorem q1923 : (Jvm.Cond.selects "PaperMill$State" ({ cls := "PaperMill$State", name := "sheetsFrom", desc := "(II)I" } : Jvm.MethodName) ({ cls := "PaperMill$State", name := "sheetsFrom", desc := "(II)I" } : Jvm.MethodName)) ∈ lw_all := lw_g (lw_at lw_m8 132 rfl) rfl
theorem q1924 : (Jvm.Cond.code ({ cls := "PaperMill$State", name := "sheetsFrom", desc := "(II)I" } : Jvm.MethodName) prog_19_method_21_code (8 : Nat) (Option.some Jvm.ClassFile.FieldType.int)) ∈ lw_all := lw_g (lw_at lw_m8 133 rfl) rfl
theorem q2698 : (Jvm.Cond.castable "PaperMill$State" "java/lang/Object") ∈ lw_tbl := lw_at lw_m11 187 rfl
theorem in_X2 : ∀ w ∈ wsX20, w ∈ lw_all := lw_in wsX20 [246, 248, 250, 252, 254, 256, 258, 260, 262, 264, 266, 268, 270, 272, 274, 276, 278] (by decide +kernel) (by decide +kernel)
/-! PaperMill$Rag -/
set_option maxRecDepth 100000
def RX3 : String := "PaperMill$Rag"
def TX3 : u_T := fun k => match k with
  | 0 => ("PaperMill$Rag", "sort", "I", true)
  | _ => ("PaperMill$Rag", "parts", "I", true)
def tyX3 : Nat → FieldType := fun k => match k with
  | 0 => .int
  | _ => .int
abbrev wsX30 : List Cond := u_ws RX3 TX3 2
theorem nmX3 : ∀ a, a < 2 → ∀ b, b < 2 → a ≠ b → (TX3 a).2.1 ≠ (TX3 b).2.1 := by decide +kernel
theorem tyX3_ok : ∀ k, k < 2 → parseFieldDescriptor (TX3 k).2.2.1 = some (tyX3 k) := by decide +kernel
abbrev cX3_init : ByteArray := prog_12_method_1_code
def yX3_init : MethodName := ⟨RX3, "<init>", "(II)V"⟩
def dkwX3_init_0 : List UInt8 := [42, 183, 0, 1, 42, 27, 181, 0, 7, 42, 28, 181, 0, 13, 177]
abbrev dktX3_init_0 : List UInt8 := dkwX3_init_0 ++ []
theorem dksX3_init_0 : cX3_init.data.toList.drop 0 = dktX3_init_0 := by decide +kernel
theorem dX3_init_0 : decode cX3_init 0 = .ok (.aload_n 0, 1) := dk_42 (dk_at dksX3_init_0 0 rfl rfl)
theorem dX3_init_1 : decode cX3_init 1 = .ok (.invokespecial 1, 3) := dk_183 0 1 (dk_at dksX3_init_0 1 rfl rfl)
theorem dX3_init_4 : decode cX3_init 4 = .ok (.aload_n 0, 1) := dk_42 (dk_at dksX3_init_0 4 rfl rfl)
theorem dX3_init_5 : decode cX3_init 5 = .ok (.iload_n 1, 1) := dk_27 (dk_at dksX3_init_0 5 rfl rfl)
theorem dX3_init_6 : decode cX3_init 6 = .ok (.putfield 7, 3) := dk_181 0 7 (dk_at dksX3_init_0 6 rfl rfl)
theorem dX3_init_9 : decode cX3_init 9 = .ok (.aload_n 0, 1) := dk_42 (dk_at dksX3_init_0 9 rfl rfl)
theorem dX3_init_10 : decode cX3_init 10 = .ok (.iload_n 2, 1) := dk_28 (dk_at dksX3_init_0 10 rfl rfl)
theorem dX3_init_11 : decode cX3_init 11 = .ok (.putfield 13, 3) := dk_181 0 13 (dk_at dksX3_init_0 11 rfl rfl)
theorem dX3_init_14 : decode cX3_init 14 = .ok (.return_, 1) := dk_177 (dk_at dksX3_init_0 14 rfl rfl)
theorem q114 : (Jvm.Cond.initialized "PaperMill$Rag") ∈ lw_all := lw_g (lw_at lw_m1 3 rfl) rfl
theorem q172 : (Jvm.Cond.instantiable "PaperMill$Rag" (2 : Nat)) ∈ lw_all := lw_g (lw_at lw_m1 61 rfl) rfl
theorem q174 : (Jvm.Cond.instanceMethod ({ cls := "PaperMill$Rag", name := "<init>", desc := "(II)V" } : Jvm.MethodName)) ∈ lw_all := lw_g (lw_at lw_m1 63 rfl) rfl
theorem q175 : (Jvm.Cond.code ({ cls := "PaperMill$Rag", name := "<init>", desc := "(II)V" } : Jvm.MethodName) prog_12_method_1_code (3 : Nat) (Option.none : Option Jvm.ClassFile.FieldType)) ∈ lw_all := lw_g (lw_at lw_m1 64 rfl) rfl
theorem q176 : (Jvm.Cond.methodLink "PaperMill$Rag" (1 : Nat) ({ cls := "java/lang/Object", name := "<init>", desc := "()V" } : Jvm.MethodName)) ∈ lw_all := lw_g (lw_at lw_m1 65 rfl) rfl
theorem q177 : (Jvm.Cond.fieldLink "PaperMill$Rag" (7 : Nat) "PaperMill$Rag" "sort" "I") ∈ lw_all := lw_g (lw_at lw_m1 66 rfl) rfl
theorem q179 : (Jvm.Cond.fieldLink "PaperMill$Rag" (13 : Nat) "PaperMill$Rag" "parts" "I") ∈ lw_all := lw_g (lw_at lw_m1 68 rfl) rfl
theorem q181 : (Jvm.Cond.laysFinal "PaperMill$Rag" "PaperMill$Rag" "sort" "I") ∈ lw_all := lw_g (lw_at lw_m1 70 rfl) rfl
theorem q182 : (Jvm.Cond.soleField "PaperMill$Rag" "sort") ∈ lw_all := lw_g (lw_at lw_m1 71 rfl) rfl
theorem q183 : (Jvm.Cond.laysFinal "PaperMill$Rag" "PaperMill$Rag" "parts" "I") ∈ lw_all := lw_g (lw_at lw_m1 72 rfl) rfl
theorem q184 : (Jvm.Cond.soleField "PaperMill$Rag" "parts") ∈ lw_all := lw_g (lw_at lw_m1 73 rfl) rfl
theorem q185 : (Jvm.Cond.superclass "PaperMill$Rag" "java/lang/Object") ∈ lw_all := lw_g (lw_at lw_m1 74 rfl) rfl
theorem q345 : (Jvm.Cond.selects "PaperMill$Rag" ({ cls := "java/lang/Object", name := "getClass", desc := "()Ljava/lang/Class;" } : Jvm.MethodName) ({ cls := "java/lang/Object", name := "getClass", desc := "()Ljava/lang/Class;" } : Jvm.MethodName)) ∈ lw_all := lw_g (lw_at lw_m1 234 rfl) rfl
theorem q2699 : (Jvm.Cond.castable "PaperMill$Rag" "java/lang/Object") ∈ lw_tbl := lw_at lw_m11 188 rfl
theorem in_X3 : ∀ w ∈ wsX30, w ∈ lw_all := lw_in wsX30 [181, 183] (by decide +kernel) (by decide +kernel)
/-! PaperMill$Carter -/
set_option maxRecDepth 100000
def RX4 : String := "PaperMill$Carter"
def TX4 : u_T := fun k => match k with
  | 0 => ("PaperMill$Carter", "debt", "I", false)
  | _ => ("PaperMill$Carter", "passDay", "I", false)
def tyX4 : Nat → FieldType := fun k => match k with
  | 0 => .int
  | _ => .int
abbrev wsX40 : List Cond := u_ws RX4 TX4 2
theorem nmX4 : ∀ a, a < 2 → ∀ b, b < 2 → a ≠ b → (TX4 a).2.1 ≠ (TX4 b).2.1 := by decide +kernel
theorem tyX4_ok : ∀ k, k < 2 → parseFieldDescriptor (TX4 k).2.2.1 = some (tyX4 k) := by decide +kernel
abbrev cX4_init : ByteArray := prog_4_method_1_code
def yX4_init : MethodName := ⟨RX4, "<init>", "()V"⟩
def dkwX4_init_0 : List UInt8 := [42, 183, 0, 3, 42, 2, 181, 0, 9, 177]
abbrev dktX4_init_0 : List UInt8 := dkwX4_init_0 ++ []
theorem dksX4_init_0 : cX4_init.data.toList.drop 0 = dktX4_init_0 := by decide +kernel
theorem dX4_init_0 : decode cX4_init 0 = .ok (.aload_n 0, 1) := dk_42 (dk_at dksX4_init_0 0 rfl rfl)
theorem dX4_init_1 : decode cX4_init 1 = .ok (.invokespecial 3, 3) := dk_183 0 3 (dk_at dksX4_init_0 1 rfl rfl)
theorem dX4_init_4 : decode cX4_init 4 = .ok (.aload_n 0, 1) := dk_42 (dk_at dksX4_init_0 4 rfl rfl)
theorem dX4_init_5 : decode cX4_init 5 = .ok (.iconst (-1), 1) := dk_2 (dk_at dksX4_init_0 5 rfl rfl)
theorem dX4_init_6 : decode cX4_init 6 = .ok (.putfield 9, 3) := dk_181 0 9 (dk_at dksX4_init_0 6 rfl rfl)
theorem dX4_init_9 : decode cX4_init 9 = .ok (.return_, 1) := dk_177 (dk_at dksX4_init_0 9 rfl rfl)
abbrev cX4_copy : ByteArray := prog_4_method_2_code
def yX4_copy : MethodName := ⟨RX4, "copy", "()LPaperMill$Carter;"⟩
def dkwX4_copy_1 : List UInt8 := [43, 176]
abbrev dktX4_copy_1 : List UInt8 := dkwX4_copy_1 ++ []
def dkwX4_copy_0 : List UInt8 := [187, 0, 10, 89, 183, 0, 15, 76, 43, 42, 180, 0, 16, 181, 0, 16, 43, 42, 180, 0, 9, 181, 0, 9]
abbrev dktX4_copy_0 : List UInt8 := dkwX4_copy_0 ++ dktX4_copy_1
theorem dksX4_copy_0 : cX4_copy.data.toList.drop 0 = dktX4_copy_0 := by decide +kernel
theorem dksX4_copy_1 : cX4_copy.data.toList.drop 24 = dktX4_copy_1 := dk_seg dksX4_copy_0 24 rfl rfl
theorem dX4_copy_0 : decode cX4_copy 0 = .ok (.new 10, 3) := dk_187 0 10 (dk_at dksX4_copy_0 0 rfl rfl)
theorem dX4_copy_3 : decode cX4_copy 3 = .ok (.dup, 1) := dk_89 (dk_at dksX4_copy_0 3 rfl rfl)
theorem dX4_copy_4 : decode cX4_copy 4 = .ok (.invokespecial 15, 3) := dk_183 0 15 (dk_at dksX4_copy_0 4 rfl rfl)
theorem dX4_copy_7 : decode cX4_copy 7 = .ok (.astore_n 1, 1) := dk_76 (dk_at dksX4_copy_0 7 rfl rfl)
theorem dX4_copy_8 : decode cX4_copy 8 = .ok (.aload_n 1, 1) := dk_43 (dk_at dksX4_copy_0 8 rfl rfl)
theorem dX4_copy_9 : decode cX4_copy 9 = .ok (.aload_n 0, 1) := dk_42 (dk_at dksX4_copy_0 9 rfl rfl)
theorem dX4_copy_10 : decode cX4_copy 10 = .ok (.getfield 16, 3) := dk_180 0 16 (dk_at dksX4_copy_0 10 rfl rfl)
theorem dX4_copy_13 : decode cX4_copy 13 = .ok (.putfield 16, 3) := dk_181 0 16 (dk_at dksX4_copy_0 13 rfl rfl)
theorem dX4_copy_16 : decode cX4_copy 16 = .ok (.aload_n 1, 1) := dk_43 (dk_at dksX4_copy_0 16 rfl rfl)
theorem dX4_copy_17 : decode cX4_copy 17 = .ok (.aload_n 0, 1) := dk_42 (dk_at dksX4_copy_0 17 rfl rfl)
theorem dX4_copy_18 : decode cX4_copy 18 = .ok (.getfield 9, 3) := dk_180 0 9 (dk_at dksX4_copy_0 18 rfl rfl)
theorem dX4_copy_21 : decode cX4_copy 21 = .ok (.putfield 9, 3) := dk_181 0 9 (dk_at dksX4_copy_0 21 rfl rfl)
theorem dX4_copy_24 : decode cX4_copy 24 = .ok (.aload_n 1, 1) := dk_43 (dk_at dksX4_copy_1 0 rfl rfl)
theorem dX4_copy_25 : decode cX4_copy 25 = .ok (.areturn, 1) := dk_176 (dk_at dksX4_copy_1 1 rfl rfl)
theorem q118 : (Jvm.Cond.initialized "PaperMill$Carter") ∈ lw_all := lw_g (lw_at lw_m1 7 rfl) rfl
theorem q282 : (Jvm.Cond.instantiable "PaperMill$Carter" (2 : Nat)) ∈ lw_all := lw_g (lw_at lw_m1 171 rfl) rfl
theorem q284 : (Jvm.Cond.instanceMethod ({ cls := "PaperMill$Carter", name := "<init>", desc := "()V" } : Jvm.MethodName)) ∈ lw_all := lw_g (lw_at lw_m1 173 rfl) rfl
theorem q285 : (Jvm.Cond.code ({ cls := "PaperMill$Carter", name := "<init>", desc := "()V" } : Jvm.MethodName) prog_4_method_1_code (1 : Nat) (Option.none : Option Jvm.ClassFile.FieldType)) ∈ lw_all := lw_g (lw_at lw_m1 174 rfl) rfl
theorem q286 : (Jvm.Cond.methodLink "PaperMill$Carter" (3 : Nat) ({ cls := "java/lang/Object", name := "<init>", desc := "()V" } : Jvm.MethodName)) ∈ lw_all := lw_g (lw_at lw_m1 175 rfl) rfl
theorem q287 : (Jvm.Cond.fieldLink "PaperMill$Carter" (16 : Nat) "PaperMill$Carter" "debt" "I") ∈ lw_all := lw_g (lw_at lw_m1 176 rfl) rfl
theorem q290 : (Jvm.Cond.fieldLink "PaperMill$Carter" (9 : Nat) "PaperMill$Carter" "passDay" "I") ∈ lw_all := lw_g (lw_at lw_m1 179 rfl) rfl
theorem q293 : (Jvm.Cond.lays "PaperMill$Carter" "PaperMill$Carter" "debt" "I") ∈ lw_all := lw_g (lw_at lw_m1 182 rfl) rfl
theorem q294 : (Jvm.Cond.soleField "PaperMill$Carter" "debt") ∈ lw_all := lw_g (lw_at lw_m1 183 rfl) rfl
theorem q295 : (Jvm.Cond.lays "PaperMill$Carter" "PaperMill$Carter" "passDay" "I") ∈ lw_all := lw_g (lw_at lw_m1 184 rfl) rfl
theorem q296 : (Jvm.Cond.soleField "PaperMill$Carter" "passDay") ∈ lw_all := lw_g (lw_at lw_m1 185 rfl) rfl
theorem q297 : (Jvm.Cond.superclass "PaperMill$Carter" "java/lang/Object") ∈ lw_all := lw_g (lw_at lw_m1 186 rfl) rfl
theorem q339 : (Jvm.Cond.selects "PaperMill$Carter" ({ cls := "java/lang/Object", name := "getClass", desc := "()Ljava/lang/Class;" } : Jvm.MethodName) ({ cls := "java/lang/Object", name := "getClass", desc := "()Ljava/lang/Class;" } : Jvm.MethodName)) ∈ lw_all := lw_g (lw_at lw_m1 228 rfl) rfl
theorem q620 : (Jvm.Cond.instanceMethod ({ cls := "PaperMill$Carter", name := "copy", desc := "()LPaperMill$Carter;" } : Jvm.MethodName)) ∈ lw_all := lw_g (lw_at lw_m3 29 rfl) rfl
theorem q621 : (Jvm.Cond.selects "PaperMill$Carter" ({ cls := "PaperMill$Carter", name := "copy", desc := "()LPaperMill$Carter;" } : Jvm.MethodName) ({ cls := "PaperMill$Carter", name := "copy", desc := "()LPaperMill$Carter;" } : Jvm.MethodName)) ∈ lw_all := lw_g (lw_at lw_m3 30 rfl) rfl
theorem q622 : (Jvm.Cond.code ({ cls := "PaperMill$Carter", name := "copy", desc := "()LPaperMill$Carter;" } : Jvm.MethodName) prog_4_method_2_code (2 : Nat) (Option.some (Jvm.ClassFile.FieldType.object "PaperMill$Carter"))) ∈ lw_all := lw_g (lw_at lw_m3 31 rfl) rfl
theorem q623 : (Jvm.Cond.classLink "PaperMill$Carter" (10 : Nat) "PaperMill$Carter") ∈ lw_all := lw_g (lw_at lw_m3 32 rfl) rfl
theorem q624 : (Jvm.Cond.methodLink "PaperMill$Carter" (15 : Nat) ({ cls := "PaperMill$Carter", name := "<init>", desc := "()V" } : Jvm.MethodName)) ∈ lw_all := lw_g (lw_at lw_m3 33 rfl) rfl
theorem q2701 : (Jvm.Cond.castable "PaperMill$Carter" "java/lang/Object") ∈ lw_tbl := lw_at lw_m11 190 rfl
theorem in_X4 : ∀ w ∈ wsX40, w ∈ lw_all := lw_in wsX40 [293, 295] (by decide +kernel) (by decide +kernel)
/-! PaperMill$Vat -/
set_option maxRecDepth 100000
def RX5 : String := "PaperMill$Vat"
def TX5 : u_T := fun k => match k with
  | 0 => ("PaperMill$Vat", "units", "I", false)
  | 1 => ("PaperMill$Vat", "hours", "I", false)
  | _ => ("PaperMill$Vat", "strength", "I", false)
def tyX5 : Nat → FieldType := fun k => match k with
  | 0 => .int
  | 1 => .int
  | _ => .int
abbrev wsX50 : List Cond := u_ws RX5 TX5 3
theorem nmX5 : ∀ a, a < 3 → ∀ b, b < 3 → a ≠ b → (TX5 a).2.1 ≠ (TX5 b).2.1 := by decide +kernel
theorem tyX5_ok : ∀ k, k < 3 → parseFieldDescriptor (TX5 k).2.2.1 = some (tyX5 k) := by decide +kernel
abbrev cX5_init : ByteArray := prog_23_method_1_code
def yX5_init : MethodName := ⟨RX5, "<init>", "()V"⟩
theorem dX5_init_0 : decode cX5_init 0 = .ok (.aload_n 0, 1) := by decide +kernel
theorem dX5_init_1 : decode cX5_init 1 = .ok (.invokespecial 3, 3) := by decide +kernel
theorem dX5_init_4 : decode cX5_init 4 = .ok (.return_, 1) := by decide +kernel
abbrev cX5_copy : ByteArray := prog_23_method_2_code
def yX5_copy : MethodName := ⟨RX5, "copy", "()LPaperMill$Vat;"⟩
def dkwX5_copy_1 : List UInt8 := [43, 42, 180, 0, 19, 181, 0, 19, 43, 176]
abbrev dktX5_copy_1 : List UInt8 := dkwX5_copy_1 ++ []
def dkwX5_copy_0 : List UInt8 := [187, 0, 9, 89, 183, 0, 11, 76, 43, 42, 180, 0, 12, 181, 0, 12, 43, 42, 180, 0, 16, 181, 0, 16]
abbrev dktX5_copy_0 : List UInt8 := dkwX5_copy_0 ++ dktX5_copy_1
theorem dksX5_copy_0 : cX5_copy.data.toList.drop 0 = dktX5_copy_0 := by decide +kernel
theorem dksX5_copy_1 : cX5_copy.data.toList.drop 24 = dktX5_copy_1 := dk_seg dksX5_copy_0 24 rfl rfl
theorem dX5_copy_0 : decode cX5_copy 0 = .ok (.new 9, 3) := dk_187 0 9 (dk_at dksX5_copy_0 0 rfl rfl)
theorem dX5_copy_3 : decode cX5_copy 3 = .ok (.dup, 1) := dk_89 (dk_at dksX5_copy_0 3 rfl rfl)
theorem dX5_copy_4 : decode cX5_copy 4 = .ok (.invokespecial 11, 3) := dk_183 0 11 (dk_at dksX5_copy_0 4 rfl rfl)
theorem dX5_copy_7 : decode cX5_copy 7 = .ok (.astore_n 1, 1) := dk_76 (dk_at dksX5_copy_0 7 rfl rfl)
theorem dX5_copy_8 : decode cX5_copy 8 = .ok (.aload_n 1, 1) := dk_43 (dk_at dksX5_copy_0 8 rfl rfl)
theorem dX5_copy_9 : decode cX5_copy 9 = .ok (.aload_n 0, 1) := dk_42 (dk_at dksX5_copy_0 9 rfl rfl)
theorem dX5_copy_10 : decode cX5_copy 10 = .ok (.getfield 12, 3) := dk_180 0 12 (dk_at dksX5_copy_0 10 rfl rfl)
theorem dX5_copy_13 : decode cX5_copy 13 = .ok (.putfield 12, 3) := dk_181 0 12 (dk_at dksX5_copy_0 13 rfl rfl)
theorem dX5_copy_16 : decode cX5_copy 16 = .ok (.aload_n 1, 1) := dk_43 (dk_at dksX5_copy_0 16 rfl rfl)
theorem dX5_copy_17 : decode cX5_copy 17 = .ok (.aload_n 0, 1) := dk_42 (dk_at dksX5_copy_0 17 rfl rfl)
theorem dX5_copy_18 : decode cX5_copy 18 = .ok (.getfield 16, 3) := dk_180 0 16 (dk_at dksX5_copy_0 18 rfl rfl)
theorem dX5_copy_21 : decode cX5_copy 21 = .ok (.putfield 16, 3) := dk_181 0 16 (dk_at dksX5_copy_0 21 rfl rfl)
theorem dX5_copy_24 : decode cX5_copy 24 = .ok (.aload_n 1, 1) := dk_43 (dk_at dksX5_copy_1 0 rfl rfl)
theorem dX5_copy_25 : decode cX5_copy 25 = .ok (.aload_n 0, 1) := dk_42 (dk_at dksX5_copy_1 1 rfl rfl)
theorem dX5_copy_26 : decode cX5_copy 26 = .ok (.getfield 19, 3) := dk_180 0 19 (dk_at dksX5_copy_1 2 rfl rfl)
theorem dX5_copy_29 : decode cX5_copy 29 = .ok (.putfield 19, 3) := dk_181 0 19 (dk_at dksX5_copy_1 5 rfl rfl)
theorem dX5_copy_32 : decode cX5_copy 32 = .ok (.aload_n 1, 1) := dk_43 (dk_at dksX5_copy_1 8 rfl rfl)
theorem dX5_copy_33 : decode cX5_copy 33 = .ok (.areturn, 1) := dk_176 (dk_at dksX5_copy_1 9 rfl rfl)
abbrev cX5_isEmpty : ByteArray := prog_23_method_3_code
def yX5_isEmpty : MethodName := ⟨RX5, "isEmpty", "()Z"⟩
def dkwX5_isEmpty_0 : List UInt8 := [42, 180, 0, 12, 154, 0, 7, 4, 167, 0, 4, 3, 172]
abbrev dktX5_isEmpty_0 : List UInt8 := dkwX5_isEmpty_0 ++ []
theorem dksX5_isEmpty_0 : cX5_isEmpty.data.toList.drop 0 = dktX5_isEmpty_0 := by decide +kernel
theorem dX5_isEmpty_0 : decode cX5_isEmpty 0 = .ok (.aload_n 0, 1) := dk_42 (dk_at dksX5_isEmpty_0 0 rfl rfl)
theorem dX5_isEmpty_1 : decode cX5_isEmpty 1 = .ok (.getfield 12, 3) := dk_180 0 12 (dk_at dksX5_isEmpty_0 1 rfl rfl)
theorem dX5_isEmpty_4 : decode cX5_isEmpty 4 = .ok (.ifCond .ne 7, 3) := dk_154 0 7 (dk_at dksX5_isEmpty_0 4 rfl rfl)
theorem dX5_isEmpty_7 : decode cX5_isEmpty 7 = .ok (.iconst 1, 1) := dk_4 (dk_at dksX5_isEmpty_0 7 rfl rfl)
theorem dX5_isEmpty_8 : decode cX5_isEmpty 8 = .ok (.goto 4, 3) := dk_167 0 4 (dk_at dksX5_isEmpty_0 8 rfl rfl)
theorem dX5_isEmpty_11 : decode cX5_isEmpty 11 = .ok (.iconst 0, 1) := dk_3 (dk_at dksX5_isEmpty_0 11 rfl rfl)
theorem dX5_isEmpty_12 : decode cX5_isEmpty 12 = .ok (.ireturn, 1) := dk_172 (dk_at dksX5_isEmpty_0 12 rfl rfl)
abbrev cX5_fineness : ByteArray := prog_23_method_5_code
def yX5_fineness : MethodName := ⟨RX5, "fineness", "()I"⟩
def dkwX5_fineness_0 : List UInt8 := [42, 180, 0, 16, 16, 24, 163, 0, 10, 42, 180, 0, 16, 167, 0, 10, 16, 48, 42, 180, 0, 16, 100, 172]
abbrev dktX5_fineness_0 : List UInt8 := dkwX5_fineness_0 ++ []
theorem dksX5_fineness_0 : cX5_fineness.data.toList.drop 0 = dktX5_fineness_0 := by decide +kernel
theorem dX5_fineness_0 : decode cX5_fineness 0 = .ok (.aload_n 0, 1) := dk_42 (dk_at dksX5_fineness_0 0 rfl rfl)
theorem dX5_fineness_1 : decode cX5_fineness 1 = .ok (.getfield 16, 3) := dk_180 0 16 (dk_at dksX5_fineness_0 1 rfl rfl)
theorem dX5_fineness_4 : decode cX5_fineness 4 = .ok (.bipush 24, 2) := dk_16 24 (dk_at dksX5_fineness_0 4 rfl rfl)
theorem dX5_fineness_6 : decode cX5_fineness 6 = .ok (.if_icmp .gt 10, 3) := dk_163 0 10 (dk_at dksX5_fineness_0 6 rfl rfl)
theorem dX5_fineness_9 : decode cX5_fineness 9 = .ok (.aload_n 0, 1) := dk_42 (dk_at dksX5_fineness_0 9 rfl rfl)
theorem dX5_fineness_10 : decode cX5_fineness 10 = .ok (.getfield 16, 3) := dk_180 0 16 (dk_at dksX5_fineness_0 10 rfl rfl)
theorem dX5_fineness_13 : decode cX5_fineness 13 = .ok (.goto 10, 3) := dk_167 0 10 (dk_at dksX5_fineness_0 13 rfl rfl)
theorem dX5_fineness_16 : decode cX5_fineness 16 = .ok (.bipush 48, 2) := dk_16 48 (dk_at dksX5_fineness_0 16 rfl rfl)
theorem dX5_fineness_18 : decode cX5_fineness 18 = .ok (.aload_n 0, 1) := dk_42 (dk_at dksX5_fineness_0 18 rfl rfl)
theorem dX5_fineness_19 : decode cX5_fineness 19 = .ok (.getfield 16, 3) := dk_180 0 16 (dk_at dksX5_fineness_0 19 rfl rfl)
theorem dX5_fineness_22 : decode cX5_fineness 22 = .ok (.isub, 1) := dk_100 (dk_at dksX5_fineness_0 22 rfl rfl)
theorem dX5_fineness_23 : decode cX5_fineness 23 = .ok (.ireturn, 1) := dk_172 (dk_at dksX5_fineness_0 23 rfl rfl)
abbrev cX5_use : ByteArray := prog_23_method_4_code
def yX5_use : MethodName := ⟨RX5, "use", "(I)V"⟩
def dkwX5_use_1 : List UInt8 := [181, 0, 19, 177]
abbrev dktX5_use_1 : List UInt8 := dkwX5_use_1 ++ []
def dkwX5_use_0 : List UInt8 := [42, 89, 180, 0, 12, 27, 100, 181, 0, 12, 42, 180, 0, 12, 154, 0, 13, 42, 3, 181, 0, 16, 42, 3]
abbrev dktX5_use_0 : List UInt8 := dkwX5_use_0 ++ dktX5_use_1
theorem dksX5_use_0 : cX5_use.data.toList.drop 0 = dktX5_use_0 := by decide +kernel
theorem dksX5_use_1 : cX5_use.data.toList.drop 24 = dktX5_use_1 := dk_seg dksX5_use_0 24 rfl rfl
theorem dX5_use_0 : decode cX5_use 0 = .ok (.aload_n 0, 1) := dk_42 (dk_at dksX5_use_0 0 rfl rfl)
theorem dX5_use_1 : decode cX5_use 1 = .ok (.dup, 1) := dk_89 (dk_at dksX5_use_0 1 rfl rfl)
theorem dX5_use_2 : decode cX5_use 2 = .ok (.getfield 12, 3) := dk_180 0 12 (dk_at dksX5_use_0 2 rfl rfl)
theorem dX5_use_5 : decode cX5_use 5 = .ok (.iload_n 1, 1) := dk_27 (dk_at dksX5_use_0 5 rfl rfl)
theorem dX5_use_6 : decode cX5_use 6 = .ok (.isub, 1) := dk_100 (dk_at dksX5_use_0 6 rfl rfl)
theorem dX5_use_7 : decode cX5_use 7 = .ok (.putfield 12, 3) := dk_181 0 12 (dk_at dksX5_use_0 7 rfl rfl)
theorem dX5_use_10 : decode cX5_use 10 = .ok (.aload_n 0, 1) := dk_42 (dk_at dksX5_use_0 10 rfl rfl)
theorem dX5_use_11 : decode cX5_use 11 = .ok (.getfield 12, 3) := dk_180 0 12 (dk_at dksX5_use_0 11 rfl rfl)
theorem dX5_use_14 : decode cX5_use 14 = .ok (.ifCond .ne 13, 3) := dk_154 0 13 (dk_at dksX5_use_0 14 rfl rfl)
theorem dX5_use_17 : decode cX5_use 17 = .ok (.aload_n 0, 1) := dk_42 (dk_at dksX5_use_0 17 rfl rfl)
theorem dX5_use_18 : decode cX5_use 18 = .ok (.iconst 0, 1) := dk_3 (dk_at dksX5_use_0 18 rfl rfl)
theorem dX5_use_19 : decode cX5_use 19 = .ok (.putfield 16, 3) := dk_181 0 16 (dk_at dksX5_use_0 19 rfl rfl)
theorem dX5_use_22 : decode cX5_use 22 = .ok (.aload_n 0, 1) := dk_42 (dk_at dksX5_use_0 22 rfl rfl)
theorem dX5_use_23 : decode cX5_use 23 = .ok (.iconst 0, 1) := dk_3 (dk_at dksX5_use_0 23 rfl rfl)
theorem dX5_use_24 : decode cX5_use 24 = .ok (.putfield 19, 3) := dk_181 0 19 (dk_at dksX5_use_1 0 rfl rfl)
theorem dX5_use_27 : decode cX5_use 27 = .ok (.return_, 1) := dk_177 (dk_at dksX5_use_1 3 rfl rfl)
theorem q123 : (Jvm.Cond.initialized "PaperMill$Vat") ∈ lw_all := lw_g (lw_at lw_m1 12 rfl) rfl
theorem q354 : (Jvm.Cond.selects "PaperMill$Vat" ({ cls := "java/lang/Object", name := "getClass", desc := "()Ljava/lang/Class;" } : Jvm.MethodName) ({ cls := "java/lang/Object", name := "getClass", desc := "()Ljava/lang/Class;" } : Jvm.MethodName)) ∈ lw_all := lw_g (lw_at lw_m2 3 rfl) rfl
theorem q381 : (Jvm.Cond.instantiable "PaperMill$Vat" (3 : Nat)) ∈ lw_all := lw_g (lw_at lw_m2 30 rfl) rfl
theorem q383 : (Jvm.Cond.instanceMethod ({ cls := "PaperMill$Vat", name := "<init>", desc := "()V" } : Jvm.MethodName)) ∈ lw_all := lw_g (lw_at lw_m2 32 rfl) rfl
theorem q384 : (Jvm.Cond.code ({ cls := "PaperMill$Vat", name := "<init>", desc := "()V" } : Jvm.MethodName) prog_23_method_1_code (1 : Nat) (Option.none : Option Jvm.ClassFile.FieldType)) ∈ lw_all := lw_g (lw_at lw_m2 33 rfl) rfl
theorem q385 : (Jvm.Cond.methodLink "PaperMill$Vat" (3 : Nat) ({ cls := "java/lang/Object", name := "<init>", desc := "()V" } : Jvm.MethodName)) ∈ lw_all := lw_g (lw_at lw_m2 34 rfl) rfl
theorem q386 : (Jvm.Cond.fieldLink "PaperMill$Vat" (12 : Nat) "PaperMill$Vat" "units" "I") ∈ lw_all := lw_g (lw_at lw_m2 35 rfl) rfl
theorem q389 : (Jvm.Cond.fieldLink "PaperMill$Vat" (16 : Nat) "PaperMill$Vat" "hours" "I") ∈ lw_all := lw_g (lw_at lw_m2 38 rfl) rfl
theorem q392 : (Jvm.Cond.fieldLink "PaperMill$Vat" (19 : Nat) "PaperMill$Vat" "strength" "I") ∈ lw_all := lw_g (lw_at lw_m2 41 rfl) rfl
theorem q395 : (Jvm.Cond.lays "PaperMill$Vat" "PaperMill$Vat" "units" "I") ∈ lw_all := lw_g (lw_at lw_m2 44 rfl) rfl
theorem q396 : (Jvm.Cond.soleField "PaperMill$Vat" "units") ∈ lw_all := lw_g (lw_at lw_m2 45 rfl) rfl
theorem q397 : (Jvm.Cond.lays "PaperMill$Vat" "PaperMill$Vat" "hours" "I") ∈ lw_all := lw_g (lw_at lw_m2 46 rfl) rfl
theorem q398 : (Jvm.Cond.soleField "PaperMill$Vat" "hours") ∈ lw_all := lw_g (lw_at lw_m2 47 rfl) rfl
theorem q399 : (Jvm.Cond.lays "PaperMill$Vat" "PaperMill$Vat" "strength" "I") ∈ lw_all := lw_g (lw_at lw_m2 48 rfl) rfl
theorem q400 : (Jvm.Cond.soleField "PaperMill$Vat" "strength") ∈ lw_all := lw_g (lw_at lw_m2 49 rfl) rfl
theorem q401 : (Jvm.Cond.superclass "PaperMill$Vat" "java/lang/Object") ∈ lw_all := lw_g (lw_at lw_m2 50 rfl) rfl
theorem q662 : (Jvm.Cond.instanceMethod ({ cls := "PaperMill$Vat", name := "copy", desc := "()LPaperMill$Vat;" } : Jvm.MethodName)) ∈ lw_all := lw_g (lw_at lw_m3 71 rfl) rfl
theorem q663 : (Jvm.Cond.selects "PaperMill$Vat" ({ cls := "PaperMill$Vat", name := "copy", desc := "()LPaperMill$Vat;" } : Jvm.MethodName) ({ cls := "PaperMill$Vat", name := "copy", desc := "()LPaperMill$Vat;" } : Jvm.MethodName)) ∈ lw_all := lw_g (lw_at lw_m3 72 rfl) rfl
theorem q664 : (Jvm.Cond.code ({ cls := "PaperMill$Vat", name := "copy", desc := "()LPaperMill$Vat;" } : Jvm.MethodName) prog_23_method_2_code (2 : Nat) (Option.some (Jvm.ClassFile.FieldType.object "PaperMill$Vat"))) ∈ lw_all := lw_g (lw_at lw_m3 73 rfl) rfl
theorem q665 : (Jvm.Cond.classLink "PaperMill$Vat" (9 : Nat) "PaperMill$Vat") ∈ lw_all := lw_g (lw_at lw_m3 74 rfl) rfl
theorem q666 : (Jvm.Cond.methodLink "PaperMill$Vat" (11 : Nat) ({ cls := "PaperMill$Vat", name := "<init>", desc := "()V" } : Jvm.MethodName)) ∈ lw_all := lw_g (lw_at lw_m3 75 rfl) rfl
theorem q1280 : (Jvm.Cond.instanceMethod ({ cls := "PaperMill$Vat", name := "isEmpty", desc := "()Z" } : Jvm.MethodName)) ∈ lw_all := lw_g (lw_at lw_m5 209 rfl) rfl
theorem q1281 : (Jvm.Cond.selects "PaperMill$Vat" ({ cls := "PaperMill$Vat", name := "isEmpty", desc := "()Z" } : Jvm.MethodName) ({ cls := "PaperMill$Vat", name := "isEmpty", desc := "()Z" } : Jvm.MethodName)) ∈ lw_all := lw_g (lw_at lw_m5 210 rfl) rfl
theorem q1282 : (Jvm.Cond.code ({ cls := "PaperMill$Vat", name := "isEmpty", desc := "()Z" } : Jvm.MethodName) prog_23_method_3_code (1 : Nat) (Option.some Jvm.ClassFile.FieldType.boolean)) ∈ lw_all := lw_g (lw_at lw_m5 211 rfl) rfl
theorem q1345 : (Jvm.Cond.instanceMethod ({ cls := "PaperMill$Vat", name := "fineness", desc := "()I" } : Jvm.MethodName)) ∈ lw_all := lw_g (lw_at lw_m6 34 rfl) rfl
theorem q1346 : (Jvm.Cond.selects "PaperMill$Vat" ({ cls := "PaperMill$Vat", name := "fineness", desc := "()I" } : Jvm.MethodName) ({ cls := "PaperMill$Vat", name := "fineness", desc := "()I" } : Jvm.MethodName)) ∈ lw_all := lw_g (lw_at lw_m6 35 rfl) rfl
theorem q1347 : (Jvm.Cond.code ({ cls := "PaperMill$Vat", name := "fineness", desc := "()I" } : Jvm.MethodName) prog_23_method_5_code (1 : Nat) (Option.some Jvm.ClassFile.FieldType.int)) ∈ lw_all := lw_g (lw_at lw_m6 36 rfl) rfl
theorem q1374 : (Jvm.Cond.instanceMethod ({ cls := "PaperMill$Vat", name := "use", desc := "(I)V" } : Jvm.MethodName)) ∈ lw_all := lw_g (lw_at lw_m6 63 rfl) rfl
theorem q1375 : (Jvm.Cond.selects "PaperMill$Vat" ({ cls := "PaperMill$Vat", name := "use", desc := "(I)V" } : Jvm.MethodName) ({ cls := "PaperMill$Vat", name := "use", desc := "(I)V" } : Jvm.MethodName)) ∈ lw_all := lw_g (lw_at lw_m6 64 rfl) rfl
theorem q1376 : (Jvm.Cond.code ({ cls := "PaperMill$Vat", name := "use", desc := "(I)V" } : Jvm.MethodName) prog_23_method_4_code (2 : Nat) (Option.none : Option Jvm.ClassFile.FieldType)) ∈ lw_all := lw_g (lw_at lw_m6 65 rfl) rfl
theorem q2702 : (Jvm.Cond.castable "PaperMill$Vat" "java/lang/Object") ∈ lw_tbl := lw_at lw_m11 191 rfl
theorem in_X5 : ∀ w ∈ wsX50, w ∈ lw_all := lw_in wsX50 [395, 397, 399] (by decide +kernel) (by decide +kernel)
/-! PaperMill$Mould -/
set_option maxRecDepth 100000
def RX6 : String := "PaperMill$Mould"
def TX6 : u_T := fun k => match k with
  | 0 => ("PaperMill$Mould", "size", "LPaperMill$Size;", true)
  | 1 => ("PaperMill$Mould", "mark", "I", false)
  | 2 => ("PaperMill$Mould", "wear", "I", false)
  | _ => ("PaperMill$Mould", "rest", "I", false)
def tyX6 : Nat → FieldType := fun k => match k with
  | 0 => .object "PaperMill$Size"
  | 1 => .int
  | 2 => .int
  | _ => .int
abbrev wsX60 : List Cond := u_ws RX6 TX6 4
theorem nmX6 : ∀ a, a < 4 → ∀ b, b < 4 → a ≠ b → (TX6 a).2.1 ≠ (TX6 b).2.1 := by decide +kernel
theorem tyX6_ok : ∀ k, k < 4 → parseFieldDescriptor (TX6 k).2.2.1 = some (tyX6 k) := by decide +kernel
abbrev cX6_init : ByteArray := prog_10_method_1_code
def yX6_init : MethodName := ⟨RX6, "<init>", "(ILPaperMill$Size;)V"⟩
def dkwX6_init_0 : List UInt8 := [42, 183, 0, 1, 42, 27, 181, 0, 7, 42, 44, 181, 0, 13, 177]
abbrev dktX6_init_0 : List UInt8 := dkwX6_init_0 ++ []
theorem dksX6_init_0 : cX6_init.data.toList.drop 0 = dktX6_init_0 := by decide +kernel
theorem dX6_init_0 : decode cX6_init 0 = .ok (.aload_n 0, 1) := dk_42 (dk_at dksX6_init_0 0 rfl rfl)
theorem dX6_init_1 : decode cX6_init 1 = .ok (.invokespecial 1, 3) := dk_183 0 1 (dk_at dksX6_init_0 1 rfl rfl)
theorem dX6_init_4 : decode cX6_init 4 = .ok (.aload_n 0, 1) := dk_42 (dk_at dksX6_init_0 4 rfl rfl)
theorem dX6_init_5 : decode cX6_init 5 = .ok (.iload_n 1, 1) := dk_27 (dk_at dksX6_init_0 5 rfl rfl)
theorem dX6_init_6 : decode cX6_init 6 = .ok (.putfield 7, 3) := dk_181 0 7 (dk_at dksX6_init_0 6 rfl rfl)
theorem dX6_init_9 : decode cX6_init 9 = .ok (.aload_n 0, 1) := dk_42 (dk_at dksX6_init_0 9 rfl rfl)
theorem dX6_init_10 : decode cX6_init 10 = .ok (.aload_n 2, 1) := dk_44 (dk_at dksX6_init_0 10 rfl rfl)
theorem dX6_init_11 : decode cX6_init 11 = .ok (.putfield 13, 3) := dk_181 0 13 (dk_at dksX6_init_0 11 rfl rfl)
theorem dX6_init_14 : decode cX6_init 14 = .ok (.return_, 1) := dk_177 (dk_at dksX6_init_0 14 rfl rfl)
abbrev cX6_copy : ByteArray := prog_10_method_2_code
def yX6_copy : MethodName := ⟨RX6, "copy", "()LPaperMill$Mould;"⟩
def dkwX6_copy_1 : List UInt8 := [43, 42, 180, 0, 23, 181, 0, 23, 43, 176]
abbrev dktX6_copy_1 : List UInt8 := dkwX6_copy_1 ++ []
def dkwX6_copy_0 : List UInt8 := [187, 0, 8, 89, 42, 180, 0, 7, 42, 180, 0, 13, 183, 0, 17, 76, 43, 42, 180, 0, 20, 181, 0, 20]
abbrev dktX6_copy_0 : List UInt8 := dkwX6_copy_0 ++ dktX6_copy_1
theorem dksX6_copy_0 : cX6_copy.data.toList.drop 0 = dktX6_copy_0 := by decide +kernel
theorem dksX6_copy_1 : cX6_copy.data.toList.drop 24 = dktX6_copy_1 := dk_seg dksX6_copy_0 24 rfl rfl
theorem dX6_copy_0 : decode cX6_copy 0 = .ok (.new 8, 3) := dk_187 0 8 (dk_at dksX6_copy_0 0 rfl rfl)
theorem dX6_copy_3 : decode cX6_copy 3 = .ok (.dup, 1) := dk_89 (dk_at dksX6_copy_0 3 rfl rfl)
theorem dX6_copy_4 : decode cX6_copy 4 = .ok (.aload_n 0, 1) := dk_42 (dk_at dksX6_copy_0 4 rfl rfl)
theorem dX6_copy_5 : decode cX6_copy 5 = .ok (.getfield 7, 3) := dk_180 0 7 (dk_at dksX6_copy_0 5 rfl rfl)
theorem dX6_copy_8 : decode cX6_copy 8 = .ok (.aload_n 0, 1) := dk_42 (dk_at dksX6_copy_0 8 rfl rfl)
theorem dX6_copy_9 : decode cX6_copy 9 = .ok (.getfield 13, 3) := dk_180 0 13 (dk_at dksX6_copy_0 9 rfl rfl)
theorem dX6_copy_12 : decode cX6_copy 12 = .ok (.invokespecial 17, 3) := dk_183 0 17 (dk_at dksX6_copy_0 12 rfl rfl)
theorem dX6_copy_15 : decode cX6_copy 15 = .ok (.astore_n 1, 1) := dk_76 (dk_at dksX6_copy_0 15 rfl rfl)
theorem dX6_copy_16 : decode cX6_copy 16 = .ok (.aload_n 1, 1) := dk_43 (dk_at dksX6_copy_0 16 rfl rfl)
theorem dX6_copy_17 : decode cX6_copy 17 = .ok (.aload_n 0, 1) := dk_42 (dk_at dksX6_copy_0 17 rfl rfl)
theorem dX6_copy_18 : decode cX6_copy 18 = .ok (.getfield 20, 3) := dk_180 0 20 (dk_at dksX6_copy_0 18 rfl rfl)
theorem dX6_copy_21 : decode cX6_copy 21 = .ok (.putfield 20, 3) := dk_181 0 20 (dk_at dksX6_copy_0 21 rfl rfl)
theorem dX6_copy_24 : decode cX6_copy 24 = .ok (.aload_n 1, 1) := dk_43 (dk_at dksX6_copy_1 0 rfl rfl)
theorem dX6_copy_25 : decode cX6_copy 25 = .ok (.aload_n 0, 1) := dk_42 (dk_at dksX6_copy_1 1 rfl rfl)
theorem dX6_copy_26 : decode cX6_copy 26 = .ok (.getfield 23, 3) := dk_180 0 23 (dk_at dksX6_copy_1 2 rfl rfl)
theorem dX6_copy_29 : decode cX6_copy 29 = .ok (.putfield 23, 3) := dk_181 0 23 (dk_at dksX6_copy_1 5 rfl rfl)
theorem dX6_copy_32 : decode cX6_copy 32 = .ok (.aload_n 1, 1) := dk_43 (dk_at dksX6_copy_1 8 rfl rfl)
theorem dX6_copy_33 : decode cX6_copy 33 = .ok (.areturn, 1) := dk_176 (dk_at dksX6_copy_1 9 rfl rfl)
abbrev cX6_spoil : ByteArray := prog_10_method_3_code
def yX6_spoil : MethodName := ⟨RX6, "spoil", "(II)I"⟩
def dkwX6_spoil_0 : List UInt8 := [27, 28, 104, 42, 180, 0, 23, 96, 62, 42, 29, 16, 100, 112, 181, 0, 23, 29, 16, 100, 108, 172]
abbrev dktX6_spoil_0 : List UInt8 := dkwX6_spoil_0 ++ []
theorem dksX6_spoil_0 : cX6_spoil.data.toList.drop 0 = dktX6_spoil_0 := by decide +kernel
theorem dX6_spoil_0 : decode cX6_spoil 0 = .ok (.iload_n 1, 1) := dk_27 (dk_at dksX6_spoil_0 0 rfl rfl)
theorem dX6_spoil_1 : decode cX6_spoil 1 = .ok (.iload_n 2, 1) := dk_28 (dk_at dksX6_spoil_0 1 rfl rfl)
theorem dX6_spoil_2 : decode cX6_spoil 2 = .ok (.imul, 1) := dk_104 (dk_at dksX6_spoil_0 2 rfl rfl)
theorem dX6_spoil_3 : decode cX6_spoil 3 = .ok (.aload_n 0, 1) := dk_42 (dk_at dksX6_spoil_0 3 rfl rfl)
theorem dX6_spoil_4 : decode cX6_spoil 4 = .ok (.getfield 23, 3) := dk_180 0 23 (dk_at dksX6_spoil_0 4 rfl rfl)
theorem dX6_spoil_7 : decode cX6_spoil 7 = .ok (.iadd, 1) := dk_96 (dk_at dksX6_spoil_0 7 rfl rfl)
theorem dX6_spoil_8 : decode cX6_spoil 8 = .ok (.istore_n 3, 1) := dk_62 (dk_at dksX6_spoil_0 8 rfl rfl)
theorem dX6_spoil_9 : decode cX6_spoil 9 = .ok (.aload_n 0, 1) := dk_42 (dk_at dksX6_spoil_0 9 rfl rfl)
theorem dX6_spoil_10 : decode cX6_spoil 10 = .ok (.iload_n 3, 1) := dk_29 (dk_at dksX6_spoil_0 10 rfl rfl)
theorem dX6_spoil_11 : decode cX6_spoil 11 = .ok (.bipush 100, 2) := dk_16 100 (dk_at dksX6_spoil_0 11 rfl rfl)
theorem dX6_spoil_13 : decode cX6_spoil 13 = .ok (.irem, 1) := dk_112 (dk_at dksX6_spoil_0 13 rfl rfl)
theorem dX6_spoil_14 : decode cX6_spoil 14 = .ok (.putfield 23, 3) := dk_181 0 23 (dk_at dksX6_spoil_0 14 rfl rfl)
theorem dX6_spoil_17 : decode cX6_spoil 17 = .ok (.iload_n 3, 1) := dk_29 (dk_at dksX6_spoil_0 17 rfl rfl)
theorem dX6_spoil_18 : decode cX6_spoil 18 = .ok (.bipush 100, 2) := dk_16 100 (dk_at dksX6_spoil_0 18 rfl rfl)
theorem dX6_spoil_20 : decode cX6_spoil 20 = .ok (.idiv, 1) := dk_108 (dk_at dksX6_spoil_0 20 rfl rfl)
theorem dX6_spoil_21 : decode cX6_spoil 21 = .ok (.ireturn, 1) := dk_172 (dk_at dksX6_spoil_0 21 rfl rfl)
theorem q124 : (Jvm.Cond.initialized "PaperMill$Mould") ∈ lw_all := lw_g (lw_at lw_m1 13 rfl) rfl
theorem q343 : (Jvm.Cond.selects "PaperMill$Mould" ({ cls := "java/lang/Object", name := "getClass", desc := "()Ljava/lang/Class;" } : Jvm.MethodName) ({ cls := "java/lang/Object", name := "getClass", desc := "()Ljava/lang/Class;" } : Jvm.MethodName)) ∈ lw_all := lw_g (lw_at lw_m1 232 rfl) rfl
theorem q403 : (Jvm.Cond.instantiable "PaperMill$Mould" (4 : Nat)) ∈ lw_all := lw_g (lw_at lw_m2 52 rfl) rfl
theorem q414 : (Jvm.Cond.instanceMethod ({ cls := "PaperMill$Mould", name := "<init>", desc := "(ILPaperMill$Size;)V" } : Jvm.MethodName)) ∈ lw_all := lw_g (lw_at lw_m2 63 rfl) rfl
theorem q415 : (Jvm.Cond.code ({ cls := "PaperMill$Mould", name := "<init>", desc := "(ILPaperMill$Size;)V" } : Jvm.MethodName) prog_10_method_1_code (3 : Nat) (Option.none : Option Jvm.ClassFile.FieldType)) ∈ lw_all := lw_g (lw_at lw_m2 64 rfl) rfl
theorem q416 : (Jvm.Cond.methodLink "PaperMill$Mould" (1 : Nat) ({ cls := "java/lang/Object", name := "<init>", desc := "()V" } : Jvm.MethodName)) ∈ lw_all := lw_g (lw_at lw_m2 65 rfl) rfl
theorem q417 : (Jvm.Cond.fieldLink "PaperMill$Mould" (13 : Nat) "PaperMill$Mould" "size" "LPaperMill$Size;") ∈ lw_all := lw_g (lw_at lw_m2 66 rfl) rfl
theorem q419 : (Jvm.Cond.fieldLink "PaperMill$Mould" (7 : Nat) "PaperMill$Mould" "mark" "I") ∈ lw_all := lw_g (lw_at lw_m2 68 rfl) rfl
theorem q422 : (Jvm.Cond.fieldLink "PaperMill$Mould" (20 : Nat) "PaperMill$Mould" "wear" "I") ∈ lw_all := lw_g (lw_at lw_m2 71 rfl) rfl
theorem q425 : (Jvm.Cond.fieldLink "PaperMill$Mould" (23 : Nat) "PaperMill$Mould" "rest" "I") ∈ lw_all := lw_g (lw_at lw_m2 74 rfl) rfl
theorem q426 : (Jvm.Cond.laysFinal "PaperMill$Mould" "PaperMill$Mould" "size" "LPaperMill$Size;") ∈ lw_all := lw_g (lw_at lw_m2 75 rfl) rfl
theorem q427 : (Jvm.Cond.soleField "PaperMill$Mould" "size") ∈ lw_all := lw_g (lw_at lw_m2 76 rfl) rfl
theorem q428 : (Jvm.Cond.lays "PaperMill$Mould" "PaperMill$Mould" "mark" "I") ∈ lw_all := lw_g (lw_at lw_m2 77 rfl) rfl
theorem q429 : (Jvm.Cond.soleField "PaperMill$Mould" "mark") ∈ lw_all := lw_g (lw_at lw_m2 78 rfl) rfl
theorem q430 : (Jvm.Cond.lays "PaperMill$Mould" "PaperMill$Mould" "wear" "I") ∈ lw_all := lw_g (lw_at lw_m2 79 rfl) rfl
theorem q431 : (Jvm.Cond.soleField "PaperMill$Mould" "wear") ∈ lw_all := lw_g (lw_at lw_m2 80 rfl) rfl
theorem q432 : (Jvm.Cond.lays "PaperMill$Mould" "PaperMill$Mould" "rest" "I") ∈ lw_all := lw_g (lw_at lw_m2 81 rfl) rfl
theorem q433 : (Jvm.Cond.soleField "PaperMill$Mould" "rest") ∈ lw_all := lw_g (lw_at lw_m2 82 rfl) rfl
theorem q434 : (Jvm.Cond.superclass "PaperMill$Mould" "java/lang/Object") ∈ lw_all := lw_g (lw_at lw_m2 83 rfl) rfl
theorem q668 : (Jvm.Cond.instanceMethod ({ cls := "PaperMill$Mould", name := "copy", desc := "()LPaperMill$Mould;" } : Jvm.MethodName)) ∈ lw_all := lw_g (lw_at lw_m3 77 rfl) rfl
theorem q669 : (Jvm.Cond.selects "PaperMill$Mould" ({ cls := "PaperMill$Mould", name := "copy", desc := "()LPaperMill$Mould;" } : Jvm.MethodName) ({ cls := "PaperMill$Mould", name := "copy", desc := "()LPaperMill$Mould;" } : Jvm.MethodName)) ∈ lw_all := lw_g (lw_at lw_m3 78 rfl) rfl
theorem q670 : (Jvm.Cond.code ({ cls := "PaperMill$Mould", name := "copy", desc := "()LPaperMill$Mould;" } : Jvm.MethodName) prog_10_method_2_code (2 : Nat) (Option.some (Jvm.ClassFile.FieldType.object "PaperMill$Mould"))) ∈ lw_all := lw_g (lw_at lw_m3 79 rfl) rfl
theorem q671 : (Jvm.Cond.classLink "PaperMill$Mould" (8 : Nat) "PaperMill$Mould") ∈ lw_all := lw_g (lw_at lw_m3 80 rfl) rfl
theorem q672 : (Jvm.Cond.methodLink "PaperMill$Mould" (17 : Nat) ({ cls := "PaperMill$Mould", name := "<init>", desc := "(ILPaperMill$Size;)V" } : Jvm.MethodName)) ∈ lw_all := lw_g (lw_at lw_m3 81 rfl) rfl
theorem q1370 : (Jvm.Cond.instanceMethod ({ cls := "PaperMill$Mould", name := "spoil", desc := "(II)I" } : Jvm.MethodName)) ∈ lw_all := lw_g (lw_at lw_m6 59 rfl) rfl
theorem q1371 : (Jvm.Cond.selects "PaperMill$Mould" ({ cls := "PaperMill$Mould", name := "spoil", desc := "(II)I" } : Jvm.MethodName) ({ cls := "PaperMill$Mould", name := "spoil", desc := "(II)I" } : Jvm.MethodName)) ∈ lw_all := lw_g (lw_at lw_m6 60 rfl) rfl
theorem q1372 : (Jvm.Cond.code ({ cls := "PaperMill$Mould", name := "spoil", desc := "(II)I" } : Jvm.MethodName) prog_10_method_3_code (4 : Nat) (Option.some Jvm.ClassFile.FieldType.int)) ∈ lw_all := lw_g (lw_at lw_m6 61 rfl) rfl
theorem q2703 : (Jvm.Cond.castable "PaperMill$Mould" "java/lang/Object") ∈ lw_tbl := lw_at lw_m11 192 rfl
theorem in_X6 : ∀ w ∈ wsX60, w ∈ lw_all := lw_in wsX60 [426, 428, 430, 432] (by decide +kernel) (by decide +kernel)
/-! PaperMill$Size -/
set_option maxRecDepth 100000
def RX7 : String := "PaperMill$Size"
abbrev cX7_of : ByteArray := prog_15_method_6_code
def yX7_of : MethodName := ⟨RX7, "of", "(I)LPaperMill$Size;"⟩
def dkwX7_of_1 : List UInt8 := [176]
abbrev dktX7_of_1 : List UInt8 := dkwX7_of_1 ++ []
def dkwX7_of_0 : List UInt8 := [26, 154, 0, 9, 178, 0, 3, 167, 0, 17, 26, 4, 160, 0, 9, 178, 0, 7, 167, 0, 6, 178, 0, 10]
abbrev dktX7_of_0 : List UInt8 := dkwX7_of_0 ++ dktX7_of_1
theorem dksX7_of_0 : cX7_of.data.toList.drop 0 = dktX7_of_0 := by decide +kernel
theorem dksX7_of_1 : cX7_of.data.toList.drop 24 = dktX7_of_1 := dk_seg dksX7_of_0 24 rfl rfl
theorem dX7_of_0 : decode cX7_of 0 = .ok (.iload_n 0, 1) := dk_26 (dk_at dksX7_of_0 0 rfl rfl)
theorem dX7_of_1 : decode cX7_of 1 = .ok (.ifCond .ne 9, 3) := dk_154 0 9 (dk_at dksX7_of_0 1 rfl rfl)
theorem dX7_of_4 : decode cX7_of 4 = .ok (.getstatic 3, 3) := dk_178 0 3 (dk_at dksX7_of_0 4 rfl rfl)
theorem dX7_of_7 : decode cX7_of 7 = .ok (.goto 17, 3) := dk_167 0 17 (dk_at dksX7_of_0 7 rfl rfl)
theorem dX7_of_10 : decode cX7_of 10 = .ok (.iload_n 0, 1) := dk_26 (dk_at dksX7_of_0 10 rfl rfl)
theorem dX7_of_11 : decode cX7_of 11 = .ok (.iconst 1, 1) := dk_4 (dk_at dksX7_of_0 11 rfl rfl)
theorem dX7_of_12 : decode cX7_of 12 = .ok (.if_icmp .ne 9, 3) := dk_160 0 9 (dk_at dksX7_of_0 12 rfl rfl)
theorem dX7_of_15 : decode cX7_of 15 = .ok (.getstatic 7, 3) := dk_178 0 7 (dk_at dksX7_of_0 15 rfl rfl)
theorem dX7_of_18 : decode cX7_of 18 = .ok (.goto 6, 3) := dk_167 0 6 (dk_at dksX7_of_0 18 rfl rfl)
theorem dX7_of_21 : decode cX7_of 21 = .ok (.getstatic 10, 3) := dk_178 0 10 (dk_at dksX7_of_0 21 rfl rfl)
theorem dX7_of_24 : decode cX7_of 24 = .ok (.areturn, 1) := dk_176 (dk_at dksX7_of_1 0 rfl rfl)
theorem q126 : (Jvm.Cond.initialized "PaperMill$Size") ∈ lw_all := lw_g (lw_at lw_m1 15 rfl) rfl
theorem q405 : (Jvm.Cond.static ({ cls := "PaperMill$Size", name := "of", desc := "(I)LPaperMill$Size;" } : Jvm.MethodName)) ∈ lw_all := lw_g (lw_at lw_m2 54 rfl) rfl
theorem q406 : (Jvm.Cond.code ({ cls := "PaperMill$Size", name := "of", desc := "(I)LPaperMill$Size;" } : Jvm.MethodName) prog_15_method_6_code (1 : Nat) (Option.some (Jvm.ClassFile.FieldType.object "PaperMill$Size"))) ∈ lw_all := lw_g (lw_at lw_m2 55 rfl) rfl
theorem q407 : (Jvm.Cond.fieldLink "PaperMill$Size" (3 : Nat) "PaperMill$Size" "POT" "LPaperMill$Size;") ∈ lw_all := lw_g (lw_at lw_m2 56 rfl) rfl
theorem q408 : (Jvm.Cond.laysStatic "PaperMill$Size" "POT" "LPaperMill$Size;") ∈ lw_tbl := lw_at lw_m2 57 rfl
theorem q409 : (Jvm.Cond.fieldLink "PaperMill$Size" (7 : Nat) "PaperMill$Size" "CROWN" "LPaperMill$Size;") ∈ lw_all := lw_g (lw_at lw_m2 58 rfl) rfl
theorem q410 : (Jvm.Cond.laysStatic "PaperMill$Size" "CROWN" "LPaperMill$Size;") ∈ lw_tbl := lw_at lw_m2 59 rfl
theorem q411 : (Jvm.Cond.fieldLink "PaperMill$Size" (10 : Nat) "PaperMill$Size" "ROYAL" "LPaperMill$Size;") ∈ lw_all := lw_g (lw_at lw_m2 60 rfl) rfl
theorem q412 : (Jvm.Cond.laysStatic "PaperMill$Size" "ROYAL" "LPaperMill$Size;") ∈ lw_tbl := lw_at lw_m2 61 rfl
theorem q570 : (Jvm.Cond.declares ({ cls := "PaperMill$Size", name := "units", desc := "()I" } : Jvm.MethodName)) ∈ lw_tbl := lw_at lw_m2 219 rfl
theorem q571 : (Jvm.Cond.sameMethod "PaperMill$Size" "PaperMill$Size" "units" "()I") ∈ lw_all := lw_g (lw_at lw_m2 220 rfl) rfl
theorem q1724 : (Jvm.Cond.declares ({ cls := "PaperMill$Size", name := "price", desc := "()I" } : Jvm.MethodName)) ∈ lw_tbl := lw_at lw_m7 173 rfl
theorem q1725 : (Jvm.Cond.sameMethod "PaperMill$Size" "PaperMill$Size" "price" "()I") ∈ lw_all := lw_g (lw_at lw_m7 174 rfl) rfl
theorem q2731 : (Jvm.Cond.castable "PaperMill$Size" "java/lang/Object") ∈ lw_tbl := lw_at lw_m11 220 rfl
/-! PaperMill$Bale -/
set_option maxRecDepth 100000
def RX9 : String := "PaperMill$Bale"
def TX9 : u_T := fun k => match k with
  | 0 => ("PaperMill$Bale", "sort", "I", true)
  | 1 => ("PaperMill$Bale", "rags", "I", false)
  | 2 => ("PaperMill$Bale", "damp", "I", false)
  | 3 => ("PaperMill$Bale", "wetDays", "I", false)
  | _ => ("PaperMill$Bale", "isMouldy", "Z", false)
def tyX9 : Nat → FieldType := fun k => match k with
  | 0 => .int
  | 1 => .int
  | 2 => .int
  | 3 => .int
  | _ => .boolean
abbrev wsX90 : List Cond := u_ws RX9 TX9 5
theorem nmX9 : ∀ a, a < 5 → ∀ b, b < 5 → a ≠ b → (TX9 a).2.1 ≠ (TX9 b).2.1 := by decide +kernel
theorem tyX9_ok : ∀ k, k < 5 → parseFieldDescriptor (TX9 k).2.2.1 = some (tyX9 k) := by decide +kernel
abbrev cX9_copy : ByteArray := prog_2_method_2_code
def yX9_copy : MethodName := ⟨RX9, "copy", "()LPaperMill$Bale;"⟩
def dkwX9_copy_1 : List UInt8 := [180, 0, 24, 181, 0, 24, 43, 42, 180, 0, 27, 181, 0, 27, 43, 176]
abbrev dktX9_copy_1 : List UInt8 := dkwX9_copy_1 ++ []
def dkwX9_copy_0 : List UInt8 := [187, 0, 10, 89, 42, 180, 0, 9, 42, 180, 0, 15, 42, 180, 0, 18, 183, 0, 21, 76, 43, 42]
abbrev dktX9_copy_0 : List UInt8 := dkwX9_copy_0 ++ dktX9_copy_1
theorem dksX9_copy_0 : cX9_copy.data.toList.drop 0 = dktX9_copy_0 := by decide +kernel
theorem dksX9_copy_1 : cX9_copy.data.toList.drop 22 = dktX9_copy_1 := dk_seg dksX9_copy_0 22 rfl rfl
theorem dX9_copy_0 : decode cX9_copy 0 = .ok (.new 10, 3) := dk_187 0 10 (dk_at dksX9_copy_0 0 rfl rfl)
theorem dX9_copy_3 : decode cX9_copy 3 = .ok (.dup, 1) := dk_89 (dk_at dksX9_copy_0 3 rfl rfl)
theorem dX9_copy_4 : decode cX9_copy 4 = .ok (.aload_n 0, 1) := dk_42 (dk_at dksX9_copy_0 4 rfl rfl)
theorem dX9_copy_5 : decode cX9_copy 5 = .ok (.getfield 9, 3) := dk_180 0 9 (dk_at dksX9_copy_0 5 rfl rfl)
theorem dX9_copy_8 : decode cX9_copy 8 = .ok (.aload_n 0, 1) := dk_42 (dk_at dksX9_copy_0 8 rfl rfl)
theorem dX9_copy_9 : decode cX9_copy 9 = .ok (.getfield 15, 3) := dk_180 0 15 (dk_at dksX9_copy_0 9 rfl rfl)
theorem dX9_copy_12 : decode cX9_copy 12 = .ok (.aload_n 0, 1) := dk_42 (dk_at dksX9_copy_0 12 rfl rfl)
theorem dX9_copy_13 : decode cX9_copy 13 = .ok (.getfield 18, 3) := dk_180 0 18 (dk_at dksX9_copy_0 13 rfl rfl)
theorem dX9_copy_16 : decode cX9_copy 16 = .ok (.invokespecial 21, 3) := dk_183 0 21 (dk_at dksX9_copy_0 16 rfl rfl)
theorem dX9_copy_19 : decode cX9_copy 19 = .ok (.astore_n 1, 1) := dk_76 (dk_at dksX9_copy_0 19 rfl rfl)
theorem dX9_copy_20 : decode cX9_copy 20 = .ok (.aload_n 1, 1) := dk_43 (dk_at dksX9_copy_0 20 rfl rfl)
theorem dX9_copy_21 : decode cX9_copy 21 = .ok (.aload_n 0, 1) := dk_42 (dk_at dksX9_copy_0 21 rfl rfl)
theorem dX9_copy_22 : decode cX9_copy 22 = .ok (.getfield 24, 3) := dk_180 0 24 (dk_at dksX9_copy_1 0 rfl rfl)
theorem dX9_copy_25 : decode cX9_copy 25 = .ok (.putfield 24, 3) := dk_181 0 24 (dk_at dksX9_copy_1 3 rfl rfl)
theorem dX9_copy_28 : decode cX9_copy 28 = .ok (.aload_n 1, 1) := dk_43 (dk_at dksX9_copy_1 6 rfl rfl)
theorem dX9_copy_29 : decode cX9_copy 29 = .ok (.aload_n 0, 1) := dk_42 (dk_at dksX9_copy_1 7 rfl rfl)
theorem dX9_copy_30 : decode cX9_copy 30 = .ok (.getfield 27, 3) := dk_180 0 27 (dk_at dksX9_copy_1 8 rfl rfl)
theorem dX9_copy_33 : decode cX9_copy 33 = .ok (.putfield 27, 3) := dk_181 0 27 (dk_at dksX9_copy_1 11 rfl rfl)
theorem dX9_copy_36 : decode cX9_copy 36 = .ok (.aload_n 1, 1) := dk_43 (dk_at dksX9_copy_1 14 rfl rfl)
theorem dX9_copy_37 : decode cX9_copy 37 = .ok (.areturn, 1) := dk_176 (dk_at dksX9_copy_1 15 rfl rfl)
abbrev cX9_init : ByteArray := prog_2_method_1_code
def yX9_init : MethodName := ⟨RX9, "<init>", "(III)V"⟩
def dkwX9_init_0 : List UInt8 := [42, 183, 0, 3, 42, 27, 181, 0, 9, 42, 28, 181, 0, 15, 42, 29, 181, 0, 18, 177]
abbrev dktX9_init_0 : List UInt8 := dkwX9_init_0 ++ []
theorem dksX9_init_0 : cX9_init.data.toList.drop 0 = dktX9_init_0 := by decide +kernel
theorem dX9_init_0 : decode cX9_init 0 = .ok (.aload_n 0, 1) := dk_42 (dk_at dksX9_init_0 0 rfl rfl)
theorem dX9_init_1 : decode cX9_init 1 = .ok (.invokespecial 3, 3) := dk_183 0 3 (dk_at dksX9_init_0 1 rfl rfl)
theorem dX9_init_4 : decode cX9_init 4 = .ok (.aload_n 0, 1) := dk_42 (dk_at dksX9_init_0 4 rfl rfl)
theorem dX9_init_5 : decode cX9_init 5 = .ok (.iload_n 1, 1) := dk_27 (dk_at dksX9_init_0 5 rfl rfl)
theorem dX9_init_6 : decode cX9_init 6 = .ok (.putfield 9, 3) := dk_181 0 9 (dk_at dksX9_init_0 6 rfl rfl)
theorem dX9_init_9 : decode cX9_init 9 = .ok (.aload_n 0, 1) := dk_42 (dk_at dksX9_init_0 9 rfl rfl)
theorem dX9_init_10 : decode cX9_init 10 = .ok (.iload_n 2, 1) := dk_28 (dk_at dksX9_init_0 10 rfl rfl)
theorem dX9_init_11 : decode cX9_init 11 = .ok (.putfield 15, 3) := dk_181 0 15 (dk_at dksX9_init_0 11 rfl rfl)
theorem dX9_init_14 : decode cX9_init 14 = .ok (.aload_n 0, 1) := dk_42 (dk_at dksX9_init_0 14 rfl rfl)
theorem dX9_init_15 : decode cX9_init 15 = .ok (.iload_n 3, 1) := dk_29 (dk_at dksX9_init_0 15 rfl rfl)
theorem dX9_init_16 : decode cX9_init 16 = .ok (.putfield 18, 3) := dk_181 0 18 (dk_at dksX9_init_0 16 rfl rfl)
theorem dX9_init_19 : decode cX9_init 19 = .ok (.return_, 1) := dk_177 (dk_at dksX9_init_0 19 rfl rfl)
abbrev cX9_catchesMould : ByteArray := prog_2_method_3_code
def yX9_catchesMould : MethodName := ⟨RX9, "catchesMould", "()Z"⟩
def dkwX9_catchesMould_0 : List UInt8 := [42, 180, 0, 27, 154, 0, 16, 42, 180, 0, 18, 16, 20, 161, 0, 7, 4, 167, 0, 4, 3, 172]
abbrev dktX9_catchesMould_0 : List UInt8 := dkwX9_catchesMould_0 ++ []
theorem dksX9_catchesMould_0 : cX9_catchesMould.data.toList.drop 0 = dktX9_catchesMould_0 := by decide +kernel
theorem dX9_catchesMould_0 : decode cX9_catchesMould 0 = .ok (.aload_n 0, 1) := dk_42 (dk_at dksX9_catchesMould_0 0 rfl rfl)
theorem dX9_catchesMould_1 : decode cX9_catchesMould 1 = .ok (.getfield 27, 3) := dk_180 0 27 (dk_at dksX9_catchesMould_0 1 rfl rfl)
theorem dX9_catchesMould_4 : decode cX9_catchesMould 4 = .ok (.ifCond .ne 16, 3) := dk_154 0 16 (dk_at dksX9_catchesMould_0 4 rfl rfl)
theorem dX9_catchesMould_7 : decode cX9_catchesMould 7 = .ok (.aload_n 0, 1) := dk_42 (dk_at dksX9_catchesMould_0 7 rfl rfl)
theorem dX9_catchesMould_8 : decode cX9_catchesMould 8 = .ok (.getfield 18, 3) := dk_180 0 18 (dk_at dksX9_catchesMould_0 8 rfl rfl)
theorem dX9_catchesMould_11 : decode cX9_catchesMould 11 = .ok (.bipush 20, 2) := dk_16 20 (dk_at dksX9_catchesMould_0 11 rfl rfl)
theorem dX9_catchesMould_13 : decode cX9_catchesMould 13 = .ok (.if_icmp .lt 7, 3) := dk_161 0 7 (dk_at dksX9_catchesMould_0 13 rfl rfl)
theorem dX9_catchesMould_16 : decode cX9_catchesMould 16 = .ok (.iconst 1, 1) := dk_4 (dk_at dksX9_catchesMould_0 16 rfl rfl)
theorem dX9_catchesMould_17 : decode cX9_catchesMould 17 = .ok (.goto 4, 3) := dk_167 0 4 (dk_at dksX9_catchesMould_0 17 rfl rfl)
theorem dX9_catchesMould_20 : decode cX9_catchesMould 20 = .ok (.iconst 0, 1) := dk_3 (dk_at dksX9_catchesMould_0 20 rfl rfl)
theorem dX9_catchesMould_21 : decode cX9_catchesMould 21 = .ok (.ireturn, 1) := dk_172 (dk_at dksX9_catchesMould_0 21 rfl rfl)
theorem q142 : (Jvm.Cond.initialized "PaperMill$Bale") ∈ lw_all := lw_g (lw_at lw_m1 31 rfl) rfl
theorem q337 : (Jvm.Cond.selects "PaperMill$Bale" ({ cls := "java/lang/Object", name := "getClass", desc := "()Ljava/lang/Class;" } : Jvm.MethodName) ({ cls := "java/lang/Object", name := "getClass", desc := "()Ljava/lang/Class;" } : Jvm.MethodName)) ∈ lw_all := lw_g (lw_at lw_m1 226 rfl) rfl
theorem q626 : (Jvm.Cond.instanceMethod ({ cls := "PaperMill$Bale", name := "copy", desc := "()LPaperMill$Bale;" } : Jvm.MethodName)) ∈ lw_all := lw_g (lw_at lw_m3 35 rfl) rfl
theorem q627 : (Jvm.Cond.selects "PaperMill$Bale" ({ cls := "PaperMill$Bale", name := "copy", desc := "()LPaperMill$Bale;" } : Jvm.MethodName) ({ cls := "PaperMill$Bale", name := "copy", desc := "()LPaperMill$Bale;" } : Jvm.MethodName)) ∈ lw_all := lw_g (lw_at lw_m3 36 rfl) rfl
theorem q628 : (Jvm.Cond.code ({ cls := "PaperMill$Bale", name := "copy", desc := "()LPaperMill$Bale;" } : Jvm.MethodName) prog_2_method_2_code (2 : Nat) (Option.some (Jvm.ClassFile.FieldType.object "PaperMill$Bale"))) ∈ lw_all := lw_g (lw_at lw_m3 37 rfl) rfl
theorem q629 : (Jvm.Cond.classLink "PaperMill$Bale" (10 : Nat) "PaperMill$Bale") ∈ lw_all := lw_g (lw_at lw_m3 38 rfl) rfl
theorem q630 : (Jvm.Cond.instantiable "PaperMill$Bale" (5 : Nat)) ∈ lw_all := lw_g (lw_at lw_m3 39 rfl) rfl
theorem q631 : (Jvm.Cond.methodLink "PaperMill$Bale" (21 : Nat) ({ cls := "PaperMill$Bale", name := "<init>", desc := "(III)V" } : Jvm.MethodName)) ∈ lw_all := lw_g (lw_at lw_m3 40 rfl) rfl
theorem q632 : (Jvm.Cond.instanceMethod ({ cls := "PaperMill$Bale", name := "<init>", desc := "(III)V" } : Jvm.MethodName)) ∈ lw_all := lw_g (lw_at lw_m3 41 rfl) rfl
theorem q633 : (Jvm.Cond.code ({ cls := "PaperMill$Bale", name := "<init>", desc := "(III)V" } : Jvm.MethodName) prog_2_method_1_code (4 : Nat) (Option.none : Option Jvm.ClassFile.FieldType)) ∈ lw_all := lw_g (lw_at lw_m3 42 rfl) rfl
theorem q634 : (Jvm.Cond.methodLink "PaperMill$Bale" (3 : Nat) ({ cls := "java/lang/Object", name := "<init>", desc := "()V" } : Jvm.MethodName)) ∈ lw_all := lw_g (lw_at lw_m3 43 rfl) rfl
theorem q635 : (Jvm.Cond.fieldLink "PaperMill$Bale" (9 : Nat) "PaperMill$Bale" "sort" "I") ∈ lw_all := lw_g (lw_at lw_m3 44 rfl) rfl
theorem q638 : (Jvm.Cond.fieldLink "PaperMill$Bale" (15 : Nat) "PaperMill$Bale" "rags" "I") ∈ lw_all := lw_g (lw_at lw_m3 47 rfl) rfl
theorem q641 : (Jvm.Cond.fieldLink "PaperMill$Bale" (18 : Nat) "PaperMill$Bale" "damp" "I") ∈ lw_all := lw_g (lw_at lw_m3 50 rfl) rfl
theorem q644 : (Jvm.Cond.fieldLink "PaperMill$Bale" (24 : Nat) "PaperMill$Bale" "wetDays" "I") ∈ lw_all := lw_g (lw_at lw_m3 53 rfl) rfl
theorem q647 : (Jvm.Cond.fieldLink "PaperMill$Bale" (27 : Nat) "PaperMill$Bale" "isMouldy" "Z") ∈ lw_all := lw_g (lw_at lw_m3 56 rfl) rfl
theorem q650 : (Jvm.Cond.laysFinal "PaperMill$Bale" "PaperMill$Bale" "sort" "I") ∈ lw_all := lw_g (lw_at lw_m3 59 rfl) rfl
theorem q651 : (Jvm.Cond.soleField "PaperMill$Bale" "sort") ∈ lw_all := lw_g (lw_at lw_m3 60 rfl) rfl
theorem q652 : (Jvm.Cond.lays "PaperMill$Bale" "PaperMill$Bale" "rags" "I") ∈ lw_all := lw_g (lw_at lw_m3 61 rfl) rfl
theorem q653 : (Jvm.Cond.soleField "PaperMill$Bale" "rags") ∈ lw_all := lw_g (lw_at lw_m3 62 rfl) rfl
theorem q654 : (Jvm.Cond.lays "PaperMill$Bale" "PaperMill$Bale" "damp" "I") ∈ lw_all := lw_g (lw_at lw_m3 63 rfl) rfl
theorem q655 : (Jvm.Cond.soleField "PaperMill$Bale" "damp") ∈ lw_all := lw_g (lw_at lw_m3 64 rfl) rfl
theorem q656 : (Jvm.Cond.lays "PaperMill$Bale" "PaperMill$Bale" "wetDays" "I") ∈ lw_all := lw_g (lw_at lw_m3 65 rfl) rfl
theorem q657 : (Jvm.Cond.soleField "PaperMill$Bale" "wetDays") ∈ lw_all := lw_g (lw_at lw_m3 66 rfl) rfl
theorem q658 : (Jvm.Cond.lays "PaperMill$Bale" "PaperMill$Bale" "isMouldy" "Z") ∈ lw_all := lw_g (lw_at lw_m3 67 rfl) rfl
theorem q659 : (Jvm.Cond.soleField "PaperMill$Bale" "isMouldy") ∈ lw_all := lw_g (lw_at lw_m3 68 rfl) rfl
theorem q660 : (Jvm.Cond.superclass "PaperMill$Bale" "java/lang/Object") ∈ lw_all := lw_g (lw_at lw_m3 69 rfl) rfl
theorem q725 : (Jvm.Cond.instanceMethod ({ cls := "PaperMill$Bale", name := "catchesMould", desc := "()Z" } : Jvm.MethodName)) ∈ lw_all := lw_g (lw_at lw_m3 134 rfl) rfl
theorem q726 : (Jvm.Cond.selects "PaperMill$Bale" ({ cls := "PaperMill$Bale", name := "catchesMould", desc := "()Z" } : Jvm.MethodName) ({ cls := "PaperMill$Bale", name := "catchesMould", desc := "()Z" } : Jvm.MethodName)) ∈ lw_all := lw_g (lw_at lw_m3 135 rfl) rfl
theorem q727 : (Jvm.Cond.code ({ cls := "PaperMill$Bale", name := "catchesMould", desc := "()Z" } : Jvm.MethodName) prog_2_method_3_code (1 : Nat) (Option.some Jvm.ClassFile.FieldType.boolean)) ∈ lw_all := lw_g (lw_at lw_m3 136 rfl) rfl
theorem q2714 : (Jvm.Cond.castable "PaperMill$Bale" "java/lang/Object") ∈ lw_tbl := lw_at lw_m11 203 rfl
theorem in_X9 : ∀ w ∈ wsX90, w ∈ lw_all := lw_in wsX90 [650, 652, 654, 656, 658] (by decide +kernel) (by decide +kernel)
/-! PaperMill$Pile -/
set_option maxRecDepth 100000
def RX10 : String := "PaperMill$Pile"
def TX10 : u_T := fun k => match k with
  | 0 => ("PaperMill$Pile", "mark", "I", true)
  | 1 => ("PaperMill$Pile", "size", "LPaperMill$Size;", true)
  | 2 => ("PaperMill$Pile", "grade", "LPaperMill$Grade;", true)
  | 3 => ("PaperMill$Pile", "sheets", "I", false)
  | _ => ("PaperMill$Pile", "days", "I", false)
def tyX10 : Nat → FieldType := fun k => match k with
  | 0 => .int
  | 1 => .object "PaperMill$Size"
  | 2 => .object "PaperMill$Grade"
  | 3 => .int
  | _ => .int
abbrev wsX100 : List Cond := u_ws RX10 TX10 5
theorem nmX10 : ∀ a, a < 5 → ∀ b, b < 5 → a ≠ b → (TX10 a).2.1 ≠ (TX10 b).2.1 := by decide +kernel
theorem tyX10_ok : ∀ k, k < 5 → parseFieldDescriptor (TX10 k).2.2.1 = some (tyX10 k) := by decide +kernel
abbrev cX10_copy : ByteArray := prog_11_method_2_code
def yX10_copy : MethodName := ⟨RX10, "copy", "()LPaperMill$Pile;"⟩
def dkwX10_copy_1 : List UInt8 := [43, 42, 180, 0, 29, 181, 0, 29, 43, 176]
abbrev dktX10_copy_1 : List UInt8 := dkwX10_copy_1 ++ []
def dkwX10_copy_0 : List UInt8 := [187, 0, 10, 89, 42, 180, 0, 9, 42, 180, 0, 15, 42, 180, 0, 19, 42, 180, 0, 23, 183, 0, 26, 76]
abbrev dktX10_copy_0 : List UInt8 := dkwX10_copy_0 ++ dktX10_copy_1
theorem dksX10_copy_0 : cX10_copy.data.toList.drop 0 = dktX10_copy_0 := by decide +kernel
theorem dksX10_copy_1 : cX10_copy.data.toList.drop 24 = dktX10_copy_1 := dk_seg dksX10_copy_0 24 rfl rfl
theorem dX10_copy_0 : decode cX10_copy 0 = .ok (.new 10, 3) := dk_187 0 10 (dk_at dksX10_copy_0 0 rfl rfl)
theorem dX10_copy_3 : decode cX10_copy 3 = .ok (.dup, 1) := dk_89 (dk_at dksX10_copy_0 3 rfl rfl)
theorem dX10_copy_4 : decode cX10_copy 4 = .ok (.aload_n 0, 1) := dk_42 (dk_at dksX10_copy_0 4 rfl rfl)
theorem dX10_copy_5 : decode cX10_copy 5 = .ok (.getfield 9, 3) := dk_180 0 9 (dk_at dksX10_copy_0 5 rfl rfl)
theorem dX10_copy_8 : decode cX10_copy 8 = .ok (.aload_n 0, 1) := dk_42 (dk_at dksX10_copy_0 8 rfl rfl)
theorem dX10_copy_9 : decode cX10_copy 9 = .ok (.getfield 15, 3) := dk_180 0 15 (dk_at dksX10_copy_0 9 rfl rfl)
theorem dX10_copy_12 : decode cX10_copy 12 = .ok (.aload_n 0, 1) := dk_42 (dk_at dksX10_copy_0 12 rfl rfl)
theorem dX10_copy_13 : decode cX10_copy 13 = .ok (.getfield 19, 3) := dk_180 0 19 (dk_at dksX10_copy_0 13 rfl rfl)
theorem dX10_copy_16 : decode cX10_copy 16 = .ok (.aload_n 0, 1) := dk_42 (dk_at dksX10_copy_0 16 rfl rfl)
theorem dX10_copy_17 : decode cX10_copy 17 = .ok (.getfield 23, 3) := dk_180 0 23 (dk_at dksX10_copy_0 17 rfl rfl)
theorem dX10_copy_20 : decode cX10_copy 20 = .ok (.invokespecial 26, 3) := dk_183 0 26 (dk_at dksX10_copy_0 20 rfl rfl)
theorem dX10_copy_23 : decode cX10_copy 23 = .ok (.astore_n 1, 1) := dk_76 (dk_at dksX10_copy_0 23 rfl rfl)
theorem dX10_copy_24 : decode cX10_copy 24 = .ok (.aload_n 1, 1) := dk_43 (dk_at dksX10_copy_1 0 rfl rfl)
theorem dX10_copy_25 : decode cX10_copy 25 = .ok (.aload_n 0, 1) := dk_42 (dk_at dksX10_copy_1 1 rfl rfl)
theorem dX10_copy_26 : decode cX10_copy 26 = .ok (.getfield 29, 3) := dk_180 0 29 (dk_at dksX10_copy_1 2 rfl rfl)
theorem dX10_copy_29 : decode cX10_copy 29 = .ok (.putfield 29, 3) := dk_181 0 29 (dk_at dksX10_copy_1 5 rfl rfl)
theorem dX10_copy_32 : decode cX10_copy 32 = .ok (.aload_n 1, 1) := dk_43 (dk_at dksX10_copy_1 8 rfl rfl)
theorem dX10_copy_33 : decode cX10_copy 33 = .ok (.areturn, 1) := dk_176 (dk_at dksX10_copy_1 9 rfl rfl)
abbrev cX10_init : ByteArray := prog_11_method_1_code
def yX10_init : MethodName := ⟨RX10, "<init>", "(ILPaperMill$Size;LPaperMill$Grade;I)V"⟩
def dkwX10_init_1 : List UInt8 := [181, 0, 23, 177]
abbrev dktX10_init_1 : List UInt8 := dkwX10_init_1 ++ []
def dkwX10_init_0 : List UInt8 := [42, 183, 0, 3, 42, 27, 181, 0, 9, 42, 44, 181, 0, 15, 42, 45, 181, 0, 19, 42, 21, 4]
abbrev dktX10_init_0 : List UInt8 := dkwX10_init_0 ++ dktX10_init_1
theorem dksX10_init_0 : cX10_init.data.toList.drop 0 = dktX10_init_0 := by decide +kernel
theorem dksX10_init_1 : cX10_init.data.toList.drop 22 = dktX10_init_1 := dk_seg dksX10_init_0 22 rfl rfl
theorem dX10_init_0 : decode cX10_init 0 = .ok (.aload_n 0, 1) := dk_42 (dk_at dksX10_init_0 0 rfl rfl)
theorem dX10_init_1 : decode cX10_init 1 = .ok (.invokespecial 3, 3) := dk_183 0 3 (dk_at dksX10_init_0 1 rfl rfl)
theorem dX10_init_4 : decode cX10_init 4 = .ok (.aload_n 0, 1) := dk_42 (dk_at dksX10_init_0 4 rfl rfl)
theorem dX10_init_5 : decode cX10_init 5 = .ok (.iload_n 1, 1) := dk_27 (dk_at dksX10_init_0 5 rfl rfl)
theorem dX10_init_6 : decode cX10_init 6 = .ok (.putfield 9, 3) := dk_181 0 9 (dk_at dksX10_init_0 6 rfl rfl)
theorem dX10_init_9 : decode cX10_init 9 = .ok (.aload_n 0, 1) := dk_42 (dk_at dksX10_init_0 9 rfl rfl)
theorem dX10_init_10 : decode cX10_init 10 = .ok (.aload_n 2, 1) := dk_44 (dk_at dksX10_init_0 10 rfl rfl)
theorem dX10_init_11 : decode cX10_init 11 = .ok (.putfield 15, 3) := dk_181 0 15 (dk_at dksX10_init_0 11 rfl rfl)
theorem dX10_init_14 : decode cX10_init 14 = .ok (.aload_n 0, 1) := dk_42 (dk_at dksX10_init_0 14 rfl rfl)
theorem dX10_init_15 : decode cX10_init 15 = .ok (.aload_n 3, 1) := dk_45 (dk_at dksX10_init_0 15 rfl rfl)
theorem dX10_init_16 : decode cX10_init 16 = .ok (.putfield 19, 3) := dk_181 0 19 (dk_at dksX10_init_0 16 rfl rfl)
theorem dX10_init_19 : decode cX10_init 19 = .ok (.aload_n 0, 1) := dk_42 (dk_at dksX10_init_0 19 rfl rfl)
theorem dX10_init_20 : decode cX10_init 20 = .ok (.iload 4, 2) := dk_21 4 (dk_at dksX10_init_0 20 rfl rfl)
theorem dX10_init_22 : decode cX10_init 22 = .ok (.putfield 23, 3) := dk_181 0 23 (dk_at dksX10_init_1 0 rfl rfl)
theorem dX10_init_25 : decode cX10_init 25 = .ok (.return_, 1) := dk_177 (dk_at dksX10_init_1 3 rfl rfl)
abbrev cX10_isDryOf : ByteArray := prog_11_method_3_code
def yX10_isDryOf : MethodName := ⟨RX10, "isDryOf", "(ILPaperMill$Size;LPaperMill$Grade;)Z"⟩
def dkwX10_isDryOf_1 : List UInt8 := [42, 180, 0, 19, 45, 166, 0, 7, 4, 167, 0, 4, 3, 172]
abbrev dktX10_isDryOf_1 : List UInt8 := dkwX10_isDryOf_1 ++ []
def dkwX10_isDryOf_0 : List UInt8 := [42, 180, 0, 29, 6, 161, 0, 31, 42, 180, 0, 9, 27, 160, 0, 23, 42, 180, 0, 15, 44, 166, 0, 15]
abbrev dktX10_isDryOf_0 : List UInt8 := dkwX10_isDryOf_0 ++ dktX10_isDryOf_1
theorem dksX10_isDryOf_0 : cX10_isDryOf.data.toList.drop 0 = dktX10_isDryOf_0 := by decide +kernel
theorem dksX10_isDryOf_1 : cX10_isDryOf.data.toList.drop 24 = dktX10_isDryOf_1 := dk_seg dksX10_isDryOf_0 24 rfl rfl
theorem dX10_isDryOf_0 : decode cX10_isDryOf 0 = .ok (.aload_n 0, 1) := dk_42 (dk_at dksX10_isDryOf_0 0 rfl rfl)
theorem dX10_isDryOf_1 : decode cX10_isDryOf 1 = .ok (.getfield 29, 3) := dk_180 0 29 (dk_at dksX10_isDryOf_0 1 rfl rfl)
theorem dX10_isDryOf_4 : decode cX10_isDryOf 4 = .ok (.iconst 3, 1) := dk_6 (dk_at dksX10_isDryOf_0 4 rfl rfl)
theorem dX10_isDryOf_5 : decode cX10_isDryOf 5 = .ok (.if_icmp .lt 31, 3) := dk_161 0 31 (dk_at dksX10_isDryOf_0 5 rfl rfl)
theorem dX10_isDryOf_8 : decode cX10_isDryOf 8 = .ok (.aload_n 0, 1) := dk_42 (dk_at dksX10_isDryOf_0 8 rfl rfl)
theorem dX10_isDryOf_9 : decode cX10_isDryOf 9 = .ok (.getfield 9, 3) := dk_180 0 9 (dk_at dksX10_isDryOf_0 9 rfl rfl)
theorem dX10_isDryOf_12 : decode cX10_isDryOf 12 = .ok (.iload_n 1, 1) := dk_27 (dk_at dksX10_isDryOf_0 12 rfl rfl)
theorem dX10_isDryOf_13 : decode cX10_isDryOf 13 = .ok (.if_icmp .ne 23, 3) := dk_160 0 23 (dk_at dksX10_isDryOf_0 13 rfl rfl)
theorem dX10_isDryOf_16 : decode cX10_isDryOf 16 = .ok (.aload_n 0, 1) := dk_42 (dk_at dksX10_isDryOf_0 16 rfl rfl)
theorem dX10_isDryOf_17 : decode cX10_isDryOf 17 = .ok (.getfield 15, 3) := dk_180 0 15 (dk_at dksX10_isDryOf_0 17 rfl rfl)
theorem dX10_isDryOf_20 : decode cX10_isDryOf 20 = .ok (.aload_n 2, 1) := dk_44 (dk_at dksX10_isDryOf_0 20 rfl rfl)
theorem dX10_isDryOf_21 : decode cX10_isDryOf 21 = .ok (.if_acmp .ne 15, 3) := dk_166 0 15 (dk_at dksX10_isDryOf_0 21 rfl rfl)
theorem dX10_isDryOf_24 : decode cX10_isDryOf 24 = .ok (.aload_n 0, 1) := dk_42 (dk_at dksX10_isDryOf_1 0 rfl rfl)
theorem dX10_isDryOf_25 : decode cX10_isDryOf 25 = .ok (.getfield 19, 3) := dk_180 0 19 (dk_at dksX10_isDryOf_1 1 rfl rfl)
theorem dX10_isDryOf_28 : decode cX10_isDryOf 28 = .ok (.aload_n 3, 1) := dk_45 (dk_at dksX10_isDryOf_1 4 rfl rfl)
theorem dX10_isDryOf_29 : decode cX10_isDryOf 29 = .ok (.if_acmp .ne 7, 3) := dk_166 0 7 (dk_at dksX10_isDryOf_1 5 rfl rfl)
theorem dX10_isDryOf_32 : decode cX10_isDryOf 32 = .ok (.iconst 1, 1) := dk_4 (dk_at dksX10_isDryOf_1 8 rfl rfl)
theorem dX10_isDryOf_33 : decode cX10_isDryOf 33 = .ok (.goto 4, 3) := dk_167 0 4 (dk_at dksX10_isDryOf_1 9 rfl rfl)
theorem dX10_isDryOf_36 : decode cX10_isDryOf 36 = .ok (.iconst 0, 1) := dk_3 (dk_at dksX10_isDryOf_1 12 rfl rfl)
theorem dX10_isDryOf_37 : decode cX10_isDryOf 37 = .ok (.ireturn, 1) := dk_172 (dk_at dksX10_isDryOf_1 13 rfl rfl)
theorem q143 : (Jvm.Cond.initialized "PaperMill$Pile") ∈ lw_all := lw_g (lw_at lw_m1 32 rfl) rfl
theorem q344 : (Jvm.Cond.selects "PaperMill$Pile" ({ cls := "java/lang/Object", name := "getClass", desc := "()Ljava/lang/Class;" } : Jvm.MethodName) ({ cls := "java/lang/Object", name := "getClass", desc := "()Ljava/lang/Class;" } : Jvm.MethodName)) ∈ lw_all := lw_g (lw_at lw_m1 233 rfl) rfl
theorem q674 : (Jvm.Cond.instanceMethod ({ cls := "PaperMill$Pile", name := "copy", desc := "()LPaperMill$Pile;" } : Jvm.MethodName)) ∈ lw_all := lw_g (lw_at lw_m3 83 rfl) rfl
theorem q675 : (Jvm.Cond.selects "PaperMill$Pile" ({ cls := "PaperMill$Pile", name := "copy", desc := "()LPaperMill$Pile;" } : Jvm.MethodName) ({ cls := "PaperMill$Pile", name := "copy", desc := "()LPaperMill$Pile;" } : Jvm.MethodName)) ∈ lw_all := lw_g (lw_at lw_m3 84 rfl) rfl
theorem q676 : (Jvm.Cond.code ({ cls := "PaperMill$Pile", name := "copy", desc := "()LPaperMill$Pile;" } : Jvm.MethodName) prog_11_method_2_code (2 : Nat) (Option.some (Jvm.ClassFile.FieldType.object "PaperMill$Pile"))) ∈ lw_all := lw_g (lw_at lw_m3 85 rfl) rfl
theorem q677 : (Jvm.Cond.classLink "PaperMill$Pile" (10 : Nat) "PaperMill$Pile") ∈ lw_all := lw_g (lw_at lw_m3 86 rfl) rfl
theorem q678 : (Jvm.Cond.instantiable "PaperMill$Pile" (5 : Nat)) ∈ lw_all := lw_g (lw_at lw_m3 87 rfl) rfl
theorem q679 : (Jvm.Cond.methodLink "PaperMill$Pile" (26 : Nat) ({ cls := "PaperMill$Pile", name := "<init>", desc := "(ILPaperMill$Size;LPaperMill$Grade;I)V" } : Jvm.MethodName)) ∈ lw_all := lw_g (lw_at lw_m3 88 rfl) rfl
theorem q680 : (Jvm.Cond.instanceMethod ({ cls := "PaperMill$Pile", name := "<init>", desc := "(ILPaperMill$Size;LPaperMill$Grade;I)V" } : Jvm.MethodName)) ∈ lw_all := lw_g (lw_at lw_m3 89 rfl) rfl
theorem q681 : (Jvm.Cond.code ({ cls := "PaperMill$Pile", name := "<init>", desc := "(ILPaperMill$Size;LPaperMill$Grade;I)V" } : Jvm.MethodName) prog_11_method_1_code (5 : Nat) (Option.none : Option Jvm.ClassFile.FieldType)) ∈ lw_all := lw_g (lw_at lw_m3 90 rfl) rfl
theorem q682 : (Jvm.Cond.methodLink "PaperMill$Pile" (3 : Nat) ({ cls := "java/lang/Object", name := "<init>", desc := "()V" } : Jvm.MethodName)) ∈ lw_all := lw_g (lw_at lw_m3 91 rfl) rfl
theorem q683 : (Jvm.Cond.fieldLink "PaperMill$Pile" (9 : Nat) "PaperMill$Pile" "mark" "I") ∈ lw_all := lw_g (lw_at lw_m3 92 rfl) rfl
theorem q684 : (Jvm.Cond.fieldLink "PaperMill$Pile" (15 : Nat) "PaperMill$Pile" "size" "LPaperMill$Size;") ∈ lw_all := lw_g (lw_at lw_m3 93 rfl) rfl
theorem q686 : (Jvm.Cond.fieldLink "PaperMill$Pile" (19 : Nat) "PaperMill$Pile" "grade" "LPaperMill$Grade;") ∈ lw_all := lw_g (lw_at lw_m3 95 rfl) rfl
theorem q688 : (Jvm.Cond.fieldLink "PaperMill$Pile" (23 : Nat) "PaperMill$Pile" "sheets" "I") ∈ lw_all := lw_g (lw_at lw_m3 97 rfl) rfl
theorem q691 : (Jvm.Cond.fieldLink "PaperMill$Pile" (29 : Nat) "PaperMill$Pile" "days" "I") ∈ lw_all := lw_g (lw_at lw_m3 100 rfl) rfl
theorem q693 : (Jvm.Cond.laysFinal "PaperMill$Pile" "PaperMill$Pile" "mark" "I") ∈ lw_all := lw_g (lw_at lw_m3 102 rfl) rfl
theorem q694 : (Jvm.Cond.soleField "PaperMill$Pile" "mark") ∈ lw_all := lw_g (lw_at lw_m3 103 rfl) rfl
theorem q695 : (Jvm.Cond.laysFinal "PaperMill$Pile" "PaperMill$Pile" "size" "LPaperMill$Size;") ∈ lw_all := lw_g (lw_at lw_m3 104 rfl) rfl
theorem q696 : (Jvm.Cond.soleField "PaperMill$Pile" "size") ∈ lw_all := lw_g (lw_at lw_m3 105 rfl) rfl
theorem q697 : (Jvm.Cond.laysFinal "PaperMill$Pile" "PaperMill$Pile" "grade" "LPaperMill$Grade;") ∈ lw_all := lw_g (lw_at lw_m3 106 rfl) rfl
theorem q698 : (Jvm.Cond.soleField "PaperMill$Pile" "grade") ∈ lw_all := lw_g (lw_at lw_m3 107 rfl) rfl
theorem q699 : (Jvm.Cond.lays "PaperMill$Pile" "PaperMill$Pile" "sheets" "I") ∈ lw_all := lw_g (lw_at lw_m3 108 rfl) rfl
theorem q700 : (Jvm.Cond.soleField "PaperMill$Pile" "sheets") ∈ lw_all := lw_g (lw_at lw_m3 109 rfl) rfl
theorem q701 : (Jvm.Cond.lays "PaperMill$Pile" "PaperMill$Pile" "days" "I") ∈ lw_all := lw_g (lw_at lw_m3 110 rfl) rfl
theorem q702 : (Jvm.Cond.soleField "PaperMill$Pile" "days") ∈ lw_all := lw_g (lw_at lw_m3 111 rfl) rfl
theorem q703 : (Jvm.Cond.superclass "PaperMill$Pile" "java/lang/Object") ∈ lw_all := lw_g (lw_at lw_m3 112 rfl) rfl
theorem q1669 : (Jvm.Cond.instanceMethod ({ cls := "PaperMill$Pile", name := "isDryOf", desc := "(ILPaperMill$Size;LPaperMill$Grade;)Z" } : Jvm.MethodName)) ∈ lw_all := lw_g (lw_at lw_m7 118 rfl) rfl
theorem q1670 : (Jvm.Cond.selects "PaperMill$Pile" ({ cls := "PaperMill$Pile", name := "isDryOf", desc := "(ILPaperMill$Size;LPaperMill$Grade;)Z" } : Jvm.MethodName) ({ cls := "PaperMill$Pile", name := "isDryOf", desc := "(ILPaperMill$Size;LPaperMill$Grade;)Z" } : Jvm.MethodName)) ∈ lw_all := lw_g (lw_at lw_m7 119 rfl) rfl
theorem q1671 : (Jvm.Cond.code ({ cls := "PaperMill$Pile", name := "isDryOf", desc := "(ILPaperMill$Size;LPaperMill$Grade;)Z" } : Jvm.MethodName) prog_11_method_3_code (4 : Nat) (Option.some Jvm.ClassFile.FieldType.boolean)) ∈ lw_all := lw_g (lw_at lw_m7 120 rfl) rfl
theorem q2715 : (Jvm.Cond.castable "PaperMill$Pile" "java/lang/Object") ∈ lw_tbl := lw_at lw_m11 204 rfl
theorem in_X10 : ∀ w ∈ wsX100, w ∈ lw_all := lw_in wsX100 [693, 695, 697, 699, 701] (by decide +kernel) (by decide +kernel)
/-! PaperMill$Grade -/
set_option maxRecDepth 100000
def RX11 : String := "PaperMill$Grade"
abbrev cX11_with : ByteArray := prog_5_method_7_code
def yX11_with : MethodName := ⟨RX11, "with", "(I)LPaperMill$Grade;"⟩
def dkwX11_with_1 : List UInt8 := [178, 0, 7, 176, 26, 178, 0, 10, 182, 0, 32, 161, 0, 9, 178, 0, 10, 167, 0, 4, 1, 176]
abbrev dktX11_with_1 : List UInt8 := dkwX11_with_1 ++ []
def dkwX11_with_0 : List UInt8 := [26, 178, 0, 3, 182, 0, 32, 161, 0, 7, 178, 0, 3, 176, 26, 178, 0, 7, 182, 0, 32, 161, 0, 7]
abbrev dktX11_with_0 : List UInt8 := dkwX11_with_0 ++ dktX11_with_1
theorem dksX11_with_0 : cX11_with.data.toList.drop 0 = dktX11_with_0 := by decide +kernel
theorem dksX11_with_1 : cX11_with.data.toList.drop 24 = dktX11_with_1 := dk_seg dksX11_with_0 24 rfl rfl
theorem dX11_with_0 : decode cX11_with 0 = .ok (.iload_n 0, 1) := dk_26 (dk_at dksX11_with_0 0 rfl rfl)
theorem dX11_with_1 : decode cX11_with 1 = .ok (.getstatic 3, 3) := dk_178 0 3 (dk_at dksX11_with_0 1 rfl rfl)
theorem dX11_with_4 : decode cX11_with 4 = .ok (.invokevirtual 32, 3) := dk_182 0 32 (dk_at dksX11_with_0 4 rfl rfl)
theorem dX11_with_7 : decode cX11_with 7 = .ok (.if_icmp .lt 7, 3) := dk_161 0 7 (dk_at dksX11_with_0 7 rfl rfl)
theorem dX11_with_10 : decode cX11_with 10 = .ok (.getstatic 3, 3) := dk_178 0 3 (dk_at dksX11_with_0 10 rfl rfl)
theorem dX11_with_13 : decode cX11_with 13 = .ok (.areturn, 1) := dk_176 (dk_at dksX11_with_0 13 rfl rfl)
theorem dX11_with_14 : decode cX11_with 14 = .ok (.iload_n 0, 1) := dk_26 (dk_at dksX11_with_0 14 rfl rfl)
theorem dX11_with_15 : decode cX11_with 15 = .ok (.getstatic 7, 3) := dk_178 0 7 (dk_at dksX11_with_0 15 rfl rfl)
theorem dX11_with_18 : decode cX11_with 18 = .ok (.invokevirtual 32, 3) := dk_182 0 32 (dk_at dksX11_with_0 18 rfl rfl)
theorem dX11_with_21 : decode cX11_with 21 = .ok (.if_icmp .lt 7, 3) := dk_161 0 7 (dk_at dksX11_with_0 21 rfl rfl)
theorem dX11_with_24 : decode cX11_with 24 = .ok (.getstatic 7, 3) := dk_178 0 7 (dk_at dksX11_with_1 0 rfl rfl)
theorem dX11_with_27 : decode cX11_with 27 = .ok (.areturn, 1) := dk_176 (dk_at dksX11_with_1 3 rfl rfl)
theorem dX11_with_28 : decode cX11_with 28 = .ok (.iload_n 0, 1) := dk_26 (dk_at dksX11_with_1 4 rfl rfl)
theorem dX11_with_29 : decode cX11_with 29 = .ok (.getstatic 10, 3) := dk_178 0 10 (dk_at dksX11_with_1 5 rfl rfl)
theorem dX11_with_32 : decode cX11_with 32 = .ok (.invokevirtual 32, 3) := dk_182 0 32 (dk_at dksX11_with_1 8 rfl rfl)
theorem dX11_with_35 : decode cX11_with 35 = .ok (.if_icmp .lt 9, 3) := dk_161 0 9 (dk_at dksX11_with_1 11 rfl rfl)
theorem dX11_with_38 : decode cX11_with 38 = .ok (.getstatic 10, 3) := dk_178 0 10 (dk_at dksX11_with_1 14 rfl rfl)
theorem dX11_with_41 : decode cX11_with 41 = .ok (.goto 4, 3) := dk_167 0 4 (dk_at dksX11_with_1 17 rfl rfl)
theorem dX11_with_44 : decode cX11_with 44 = .ok (.aconst_null, 1) := dk_1 (dk_at dksX11_with_1 20 rfl rfl)
theorem dX11_with_45 : decode cX11_with 45 = .ok (.areturn, 1) := dk_176 (dk_at dksX11_with_1 21 rfl rfl)
abbrev cX11_of : ByteArray := prog_5_method_6_code
def yX11_of : MethodName := ⟨RX11, "of", "(I)LPaperMill$Grade;"⟩
def dkwX11_of_1 : List UInt8 := [176]
abbrev dktX11_of_1 : List UInt8 := dkwX11_of_1 ++ []
def dkwX11_of_0 : List UInt8 := [26, 154, 0, 9, 178, 0, 3, 167, 0, 17, 26, 4, 160, 0, 9, 178, 0, 7, 167, 0, 6, 178, 0, 10]
abbrev dktX11_of_0 : List UInt8 := dkwX11_of_0 ++ dktX11_of_1
theorem dksX11_of_0 : cX11_of.data.toList.drop 0 = dktX11_of_0 := by decide +kernel
theorem dksX11_of_1 : cX11_of.data.toList.drop 24 = dktX11_of_1 := dk_seg dksX11_of_0 24 rfl rfl
theorem dX11_of_0 : decode cX11_of 0 = .ok (.iload_n 0, 1) := dk_26 (dk_at dksX11_of_0 0 rfl rfl)
theorem dX11_of_1 : decode cX11_of 1 = .ok (.ifCond .ne 9, 3) := dk_154 0 9 (dk_at dksX11_of_0 1 rfl rfl)
theorem dX11_of_4 : decode cX11_of 4 = .ok (.getstatic 3, 3) := dk_178 0 3 (dk_at dksX11_of_0 4 rfl rfl)
theorem dX11_of_7 : decode cX11_of 7 = .ok (.goto 17, 3) := dk_167 0 17 (dk_at dksX11_of_0 7 rfl rfl)
theorem dX11_of_10 : decode cX11_of 10 = .ok (.iload_n 0, 1) := dk_26 (dk_at dksX11_of_0 10 rfl rfl)
theorem dX11_of_11 : decode cX11_of 11 = .ok (.iconst 1, 1) := dk_4 (dk_at dksX11_of_0 11 rfl rfl)
theorem dX11_of_12 : decode cX11_of 12 = .ok (.if_icmp .ne 9, 3) := dk_160 0 9 (dk_at dksX11_of_0 12 rfl rfl)
theorem dX11_of_15 : decode cX11_of 15 = .ok (.getstatic 7, 3) := dk_178 0 7 (dk_at dksX11_of_0 15 rfl rfl)
theorem dX11_of_18 : decode cX11_of 18 = .ok (.goto 6, 3) := dk_167 0 6 (dk_at dksX11_of_0 18 rfl rfl)
theorem dX11_of_21 : decode cX11_of 21 = .ok (.getstatic 10, 3) := dk_178 0 10 (dk_at dksX11_of_0 21 rfl rfl)
theorem dX11_of_24 : decode cX11_of 24 = .ok (.areturn, 1) := dk_176 (dk_at dksX11_of_1 0 rfl rfl)
theorem q147 : (Jvm.Cond.initialized "PaperMill$Grade") ∈ lw_all := lw_g (lw_at lw_m1 36 rfl) rfl
theorem q1349 : (Jvm.Cond.static ({ cls := "PaperMill$Grade", name := "with", desc := "(I)LPaperMill$Grade;" } : Jvm.MethodName)) ∈ lw_all := lw_g (lw_at lw_m6 38 rfl) rfl
theorem q1350 : (Jvm.Cond.code ({ cls := "PaperMill$Grade", name := "with", desc := "(I)LPaperMill$Grade;" } : Jvm.MethodName) prog_5_method_7_code (1 : Nat) (Option.some (Jvm.ClassFile.FieldType.object "PaperMill$Grade"))) ∈ lw_all := lw_g (lw_at lw_m6 39 rfl) rfl
theorem q1351 : (Jvm.Cond.fieldLink "PaperMill$Grade" (3 : Nat) "PaperMill$Grade" "FINE" "LPaperMill$Grade;") ∈ lw_all := lw_g (lw_at lw_m6 40 rfl) rfl
theorem q1352 : (Jvm.Cond.laysStatic "PaperMill$Grade" "FINE" "LPaperMill$Grade;") ∈ lw_tbl := lw_at lw_m6 41 rfl
theorem q1353 : (Jvm.Cond.methodLink "PaperMill$Grade" (32 : Nat) ({ cls := "PaperMill$Grade", name := "least", desc := "()I" } : Jvm.MethodName)) ∈ lw_all := lw_g (lw_at lw_m6 42 rfl) rfl
theorem q1354 : (Jvm.Cond.declares ({ cls := "PaperMill$Grade", name := "least", desc := "()I" } : Jvm.MethodName)) ∈ lw_tbl := lw_at lw_m6 43 rfl
theorem q1355 : (Jvm.Cond.sameMethod "PaperMill$Grade" "PaperMill$Grade" "least" "()I") ∈ lw_all := lw_g (lw_at lw_m6 44 rfl) rfl
theorem q1365 : (Jvm.Cond.fieldLink "PaperMill$Grade" (7 : Nat) "PaperMill$Grade" "GOOD" "LPaperMill$Grade;") ∈ lw_all := lw_g (lw_at lw_m6 54 rfl) rfl
theorem q1366 : (Jvm.Cond.laysStatic "PaperMill$Grade" "GOOD" "LPaperMill$Grade;") ∈ lw_tbl := lw_at lw_m6 55 rfl
theorem q1367 : (Jvm.Cond.fieldLink "PaperMill$Grade" (10 : Nat) "PaperMill$Grade" "COARSE" "LPaperMill$Grade;") ∈ lw_all := lw_g (lw_at lw_m6 56 rfl) rfl
theorem q1368 : (Jvm.Cond.laysStatic "PaperMill$Grade" "COARSE" "LPaperMill$Grade;") ∈ lw_tbl := lw_at lw_m6 57 rfl
theorem q1662 : (Jvm.Cond.static ({ cls := "PaperMill$Grade", name := "of", desc := "(I)LPaperMill$Grade;" } : Jvm.MethodName)) ∈ lw_all := lw_g (lw_at lw_m7 111 rfl) rfl
theorem q1663 : (Jvm.Cond.code ({ cls := "PaperMill$Grade", name := "of", desc := "(I)LPaperMill$Grade;" } : Jvm.MethodName) prog_5_method_6_code (1 : Nat) (Option.some (Jvm.ClassFile.FieldType.object "PaperMill$Grade"))) ∈ lw_all := lw_g (lw_at lw_m7 112 rfl) rfl
theorem q1736 : (Jvm.Cond.declares ({ cls := "PaperMill$Grade", name := "price", desc := "(I)I" } : Jvm.MethodName)) ∈ lw_tbl := lw_at lw_m7 185 rfl
theorem q1737 : (Jvm.Cond.sameMethod "PaperMill$Grade" "PaperMill$Grade" "price" "(I)I") ∈ lw_all := lw_g (lw_at lw_m7 186 rfl) rfl
theorem q2730 : (Jvm.Cond.castable "PaperMill$Grade" "java/lang/Object") ∈ lw_tbl := lw_at lw_m11 219 rfl
/-! PaperMill$Ream -/
set_option maxRecDepth 100000
def RX12 : String := "PaperMill$Ream"
def TX12 : u_T := fun k => match k with
  | 0 => ("PaperMill$Ream", "size", "LPaperMill$Size;", true)
  | 1 => ("PaperMill$Ream", "grade", "LPaperMill$Grade;", true)
  | _ => ("PaperMill$Ream", "quires", "I", true)
def tyX12 : Nat → FieldType := fun k => match k with
  | 0 => .object "PaperMill$Size"
  | 1 => .object "PaperMill$Grade"
  | _ => .int
abbrev wsX120 : List Cond := u_ws RX12 TX12 3
theorem nmX12 : ∀ a, a < 3 → ∀ b, b < 3 → a ≠ b → (TX12 a).2.1 ≠ (TX12 b).2.1 := by decide +kernel
theorem tyX12_ok : ∀ k, k < 3 → parseFieldDescriptor (TX12 k).2.2.1 = some (tyX12 k) := by decide +kernel
abbrev cX12_units : ByteArray := prog_13_method_2_code
def yX12_units : MethodName := ⟨RX12, "units", "()I"⟩
def dkwX12_units_0 : List UInt8 := [16, 24, 42, 180, 0, 19, 104, 42, 180, 0, 9, 182, 0, 23, 104, 172]
abbrev dktX12_units_0 : List UInt8 := dkwX12_units_0 ++ []
theorem dksX12_units_0 : cX12_units.data.toList.drop 0 = dktX12_units_0 := by decide +kernel
theorem dX12_units_0 : decode cX12_units 0 = .ok (.bipush 24, 2) := dk_16 24 (dk_at dksX12_units_0 0 rfl rfl)
theorem dX12_units_2 : decode cX12_units 2 = .ok (.aload_n 0, 1) := dk_42 (dk_at dksX12_units_0 2 rfl rfl)
theorem dX12_units_3 : decode cX12_units 3 = .ok (.getfield 19, 3) := dk_180 0 19 (dk_at dksX12_units_0 3 rfl rfl)
theorem dX12_units_6 : decode cX12_units 6 = .ok (.imul, 1) := dk_104 (dk_at dksX12_units_0 6 rfl rfl)
theorem dX12_units_7 : decode cX12_units 7 = .ok (.aload_n 0, 1) := dk_42 (dk_at dksX12_units_0 7 rfl rfl)
theorem dX12_units_8 : decode cX12_units 8 = .ok (.getfield 9, 3) := dk_180 0 9 (dk_at dksX12_units_0 8 rfl rfl)
theorem dX12_units_11 : decode cX12_units 11 = .ok (.invokevirtual 23, 3) := dk_182 0 23 (dk_at dksX12_units_0 11 rfl rfl)
theorem dX12_units_14 : decode cX12_units 14 = .ok (.imul, 1) := dk_104 (dk_at dksX12_units_0 14 rfl rfl)
theorem dX12_units_15 : decode cX12_units 15 = .ok (.ireturn, 1) := dk_172 (dk_at dksX12_units_0 15 rfl rfl)
abbrev cX12_init : ByteArray := prog_13_method_1_code
def yX12_init : MethodName := ⟨RX12, "<init>", "(LPaperMill$Size;LPaperMill$Grade;I)V"⟩
def dkwX12_init_0 : List UInt8 := [42, 183, 0, 3, 42, 43, 181, 0, 9, 42, 44, 181, 0, 15, 42, 29, 181, 0, 19, 177]
abbrev dktX12_init_0 : List UInt8 := dkwX12_init_0 ++ []
theorem dksX12_init_0 : cX12_init.data.toList.drop 0 = dktX12_init_0 := by decide +kernel
theorem dX12_init_0 : decode cX12_init 0 = .ok (.aload_n 0, 1) := dk_42 (dk_at dksX12_init_0 0 rfl rfl)
theorem dX12_init_1 : decode cX12_init 1 = .ok (.invokespecial 3, 3) := dk_183 0 3 (dk_at dksX12_init_0 1 rfl rfl)
theorem dX12_init_4 : decode cX12_init 4 = .ok (.aload_n 0, 1) := dk_42 (dk_at dksX12_init_0 4 rfl rfl)
theorem dX12_init_5 : decode cX12_init 5 = .ok (.aload_n 1, 1) := dk_43 (dk_at dksX12_init_0 5 rfl rfl)
theorem dX12_init_6 : decode cX12_init 6 = .ok (.putfield 9, 3) := dk_181 0 9 (dk_at dksX12_init_0 6 rfl rfl)
theorem dX12_init_9 : decode cX12_init 9 = .ok (.aload_n 0, 1) := dk_42 (dk_at dksX12_init_0 9 rfl rfl)
theorem dX12_init_10 : decode cX12_init 10 = .ok (.aload_n 2, 1) := dk_44 (dk_at dksX12_init_0 10 rfl rfl)
theorem dX12_init_11 : decode cX12_init 11 = .ok (.putfield 15, 3) := dk_181 0 15 (dk_at dksX12_init_0 11 rfl rfl)
theorem dX12_init_14 : decode cX12_init 14 = .ok (.aload_n 0, 1) := dk_42 (dk_at dksX12_init_0 14 rfl rfl)
theorem dX12_init_15 : decode cX12_init 15 = .ok (.iload_n 3, 1) := dk_29 (dk_at dksX12_init_0 15 rfl rfl)
theorem dX12_init_16 : decode cX12_init 16 = .ok (.putfield 19, 3) := dk_181 0 19 (dk_at dksX12_init_0 16 rfl rfl)
theorem dX12_init_19 : decode cX12_init 19 = .ok (.return_, 1) := dk_177 (dk_at dksX12_init_0 19 rfl rfl)
abbrev cX12_toll : ByteArray := prog_13_method_4_code
def yX12_toll : MethodName := ⟨RX12, "toll", "()I"⟩
def dkwX12_toll_0 : List UInt8 := [42, 180, 0, 19, 16, 20, 160, 0, 7, 7, 167, 0, 4, 5, 172]
abbrev dktX12_toll_0 : List UInt8 := dkwX12_toll_0 ++ []
theorem dksX12_toll_0 : cX12_toll.data.toList.drop 0 = dktX12_toll_0 := by decide +kernel
theorem dX12_toll_0 : decode cX12_toll 0 = .ok (.aload_n 0, 1) := dk_42 (dk_at dksX12_toll_0 0 rfl rfl)
theorem dX12_toll_1 : decode cX12_toll 1 = .ok (.getfield 19, 3) := dk_180 0 19 (dk_at dksX12_toll_0 1 rfl rfl)
theorem dX12_toll_4 : decode cX12_toll 4 = .ok (.bipush 20, 2) := dk_16 20 (dk_at dksX12_toll_0 4 rfl rfl)
theorem dX12_toll_6 : decode cX12_toll 6 = .ok (.if_icmp .ne 7, 3) := dk_160 0 7 (dk_at dksX12_toll_0 6 rfl rfl)
theorem dX12_toll_9 : decode cX12_toll 9 = .ok (.iconst 4, 1) := dk_7 (dk_at dksX12_toll_0 9 rfl rfl)
theorem dX12_toll_10 : decode cX12_toll 10 = .ok (.goto 4, 3) := dk_167 0 4 (dk_at dksX12_toll_0 10 rfl rfl)
theorem dX12_toll_13 : decode cX12_toll 13 = .ok (.iconst 2, 1) := dk_5 (dk_at dksX12_toll_0 13 rfl rfl)
theorem dX12_toll_14 : decode cX12_toll 14 = .ok (.ireturn, 1) := dk_172 (dk_at dksX12_toll_0 14 rfl rfl)
abbrev cX12_price : ByteArray := prog_13_method_3_code
def yX12_price : MethodName := ⟨RX12, "price", "()I"⟩
def dkwX12_price_0 : List UInt8 := [42, 180, 0, 15, 42, 180, 0, 9, 182, 0, 29, 182, 0, 32, 42, 180, 0, 19, 104, 16, 20, 108, 172]
abbrev dktX12_price_0 : List UInt8 := dkwX12_price_0 ++ []
theorem dksX12_price_0 : cX12_price.data.toList.drop 0 = dktX12_price_0 := by decide +kernel
theorem dX12_price_0 : decode cX12_price 0 = .ok (.aload_n 0, 1) := dk_42 (dk_at dksX12_price_0 0 rfl rfl)
theorem dX12_price_1 : decode cX12_price 1 = .ok (.getfield 15, 3) := dk_180 0 15 (dk_at dksX12_price_0 1 rfl rfl)
theorem dX12_price_4 : decode cX12_price 4 = .ok (.aload_n 0, 1) := dk_42 (dk_at dksX12_price_0 4 rfl rfl)
theorem dX12_price_5 : decode cX12_price 5 = .ok (.getfield 9, 3) := dk_180 0 9 (dk_at dksX12_price_0 5 rfl rfl)
theorem dX12_price_8 : decode cX12_price 8 = .ok (.invokevirtual 29, 3) := dk_182 0 29 (dk_at dksX12_price_0 8 rfl rfl)
theorem dX12_price_11 : decode cX12_price 11 = .ok (.invokevirtual 32, 3) := dk_182 0 32 (dk_at dksX12_price_0 11 rfl rfl)
theorem dX12_price_14 : decode cX12_price 14 = .ok (.aload_n 0, 1) := dk_42 (dk_at dksX12_price_0 14 rfl rfl)
theorem dX12_price_15 : decode cX12_price 15 = .ok (.getfield 19, 3) := dk_180 0 19 (dk_at dksX12_price_0 15 rfl rfl)
theorem dX12_price_18 : decode cX12_price 18 = .ok (.imul, 1) := dk_104 (dk_at dksX12_price_0 18 rfl rfl)
theorem dX12_price_19 : decode cX12_price 19 = .ok (.bipush 20, 2) := dk_16 20 (dk_at dksX12_price_0 19 rfl rfl)
theorem dX12_price_21 : decode cX12_price 21 = .ok (.idiv, 1) := dk_108 (dk_at dksX12_price_0 21 rfl rfl)
theorem dX12_price_22 : decode cX12_price 22 = .ok (.ireturn, 1) := dk_172 (dk_at dksX12_price_0 22 rfl rfl)
theorem q148 : (Jvm.Cond.initialized "PaperMill$Ream") ∈ lw_all := lw_g (lw_at lw_m1 37 rfl) rfl
theorem q346 : (Jvm.Cond.selects "PaperMill$Ream" ({ cls := "java/lang/Object", name := "getClass", desc := "()Ljava/lang/Class;" } : Jvm.MethodName) ({ cls := "java/lang/Object", name := "getClass", desc := "()Ljava/lang/Class;" } : Jvm.MethodName)) ∈ lw_all := lw_g (lw_at lw_m1 235 rfl) rfl
theorem q583 : (Jvm.Cond.instanceMethod ({ cls := "PaperMill$Ream", name := "units", desc := "()I" } : Jvm.MethodName)) ∈ lw_all := lw_g (lw_at lw_m2 232 rfl) rfl
theorem q584 : (Jvm.Cond.selects "PaperMill$Ream" ({ cls := "PaperMill$Ream", name := "units", desc := "()I" } : Jvm.MethodName) ({ cls := "PaperMill$Ream", name := "units", desc := "()I" } : Jvm.MethodName)) ∈ lw_all := lw_g (lw_at lw_m2 233 rfl) rfl
theorem q585 : (Jvm.Cond.code ({ cls := "PaperMill$Ream", name := "units", desc := "()I" } : Jvm.MethodName) prog_13_method_2_code (1 : Nat) (Option.some Jvm.ClassFile.FieldType.int)) ∈ lw_all := lw_g (lw_at lw_m2 234 rfl) rfl
theorem q586 : (Jvm.Cond.methodLink "PaperMill$Ream" (23 : Nat) ({ cls := "PaperMill$Size", name := "units", desc := "()I" } : Jvm.MethodName)) ∈ lw_all := lw_g (lw_at lw_m2 235 rfl) rfl
theorem q1680 : (Jvm.Cond.instantiable "PaperMill$Ream" (3 : Nat)) ∈ lw_all := lw_g (lw_at lw_m7 129 rfl) rfl
theorem q1682 : (Jvm.Cond.instanceMethod ({ cls := "PaperMill$Ream", name := "<init>", desc := "(LPaperMill$Size;LPaperMill$Grade;I)V" } : Jvm.MethodName)) ∈ lw_all := lw_g (lw_at lw_m7 131 rfl) rfl
theorem q1683 : (Jvm.Cond.code ({ cls := "PaperMill$Ream", name := "<init>", desc := "(LPaperMill$Size;LPaperMill$Grade;I)V" } : Jvm.MethodName) prog_13_method_1_code (4 : Nat) (Option.none : Option Jvm.ClassFile.FieldType)) ∈ lw_all := lw_g (lw_at lw_m7 132 rfl) rfl
theorem q1684 : (Jvm.Cond.methodLink "PaperMill$Ream" (3 : Nat) ({ cls := "java/lang/Object", name := "<init>", desc := "()V" } : Jvm.MethodName)) ∈ lw_all := lw_g (lw_at lw_m7 133 rfl) rfl
theorem q1685 : (Jvm.Cond.fieldLink "PaperMill$Ream" (9 : Nat) "PaperMill$Ream" "size" "LPaperMill$Size;") ∈ lw_all := lw_g (lw_at lw_m7 134 rfl) rfl
theorem q1686 : (Jvm.Cond.fieldLink "PaperMill$Ream" (15 : Nat) "PaperMill$Ream" "grade" "LPaperMill$Grade;") ∈ lw_all := lw_g (lw_at lw_m7 135 rfl) rfl
theorem q1687 : (Jvm.Cond.fieldLink "PaperMill$Ream" (19 : Nat) "PaperMill$Ream" "quires" "I") ∈ lw_all := lw_g (lw_at lw_m7 136 rfl) rfl
theorem q1689 : (Jvm.Cond.laysFinal "PaperMill$Ream" "PaperMill$Ream" "size" "LPaperMill$Size;") ∈ lw_all := lw_g (lw_at lw_m7 138 rfl) rfl
theorem q1690 : (Jvm.Cond.soleField "PaperMill$Ream" "size") ∈ lw_all := lw_g (lw_at lw_m7 139 rfl) rfl
theorem q1691 : (Jvm.Cond.laysFinal "PaperMill$Ream" "PaperMill$Ream" "grade" "LPaperMill$Grade;") ∈ lw_all := lw_g (lw_at lw_m7 140 rfl) rfl
theorem q1692 : (Jvm.Cond.soleField "PaperMill$Ream" "grade") ∈ lw_all := lw_g (lw_at lw_m7 141 rfl) rfl
theorem q1693 : (Jvm.Cond.laysFinal "PaperMill$Ream" "PaperMill$Ream" "quires" "I") ∈ lw_all := lw_g (lw_at lw_m7 142 rfl) rfl
theorem q1694 : (Jvm.Cond.soleField "PaperMill$Ream" "quires") ∈ lw_all := lw_g (lw_at lw_m7 143 rfl) rfl
theorem q1695 : (Jvm.Cond.superclass "PaperMill$Ream" "java/lang/Object") ∈ lw_all := lw_g (lw_at lw_m7 144 rfl) rfl
theorem q1716 : (Jvm.Cond.instanceMethod ({ cls := "PaperMill$Ream", name := "toll", desc := "()I" } : Jvm.MethodName)) ∈ lw_all := lw_g (lw_at lw_m7 165 rfl) rfl
theorem q1717 : (Jvm.Cond.selects "PaperMill$Ream" ({ cls := "PaperMill$Ream", name := "toll", desc := "()I" } : Jvm.MethodName) ({ cls := "PaperMill$Ream", name := "toll", desc := "()I" } : Jvm.MethodName)) ∈ lw_all := lw_g (lw_at lw_m7 166 rfl) rfl
theorem q1718 : (Jvm.Cond.code ({ cls := "PaperMill$Ream", name := "toll", desc := "()I" } : Jvm.MethodName) prog_13_method_4_code (1 : Nat) (Option.some Jvm.ClassFile.FieldType.int)) ∈ lw_all := lw_g (lw_at lw_m7 167 rfl) rfl
theorem q1720 : (Jvm.Cond.instanceMethod ({ cls := "PaperMill$Ream", name := "price", desc := "()I" } : Jvm.MethodName)) ∈ lw_all := lw_g (lw_at lw_m7 169 rfl) rfl
theorem q1721 : (Jvm.Cond.selects "PaperMill$Ream" ({ cls := "PaperMill$Ream", name := "price", desc := "()I" } : Jvm.MethodName) ({ cls := "PaperMill$Ream", name := "price", desc := "()I" } : Jvm.MethodName)) ∈ lw_all := lw_g (lw_at lw_m7 170 rfl) rfl
theorem q1722 : (Jvm.Cond.code ({ cls := "PaperMill$Ream", name := "price", desc := "()I" } : Jvm.MethodName) prog_13_method_3_code (1 : Nat) (Option.some Jvm.ClassFile.FieldType.int)) ∈ lw_all := lw_g (lw_at lw_m7 171 rfl) rfl
theorem q1723 : (Jvm.Cond.methodLink "PaperMill$Ream" (29 : Nat) ({ cls := "PaperMill$Size", name := "price", desc := "()I" } : Jvm.MethodName)) ∈ lw_all := lw_g (lw_at lw_m7 172 rfl) rfl
theorem q1735 : (Jvm.Cond.methodLink "PaperMill$Ream" (32 : Nat) ({ cls := "PaperMill$Grade", name := "price", desc := "(I)I" } : Jvm.MethodName)) ∈ lw_all := lw_g (lw_at lw_m7 184 rfl) rfl
theorem q2720 : (Jvm.Cond.castable "PaperMill$Ream" "java/lang/Object") ∈ lw_tbl := lw_at lw_m11 209 rfl
theorem in_X12 : ∀ w ∈ wsX120, w ∈ lw_all := lw_in wsX120 [1689, 1691, 1693] (by decide +kernel) (by decide +kernel)
/-! PaperMill$TextReader -/
set_option maxRecDepth 100000
def RX13 : String := "PaperMill$TextReader"
def TX13 : u_T := fun k => match k with
  | 0 => ("PaperMill$TextReader", "place", "I", false)
  | 1 => ("PaperMill$TextReader", "brackets", "I", false)
  | 2 => ("PaperMill$TextReader", "works", "[LPaperMill$Work;", true)
  | 3 => ("PaperMill$TextReader", "many", "I", false)
  | _ => ("PaperMill$TextReader", "this$0", "LPaperMill;", true)
def tyX13 : Nat → FieldType := fun k => match k with
  | 0 => .int
  | 1 => .int
  | 2 => .array (.object "PaperMill$Work")
  | 3 => .int
  | _ => .object "PaperMill"
abbrev wsX130 : List Cond := u_ws RX13 TX13 5
theorem nmX13 : ∀ a, a < 5 → ∀ b, b < 5 → a ≠ b → (TX13 a).2.1 ≠ (TX13 b).2.1 := by decide +kernel
theorem tyX13_ok : ∀ k, k < 5 → parseFieldDescriptor (TX13 k).2.2.1 = some (tyX13 k) := by decide +kernel
abbrev cX13_init : ByteArray := prog_20_method_1_code
def yX13_init : MethodName := ⟨RX13, "<init>", "(LPaperMill;)V"⟩
def dkwX13_init_0 : List UInt8 := [42, 43, 181, 0, 3, 42, 183, 0, 9, 42, 16, 60, 189, 0, 15, 181, 0, 17, 177]
abbrev dktX13_init_0 : List UInt8 := dkwX13_init_0 ++ []
theorem dksX13_init_0 : cX13_init.data.toList.drop 0 = dktX13_init_0 := by decide +kernel
theorem dX13_init_0 : decode cX13_init 0 = .ok (.aload_n 0, 1) := dk_42 (dk_at dksX13_init_0 0 rfl rfl)
theorem dX13_init_1 : decode cX13_init 1 = .ok (.aload_n 1, 1) := dk_43 (dk_at dksX13_init_0 1 rfl rfl)
theorem dX13_init_2 : decode cX13_init 2 = .ok (.putfield 3, 3) := dk_181 0 3 (dk_at dksX13_init_0 2 rfl rfl)
theorem dX13_init_5 : decode cX13_init 5 = .ok (.aload_n 0, 1) := dk_42 (dk_at dksX13_init_0 5 rfl rfl)
theorem dX13_init_6 : decode cX13_init 6 = .ok (.invokespecial 9, 3) := dk_183 0 9 (dk_at dksX13_init_0 6 rfl rfl)
theorem dX13_init_9 : decode cX13_init 9 = .ok (.aload_n 0, 1) := dk_42 (dk_at dksX13_init_0 9 rfl rfl)
theorem dX13_init_10 : decode cX13_init 10 = .ok (.bipush 60, 2) := dk_16 60 (dk_at dksX13_init_0 10 rfl rfl)
theorem dX13_init_12 : decode cX13_init 12 = .ok (.anewarray 15, 3) := dk_189 0 15 (dk_at dksX13_init_0 12 rfl rfl)
theorem dX13_init_15 : decode cX13_init 15 = .ok (.putfield 17, 3) := dk_181 0 17 (dk_at dksX13_init_0 15 rfl rfl)
theorem dX13_init_18 : decode cX13_init 18 = .ok (.return_, 1) := dk_177 (dk_at dksX13_init_0 18 rfl rfl)
abbrev cX13_readAll : ByteArray := prog_20_method_2_code
def yX13_readAll : MethodName := ⟨RX13, "readAll", "()Z"⟩
def dkwX13_readAll_2 : List UInt8 := [172]
abbrev dktX13_readAll_2 : List UInt8 := dkwX13_readAll_2 ++ []
def dkwX13_readAll_1 : List UInt8 := [162, 0, 20, 42, 16, 59, 182, 0, 43, 42, 42, 182, 0, 21, 182, 0, 25, 167, 255, 225, 4, 172, 76, 3]
abbrev dktX13_readAll_1 : List UInt8 := dkwX13_readAll_1 ++ dktX13_readAll_2
def dkwX13_readAll_0 : List UInt8 := [42, 42, 182, 0, 21, 182, 0, 25, 42, 180, 0, 29, 42, 180, 0, 3, 180, 0, 33, 182, 0, 37]
abbrev dktX13_readAll_0 : List UInt8 := dkwX13_readAll_0 ++ dktX13_readAll_1
theorem dksX13_readAll_0 : cX13_readAll.data.toList.drop 0 = dktX13_readAll_0 := by decide +kernel
theorem dksX13_readAll_1 : cX13_readAll.data.toList.drop 22 = dktX13_readAll_1 := dk_seg dksX13_readAll_0 22 rfl rfl
theorem dksX13_readAll_2 : cX13_readAll.data.toList.drop 46 = dktX13_readAll_2 := dk_seg dksX13_readAll_1 24 rfl rfl
theorem dX13_readAll_0 : decode cX13_readAll 0 = .ok (.aload_n 0, 1) := dk_42 (dk_at dksX13_readAll_0 0 rfl rfl)
theorem dX13_readAll_1 : decode cX13_readAll 1 = .ok (.aload_n 0, 1) := dk_42 (dk_at dksX13_readAll_0 1 rfl rfl)
theorem dX13_readAll_2 : decode cX13_readAll 2 = .ok (.invokevirtual 21, 3) := dk_182 0 21 (dk_at dksX13_readAll_0 2 rfl rfl)
theorem dX13_readAll_5 : decode cX13_readAll 5 = .ok (.invokevirtual 25, 3) := dk_182 0 25 (dk_at dksX13_readAll_0 5 rfl rfl)
theorem dX13_readAll_8 : decode cX13_readAll 8 = .ok (.aload_n 0, 1) := dk_42 (dk_at dksX13_readAll_0 8 rfl rfl)
theorem dX13_readAll_9 : decode cX13_readAll 9 = .ok (.getfield 29, 3) := dk_180 0 29 (dk_at dksX13_readAll_0 9 rfl rfl)
theorem dX13_readAll_12 : decode cX13_readAll 12 = .ok (.aload_n 0, 1) := dk_42 (dk_at dksX13_readAll_0 12 rfl rfl)
theorem dX13_readAll_13 : decode cX13_readAll 13 = .ok (.getfield 3, 3) := dk_180 0 3 (dk_at dksX13_readAll_0 13 rfl rfl)
theorem dX13_readAll_16 : decode cX13_readAll 16 = .ok (.getfield 33, 3) := dk_180 0 33 (dk_at dksX13_readAll_0 16 rfl rfl)
theorem dX13_readAll_19 : decode cX13_readAll 19 = .ok (.invokevirtual 37, 3) := dk_182 0 37 (dk_at dksX13_readAll_0 19 rfl rfl)
theorem dX13_readAll_22 : decode cX13_readAll 22 = .ok (.if_icmp .ge 20, 3) := dk_162 0 20 (dk_at dksX13_readAll_1 0 rfl rfl)
theorem dX13_readAll_25 : decode cX13_readAll 25 = .ok (.aload_n 0, 1) := dk_42 (dk_at dksX13_readAll_1 3 rfl rfl)
theorem dX13_readAll_26 : decode cX13_readAll 26 = .ok (.bipush 59, 2) := dk_16 59 (dk_at dksX13_readAll_1 4 rfl rfl)
theorem dX13_readAll_28 : decode cX13_readAll 28 = .ok (.invokevirtual 43, 3) := dk_182 0 43 (dk_at dksX13_readAll_1 6 rfl rfl)
theorem dX13_readAll_31 : decode cX13_readAll 31 = .ok (.aload_n 0, 1) := dk_42 (dk_at dksX13_readAll_1 9 rfl rfl)
theorem dX13_readAll_32 : decode cX13_readAll 32 = .ok (.aload_n 0, 1) := dk_42 (dk_at dksX13_readAll_1 10 rfl rfl)
theorem dX13_readAll_33 : decode cX13_readAll 33 = .ok (.invokevirtual 21, 3) := dk_182 0 21 (dk_at dksX13_readAll_1 11 rfl rfl)
theorem dX13_readAll_36 : decode cX13_readAll 36 = .ok (.invokevirtual 25, 3) := dk_182 0 25 (dk_at dksX13_readAll_1 14 rfl rfl)
theorem dX13_readAll_39 : decode cX13_readAll 39 = .ok (.goto (-31), 3) := dk_167 255 225 (dk_at dksX13_readAll_1 17 rfl rfl)
theorem dX13_readAll_42 : decode cX13_readAll 42 = .ok (.iconst 1, 1) := dk_4 (dk_at dksX13_readAll_1 20 rfl rfl)
theorem dX13_readAll_43 : decode cX13_readAll 43 = .ok (.ireturn, 1) := dk_172 (dk_at dksX13_readAll_1 21 rfl rfl)
theorem dX13_readAll_44 : decode cX13_readAll 44 = .ok (.astore_n 1, 1) := dk_76 (dk_at dksX13_readAll_1 22 rfl rfl)
theorem dX13_readAll_45 : decode cX13_readAll 45 = .ok (.iconst 0, 1) := dk_3 (dk_at dksX13_readAll_1 23 rfl rfl)
theorem dX13_readAll_46 : decode cX13_readAll 46 = .ok (.ireturn, 1) := dk_172 (dk_at dksX13_readAll_2 0 rfl rfl)
abbrev cX13_part : ByteArray := prog_20_method_10_code
def yX13_part : MethodName := ⟨RX13, "part", "()LPaperMill$Work;"⟩
def dkwX13_part_8 : List UInt8 := [187, 0, 47, 89, 183, 0, 60, 191]
abbrev dktX13_part_8 : List UInt8 := dkwX13_part_8 ++ []
def dkwX13_part_7 : List UInt8 := [42, 89, 180, 0, 29, 4, 96, 181, 0, 29, 42, 42, 4, 16, 20, 182, 0, 87, 182, 0, 91, 176]
abbrev dktX13_part_7 : List UInt8 := dkwX13_part_7 ++ dktX13_part_8
def dkwX13_part_6 : List UInt8 := [181, 0, 29, 42, 42, 16, 48, 16, 50, 182, 0, 61, 42, 16, 48, 16, 52, 182, 0, 61, 182, 0, 83, 176]
abbrev dktX13_part_6 : List UInt8 := dkwX13_part_6 ++ dktX13_part_7
def dkwX13_part_5 : List UInt8 := [181, 0, 29, 42, 42, 16, 48, 16, 50, 182, 0, 61, 182, 0, 80, 176, 42, 89, 180, 0, 29, 4, 96]
abbrev dktX13_part_5 : List UInt8 := dkwX13_part_5 ++ dktX13_part_6
def dkwX13_part_4 : List UInt8 := [96, 181, 0, 29, 42, 42, 16, 48, 16, 50, 182, 0, 61, 182, 0, 77, 176, 42, 89, 180, 0, 29, 4, 96]
abbrev dktX13_part_4 : List UInt8 := dkwX13_part_4 ++ dktX13_part_5
def dkwX13_part_3 : List UInt8 := [4, 96, 181, 0, 29, 42, 42, 16, 48, 16, 51, 182, 0, 61, 182, 0, 73, 176, 42, 89, 180, 0, 29, 4]
abbrev dktX13_part_3 : List UInt8 := dkwX13_part_3 ++ dktX13_part_4
def dkwX13_part_2 : List UInt8 := [42, 89, 180, 0, 29, 4, 96, 181, 0, 29, 42, 42, 182, 0, 65, 182, 0, 69, 176, 42, 89, 180, 0, 29]
abbrev dktX13_part_2 : List UInt8 := dkwX13_part_2 ++ dktX13_part_3
def dkwX13_part_1 : List UInt8 := [171, 0, 0, 0, 0, 199, 0, 0, 0, 6, 0, 0, 0, 61, 0, 0, 0, 58, 0, 0, 0, 98, 0, 0, 0, 100, 0, 0, 0, 100, 0, 0, 0, 77, 0, 0, 0, 109, 0, 0, 0, 146, 0, 0, 0, 110, 0, 0, 0, 177, 0, 0, 0, 115, 0, 0, 0, 123]
abbrev dktX13_part_1 : List UInt8 := dkwX13_part_1 ++ dktX13_part_2
def dkwX13_part_0 : List UInt8 := [42, 182, 0, 56, 60, 27]
abbrev dktX13_part_0 : List UInt8 := dkwX13_part_0 ++ dktX13_part_1
theorem dksX13_part_0 : cX13_part.data.toList.drop 0 = dktX13_part_0 := by decide +kernel
theorem dksX13_part_1 : cX13_part.data.toList.drop 6 = dktX13_part_1 := dk_seg dksX13_part_0 6 rfl rfl
theorem dksX13_part_2 : cX13_part.data.toList.drop 64 = dktX13_part_2 := dk_seg dksX13_part_1 58 rfl rfl
theorem dksX13_part_3 : cX13_part.data.toList.drop 88 = dktX13_part_3 := dk_seg dksX13_part_2 24 rfl rfl
theorem dksX13_part_4 : cX13_part.data.toList.drop 112 = dktX13_part_4 := dk_seg dksX13_part_3 24 rfl rfl
theorem dksX13_part_5 : cX13_part.data.toList.drop 136 = dktX13_part_5 := dk_seg dksX13_part_4 24 rfl rfl
theorem dksX13_part_6 : cX13_part.data.toList.drop 159 = dktX13_part_6 := dk_seg dksX13_part_5 23 rfl rfl
theorem dksX13_part_7 : cX13_part.data.toList.drop 183 = dktX13_part_7 := dk_seg dksX13_part_6 24 rfl rfl
theorem dksX13_part_8 : cX13_part.data.toList.drop 205 = dktX13_part_8 := dk_seg dksX13_part_7 22 rfl rfl
theorem dX13_part_0 : decode cX13_part 0 = .ok (.aload_n 0, 1) := dk_42 (dk_at dksX13_part_0 0 rfl rfl)
theorem dX13_part_1 : decode cX13_part 1 = .ok (.invokevirtual 56, 3) := dk_182 0 56 (dk_at dksX13_part_0 1 rfl rfl)
theorem dX13_part_4 : decode cX13_part 4 = .ok (.istore_n 1, 1) := dk_60 (dk_at dksX13_part_0 4 rfl rfl)
theorem dX13_part_5 : decode cX13_part 5 = .ok (.iload_n 1, 1) := dk_27 (dk_at dksX13_part_0 5 rfl rfl)
theorem dX13_part_6 : decode cX13_part 6 = .ok (.lookupswitch 199 #[(61, 58), (98, 100), (100, 77), (109, 146), (110, 177), (115, 123)], 58) := by decide +kernel
theorem dX13_part_64 : decode cX13_part 64 = .ok (.aload_n 0, 1) := dk_42 (dk_at dksX13_part_2 0 rfl rfl)
theorem dX13_part_65 : decode cX13_part 65 = .ok (.dup, 1) := dk_89 (dk_at dksX13_part_2 1 rfl rfl)
theorem dX13_part_66 : decode cX13_part 66 = .ok (.getfield 29, 3) := dk_180 0 29 (dk_at dksX13_part_2 2 rfl rfl)
theorem dX13_part_69 : decode cX13_part 69 = .ok (.iconst 1, 1) := dk_4 (dk_at dksX13_part_2 5 rfl rfl)
theorem dX13_part_70 : decode cX13_part 70 = .ok (.iadd, 1) := dk_96 (dk_at dksX13_part_2 6 rfl rfl)
theorem dX13_part_71 : decode cX13_part 71 = .ok (.putfield 29, 3) := dk_181 0 29 (dk_at dksX13_part_2 7 rfl rfl)
theorem dX13_part_74 : decode cX13_part 74 = .ok (.aload_n 0, 1) := dk_42 (dk_at dksX13_part_2 10 rfl rfl)
theorem dX13_part_75 : decode cX13_part 75 = .ok (.aload_n 0, 1) := dk_42 (dk_at dksX13_part_2 11 rfl rfl)
theorem dX13_part_76 : decode cX13_part 76 = .ok (.invokevirtual 65, 3) := dk_182 0 65 (dk_at dksX13_part_2 12 rfl rfl)
theorem dX13_part_79 : decode cX13_part 79 = .ok (.invokevirtual 69, 3) := dk_182 0 69 (dk_at dksX13_part_2 15 rfl rfl)
theorem dX13_part_82 : decode cX13_part 82 = .ok (.areturn, 1) := dk_176 (dk_at dksX13_part_2 18 rfl rfl)
theorem dX13_part_83 : decode cX13_part 83 = .ok (.aload_n 0, 1) := dk_42 (dk_at dksX13_part_2 19 rfl rfl)
theorem dX13_part_84 : decode cX13_part 84 = .ok (.dup, 1) := dk_89 (dk_at dksX13_part_2 20 rfl rfl)
theorem dX13_part_85 : decode cX13_part 85 = .ok (.getfield 29, 3) := dk_180 0 29 (dk_at dksX13_part_2 21 rfl rfl)
theorem dX13_part_88 : decode cX13_part 88 = .ok (.iconst 1, 1) := dk_4 (dk_at dksX13_part_3 0 rfl rfl)
theorem dX13_part_89 : decode cX13_part 89 = .ok (.iadd, 1) := dk_96 (dk_at dksX13_part_3 1 rfl rfl)
theorem dX13_part_90 : decode cX13_part 90 = .ok (.putfield 29, 3) := dk_181 0 29 (dk_at dksX13_part_3 2 rfl rfl)
theorem dX13_part_93 : decode cX13_part 93 = .ok (.aload_n 0, 1) := dk_42 (dk_at dksX13_part_3 5 rfl rfl)
theorem dX13_part_94 : decode cX13_part 94 = .ok (.aload_n 0, 1) := dk_42 (dk_at dksX13_part_3 6 rfl rfl)
theorem dX13_part_95 : decode cX13_part 95 = .ok (.bipush 48, 2) := dk_16 48 (dk_at dksX13_part_3 7 rfl rfl)
theorem dX13_part_97 : decode cX13_part 97 = .ok (.bipush 51, 2) := dk_16 51 (dk_at dksX13_part_3 9 rfl rfl)
theorem dX13_part_99 : decode cX13_part 99 = .ok (.invokevirtual 61, 3) := dk_182 0 61 (dk_at dksX13_part_3 11 rfl rfl)
theorem dX13_part_102 : decode cX13_part 102 = .ok (.invokevirtual 73, 3) := dk_182 0 73 (dk_at dksX13_part_3 14 rfl rfl)
theorem dX13_part_105 : decode cX13_part 105 = .ok (.areturn, 1) := dk_176 (dk_at dksX13_part_3 17 rfl rfl)
theorem dX13_part_106 : decode cX13_part 106 = .ok (.aload_n 0, 1) := dk_42 (dk_at dksX13_part_3 18 rfl rfl)
theorem dX13_part_107 : decode cX13_part 107 = .ok (.dup, 1) := dk_89 (dk_at dksX13_part_3 19 rfl rfl)
theorem dX13_part_108 : decode cX13_part 108 = .ok (.getfield 29, 3) := dk_180 0 29 (dk_at dksX13_part_3 20 rfl rfl)
theorem dX13_part_111 : decode cX13_part 111 = .ok (.iconst 1, 1) := dk_4 (dk_at dksX13_part_3 23 rfl rfl)
theorem dX13_part_112 : decode cX13_part 112 = .ok (.iadd, 1) := dk_96 (dk_at dksX13_part_4 0 rfl rfl)
theorem dX13_part_113 : decode cX13_part 113 = .ok (.putfield 29, 3) := dk_181 0 29 (dk_at dksX13_part_4 1 rfl rfl)
theorem dX13_part_116 : decode cX13_part 116 = .ok (.aload_n 0, 1) := dk_42 (dk_at dksX13_part_4 4 rfl rfl)
theorem dX13_part_117 : decode cX13_part 117 = .ok (.aload_n 0, 1) := dk_42 (dk_at dksX13_part_4 5 rfl rfl)
theorem dX13_part_118 : decode cX13_part 118 = .ok (.bipush 48, 2) := dk_16 48 (dk_at dksX13_part_4 6 rfl rfl)
theorem dX13_part_120 : decode cX13_part 120 = .ok (.bipush 50, 2) := dk_16 50 (dk_at dksX13_part_4 8 rfl rfl)
theorem dX13_part_122 : decode cX13_part 122 = .ok (.invokevirtual 61, 3) := dk_182 0 61 (dk_at dksX13_part_4 10 rfl rfl)
theorem dX13_part_125 : decode cX13_part 125 = .ok (.invokevirtual 77, 3) := dk_182 0 77 (dk_at dksX13_part_4 13 rfl rfl)
theorem dX13_part_128 : decode cX13_part 128 = .ok (.areturn, 1) := dk_176 (dk_at dksX13_part_4 16 rfl rfl)
theorem dX13_part_129 : decode cX13_part 129 = .ok (.aload_n 0, 1) := dk_42 (dk_at dksX13_part_4 17 rfl rfl)
theorem dX13_part_130 : decode cX13_part 130 = .ok (.dup, 1) := dk_89 (dk_at dksX13_part_4 18 rfl rfl)
theorem dX13_part_131 : decode cX13_part 131 = .ok (.getfield 29, 3) := dk_180 0 29 (dk_at dksX13_part_4 19 rfl rfl)
theorem dX13_part_134 : decode cX13_part 134 = .ok (.iconst 1, 1) := dk_4 (dk_at dksX13_part_4 22 rfl rfl)
theorem dX13_part_135 : decode cX13_part 135 = .ok (.iadd, 1) := dk_96 (dk_at dksX13_part_4 23 rfl rfl)
theorem dX13_part_136 : decode cX13_part 136 = .ok (.putfield 29, 3) := dk_181 0 29 (dk_at dksX13_part_5 0 rfl rfl)
theorem dX13_part_139 : decode cX13_part 139 = .ok (.aload_n 0, 1) := dk_42 (dk_at dksX13_part_5 3 rfl rfl)
theorem dX13_part_140 : decode cX13_part 140 = .ok (.aload_n 0, 1) := dk_42 (dk_at dksX13_part_5 4 rfl rfl)
theorem dX13_part_141 : decode cX13_part 141 = .ok (.bipush 48, 2) := dk_16 48 (dk_at dksX13_part_5 5 rfl rfl)
theorem dX13_part_143 : decode cX13_part 143 = .ok (.bipush 50, 2) := dk_16 50 (dk_at dksX13_part_5 7 rfl rfl)
theorem dX13_part_145 : decode cX13_part 145 = .ok (.invokevirtual 61, 3) := dk_182 0 61 (dk_at dksX13_part_5 9 rfl rfl)
theorem dX13_part_148 : decode cX13_part 148 = .ok (.invokevirtual 80, 3) := dk_182 0 80 (dk_at dksX13_part_5 12 rfl rfl)
theorem dX13_part_151 : decode cX13_part 151 = .ok (.areturn, 1) := dk_176 (dk_at dksX13_part_5 15 rfl rfl)
theorem dX13_part_152 : decode cX13_part 152 = .ok (.aload_n 0, 1) := dk_42 (dk_at dksX13_part_5 16 rfl rfl)
theorem dX13_part_153 : decode cX13_part 153 = .ok (.dup, 1) := dk_89 (dk_at dksX13_part_5 17 rfl rfl)
theorem dX13_part_154 : decode cX13_part 154 = .ok (.getfield 29, 3) := dk_180 0 29 (dk_at dksX13_part_5 18 rfl rfl)
theorem dX13_part_157 : decode cX13_part 157 = .ok (.iconst 1, 1) := dk_4 (dk_at dksX13_part_5 21 rfl rfl)
theorem dX13_part_158 : decode cX13_part 158 = .ok (.iadd, 1) := dk_96 (dk_at dksX13_part_5 22 rfl rfl)
theorem dX13_part_159 : decode cX13_part 159 = .ok (.putfield 29, 3) := dk_181 0 29 (dk_at dksX13_part_6 0 rfl rfl)
theorem dX13_part_162 : decode cX13_part 162 = .ok (.aload_n 0, 1) := dk_42 (dk_at dksX13_part_6 3 rfl rfl)
theorem dX13_part_163 : decode cX13_part 163 = .ok (.aload_n 0, 1) := dk_42 (dk_at dksX13_part_6 4 rfl rfl)
theorem dX13_part_164 : decode cX13_part 164 = .ok (.bipush 48, 2) := dk_16 48 (dk_at dksX13_part_6 5 rfl rfl)
theorem dX13_part_166 : decode cX13_part 166 = .ok (.bipush 50, 2) := dk_16 50 (dk_at dksX13_part_6 7 rfl rfl)
theorem dX13_part_168 : decode cX13_part 168 = .ok (.invokevirtual 61, 3) := dk_182 0 61 (dk_at dksX13_part_6 9 rfl rfl)
theorem dX13_part_171 : decode cX13_part 171 = .ok (.aload_n 0, 1) := dk_42 (dk_at dksX13_part_6 12 rfl rfl)
theorem dX13_part_172 : decode cX13_part 172 = .ok (.bipush 48, 2) := dk_16 48 (dk_at dksX13_part_6 13 rfl rfl)
theorem dX13_part_174 : decode cX13_part 174 = .ok (.bipush 52, 2) := dk_16 52 (dk_at dksX13_part_6 15 rfl rfl)
theorem dX13_part_176 : decode cX13_part 176 = .ok (.invokevirtual 61, 3) := dk_182 0 61 (dk_at dksX13_part_6 17 rfl rfl)
theorem dX13_part_179 : decode cX13_part 179 = .ok (.invokevirtual 83, 3) := dk_182 0 83 (dk_at dksX13_part_6 20 rfl rfl)
theorem dX13_part_182 : decode cX13_part 182 = .ok (.areturn, 1) := dk_176 (dk_at dksX13_part_6 23 rfl rfl)
theorem dX13_part_183 : decode cX13_part 183 = .ok (.aload_n 0, 1) := dk_42 (dk_at dksX13_part_7 0 rfl rfl)
theorem dX13_part_184 : decode cX13_part 184 = .ok (.dup, 1) := dk_89 (dk_at dksX13_part_7 1 rfl rfl)
theorem dX13_part_185 : decode cX13_part 185 = .ok (.getfield 29, 3) := dk_180 0 29 (dk_at dksX13_part_7 2 rfl rfl)
theorem dX13_part_188 : decode cX13_part 188 = .ok (.iconst 1, 1) := dk_4 (dk_at dksX13_part_7 5 rfl rfl)
theorem dX13_part_189 : decode cX13_part 189 = .ok (.iadd, 1) := dk_96 (dk_at dksX13_part_7 6 rfl rfl)
theorem dX13_part_190 : decode cX13_part 190 = .ok (.putfield 29, 3) := dk_181 0 29 (dk_at dksX13_part_7 7 rfl rfl)
theorem dX13_part_193 : decode cX13_part 193 = .ok (.aload_n 0, 1) := dk_42 (dk_at dksX13_part_7 10 rfl rfl)
theorem dX13_part_194 : decode cX13_part 194 = .ok (.aload_n 0, 1) := dk_42 (dk_at dksX13_part_7 11 rfl rfl)
theorem dX13_part_195 : decode cX13_part 195 = .ok (.iconst 1, 1) := dk_4 (dk_at dksX13_part_7 12 rfl rfl)
theorem dX13_part_196 : decode cX13_part 196 = .ok (.bipush 20, 2) := dk_16 20 (dk_at dksX13_part_7 13 rfl rfl)
theorem dX13_part_198 : decode cX13_part 198 = .ok (.invokevirtual 87, 3) := dk_182 0 87 (dk_at dksX13_part_7 15 rfl rfl)
theorem dX13_part_201 : decode cX13_part 201 = .ok (.invokevirtual 91, 3) := dk_182 0 91 (dk_at dksX13_part_7 18 rfl rfl)
theorem dX13_part_204 : decode cX13_part 204 = .ok (.areturn, 1) := dk_176 (dk_at dksX13_part_7 21 rfl rfl)
theorem dX13_part_205 : decode cX13_part 205 = .ok (.new 47, 3) := dk_187 0 47 (dk_at dksX13_part_8 0 rfl rfl)
theorem dX13_part_208 : decode cX13_part 208 = .ok (.dup, 1) := dk_89 (dk_at dksX13_part_8 3 rfl rfl)
theorem dX13_part_209 : decode cX13_part 209 = .ok (.invokespecial 60, 3) := dk_183 0 60 (dk_at dksX13_part_8 4 rfl rfl)
theorem dX13_part_212 : decode cX13_part 212 = .ok (.athrow, 1) := dk_191 (dk_at dksX13_part_8 7 rfl rfl)
abbrev cX13_next : ByteArray := prog_20_method_4_code
def yX13_next : MethodName := ⟨RX13, "next", "()C"⟩
def dkwX13_next_1 : List UInt8 := [42, 180, 0, 29, 182, 0, 52, 167, 0, 5, 16, 32, 172]
abbrev dktX13_next_1 : List UInt8 := dkwX13_next_1 ++ []
def dkwX13_next_0 : List UInt8 := [42, 180, 0, 29, 42, 180, 0, 3, 180, 0, 33, 182, 0, 37, 162, 0, 20, 42, 180, 0, 3, 180, 0, 33]
abbrev dktX13_next_0 : List UInt8 := dkwX13_next_0 ++ dktX13_next_1
theorem dksX13_next_0 : cX13_next.data.toList.drop 0 = dktX13_next_0 := by decide +kernel
theorem dksX13_next_1 : cX13_next.data.toList.drop 24 = dktX13_next_1 := dk_seg dksX13_next_0 24 rfl rfl
theorem dX13_next_0 : decode cX13_next 0 = .ok (.aload_n 0, 1) := dk_42 (dk_at dksX13_next_0 0 rfl rfl)
theorem dX13_next_1 : decode cX13_next 1 = .ok (.getfield 29, 3) := dk_180 0 29 (dk_at dksX13_next_0 1 rfl rfl)
theorem dX13_next_4 : decode cX13_next 4 = .ok (.aload_n 0, 1) := dk_42 (dk_at dksX13_next_0 4 rfl rfl)
theorem dX13_next_5 : decode cX13_next 5 = .ok (.getfield 3, 3) := dk_180 0 3 (dk_at dksX13_next_0 5 rfl rfl)
theorem dX13_next_8 : decode cX13_next 8 = .ok (.getfield 33, 3) := dk_180 0 33 (dk_at dksX13_next_0 8 rfl rfl)
theorem dX13_next_11 : decode cX13_next 11 = .ok (.invokevirtual 37, 3) := dk_182 0 37 (dk_at dksX13_next_0 11 rfl rfl)
theorem dX13_next_14 : decode cX13_next 14 = .ok (.if_icmp .ge 20, 3) := dk_162 0 20 (dk_at dksX13_next_0 14 rfl rfl)
theorem dX13_next_17 : decode cX13_next 17 = .ok (.aload_n 0, 1) := dk_42 (dk_at dksX13_next_0 17 rfl rfl)
theorem dX13_next_18 : decode cX13_next 18 = .ok (.getfield 3, 3) := dk_180 0 3 (dk_at dksX13_next_0 18 rfl rfl)
theorem dX13_next_21 : decode cX13_next 21 = .ok (.getfield 33, 3) := dk_180 0 33 (dk_at dksX13_next_0 21 rfl rfl)
theorem dX13_next_24 : decode cX13_next 24 = .ok (.aload_n 0, 1) := dk_42 (dk_at dksX13_next_1 0 rfl rfl)
theorem dX13_next_25 : decode cX13_next 25 = .ok (.getfield 29, 3) := dk_180 0 29 (dk_at dksX13_next_1 1 rfl rfl)
theorem dX13_next_28 : decode cX13_next 28 = .ok (.invokevirtual 52, 3) := dk_182 0 52 (dk_at dksX13_next_1 4 rfl rfl)
theorem dX13_next_31 : decode cX13_next 31 = .ok (.goto 5, 3) := dk_167 0 5 (dk_at dksX13_next_1 7 rfl rfl)
theorem dX13_next_34 : decode cX13_next 34 = .ok (.bipush 32, 2) := dk_16 32 (dk_at dksX13_next_1 10 rfl rfl)
theorem dX13_next_36 : decode cX13_next 36 = .ok (.ireturn, 1) := dk_172 (dk_at dksX13_next_1 12 rfl rfl)
abbrev cX13_mix : ByteArray := prog_20_method_11_code
def yX13_mix : MethodName := ⟨RX13, "mix", "()LPaperMill$Mix;"⟩
def dkwX13_mix_1 : List UInt8 := [187, 0, 97, 89, 43, 42, 182, 0, 94, 183, 0, 99, 76, 167, 255, 224, 43, 176]
abbrev dktX13_mix_1 : List UInt8 := dkwX13_mix_1 ++ []
def dkwX13_mix_0 : List UInt8 := [42, 182, 0, 94, 76, 42, 182, 0, 56, 16, 43, 160, 0, 29, 42, 89, 180, 0, 29, 4, 96, 181, 0, 29]
abbrev dktX13_mix_0 : List UInt8 := dkwX13_mix_0 ++ dktX13_mix_1
theorem dksX13_mix_0 : cX13_mix.data.toList.drop 0 = dktX13_mix_0 := by decide +kernel
theorem dksX13_mix_1 : cX13_mix.data.toList.drop 24 = dktX13_mix_1 := dk_seg dksX13_mix_0 24 rfl rfl
theorem dX13_mix_0 : decode cX13_mix 0 = .ok (.aload_n 0, 1) := dk_42 (dk_at dksX13_mix_0 0 rfl rfl)
theorem dX13_mix_1 : decode cX13_mix 1 = .ok (.invokevirtual 94, 3) := dk_182 0 94 (dk_at dksX13_mix_0 1 rfl rfl)
theorem dX13_mix_4 : decode cX13_mix 4 = .ok (.astore_n 1, 1) := dk_76 (dk_at dksX13_mix_0 4 rfl rfl)
theorem dX13_mix_5 : decode cX13_mix 5 = .ok (.aload_n 0, 1) := dk_42 (dk_at dksX13_mix_0 5 rfl rfl)
theorem dX13_mix_6 : decode cX13_mix 6 = .ok (.invokevirtual 56, 3) := dk_182 0 56 (dk_at dksX13_mix_0 6 rfl rfl)
theorem dX13_mix_9 : decode cX13_mix 9 = .ok (.bipush 43, 2) := dk_16 43 (dk_at dksX13_mix_0 9 rfl rfl)
theorem dX13_mix_11 : decode cX13_mix 11 = .ok (.if_icmp .ne 29, 3) := dk_160 0 29 (dk_at dksX13_mix_0 11 rfl rfl)
theorem dX13_mix_14 : decode cX13_mix 14 = .ok (.aload_n 0, 1) := dk_42 (dk_at dksX13_mix_0 14 rfl rfl)
theorem dX13_mix_15 : decode cX13_mix 15 = .ok (.dup, 1) := dk_89 (dk_at dksX13_mix_0 15 rfl rfl)
theorem dX13_mix_16 : decode cX13_mix 16 = .ok (.getfield 29, 3) := dk_180 0 29 (dk_at dksX13_mix_0 16 rfl rfl)
theorem dX13_mix_19 : decode cX13_mix 19 = .ok (.iconst 1, 1) := dk_4 (dk_at dksX13_mix_0 19 rfl rfl)
theorem dX13_mix_20 : decode cX13_mix 20 = .ok (.iadd, 1) := dk_96 (dk_at dksX13_mix_0 20 rfl rfl)
theorem dX13_mix_21 : decode cX13_mix 21 = .ok (.putfield 29, 3) := dk_181 0 29 (dk_at dksX13_mix_0 21 rfl rfl)
theorem dX13_mix_24 : decode cX13_mix 24 = .ok (.new 97, 3) := dk_187 0 97 (dk_at dksX13_mix_1 0 rfl rfl)
theorem dX13_mix_27 : decode cX13_mix 27 = .ok (.dup, 1) := dk_89 (dk_at dksX13_mix_1 3 rfl rfl)
theorem dX13_mix_28 : decode cX13_mix 28 = .ok (.aload_n 1, 1) := dk_43 (dk_at dksX13_mix_1 4 rfl rfl)
theorem dX13_mix_29 : decode cX13_mix 29 = .ok (.aload_n 0, 1) := dk_42 (dk_at dksX13_mix_1 5 rfl rfl)
theorem dX13_mix_30 : decode cX13_mix 30 = .ok (.invokevirtual 94, 3) := dk_182 0 94 (dk_at dksX13_mix_1 6 rfl rfl)
theorem dX13_mix_33 : decode cX13_mix 33 = .ok (.invokespecial 99, 3) := dk_183 0 99 (dk_at dksX13_mix_1 9 rfl rfl)
theorem dX13_mix_36 : decode cX13_mix 36 = .ok (.astore_n 1, 1) := dk_76 (dk_at dksX13_mix_1 12 rfl rfl)
theorem dX13_mix_37 : decode cX13_mix 37 = .ok (.goto (-32), 3) := dk_167 255 224 (dk_at dksX13_mix_1 13 rfl rfl)
theorem dX13_mix_40 : decode cX13_mix 40 = .ok (.aload_n 1, 1) := dk_43 (dk_at dksX13_mix_1 16 rfl rfl)
theorem dX13_mix_41 : decode cX13_mix 41 = .ok (.areturn, 1) := dk_176 (dk_at dksX13_mix_1 17 rfl rfl)
abbrev cX13_term : ByteArray := prog_20_method_12_code
def yX13_term : MethodName := ⟨RX13, "term", "()LPaperMill$Mix;"⟩
def dkwX13_term_4 : List UInt8 := [187, 0, 113, 89, 27, 42, 16, 49, 16, 57, 182, 0, 61, 183, 0, 115, 176]
abbrev dktX13_term_4 : List UInt8 := dkwX13_term_4 ++ []
def dkwX13_term_3 : List UInt8 := [44, 191, 187, 0, 105, 89, 43, 42, 16, 49, 16, 57, 182, 0, 61, 183, 0, 107, 176, 42, 182, 0, 110, 60]
abbrev dktX13_term_3 : List UInt8 := dkwX13_term_3 ++ dktX13_term_4
def dkwX13_term_2 : List UInt8 := [42, 89, 180, 0, 102, 4, 100, 181, 0, 102, 167, 0, 16, 77, 42, 89, 180, 0, 102, 4, 100, 181, 0, 102]
abbrev dktX13_term_2 : List UInt8 := dkwX13_term_2 ++ dktX13_term_3
def dkwX13_term_1 : List UInt8 := [181, 0, 29, 42, 89, 180, 0, 102, 4, 96, 181, 0, 102, 42, 182, 0, 65, 76, 42, 16, 41, 182, 0, 43]
abbrev dktX13_term_1 : List UInt8 := dkwX13_term_1 ++ dktX13_term_2
def dkwX13_term_0 : List UInt8 := [42, 182, 0, 56, 16, 40, 160, 0, 85, 42, 180, 0, 102, 7, 162, 0, 77, 42, 89, 180, 0, 29, 4, 96]
abbrev dktX13_term_0 : List UInt8 := dkwX13_term_0 ++ dktX13_term_1
theorem dksX13_term_0 : cX13_term.data.toList.drop 0 = dktX13_term_0 := by decide +kernel
theorem dksX13_term_1 : cX13_term.data.toList.drop 24 = dktX13_term_1 := dk_seg dksX13_term_0 24 rfl rfl
theorem dksX13_term_2 : cX13_term.data.toList.drop 48 = dktX13_term_2 := dk_seg dksX13_term_1 24 rfl rfl
theorem dksX13_term_3 : cX13_term.data.toList.drop 72 = dktX13_term_3 := dk_seg dksX13_term_2 24 rfl rfl
theorem dksX13_term_4 : cX13_term.data.toList.drop 96 = dktX13_term_4 := dk_seg dksX13_term_3 24 rfl rfl
theorem dX13_term_0 : decode cX13_term 0 = .ok (.aload_n 0, 1) := dk_42 (dk_at dksX13_term_0 0 rfl rfl)
theorem dX13_term_1 : decode cX13_term 1 = .ok (.invokevirtual 56, 3) := dk_182 0 56 (dk_at dksX13_term_0 1 rfl rfl)
theorem dX13_term_4 : decode cX13_term 4 = .ok (.bipush 40, 2) := dk_16 40 (dk_at dksX13_term_0 4 rfl rfl)
theorem dX13_term_6 : decode cX13_term 6 = .ok (.if_icmp .ne 85, 3) := dk_160 0 85 (dk_at dksX13_term_0 6 rfl rfl)
theorem dX13_term_9 : decode cX13_term 9 = .ok (.aload_n 0, 1) := dk_42 (dk_at dksX13_term_0 9 rfl rfl)
theorem dX13_term_10 : decode cX13_term 10 = .ok (.getfield 102, 3) := dk_180 0 102 (dk_at dksX13_term_0 10 rfl rfl)
theorem dX13_term_13 : decode cX13_term 13 = .ok (.iconst 4, 1) := dk_7 (dk_at dksX13_term_0 13 rfl rfl)
theorem dX13_term_14 : decode cX13_term 14 = .ok (.if_icmp .ge 77, 3) := dk_162 0 77 (dk_at dksX13_term_0 14 rfl rfl)
theorem dX13_term_17 : decode cX13_term 17 = .ok (.aload_n 0, 1) := dk_42 (dk_at dksX13_term_0 17 rfl rfl)
theorem dX13_term_18 : decode cX13_term 18 = .ok (.dup, 1) := dk_89 (dk_at dksX13_term_0 18 rfl rfl)
theorem dX13_term_19 : decode cX13_term 19 = .ok (.getfield 29, 3) := dk_180 0 29 (dk_at dksX13_term_0 19 rfl rfl)
theorem dX13_term_22 : decode cX13_term 22 = .ok (.iconst 1, 1) := dk_4 (dk_at dksX13_term_0 22 rfl rfl)
theorem dX13_term_23 : decode cX13_term 23 = .ok (.iadd, 1) := dk_96 (dk_at dksX13_term_0 23 rfl rfl)
theorem dX13_term_24 : decode cX13_term 24 = .ok (.putfield 29, 3) := dk_181 0 29 (dk_at dksX13_term_1 0 rfl rfl)
theorem dX13_term_27 : decode cX13_term 27 = .ok (.aload_n 0, 1) := dk_42 (dk_at dksX13_term_1 3 rfl rfl)
theorem dX13_term_28 : decode cX13_term 28 = .ok (.dup, 1) := dk_89 (dk_at dksX13_term_1 4 rfl rfl)
theorem dX13_term_29 : decode cX13_term 29 = .ok (.getfield 102, 3) := dk_180 0 102 (dk_at dksX13_term_1 5 rfl rfl)
theorem dX13_term_32 : decode cX13_term 32 = .ok (.iconst 1, 1) := dk_4 (dk_at dksX13_term_1 8 rfl rfl)
theorem dX13_term_33 : decode cX13_term 33 = .ok (.iadd, 1) := dk_96 (dk_at dksX13_term_1 9 rfl rfl)
theorem dX13_term_34 : decode cX13_term 34 = .ok (.putfield 102, 3) := dk_181 0 102 (dk_at dksX13_term_1 10 rfl rfl)
theorem dX13_term_37 : decode cX13_term 37 = .ok (.aload_n 0, 1) := dk_42 (dk_at dksX13_term_1 13 rfl rfl)
theorem dX13_term_38 : decode cX13_term 38 = .ok (.invokevirtual 65, 3) := dk_182 0 65 (dk_at dksX13_term_1 14 rfl rfl)
theorem dX13_term_41 : decode cX13_term 41 = .ok (.astore_n 1, 1) := dk_76 (dk_at dksX13_term_1 17 rfl rfl)
theorem dX13_term_42 : decode cX13_term 42 = .ok (.aload_n 0, 1) := dk_42 (dk_at dksX13_term_1 18 rfl rfl)
theorem dX13_term_43 : decode cX13_term 43 = .ok (.bipush 41, 2) := dk_16 41 (dk_at dksX13_term_1 19 rfl rfl)
theorem dX13_term_45 : decode cX13_term 45 = .ok (.invokevirtual 43, 3) := dk_182 0 43 (dk_at dksX13_term_1 21 rfl rfl)
theorem dX13_term_48 : decode cX13_term 48 = .ok (.aload_n 0, 1) := dk_42 (dk_at dksX13_term_2 0 rfl rfl)
theorem dX13_term_49 : decode cX13_term 49 = .ok (.dup, 1) := dk_89 (dk_at dksX13_term_2 1 rfl rfl)
theorem dX13_term_50 : decode cX13_term 50 = .ok (.getfield 102, 3) := dk_180 0 102 (dk_at dksX13_term_2 2 rfl rfl)
theorem dX13_term_53 : decode cX13_term 53 = .ok (.iconst 1, 1) := dk_4 (dk_at dksX13_term_2 5 rfl rfl)
theorem dX13_term_54 : decode cX13_term 54 = .ok (.isub, 1) := dk_100 (dk_at dksX13_term_2 6 rfl rfl)
theorem dX13_term_55 : decode cX13_term 55 = .ok (.putfield 102, 3) := dk_181 0 102 (dk_at dksX13_term_2 7 rfl rfl)
theorem dX13_term_58 : decode cX13_term 58 = .ok (.goto 16, 3) := dk_167 0 16 (dk_at dksX13_term_2 10 rfl rfl)
theorem dX13_term_61 : decode cX13_term 61 = .ok (.astore_n 2, 1) := dk_77 (dk_at dksX13_term_2 13 rfl rfl)
theorem dX13_term_62 : decode cX13_term 62 = .ok (.aload_n 0, 1) := dk_42 (dk_at dksX13_term_2 14 rfl rfl)
theorem dX13_term_63 : decode cX13_term 63 = .ok (.dup, 1) := dk_89 (dk_at dksX13_term_2 15 rfl rfl)
theorem dX13_term_64 : decode cX13_term 64 = .ok (.getfield 102, 3) := dk_180 0 102 (dk_at dksX13_term_2 16 rfl rfl)
theorem dX13_term_67 : decode cX13_term 67 = .ok (.iconst 1, 1) := dk_4 (dk_at dksX13_term_2 19 rfl rfl)
theorem dX13_term_68 : decode cX13_term 68 = .ok (.isub, 1) := dk_100 (dk_at dksX13_term_2 20 rfl rfl)
theorem dX13_term_69 : decode cX13_term 69 = .ok (.putfield 102, 3) := dk_181 0 102 (dk_at dksX13_term_2 21 rfl rfl)
theorem dX13_term_72 : decode cX13_term 72 = .ok (.aload_n 2, 1) := dk_44 (dk_at dksX13_term_3 0 rfl rfl)
theorem dX13_term_73 : decode cX13_term 73 = .ok (.athrow, 1) := dk_191 (dk_at dksX13_term_3 1 rfl rfl)
theorem dX13_term_74 : decode cX13_term 74 = .ok (.new 105, 3) := dk_187 0 105 (dk_at dksX13_term_3 2 rfl rfl)
theorem dX13_term_77 : decode cX13_term 77 = .ok (.dup, 1) := dk_89 (dk_at dksX13_term_3 5 rfl rfl)
theorem dX13_term_78 : decode cX13_term 78 = .ok (.aload_n 1, 1) := dk_43 (dk_at dksX13_term_3 6 rfl rfl)
theorem dX13_term_79 : decode cX13_term 79 = .ok (.aload_n 0, 1) := dk_42 (dk_at dksX13_term_3 7 rfl rfl)
theorem dX13_term_80 : decode cX13_term 80 = .ok (.bipush 49, 2) := dk_16 49 (dk_at dksX13_term_3 8 rfl rfl)
theorem dX13_term_82 : decode cX13_term 82 = .ok (.bipush 57, 2) := dk_16 57 (dk_at dksX13_term_3 10 rfl rfl)
theorem dX13_term_84 : decode cX13_term 84 = .ok (.invokevirtual 61, 3) := dk_182 0 61 (dk_at dksX13_term_3 12 rfl rfl)
theorem dX13_term_87 : decode cX13_term 87 = .ok (.invokespecial 107, 3) := dk_183 0 107 (dk_at dksX13_term_3 15 rfl rfl)
theorem dX13_term_90 : decode cX13_term 90 = .ok (.areturn, 1) := dk_176 (dk_at dksX13_term_3 18 rfl rfl)
theorem dX13_term_91 : decode cX13_term 91 = .ok (.aload_n 0, 1) := dk_42 (dk_at dksX13_term_3 19 rfl rfl)
theorem dX13_term_92 : decode cX13_term 92 = .ok (.invokevirtual 110, 3) := dk_182 0 110 (dk_at dksX13_term_3 20 rfl rfl)
theorem dX13_term_95 : decode cX13_term 95 = .ok (.istore_n 1, 1) := dk_60 (dk_at dksX13_term_3 23 rfl rfl)
theorem dX13_term_96 : decode cX13_term 96 = .ok (.new 113, 3) := dk_187 0 113 (dk_at dksX13_term_4 0 rfl rfl)
theorem dX13_term_99 : decode cX13_term 99 = .ok (.dup, 1) := dk_89 (dk_at dksX13_term_4 3 rfl rfl)
theorem dX13_term_100 : decode cX13_term 100 = .ok (.iload_n 1, 1) := dk_27 (dk_at dksX13_term_4 4 rfl rfl)
theorem dX13_term_101 : decode cX13_term 101 = .ok (.aload_n 0, 1) := dk_42 (dk_at dksX13_term_4 5 rfl rfl)
theorem dX13_term_102 : decode cX13_term 102 = .ok (.bipush 49, 2) := dk_16 49 (dk_at dksX13_term_4 6 rfl rfl)
theorem dX13_term_104 : decode cX13_term 104 = .ok (.bipush 57, 2) := dk_16 57 (dk_at dksX13_term_4 8 rfl rfl)
theorem dX13_term_106 : decode cX13_term 106 = .ok (.invokevirtual 61, 3) := dk_182 0 61 (dk_at dksX13_term_4 10 rfl rfl)
theorem dX13_term_109 : decode cX13_term 109 = .ok (.invokespecial 115, 3) := dk_183 0 115 (dk_at dksX13_term_4 13 rfl rfl)
theorem dX13_term_112 : decode cX13_term 112 = .ok (.areturn, 1) := dk_176 (dk_at dksX13_term_4 16 rfl rfl)
abbrev cX13_sign : ByteArray := prog_20_method_5_code
def yX13_sign : MethodName := ⟨RX13, "sign", "(C)V"⟩
def dkwX13_sign_1 : List UInt8 := [181, 0, 29, 177]
abbrev dktX13_sign_1 : List UInt8 := dkwX13_sign_1 ++ []
def dkwX13_sign_0 : List UInt8 := [42, 182, 0, 56, 27, 159, 0, 11, 187, 0, 47, 89, 183, 0, 60, 191, 42, 89, 180, 0, 29, 4, 96]
abbrev dktX13_sign_0 : List UInt8 := dkwX13_sign_0 ++ dktX13_sign_1
theorem dksX13_sign_0 : cX13_sign.data.toList.drop 0 = dktX13_sign_0 := by decide +kernel
theorem dksX13_sign_1 : cX13_sign.data.toList.drop 23 = dktX13_sign_1 := dk_seg dksX13_sign_0 23 rfl rfl
theorem dX13_sign_0 : decode cX13_sign 0 = .ok (.aload_n 0, 1) := dk_42 (dk_at dksX13_sign_0 0 rfl rfl)
theorem dX13_sign_1 : decode cX13_sign 1 = .ok (.invokevirtual 56, 3) := dk_182 0 56 (dk_at dksX13_sign_0 1 rfl rfl)
theorem dX13_sign_4 : decode cX13_sign 4 = .ok (.iload_n 1, 1) := dk_27 (dk_at dksX13_sign_0 4 rfl rfl)
theorem dX13_sign_5 : decode cX13_sign 5 = .ok (.if_icmp .eq 11, 3) := dk_159 0 11 (dk_at dksX13_sign_0 5 rfl rfl)
theorem dX13_sign_8 : decode cX13_sign 8 = .ok (.new 47, 3) := dk_187 0 47 (dk_at dksX13_sign_0 8 rfl rfl)
theorem dX13_sign_11 : decode cX13_sign 11 = .ok (.dup, 1) := dk_89 (dk_at dksX13_sign_0 11 rfl rfl)
theorem dX13_sign_12 : decode cX13_sign 12 = .ok (.invokespecial 60, 3) := dk_183 0 60 (dk_at dksX13_sign_0 12 rfl rfl)
theorem dX13_sign_15 : decode cX13_sign 15 = .ok (.athrow, 1) := dk_191 (dk_at dksX13_sign_0 15 rfl rfl)
theorem dX13_sign_16 : decode cX13_sign 16 = .ok (.aload_n 0, 1) := dk_42 (dk_at dksX13_sign_0 16 rfl rfl)
theorem dX13_sign_17 : decode cX13_sign 17 = .ok (.dup, 1) := dk_89 (dk_at dksX13_sign_0 17 rfl rfl)
theorem dX13_sign_18 : decode cX13_sign 18 = .ok (.getfield 29, 3) := dk_180 0 29 (dk_at dksX13_sign_0 18 rfl rfl)
theorem dX13_sign_21 : decode cX13_sign 21 = .ok (.iconst 1, 1) := dk_4 (dk_at dksX13_sign_0 21 rfl rfl)
theorem dX13_sign_22 : decode cX13_sign 22 = .ok (.iadd, 1) := dk_96 (dk_at dksX13_sign_0 22 rfl rfl)
theorem dX13_sign_23 : decode cX13_sign 23 = .ok (.putfield 29, 3) := dk_181 0 29 (dk_at dksX13_sign_1 0 rfl rfl)
theorem dX13_sign_26 : decode cX13_sign 26 = .ok (.return_, 1) := dk_177 (dk_at dksX13_sign_1 3 rfl rfl)
abbrev cX13_digit : ByteArray := prog_20_method_6_code
def yX13_digit : MethodName := ⟨RX13, "digit", "(CC)I"⟩
def dkwX13_digit_1 : List UInt8 := [89, 180, 0, 29, 4, 96, 181, 0, 29, 29, 16, 48, 100, 172]
abbrev dktX13_digit_1 : List UInt8 := dkwX13_digit_1 ++ []
def dkwX13_digit_0 : List UInt8 := [42, 182, 0, 56, 62, 29, 27, 161, 0, 8, 29, 28, 164, 0, 11, 187, 0, 47, 89, 183, 0, 60, 191, 42]
abbrev dktX13_digit_0 : List UInt8 := dkwX13_digit_0 ++ dktX13_digit_1
theorem dksX13_digit_0 : cX13_digit.data.toList.drop 0 = dktX13_digit_0 := by decide +kernel
theorem dksX13_digit_1 : cX13_digit.data.toList.drop 24 = dktX13_digit_1 := dk_seg dksX13_digit_0 24 rfl rfl
theorem dX13_digit_0 : decode cX13_digit 0 = .ok (.aload_n 0, 1) := dk_42 (dk_at dksX13_digit_0 0 rfl rfl)
theorem dX13_digit_1 : decode cX13_digit 1 = .ok (.invokevirtual 56, 3) := dk_182 0 56 (dk_at dksX13_digit_0 1 rfl rfl)
theorem dX13_digit_4 : decode cX13_digit 4 = .ok (.istore_n 3, 1) := dk_62 (dk_at dksX13_digit_0 4 rfl rfl)
theorem dX13_digit_5 : decode cX13_digit 5 = .ok (.iload_n 3, 1) := dk_29 (dk_at dksX13_digit_0 5 rfl rfl)
theorem dX13_digit_6 : decode cX13_digit 6 = .ok (.iload_n 1, 1) := dk_27 (dk_at dksX13_digit_0 6 rfl rfl)
theorem dX13_digit_7 : decode cX13_digit 7 = .ok (.if_icmp .lt 8, 3) := dk_161 0 8 (dk_at dksX13_digit_0 7 rfl rfl)
theorem dX13_digit_10 : decode cX13_digit 10 = .ok (.iload_n 3, 1) := dk_29 (dk_at dksX13_digit_0 10 rfl rfl)
theorem dX13_digit_11 : decode cX13_digit 11 = .ok (.iload_n 2, 1) := dk_28 (dk_at dksX13_digit_0 11 rfl rfl)
theorem dX13_digit_12 : decode cX13_digit 12 = .ok (.if_icmp .le 11, 3) := dk_164 0 11 (dk_at dksX13_digit_0 12 rfl rfl)
theorem dX13_digit_15 : decode cX13_digit 15 = .ok (.new 47, 3) := dk_187 0 47 (dk_at dksX13_digit_0 15 rfl rfl)
theorem dX13_digit_18 : decode cX13_digit 18 = .ok (.dup, 1) := dk_89 (dk_at dksX13_digit_0 18 rfl rfl)
theorem dX13_digit_19 : decode cX13_digit 19 = .ok (.invokespecial 60, 3) := dk_183 0 60 (dk_at dksX13_digit_0 19 rfl rfl)
theorem dX13_digit_22 : decode cX13_digit 22 = .ok (.athrow, 1) := dk_191 (dk_at dksX13_digit_0 22 rfl rfl)
theorem dX13_digit_23 : decode cX13_digit 23 = .ok (.aload_n 0, 1) := dk_42 (dk_at dksX13_digit_0 23 rfl rfl)
theorem dX13_digit_24 : decode cX13_digit 24 = .ok (.dup, 1) := dk_89 (dk_at dksX13_digit_1 0 rfl rfl)
theorem dX13_digit_25 : decode cX13_digit 25 = .ok (.getfield 29, 3) := dk_180 0 29 (dk_at dksX13_digit_1 1 rfl rfl)
theorem dX13_digit_28 : decode cX13_digit 28 = .ok (.iconst 1, 1) := dk_4 (dk_at dksX13_digit_1 4 rfl rfl)
theorem dX13_digit_29 : decode cX13_digit 29 = .ok (.iadd, 1) := dk_96 (dk_at dksX13_digit_1 5 rfl rfl)
theorem dX13_digit_30 : decode cX13_digit 30 = .ok (.putfield 29, 3) := dk_181 0 29 (dk_at dksX13_digit_1 6 rfl rfl)
theorem dX13_digit_33 : decode cX13_digit 33 = .ok (.iload_n 3, 1) := dk_29 (dk_at dksX13_digit_1 9 rfl rfl)
theorem dX13_digit_34 : decode cX13_digit 34 = .ok (.bipush 48, 2) := dk_16 48 (dk_at dksX13_digit_1 10 rfl rfl)
theorem dX13_digit_36 : decode cX13_digit 36 = .ok (.isub, 1) := dk_100 (dk_at dksX13_digit_1 12 rfl rfl)
theorem dX13_digit_37 : decode cX13_digit 37 = .ok (.ireturn, 1) := dk_172 (dk_at dksX13_digit_1 13 rfl rfl)
abbrev cX13_sort : ByteArray := prog_20_method_9_code
def yX13_sort : MethodName := ⟨RX13, "sort", "()I"⟩
def dkwX13_sort_3 : List UInt8 := [28, 172]
abbrev dktX13_sort_3 : List UInt8 := dkwX13_sort_3 ++ []
def dkwX13_sort_2 : List UInt8 := [61, 28, 2, 160, 0, 11, 187, 0, 47, 89, 183, 0, 60, 191, 42, 89, 180, 0, 29, 4, 96, 181, 0, 29]
abbrev dktX13_sort_2 : List UInt8 := dkwX13_sort_2 ++ dktX13_sort_3
def dkwX13_sort_1 : List UInt8 := [167, 0, 24, 27, 16, 104, 160, 0, 7, 5, 167, 0, 14, 27, 16, 119, 160, 0, 7, 6, 167, 0, 4, 2]
abbrev dktX13_sort_1 : List UInt8 := dkwX13_sort_1 ++ dktX13_sort_2
def dkwX13_sort_0 : List UInt8 := [42, 182, 0, 56, 60, 27, 16, 108, 160, 0, 7, 3, 167, 0, 34, 27, 16, 99, 160, 0, 7, 4]
abbrev dktX13_sort_0 : List UInt8 := dkwX13_sort_0 ++ dktX13_sort_1
theorem dksX13_sort_0 : cX13_sort.data.toList.drop 0 = dktX13_sort_0 := by decide +kernel
theorem dksX13_sort_1 : cX13_sort.data.toList.drop 22 = dktX13_sort_1 := dk_seg dksX13_sort_0 22 rfl rfl
theorem dksX13_sort_2 : cX13_sort.data.toList.drop 46 = dktX13_sort_2 := dk_seg dksX13_sort_1 24 rfl rfl
theorem dksX13_sort_3 : cX13_sort.data.toList.drop 70 = dktX13_sort_3 := dk_seg dksX13_sort_2 24 rfl rfl
theorem dX13_sort_0 : decode cX13_sort 0 = .ok (.aload_n 0, 1) := dk_42 (dk_at dksX13_sort_0 0 rfl rfl)
theorem dX13_sort_1 : decode cX13_sort 1 = .ok (.invokevirtual 56, 3) := dk_182 0 56 (dk_at dksX13_sort_0 1 rfl rfl)
theorem dX13_sort_4 : decode cX13_sort 4 = .ok (.istore_n 1, 1) := dk_60 (dk_at dksX13_sort_0 4 rfl rfl)
theorem dX13_sort_5 : decode cX13_sort 5 = .ok (.iload_n 1, 1) := dk_27 (dk_at dksX13_sort_0 5 rfl rfl)
theorem dX13_sort_6 : decode cX13_sort 6 = .ok (.bipush 108, 2) := dk_16 108 (dk_at dksX13_sort_0 6 rfl rfl)
theorem dX13_sort_8 : decode cX13_sort 8 = .ok (.if_icmp .ne 7, 3) := dk_160 0 7 (dk_at dksX13_sort_0 8 rfl rfl)
theorem dX13_sort_11 : decode cX13_sort 11 = .ok (.iconst 0, 1) := dk_3 (dk_at dksX13_sort_0 11 rfl rfl)
theorem dX13_sort_12 : decode cX13_sort 12 = .ok (.goto 34, 3) := dk_167 0 34 (dk_at dksX13_sort_0 12 rfl rfl)
theorem dX13_sort_15 : decode cX13_sort 15 = .ok (.iload_n 1, 1) := dk_27 (dk_at dksX13_sort_0 15 rfl rfl)
theorem dX13_sort_16 : decode cX13_sort 16 = .ok (.bipush 99, 2) := dk_16 99 (dk_at dksX13_sort_0 16 rfl rfl)
theorem dX13_sort_18 : decode cX13_sort 18 = .ok (.if_icmp .ne 7, 3) := dk_160 0 7 (dk_at dksX13_sort_0 18 rfl rfl)
theorem dX13_sort_21 : decode cX13_sort 21 = .ok (.iconst 1, 1) := dk_4 (dk_at dksX13_sort_0 21 rfl rfl)
theorem dX13_sort_22 : decode cX13_sort 22 = .ok (.goto 24, 3) := dk_167 0 24 (dk_at dksX13_sort_1 0 rfl rfl)
theorem dX13_sort_25 : decode cX13_sort 25 = .ok (.iload_n 1, 1) := dk_27 (dk_at dksX13_sort_1 3 rfl rfl)
theorem dX13_sort_26 : decode cX13_sort 26 = .ok (.bipush 104, 2) := dk_16 104 (dk_at dksX13_sort_1 4 rfl rfl)
theorem dX13_sort_28 : decode cX13_sort 28 = .ok (.if_icmp .ne 7, 3) := dk_160 0 7 (dk_at dksX13_sort_1 6 rfl rfl)
theorem dX13_sort_31 : decode cX13_sort 31 = .ok (.iconst 2, 1) := dk_5 (dk_at dksX13_sort_1 9 rfl rfl)
theorem dX13_sort_32 : decode cX13_sort 32 = .ok (.goto 14, 3) := dk_167 0 14 (dk_at dksX13_sort_1 10 rfl rfl)
theorem dX13_sort_35 : decode cX13_sort 35 = .ok (.iload_n 1, 1) := dk_27 (dk_at dksX13_sort_1 13 rfl rfl)
theorem dX13_sort_36 : decode cX13_sort 36 = .ok (.bipush 119, 2) := dk_16 119 (dk_at dksX13_sort_1 14 rfl rfl)
theorem dX13_sort_38 : decode cX13_sort 38 = .ok (.if_icmp .ne 7, 3) := dk_160 0 7 (dk_at dksX13_sort_1 16 rfl rfl)
theorem dX13_sort_41 : decode cX13_sort 41 = .ok (.iconst 3, 1) := dk_6 (dk_at dksX13_sort_1 19 rfl rfl)
theorem dX13_sort_42 : decode cX13_sort 42 = .ok (.goto 4, 3) := dk_167 0 4 (dk_at dksX13_sort_1 20 rfl rfl)
theorem dX13_sort_45 : decode cX13_sort 45 = .ok (.iconst (-1), 1) := dk_2 (dk_at dksX13_sort_1 23 rfl rfl)
theorem dX13_sort_46 : decode cX13_sort 46 = .ok (.istore_n 2, 1) := dk_61 (dk_at dksX13_sort_2 0 rfl rfl)
theorem dX13_sort_47 : decode cX13_sort 47 = .ok (.iload_n 2, 1) := dk_28 (dk_at dksX13_sort_2 1 rfl rfl)
theorem dX13_sort_48 : decode cX13_sort 48 = .ok (.iconst (-1), 1) := dk_2 (dk_at dksX13_sort_2 2 rfl rfl)
theorem dX13_sort_49 : decode cX13_sort 49 = .ok (.if_icmp .ne 11, 3) := dk_160 0 11 (dk_at dksX13_sort_2 3 rfl rfl)
theorem dX13_sort_52 : decode cX13_sort 52 = .ok (.new 47, 3) := dk_187 0 47 (dk_at dksX13_sort_2 6 rfl rfl)
theorem dX13_sort_55 : decode cX13_sort 55 = .ok (.dup, 1) := dk_89 (dk_at dksX13_sort_2 9 rfl rfl)
theorem dX13_sort_56 : decode cX13_sort 56 = .ok (.invokespecial 60, 3) := dk_183 0 60 (dk_at dksX13_sort_2 10 rfl rfl)
theorem dX13_sort_59 : decode cX13_sort 59 = .ok (.athrow, 1) := dk_191 (dk_at dksX13_sort_2 13 rfl rfl)
theorem dX13_sort_60 : decode cX13_sort 60 = .ok (.aload_n 0, 1) := dk_42 (dk_at dksX13_sort_2 14 rfl rfl)
theorem dX13_sort_61 : decode cX13_sort 61 = .ok (.dup, 1) := dk_89 (dk_at dksX13_sort_2 15 rfl rfl)
theorem dX13_sort_62 : decode cX13_sort 62 = .ok (.getfield 29, 3) := dk_180 0 29 (dk_at dksX13_sort_2 16 rfl rfl)
theorem dX13_sort_65 : decode cX13_sort 65 = .ok (.iconst 1, 1) := dk_4 (dk_at dksX13_sort_2 19 rfl rfl)
theorem dX13_sort_66 : decode cX13_sort 66 = .ok (.iadd, 1) := dk_96 (dk_at dksX13_sort_2 20 rfl rfl)
theorem dX13_sort_67 : decode cX13_sort 67 = .ok (.putfield 29, 3) := dk_181 0 29 (dk_at dksX13_sort_2 21 rfl rfl)
theorem dX13_sort_70 : decode cX13_sort 70 = .ok (.iload_n 2, 1) := dk_28 (dk_at dksX13_sort_3 0 rfl rfl)
theorem dX13_sort_71 : decode cX13_sort 71 = .ok (.ireturn, 1) := dk_172 (dk_at dksX13_sort_3 1 rfl rfl)
abbrev cX13_recipe : ByteArray := prog_20_method_13_code
def yX13_recipe : MethodName := ⟨RX13, "recipe", "(LPaperMill$Mix;)LPaperMill$Work;"⟩
theorem dX13_recipe_0 : decode cX13_recipe 0 = .ok (.aload_n 1, 1) := by decide +kernel
theorem dX13_recipe_1 : decode cX13_recipe 1 = .ok (.invokedynamic 118, 5) := by decide +kernel
theorem dX13_recipe_6 : decode cX13_recipe 6 = .ok (.areturn, 1) := by decide +kernel
abbrev cX13_lambda_recipe_0 : ByteArray := prog_20_method_25_code
def yX13_lambda_recipe_0 : MethodName := ⟨RX13, "lambda$recipe$0", "(LPaperMill$Mix;LPaperMill$State;)Z"⟩
def dkwX13_lambda_recipe_0_0 : List UInt8 := [43, 42, 181, 0, 160, 4, 172]
abbrev dktX13_lambda_recipe_0_0 : List UInt8 := dkwX13_lambda_recipe_0_0 ++ []
theorem dksX13_lambda_recipe_0_0 : cX13_lambda_recipe_0.data.toList.drop 0 = dktX13_lambda_recipe_0_0 := by decide +kernel
theorem dX13_lambda_recipe_0_0 : decode cX13_lambda_recipe_0 0 = .ok (.aload_n 1, 1) := dk_43 (dk_at dksX13_lambda_recipe_0_0 0 rfl rfl)
theorem dX13_lambda_recipe_0_1 : decode cX13_lambda_recipe_0 1 = .ok (.aload_n 0, 1) := dk_42 (dk_at dksX13_lambda_recipe_0_0 1 rfl rfl)
theorem dX13_lambda_recipe_0_2 : decode cX13_lambda_recipe_0 2 = .ok (.putfield 160, 3) := dk_181 0 160 (dk_at dksX13_lambda_recipe_0_0 2 rfl rfl)
theorem dX13_lambda_recipe_0_5 : decode cX13_lambda_recipe_0 5 = .ok (.iconst 1, 1) := dk_4 (dk_at dksX13_lambda_recipe_0_0 5 rfl rfl)
theorem dX13_lambda_recipe_0_6 : decode cX13_lambda_recipe_0 6 = .ok (.ireturn, 1) := dk_172 (dk_at dksX13_lambda_recipe_0_0 6 rfl rfl)
abbrev cX13_delivery : ByteArray := prog_20_method_14_code
def yX13_delivery : MethodName := ⟨RX13, "delivery", "(I)LPaperMill$Work;"⟩
def dkwX13_delivery_1 : List UInt8 := [182, 0, 87, 54, 4, 27, 28, 29, 21, 4, 186, 0, 125, 0, 0, 176]
abbrev dktX13_delivery_1 : List UInt8 := dkwX13_delivery_1 ++ []
def dkwX13_delivery_0 : List UInt8 := [42, 182, 0, 110, 61, 42, 17, 1, 44, 182, 0, 121, 62, 42, 16, 47, 182, 0, 43, 42, 3, 16, 99]
abbrev dktX13_delivery_0 : List UInt8 := dkwX13_delivery_0 ++ dktX13_delivery_1
theorem dksX13_delivery_0 : cX13_delivery.data.toList.drop 0 = dktX13_delivery_0 := by decide +kernel
theorem dksX13_delivery_1 : cX13_delivery.data.toList.drop 23 = dktX13_delivery_1 := dk_seg dksX13_delivery_0 23 rfl rfl
theorem dX13_delivery_0 : decode cX13_delivery 0 = .ok (.aload_n 0, 1) := dk_42 (dk_at dksX13_delivery_0 0 rfl rfl)
theorem dX13_delivery_1 : decode cX13_delivery 1 = .ok (.invokevirtual 110, 3) := dk_182 0 110 (dk_at dksX13_delivery_0 1 rfl rfl)
theorem dX13_delivery_4 : decode cX13_delivery 4 = .ok (.istore_n 2, 1) := dk_61 (dk_at dksX13_delivery_0 4 rfl rfl)
theorem dX13_delivery_5 : decode cX13_delivery 5 = .ok (.aload_n 0, 1) := dk_42 (dk_at dksX13_delivery_0 5 rfl rfl)
theorem dX13_delivery_6 : decode cX13_delivery 6 = .ok (.sipush 300, 3) := dk_17 1 44 (dk_at dksX13_delivery_0 6 rfl rfl)
theorem dX13_delivery_9 : decode cX13_delivery 9 = .ok (.invokevirtual 121, 3) := dk_182 0 121 (dk_at dksX13_delivery_0 9 rfl rfl)
theorem dX13_delivery_12 : decode cX13_delivery 12 = .ok (.istore_n 3, 1) := dk_62 (dk_at dksX13_delivery_0 12 rfl rfl)
theorem dX13_delivery_13 : decode cX13_delivery 13 = .ok (.aload_n 0, 1) := dk_42 (dk_at dksX13_delivery_0 13 rfl rfl)
theorem dX13_delivery_14 : decode cX13_delivery 14 = .ok (.bipush 47, 2) := dk_16 47 (dk_at dksX13_delivery_0 14 rfl rfl)
theorem dX13_delivery_16 : decode cX13_delivery 16 = .ok (.invokevirtual 43, 3) := dk_182 0 43 (dk_at dksX13_delivery_0 16 rfl rfl)
theorem dX13_delivery_19 : decode cX13_delivery 19 = .ok (.aload_n 0, 1) := dk_42 (dk_at dksX13_delivery_0 19 rfl rfl)
theorem dX13_delivery_20 : decode cX13_delivery 20 = .ok (.iconst 0, 1) := dk_3 (dk_at dksX13_delivery_0 20 rfl rfl)
theorem dX13_delivery_21 : decode cX13_delivery 21 = .ok (.bipush 99, 2) := dk_16 99 (dk_at dksX13_delivery_0 21 rfl rfl)
theorem dX13_delivery_23 : decode cX13_delivery 23 = .ok (.invokevirtual 87, 3) := dk_182 0 87 (dk_at dksX13_delivery_1 0 rfl rfl)
theorem dX13_delivery_26 : decode cX13_delivery 26 = .ok (.istore 4, 2) := dk_54 4 (dk_at dksX13_delivery_1 3 rfl rfl)
theorem dX13_delivery_28 : decode cX13_delivery 28 = .ok (.iload_n 1, 1) := dk_27 (dk_at dksX13_delivery_1 5 rfl rfl)
theorem dX13_delivery_29 : decode cX13_delivery 29 = .ok (.iload_n 2, 1) := dk_28 (dk_at dksX13_delivery_1 6 rfl rfl)
theorem dX13_delivery_30 : decode cX13_delivery 30 = .ok (.iload_n 3, 1) := dk_29 (dk_at dksX13_delivery_1 7 rfl rfl)
theorem dX13_delivery_31 : decode cX13_delivery 31 = .ok (.iload 4, 2) := dk_21 4 (dk_at dksX13_delivery_1 8 rfl rfl)
theorem dX13_delivery_33 : decode cX13_delivery 33 = .ok (.invokedynamic 125, 5) := by decide +kernel
theorem dX13_delivery_38 : decode cX13_delivery 38 = .ok (.areturn, 1) := dk_176 (dk_at dksX13_delivery_1 15 rfl rfl)
abbrev cX13_longNumber : ByteArray := prog_20_method_8_code
def yX13_longNumber : MethodName := ⟨RX13, "longNumber", "(I)I"⟩
def dkwX13_longNumber_3 : List UInt8 := [61, 28, 172]
abbrev dktX13_longNumber_3 : List UInt8 := dkwX13_longNumber_3 ++ []
def dkwX13_longNumber_2 : List UInt8 := [182, 0, 56, 96, 16, 48, 100, 27, 163, 0, 17, 16, 10, 28, 104, 42, 16, 48, 16, 57, 182, 0, 61, 96]
abbrev dktX13_longNumber_2 : List UInt8 := dkwX13_longNumber_2 ++ dktX13_longNumber_3
def dkwX13_longNumber_1 : List UInt8 := [182, 0, 56, 16, 48, 161, 0, 42, 42, 182, 0, 56, 16, 57, 163, 0, 33, 16, 10, 28, 104, 42]
abbrev dktX13_longNumber_1 : List UInt8 := dkwX13_longNumber_1 ++ dktX13_longNumber_2
def dkwX13_longNumber_0 : List UInt8 := [16, 10, 42, 16, 49, 16, 57, 182, 0, 61, 104, 61, 28, 42, 16, 48, 16, 57, 182, 0, 61, 96, 61, 42]
abbrev dktX13_longNumber_0 : List UInt8 := dkwX13_longNumber_0 ++ dktX13_longNumber_1
theorem dksX13_longNumber_0 : cX13_longNumber.data.toList.drop 0 = dktX13_longNumber_0 := by decide +kernel
theorem dksX13_longNumber_1 : cX13_longNumber.data.toList.drop 24 = dktX13_longNumber_1 := dk_seg dksX13_longNumber_0 24 rfl rfl
theorem dksX13_longNumber_2 : cX13_longNumber.data.toList.drop 46 = dktX13_longNumber_2 := dk_seg dksX13_longNumber_1 22 rfl rfl
theorem dksX13_longNumber_3 : cX13_longNumber.data.toList.drop 70 = dktX13_longNumber_3 := dk_seg dksX13_longNumber_2 24 rfl rfl
theorem dX13_longNumber_0 : decode cX13_longNumber 0 = .ok (.bipush 10, 2) := dk_16 10 (dk_at dksX13_longNumber_0 0 rfl rfl)
theorem dX13_longNumber_2 : decode cX13_longNumber 2 = .ok (.aload_n 0, 1) := dk_42 (dk_at dksX13_longNumber_0 2 rfl rfl)
theorem dX13_longNumber_3 : decode cX13_longNumber 3 = .ok (.bipush 49, 2) := dk_16 49 (dk_at dksX13_longNumber_0 3 rfl rfl)
theorem dX13_longNumber_5 : decode cX13_longNumber 5 = .ok (.bipush 57, 2) := dk_16 57 (dk_at dksX13_longNumber_0 5 rfl rfl)
theorem dX13_longNumber_7 : decode cX13_longNumber 7 = .ok (.invokevirtual 61, 3) := dk_182 0 61 (dk_at dksX13_longNumber_0 7 rfl rfl)
theorem dX13_longNumber_10 : decode cX13_longNumber 10 = .ok (.imul, 1) := dk_104 (dk_at dksX13_longNumber_0 10 rfl rfl)
theorem dX13_longNumber_11 : decode cX13_longNumber 11 = .ok (.istore_n 2, 1) := dk_61 (dk_at dksX13_longNumber_0 11 rfl rfl)
theorem dX13_longNumber_12 : decode cX13_longNumber 12 = .ok (.iload_n 2, 1) := dk_28 (dk_at dksX13_longNumber_0 12 rfl rfl)
theorem dX13_longNumber_13 : decode cX13_longNumber 13 = .ok (.aload_n 0, 1) := dk_42 (dk_at dksX13_longNumber_0 13 rfl rfl)
theorem dX13_longNumber_14 : decode cX13_longNumber 14 = .ok (.bipush 48, 2) := dk_16 48 (dk_at dksX13_longNumber_0 14 rfl rfl)
theorem dX13_longNumber_16 : decode cX13_longNumber 16 = .ok (.bipush 57, 2) := dk_16 57 (dk_at dksX13_longNumber_0 16 rfl rfl)
theorem dX13_longNumber_18 : decode cX13_longNumber 18 = .ok (.invokevirtual 61, 3) := dk_182 0 61 (dk_at dksX13_longNumber_0 18 rfl rfl)
theorem dX13_longNumber_21 : decode cX13_longNumber 21 = .ok (.iadd, 1) := dk_96 (dk_at dksX13_longNumber_0 21 rfl rfl)
theorem dX13_longNumber_22 : decode cX13_longNumber 22 = .ok (.istore_n 2, 1) := dk_61 (dk_at dksX13_longNumber_0 22 rfl rfl)
theorem dX13_longNumber_23 : decode cX13_longNumber 23 = .ok (.aload_n 0, 1) := dk_42 (dk_at dksX13_longNumber_0 23 rfl rfl)
theorem dX13_longNumber_24 : decode cX13_longNumber 24 = .ok (.invokevirtual 56, 3) := dk_182 0 56 (dk_at dksX13_longNumber_1 0 rfl rfl)
theorem dX13_longNumber_27 : decode cX13_longNumber 27 = .ok (.bipush 48, 2) := dk_16 48 (dk_at dksX13_longNumber_1 3 rfl rfl)
theorem dX13_longNumber_29 : decode cX13_longNumber 29 = .ok (.if_icmp .lt 42, 3) := dk_161 0 42 (dk_at dksX13_longNumber_1 5 rfl rfl)
theorem dX13_longNumber_32 : decode cX13_longNumber 32 = .ok (.aload_n 0, 1) := dk_42 (dk_at dksX13_longNumber_1 8 rfl rfl)
theorem dX13_longNumber_33 : decode cX13_longNumber 33 = .ok (.invokevirtual 56, 3) := dk_182 0 56 (dk_at dksX13_longNumber_1 9 rfl rfl)
theorem dX13_longNumber_36 : decode cX13_longNumber 36 = .ok (.bipush 57, 2) := dk_16 57 (dk_at dksX13_longNumber_1 12 rfl rfl)
theorem dX13_longNumber_38 : decode cX13_longNumber 38 = .ok (.if_icmp .gt 33, 3) := dk_163 0 33 (dk_at dksX13_longNumber_1 14 rfl rfl)
theorem dX13_longNumber_41 : decode cX13_longNumber 41 = .ok (.bipush 10, 2) := dk_16 10 (dk_at dksX13_longNumber_1 17 rfl rfl)
theorem dX13_longNumber_43 : decode cX13_longNumber 43 = .ok (.iload_n 2, 1) := dk_28 (dk_at dksX13_longNumber_1 19 rfl rfl)
theorem dX13_longNumber_44 : decode cX13_longNumber 44 = .ok (.imul, 1) := dk_104 (dk_at dksX13_longNumber_1 20 rfl rfl)
theorem dX13_longNumber_45 : decode cX13_longNumber 45 = .ok (.aload_n 0, 1) := dk_42 (dk_at dksX13_longNumber_1 21 rfl rfl)
theorem dX13_longNumber_46 : decode cX13_longNumber 46 = .ok (.invokevirtual 56, 3) := dk_182 0 56 (dk_at dksX13_longNumber_2 0 rfl rfl)
theorem dX13_longNumber_49 : decode cX13_longNumber 49 = .ok (.iadd, 1) := dk_96 (dk_at dksX13_longNumber_2 3 rfl rfl)
theorem dX13_longNumber_50 : decode cX13_longNumber 50 = .ok (.bipush 48, 2) := dk_16 48 (dk_at dksX13_longNumber_2 4 rfl rfl)
theorem dX13_longNumber_52 : decode cX13_longNumber 52 = .ok (.isub, 1) := dk_100 (dk_at dksX13_longNumber_2 6 rfl rfl)
theorem dX13_longNumber_53 : decode cX13_longNumber 53 = .ok (.iload_n 1, 1) := dk_27 (dk_at dksX13_longNumber_2 7 rfl rfl)
theorem dX13_longNumber_54 : decode cX13_longNumber 54 = .ok (.if_icmp .gt 17, 3) := dk_163 0 17 (dk_at dksX13_longNumber_2 8 rfl rfl)
theorem dX13_longNumber_57 : decode cX13_longNumber 57 = .ok (.bipush 10, 2) := dk_16 10 (dk_at dksX13_longNumber_2 11 rfl rfl)
theorem dX13_longNumber_59 : decode cX13_longNumber 59 = .ok (.iload_n 2, 1) := dk_28 (dk_at dksX13_longNumber_2 13 rfl rfl)
theorem dX13_longNumber_60 : decode cX13_longNumber 60 = .ok (.imul, 1) := dk_104 (dk_at dksX13_longNumber_2 14 rfl rfl)
theorem dX13_longNumber_61 : decode cX13_longNumber 61 = .ok (.aload_n 0, 1) := dk_42 (dk_at dksX13_longNumber_2 15 rfl rfl)
theorem dX13_longNumber_62 : decode cX13_longNumber 62 = .ok (.bipush 48, 2) := dk_16 48 (dk_at dksX13_longNumber_2 16 rfl rfl)
theorem dX13_longNumber_64 : decode cX13_longNumber 64 = .ok (.bipush 57, 2) := dk_16 57 (dk_at dksX13_longNumber_2 18 rfl rfl)
theorem dX13_longNumber_66 : decode cX13_longNumber 66 = .ok (.invokevirtual 61, 3) := dk_182 0 61 (dk_at dksX13_longNumber_2 20 rfl rfl)
theorem dX13_longNumber_69 : decode cX13_longNumber 69 = .ok (.iadd, 1) := dk_96 (dk_at dksX13_longNumber_2 23 rfl rfl)
theorem dX13_longNumber_70 : decode cX13_longNumber 70 = .ok (.istore_n 2, 1) := dk_61 (dk_at dksX13_longNumber_3 0 rfl rfl)
theorem dX13_longNumber_71 : decode cX13_longNumber 71 = .ok (.iload_n 2, 1) := dk_28 (dk_at dksX13_longNumber_3 1 rfl rfl)
theorem dX13_longNumber_72 : decode cX13_longNumber 72 = .ok (.ireturn, 1) := dk_172 (dk_at dksX13_longNumber_3 2 rfl rfl)
abbrev cX13_number : ByteArray := prog_20_method_7_code
def yX13_number : MethodName := ⟨RX13, "number", "(II)I"⟩
def dkwX13_number_2 : List UInt8 := [28, 163, 0, 20, 16, 10, 29, 104, 42, 16, 48, 16, 57, 182, 0, 61, 96, 62, 167, 255, 204, 29, 172]
abbrev dktX13_number_2 : List UInt8 := dkwX13_number_2 ++ []
def dkwX13_number_1 : List UInt8 := [161, 0, 45, 42, 182, 0, 56, 16, 57, 163, 0, 36, 16, 10, 29, 104, 42, 182, 0, 56, 96, 16, 48, 100]
abbrev dktX13_number_1 : List UInt8 := dkwX13_number_1 ++ dktX13_number_2
def dkwX13_number_0 : List UInt8 := [42, 16, 48, 27, 96, 146, 16, 57, 182, 0, 61, 62, 29, 158, 0, 54, 42, 182, 0, 56, 16, 48]
abbrev dktX13_number_0 : List UInt8 := dkwX13_number_0 ++ dktX13_number_1
theorem dksX13_number_0 : cX13_number.data.toList.drop 0 = dktX13_number_0 := by decide +kernel
theorem dksX13_number_1 : cX13_number.data.toList.drop 22 = dktX13_number_1 := dk_seg dksX13_number_0 22 rfl rfl
theorem dksX13_number_2 : cX13_number.data.toList.drop 46 = dktX13_number_2 := dk_seg dksX13_number_1 24 rfl rfl
theorem dX13_number_0 : decode cX13_number 0 = .ok (.aload_n 0, 1) := dk_42 (dk_at dksX13_number_0 0 rfl rfl)
theorem dX13_number_1 : decode cX13_number 1 = .ok (.bipush 48, 2) := dk_16 48 (dk_at dksX13_number_0 1 rfl rfl)
theorem dX13_number_3 : decode cX13_number 3 = .ok (.iload_n 1, 1) := dk_27 (dk_at dksX13_number_0 3 rfl rfl)
theorem dX13_number_4 : decode cX13_number 4 = .ok (.iadd, 1) := dk_96 (dk_at dksX13_number_0 4 rfl rfl)
theorem dX13_number_5 : decode cX13_number 5 = .ok (.i2c, 1) := dk_146 (dk_at dksX13_number_0 5 rfl rfl)
theorem dX13_number_6 : decode cX13_number 6 = .ok (.bipush 57, 2) := dk_16 57 (dk_at dksX13_number_0 6 rfl rfl)
theorem dX13_number_8 : decode cX13_number 8 = .ok (.invokevirtual 61, 3) := dk_182 0 61 (dk_at dksX13_number_0 8 rfl rfl)
theorem dX13_number_11 : decode cX13_number 11 = .ok (.istore_n 3, 1) := dk_62 (dk_at dksX13_number_0 11 rfl rfl)
theorem dX13_number_12 : decode cX13_number 12 = .ok (.iload_n 3, 1) := dk_29 (dk_at dksX13_number_0 12 rfl rfl)
theorem dX13_number_13 : decode cX13_number 13 = .ok (.ifCond .le 54, 3) := dk_158 0 54 (dk_at dksX13_number_0 13 rfl rfl)
theorem dX13_number_16 : decode cX13_number 16 = .ok (.aload_n 0, 1) := dk_42 (dk_at dksX13_number_0 16 rfl rfl)
theorem dX13_number_17 : decode cX13_number 17 = .ok (.invokevirtual 56, 3) := dk_182 0 56 (dk_at dksX13_number_0 17 rfl rfl)
theorem dX13_number_20 : decode cX13_number 20 = .ok (.bipush 48, 2) := dk_16 48 (dk_at dksX13_number_0 20 rfl rfl)
theorem dX13_number_22 : decode cX13_number 22 = .ok (.if_icmp .lt 45, 3) := dk_161 0 45 (dk_at dksX13_number_1 0 rfl rfl)
theorem dX13_number_25 : decode cX13_number 25 = .ok (.aload_n 0, 1) := dk_42 (dk_at dksX13_number_1 3 rfl rfl)
theorem dX13_number_26 : decode cX13_number 26 = .ok (.invokevirtual 56, 3) := dk_182 0 56 (dk_at dksX13_number_1 4 rfl rfl)
theorem dX13_number_29 : decode cX13_number 29 = .ok (.bipush 57, 2) := dk_16 57 (dk_at dksX13_number_1 7 rfl rfl)
theorem dX13_number_31 : decode cX13_number 31 = .ok (.if_icmp .gt 36, 3) := dk_163 0 36 (dk_at dksX13_number_1 9 rfl rfl)
theorem dX13_number_34 : decode cX13_number 34 = .ok (.bipush 10, 2) := dk_16 10 (dk_at dksX13_number_1 12 rfl rfl)
theorem dX13_number_36 : decode cX13_number 36 = .ok (.iload_n 3, 1) := dk_29 (dk_at dksX13_number_1 14 rfl rfl)
theorem dX13_number_37 : decode cX13_number 37 = .ok (.imul, 1) := dk_104 (dk_at dksX13_number_1 15 rfl rfl)
theorem dX13_number_38 : decode cX13_number 38 = .ok (.aload_n 0, 1) := dk_42 (dk_at dksX13_number_1 16 rfl rfl)
theorem dX13_number_39 : decode cX13_number 39 = .ok (.invokevirtual 56, 3) := dk_182 0 56 (dk_at dksX13_number_1 17 rfl rfl)
theorem dX13_number_42 : decode cX13_number 42 = .ok (.iadd, 1) := dk_96 (dk_at dksX13_number_1 20 rfl rfl)
theorem dX13_number_43 : decode cX13_number 43 = .ok (.bipush 48, 2) := dk_16 48 (dk_at dksX13_number_1 21 rfl rfl)
theorem dX13_number_45 : decode cX13_number 45 = .ok (.isub, 1) := dk_100 (dk_at dksX13_number_1 23 rfl rfl)
theorem dX13_number_46 : decode cX13_number 46 = .ok (.iload_n 2, 1) := dk_28 (dk_at dksX13_number_2 0 rfl rfl)
theorem dX13_number_47 : decode cX13_number 47 = .ok (.if_icmp .gt 20, 3) := dk_163 0 20 (dk_at dksX13_number_2 1 rfl rfl)
theorem dX13_number_50 : decode cX13_number 50 = .ok (.bipush 10, 2) := dk_16 10 (dk_at dksX13_number_2 4 rfl rfl)
theorem dX13_number_52 : decode cX13_number 52 = .ok (.iload_n 3, 1) := dk_29 (dk_at dksX13_number_2 6 rfl rfl)
theorem dX13_number_53 : decode cX13_number 53 = .ok (.imul, 1) := dk_104 (dk_at dksX13_number_2 7 rfl rfl)
theorem dX13_number_54 : decode cX13_number 54 = .ok (.aload_n 0, 1) := dk_42 (dk_at dksX13_number_2 8 rfl rfl)
theorem dX13_number_55 : decode cX13_number 55 = .ok (.bipush 48, 2) := dk_16 48 (dk_at dksX13_number_2 9 rfl rfl)
theorem dX13_number_57 : decode cX13_number 57 = .ok (.bipush 57, 2) := dk_16 57 (dk_at dksX13_number_2 11 rfl rfl)
theorem dX13_number_59 : decode cX13_number 59 = .ok (.invokevirtual 61, 3) := dk_182 0 61 (dk_at dksX13_number_2 13 rfl rfl)
theorem dX13_number_62 : decode cX13_number 62 = .ok (.iadd, 1) := dk_96 (dk_at dksX13_number_2 16 rfl rfl)
theorem dX13_number_63 : decode cX13_number 63 = .ok (.istore_n 3, 1) := dk_62 (dk_at dksX13_number_2 17 rfl rfl)
theorem dX13_number_64 : decode cX13_number 64 = .ok (.goto (-52), 3) := dk_167 255 204 (dk_at dksX13_number_2 18 rfl rfl)
theorem dX13_number_67 : decode cX13_number 67 = .ok (.iload_n 3, 1) := dk_29 (dk_at dksX13_number_2 21 rfl rfl)
theorem dX13_number_68 : decode cX13_number 68 = .ok (.ireturn, 1) := dk_172 (dk_at dksX13_number_2 22 rfl rfl)
abbrev cX13_lambda_delivery_1 : ByteArray := prog_20_method_24_code
def yX13_lambda_delivery_1 : MethodName := ⟨RX13, "lambda$delivery$1", "(IIIILPaperMill$State;)Z"⟩
def dkwX13_lambda_delivery_1_0 : List UInt8 := [25, 4, 26, 27, 28, 29, 182, 0, 156, 172]
abbrev dktX13_lambda_delivery_1_0 : List UInt8 := dkwX13_lambda_delivery_1_0 ++ []
theorem dksX13_lambda_delivery_1_0 : cX13_lambda_delivery_1.data.toList.drop 0 = dktX13_lambda_delivery_1_0 := by decide +kernel
theorem dX13_lambda_delivery_1_0 : decode cX13_lambda_delivery_1 0 = .ok (.aload 4, 2) := dk_25 4 (dk_at dksX13_lambda_delivery_1_0 0 rfl rfl)
theorem dX13_lambda_delivery_1_2 : decode cX13_lambda_delivery_1 2 = .ok (.iload_n 0, 1) := dk_26 (dk_at dksX13_lambda_delivery_1_0 2 rfl rfl)
theorem dX13_lambda_delivery_1_3 : decode cX13_lambda_delivery_1 3 = .ok (.iload_n 1, 1) := dk_27 (dk_at dksX13_lambda_delivery_1_0 3 rfl rfl)
theorem dX13_lambda_delivery_1_4 : decode cX13_lambda_delivery_1 4 = .ok (.iload_n 2, 1) := dk_28 (dk_at dksX13_lambda_delivery_1_0 4 rfl rfl)
theorem dX13_lambda_delivery_1_5 : decode cX13_lambda_delivery_1 5 = .ok (.iload_n 3, 1) := dk_29 (dk_at dksX13_lambda_delivery_1_0 5 rfl rfl)
theorem dX13_lambda_delivery_1_6 : decode cX13_lambda_delivery_1 6 = .ok (.invokevirtual 156, 3) := dk_182 0 156 (dk_at dksX13_lambda_delivery_1_0 6 rfl rfl)
theorem dX13_lambda_delivery_1_9 : decode cX13_lambda_delivery_1 9 = .ok (.ireturn, 1) := dk_172 (dk_at dksX13_lambda_delivery_1_0 9 rfl rfl)
abbrev cX13_beating : ByteArray := prog_20_method_15_code
def yX13_beating : MethodName := ⟨RX13, "beating", "(I)LPaperMill$Work;"⟩
def dkwX13_beating_0 : List UInt8 := [42, 16, 42, 182, 0, 43, 42, 4, 17, 0, 200, 182, 0, 87, 61, 27, 28, 186, 0, 128, 0, 0, 176]
abbrev dktX13_beating_0 : List UInt8 := dkwX13_beating_0 ++ []
theorem dksX13_beating_0 : cX13_beating.data.toList.drop 0 = dktX13_beating_0 := by decide +kernel
theorem dX13_beating_0 : decode cX13_beating 0 = .ok (.aload_n 0, 1) := dk_42 (dk_at dksX13_beating_0 0 rfl rfl)
theorem dX13_beating_1 : decode cX13_beating 1 = .ok (.bipush 42, 2) := dk_16 42 (dk_at dksX13_beating_0 1 rfl rfl)
theorem dX13_beating_3 : decode cX13_beating 3 = .ok (.invokevirtual 43, 3) := dk_182 0 43 (dk_at dksX13_beating_0 3 rfl rfl)
theorem dX13_beating_6 : decode cX13_beating 6 = .ok (.aload_n 0, 1) := dk_42 (dk_at dksX13_beating_0 6 rfl rfl)
theorem dX13_beating_7 : decode cX13_beating 7 = .ok (.iconst 1, 1) := dk_4 (dk_at dksX13_beating_0 7 rfl rfl)
theorem dX13_beating_8 : decode cX13_beating 8 = .ok (.sipush 200, 3) := dk_17 0 200 (dk_at dksX13_beating_0 8 rfl rfl)
theorem dX13_beating_11 : decode cX13_beating 11 = .ok (.invokevirtual 87, 3) := dk_182 0 87 (dk_at dksX13_beating_0 11 rfl rfl)
theorem dX13_beating_14 : decode cX13_beating 14 = .ok (.istore_n 2, 1) := dk_61 (dk_at dksX13_beating_0 14 rfl rfl)
theorem dX13_beating_15 : decode cX13_beating 15 = .ok (.iload_n 1, 1) := dk_27 (dk_at dksX13_beating_0 15 rfl rfl)
theorem dX13_beating_16 : decode cX13_beating 16 = .ok (.iload_n 2, 1) := dk_28 (dk_at dksX13_beating_0 16 rfl rfl)
theorem dX13_beating_17 : decode cX13_beating 17 = .ok (.invokedynamic 128, 5) := by decide +kernel
theorem dX13_beating_22 : decode cX13_beating 22 = .ok (.areturn, 1) := dk_176 (dk_at dksX13_beating_0 22 rfl rfl)
abbrev cX13_lambda_beating_2 : ByteArray := prog_20_method_23_code
def yX13_lambda_beating_2 : MethodName := ⟨RX13, "lambda$beating$2", "(IILPaperMill$State;)Z"⟩
def dkwX13_lambda_beating_2_0 : List UInt8 := [44, 26, 27, 182, 0, 153, 172]
abbrev dktX13_lambda_beating_2_0 : List UInt8 := dkwX13_lambda_beating_2_0 ++ []
theorem dksX13_lambda_beating_2_0 : cX13_lambda_beating_2.data.toList.drop 0 = dktX13_lambda_beating_2_0 := by decide +kernel
theorem dX13_lambda_beating_2_0 : decode cX13_lambda_beating_2 0 = .ok (.aload_n 2, 1) := dk_44 (dk_at dksX13_lambda_beating_2_0 0 rfl rfl)
theorem dX13_lambda_beating_2_1 : decode cX13_lambda_beating_2 1 = .ok (.iload_n 0, 1) := dk_26 (dk_at dksX13_lambda_beating_2_0 1 rfl rfl)
theorem dX13_lambda_beating_2_2 : decode cX13_lambda_beating_2 2 = .ok (.iload_n 1, 1) := dk_27 (dk_at dksX13_lambda_beating_2_0 2 rfl rfl)
theorem dX13_lambda_beating_2_3 : decode cX13_lambda_beating_2 3 = .ok (.invokevirtual 153, 3) := dk_182 0 153 (dk_at dksX13_lambda_beating_2_0 3 rfl rfl)
theorem dX13_lambda_beating_2_6 : decode cX13_lambda_beating_2 6 = .ok (.ireturn, 1) := dk_172 (dk_at dksX13_lambda_beating_2_0 6 rfl rfl)
abbrev cX13_stamping : ByteArray := prog_20_method_16_code
def yX13_stamping : MethodName := ⟨RX13, "stamping", "(I)LPaperMill$Work;"⟩
def dkwX13_stamping_0 : List UInt8 := [42, 16, 58, 182, 0, 43, 42, 4, 16, 24, 182, 0, 87, 61, 27, 28, 186, 0, 130, 0, 0, 176]
abbrev dktX13_stamping_0 : List UInt8 := dkwX13_stamping_0 ++ []
theorem dksX13_stamping_0 : cX13_stamping.data.toList.drop 0 = dktX13_stamping_0 := by decide +kernel
theorem dX13_stamping_0 : decode cX13_stamping 0 = .ok (.aload_n 0, 1) := dk_42 (dk_at dksX13_stamping_0 0 rfl rfl)
theorem dX13_stamping_1 : decode cX13_stamping 1 = .ok (.bipush 58, 2) := dk_16 58 (dk_at dksX13_stamping_0 1 rfl rfl)
theorem dX13_stamping_3 : decode cX13_stamping 3 = .ok (.invokevirtual 43, 3) := dk_182 0 43 (dk_at dksX13_stamping_0 3 rfl rfl)
theorem dX13_stamping_6 : decode cX13_stamping 6 = .ok (.aload_n 0, 1) := dk_42 (dk_at dksX13_stamping_0 6 rfl rfl)
theorem dX13_stamping_7 : decode cX13_stamping 7 = .ok (.iconst 1, 1) := dk_4 (dk_at dksX13_stamping_0 7 rfl rfl)
theorem dX13_stamping_8 : decode cX13_stamping 8 = .ok (.bipush 24, 2) := dk_16 24 (dk_at dksX13_stamping_0 8 rfl rfl)
theorem dX13_stamping_10 : decode cX13_stamping 10 = .ok (.invokevirtual 87, 3) := dk_182 0 87 (dk_at dksX13_stamping_0 10 rfl rfl)
theorem dX13_stamping_13 : decode cX13_stamping 13 = .ok (.istore_n 2, 1) := dk_61 (dk_at dksX13_stamping_0 13 rfl rfl)
theorem dX13_stamping_14 : decode cX13_stamping 14 = .ok (.iload_n 1, 1) := dk_27 (dk_at dksX13_stamping_0 14 rfl rfl)
theorem dX13_stamping_15 : decode cX13_stamping 15 = .ok (.iload_n 2, 1) := dk_28 (dk_at dksX13_stamping_0 15 rfl rfl)
theorem dX13_stamping_16 : decode cX13_stamping 16 = .ok (.invokedynamic 130, 5) := by decide +kernel
theorem dX13_stamping_21 : decode cX13_stamping 21 = .ok (.areturn, 1) := dk_176 (dk_at dksX13_stamping_0 21 rfl rfl)
abbrev cX13_lambda_stamping_3 : ByteArray := prog_20_method_22_code
def yX13_lambda_stamping_3 : MethodName := ⟨RX13, "lambda$stamping$3", "(IILPaperMill$State;)Z"⟩
def dkwX13_lambda_stamping_3_0 : List UInt8 := [44, 26, 27, 182, 0, 149, 172]
abbrev dktX13_lambda_stamping_3_0 : List UInt8 := dkwX13_lambda_stamping_3_0 ++ []
theorem dksX13_lambda_stamping_3_0 : cX13_lambda_stamping_3.data.toList.drop 0 = dktX13_lambda_stamping_3_0 := by decide +kernel
theorem dX13_lambda_stamping_3_0 : decode cX13_lambda_stamping_3 0 = .ok (.aload_n 2, 1) := dk_44 (dk_at dksX13_lambda_stamping_3_0 0 rfl rfl)
theorem dX13_lambda_stamping_3_1 : decode cX13_lambda_stamping_3 1 = .ok (.iload_n 0, 1) := dk_26 (dk_at dksX13_lambda_stamping_3_0 1 rfl rfl)
theorem dX13_lambda_stamping_3_2 : decode cX13_lambda_stamping_3 2 = .ok (.iload_n 1, 1) := dk_27 (dk_at dksX13_lambda_stamping_3_0 2 rfl rfl)
theorem dX13_lambda_stamping_3_3 : decode cX13_lambda_stamping_3 3 = .ok (.invokevirtual 149, 3) := dk_182 0 149 (dk_at dksX13_lambda_stamping_3_0 3 rfl rfl)
theorem dX13_lambda_stamping_3_6 : decode cX13_lambda_stamping_3 6 = .ok (.ireturn, 1) := dk_172 (dk_at dksX13_lambda_stamping_3_0 6 rfl rfl)
abbrev cX13_making : ByteArray := prog_20_method_17_code
def yX13_making : MethodName := ⟨RX13, "making", "(II)LPaperMill$Work;"⟩
def dkwX13_making_0 : List UInt8 := [42, 16, 42, 182, 0, 43, 42, 4, 17, 1, 224, 182, 0, 87, 62, 27, 28, 29, 186, 0, 131, 0, 0, 176]
abbrev dktX13_making_0 : List UInt8 := dkwX13_making_0 ++ []
theorem dksX13_making_0 : cX13_making.data.toList.drop 0 = dktX13_making_0 := by decide +kernel
theorem dX13_making_0 : decode cX13_making 0 = .ok (.aload_n 0, 1) := dk_42 (dk_at dksX13_making_0 0 rfl rfl)
theorem dX13_making_1 : decode cX13_making 1 = .ok (.bipush 42, 2) := dk_16 42 (dk_at dksX13_making_0 1 rfl rfl)
theorem dX13_making_3 : decode cX13_making 3 = .ok (.invokevirtual 43, 3) := dk_182 0 43 (dk_at dksX13_making_0 3 rfl rfl)
theorem dX13_making_6 : decode cX13_making 6 = .ok (.aload_n 0, 1) := dk_42 (dk_at dksX13_making_0 6 rfl rfl)
theorem dX13_making_7 : decode cX13_making 7 = .ok (.iconst 1, 1) := dk_4 (dk_at dksX13_making_0 7 rfl rfl)
theorem dX13_making_8 : decode cX13_making 8 = .ok (.sipush 480, 3) := dk_17 1 224 (dk_at dksX13_making_0 8 rfl rfl)
theorem dX13_making_11 : decode cX13_making 11 = .ok (.invokevirtual 87, 3) := dk_182 0 87 (dk_at dksX13_making_0 11 rfl rfl)
theorem dX13_making_14 : decode cX13_making 14 = .ok (.istore_n 3, 1) := dk_62 (dk_at dksX13_making_0 14 rfl rfl)
theorem dX13_making_15 : decode cX13_making 15 = .ok (.iload_n 1, 1) := dk_27 (dk_at dksX13_making_0 15 rfl rfl)
theorem dX13_making_16 : decode cX13_making 16 = .ok (.iload_n 2, 1) := dk_28 (dk_at dksX13_making_0 16 rfl rfl)
theorem dX13_making_17 : decode cX13_making 17 = .ok (.iload_n 3, 1) := dk_29 (dk_at dksX13_making_0 17 rfl rfl)
theorem dX13_making_18 : decode cX13_making 18 = .ok (.invokedynamic 131, 5) := by decide +kernel
theorem dX13_making_23 : decode cX13_making 23 = .ok (.areturn, 1) := dk_176 (dk_at dksX13_making_0 23 rfl rfl)
abbrev cX13_lambda_making_4 : ByteArray := prog_20_method_21_code
def yX13_lambda_making_4 : MethodName := ⟨RX13, "lambda$making$4", "(IIILPaperMill$State;)Z"⟩
def dkwX13_lambda_making_4_0 : List UInt8 := [45, 26, 27, 28, 182, 0, 145, 2, 159, 0, 7, 4, 167, 0, 4, 3, 172]
abbrev dktX13_lambda_making_4_0 : List UInt8 := dkwX13_lambda_making_4_0 ++ []
theorem dksX13_lambda_making_4_0 : cX13_lambda_making_4.data.toList.drop 0 = dktX13_lambda_making_4_0 := by decide +kernel
theorem dX13_lambda_making_4_0 : decode cX13_lambda_making_4 0 = .ok (.aload_n 3, 1) := dk_45 (dk_at dksX13_lambda_making_4_0 0 rfl rfl)
theorem dX13_lambda_making_4_1 : decode cX13_lambda_making_4 1 = .ok (.iload_n 0, 1) := dk_26 (dk_at dksX13_lambda_making_4_0 1 rfl rfl)
theorem dX13_lambda_making_4_2 : decode cX13_lambda_making_4 2 = .ok (.iload_n 1, 1) := dk_27 (dk_at dksX13_lambda_making_4_0 2 rfl rfl)
theorem dX13_lambda_making_4_3 : decode cX13_lambda_making_4 3 = .ok (.iload_n 2, 1) := dk_28 (dk_at dksX13_lambda_making_4_0 3 rfl rfl)
theorem dX13_lambda_making_4_4 : decode cX13_lambda_making_4 4 = .ok (.invokevirtual 145, 3) := dk_182 0 145 (dk_at dksX13_lambda_making_4_0 4 rfl rfl)
theorem dX13_lambda_making_4_7 : decode cX13_lambda_making_4 7 = .ok (.iconst (-1), 1) := dk_2 (dk_at dksX13_lambda_making_4_0 7 rfl rfl)
theorem dX13_lambda_making_4_8 : decode cX13_lambda_making_4 8 = .ok (.if_icmp .eq 7, 3) := dk_159 0 7 (dk_at dksX13_lambda_making_4_0 8 rfl rfl)
theorem dX13_lambda_making_4_11 : decode cX13_lambda_making_4 11 = .ok (.iconst 1, 1) := dk_4 (dk_at dksX13_lambda_making_4_0 11 rfl rfl)
theorem dX13_lambda_making_4_12 : decode cX13_lambda_making_4 12 = .ok (.goto 4, 3) := dk_167 0 4 (dk_at dksX13_lambda_making_4_0 12 rfl rfl)
theorem dX13_lambda_making_4_15 : decode cX13_lambda_making_4 15 = .ok (.iconst 0, 1) := dk_3 (dk_at dksX13_lambda_making_4_0 15 rfl rfl)
theorem dX13_lambda_making_4_16 : decode cX13_lambda_making_4 16 = .ok (.ireturn, 1) := dk_172 (dk_at dksX13_lambda_making_4_0 16 rfl rfl)
abbrev cX13_passing : ByteArray := prog_20_method_18_code
def yX13_passing : MethodName := ⟨RX13, "passing", "(I)LPaperMill$Work;"⟩
theorem dX13_passing_0 : decode cX13_passing 0 = .ok (.iload_n 1, 1) := by decide +kernel
theorem dX13_passing_1 : decode cX13_passing 1 = .ok (.invokedynamic 134, 5) := by decide +kernel
theorem dX13_passing_6 : decode cX13_passing 6 = .ok (.areturn, 1) := by decide +kernel
abbrev cX13_lambda_passing_5 : ByteArray := prog_20_method_20_code
def yX13_lambda_passing_5 : MethodName := ⟨RX13, "lambda$passing$5", "(ILPaperMill$State;)Z"⟩
def dkwX13_lambda_passing_5_0 : List UInt8 := [43, 26, 182, 0, 139, 172]
abbrev dktX13_lambda_passing_5_0 : List UInt8 := dkwX13_lambda_passing_5_0 ++ []
theorem dksX13_lambda_passing_5_0 : cX13_lambda_passing_5.data.toList.drop 0 = dktX13_lambda_passing_5_0 := by decide +kernel
theorem dX13_lambda_passing_5_0 : decode cX13_lambda_passing_5 0 = .ok (.aload_n 1, 1) := dk_43 (dk_at dksX13_lambda_passing_5_0 0 rfl rfl)
theorem dX13_lambda_passing_5_1 : decode cX13_lambda_passing_5 1 = .ok (.iload_n 0, 1) := dk_26 (dk_at dksX13_lambda_passing_5_0 1 rfl rfl)
theorem dX13_lambda_passing_5_2 : decode cX13_lambda_passing_5 2 = .ok (.invokevirtual 139, 3) := dk_182 0 139 (dk_at dksX13_lambda_passing_5_0 2 rfl rfl)
theorem dX13_lambda_passing_5_5 : decode cX13_lambda_passing_5 5 = .ok (.ireturn, 1) := dk_172 (dk_at dksX13_lambda_passing_5_0 5 rfl rfl)
abbrev cX13_keep : ByteArray := prog_20_method_3_code
def yX13_keep : MethodName := ⟨RX13, "keep", "(LPaperMill$Work;)V"⟩
def dkwX13_keep_0 : List UInt8 := [42, 180, 0, 17, 42, 180, 0, 49, 43, 83, 42, 89, 180, 0, 49, 4, 96, 181, 0, 49, 177]
abbrev dktX13_keep_0 : List UInt8 := dkwX13_keep_0 ++ []
theorem dksX13_keep_0 : cX13_keep.data.toList.drop 0 = dktX13_keep_0 := by decide +kernel
theorem dX13_keep_0 : decode cX13_keep 0 = .ok (.aload_n 0, 1) := dk_42 (dk_at dksX13_keep_0 0 rfl rfl)
theorem dX13_keep_1 : decode cX13_keep 1 = .ok (.getfield 17, 3) := dk_180 0 17 (dk_at dksX13_keep_0 1 rfl rfl)
theorem dX13_keep_4 : decode cX13_keep 4 = .ok (.aload_n 0, 1) := dk_42 (dk_at dksX13_keep_0 4 rfl rfl)
theorem dX13_keep_5 : decode cX13_keep 5 = .ok (.getfield 49, 3) := dk_180 0 49 (dk_at dksX13_keep_0 5 rfl rfl)
theorem dX13_keep_8 : decode cX13_keep 8 = .ok (.aload_n 1, 1) := dk_43 (dk_at dksX13_keep_0 8 rfl rfl)
theorem dX13_keep_9 : decode cX13_keep 9 = .ok (.aastore, 1) := dk_83 (dk_at dksX13_keep_0 9 rfl rfl)
theorem dX13_keep_10 : decode cX13_keep 10 = .ok (.aload_n 0, 1) := dk_42 (dk_at dksX13_keep_0 10 rfl rfl)
theorem dX13_keep_11 : decode cX13_keep 11 = .ok (.dup, 1) := dk_89 (dk_at dksX13_keep_0 11 rfl rfl)
theorem dX13_keep_12 : decode cX13_keep 12 = .ok (.getfield 49, 3) := dk_180 0 49 (dk_at dksX13_keep_0 12 rfl rfl)
theorem dX13_keep_15 : decode cX13_keep 15 = .ok (.iconst 1, 1) := dk_4 (dk_at dksX13_keep_0 15 rfl rfl)
theorem dX13_keep_16 : decode cX13_keep 16 = .ok (.iadd, 1) := dk_96 (dk_at dksX13_keep_0 16 rfl rfl)
theorem dX13_keep_17 : decode cX13_keep 17 = .ok (.putfield 49, 3) := dk_181 0 49 (dk_at dksX13_keep_0 17 rfl rfl)
theorem dX13_keep_20 : decode cX13_keep 20 = .ok (.return_, 1) := dk_177 (dk_at dksX13_keep_0 20 rfl rfl)
abbrev cX13_doAll : ByteArray := prog_20_method_19_code
def yX13_doAll : MethodName := ⟨RX13, "doAll", "(LPaperMill$State;)I"⟩
def dkwX13_doAll_1 : List UInt8 := [153, 0, 9, 132, 2, 1, 167, 255, 230, 28, 172]
abbrev dktX13_doAll_1 : List UInt8 := dkwX13_doAll_1 ++ []
def dkwX13_doAll_0 : List UInt8 := [3, 61, 28, 42, 180, 0, 49, 162, 0, 24, 42, 180, 0, 17, 28, 50, 43, 185, 0, 136, 2, 0]
abbrev dktX13_doAll_0 : List UInt8 := dkwX13_doAll_0 ++ dktX13_doAll_1
theorem dksX13_doAll_0 : cX13_doAll.data.toList.drop 0 = dktX13_doAll_0 := by decide +kernel
theorem dksX13_doAll_1 : cX13_doAll.data.toList.drop 22 = dktX13_doAll_1 := dk_seg dksX13_doAll_0 22 rfl rfl
theorem dX13_doAll_0 : decode cX13_doAll 0 = .ok (.iconst 0, 1) := dk_3 (dk_at dksX13_doAll_0 0 rfl rfl)
theorem dX13_doAll_1 : decode cX13_doAll 1 = .ok (.istore_n 2, 1) := dk_61 (dk_at dksX13_doAll_0 1 rfl rfl)
theorem dX13_doAll_2 : decode cX13_doAll 2 = .ok (.iload_n 2, 1) := dk_28 (dk_at dksX13_doAll_0 2 rfl rfl)
theorem dX13_doAll_3 : decode cX13_doAll 3 = .ok (.aload_n 0, 1) := dk_42 (dk_at dksX13_doAll_0 3 rfl rfl)
theorem dX13_doAll_4 : decode cX13_doAll 4 = .ok (.getfield 49, 3) := dk_180 0 49 (dk_at dksX13_doAll_0 4 rfl rfl)
theorem dX13_doAll_7 : decode cX13_doAll 7 = .ok (.if_icmp .ge 24, 3) := dk_162 0 24 (dk_at dksX13_doAll_0 7 rfl rfl)
theorem dX13_doAll_10 : decode cX13_doAll 10 = .ok (.aload_n 0, 1) := dk_42 (dk_at dksX13_doAll_0 10 rfl rfl)
theorem dX13_doAll_11 : decode cX13_doAll 11 = .ok (.getfield 17, 3) := dk_180 0 17 (dk_at dksX13_doAll_0 11 rfl rfl)
theorem dX13_doAll_14 : decode cX13_doAll 14 = .ok (.iload_n 2, 1) := dk_28 (dk_at dksX13_doAll_0 14 rfl rfl)
theorem dX13_doAll_15 : decode cX13_doAll 15 = .ok (.aaload, 1) := dk_50 (dk_at dksX13_doAll_0 15 rfl rfl)
theorem dX13_doAll_16 : decode cX13_doAll 16 = .ok (.aload_n 1, 1) := dk_43 (dk_at dksX13_doAll_0 16 rfl rfl)
theorem dX13_doAll_17 : decode cX13_doAll 17 = .ok (.invokeinterface 136 2, 5) := by decide +kernel
theorem dX13_doAll_22 : decode cX13_doAll 22 = .ok (.ifCond .eq 9, 3) := dk_153 0 9 (dk_at dksX13_doAll_1 0 rfl rfl)
theorem dX13_doAll_25 : decode cX13_doAll 25 = .ok (.iinc 2 1, 3) := dk_132 2 1 (dk_at dksX13_doAll_1 3 rfl rfl)
theorem dX13_doAll_28 : decode cX13_doAll 28 = .ok (.goto (-26), 3) := dk_167 255 230 (dk_at dksX13_doAll_1 6 rfl rfl)
theorem dX13_doAll_31 : decode cX13_doAll 31 = .ok (.iload_n 2, 1) := dk_28 (dk_at dksX13_doAll_1 9 rfl rfl)
theorem dX13_doAll_32 : decode cX13_doAll 32 = .ok (.ireturn, 1) := dk_172 (dk_at dksX13_doAll_1 10 rfl rfl)
theorem q150 : (Jvm.Cond.initialized "PaperMill$TextReader") ∈ lw_all := lw_g (lw_at lw_m1 39 rfl) rfl
theorem q221 : (Jvm.Cond.fieldLink "PaperMill$TextReader" (160 : Nat) "PaperMill$State" "recipe" "LPaperMill$Mix;") ∈ lw_all := lw_g (lw_at lw_m1 110 rfl) rfl
theorem q351 : (Jvm.Cond.selects "PaperMill$TextReader" ({ cls := "java/lang/Object", name := "getClass", desc := "()Ljava/lang/Class;" } : Jvm.MethodName) ({ cls := "java/lang/Object", name := "getClass", desc := "()Ljava/lang/Class;" } : Jvm.MethodName)) ∈ lw_all := lw_g (lw_at lw_m2 0 rfl) rfl
theorem q488 : (Jvm.Cond.fieldLinkNest "PaperMill$TextReader" (33 : Nat) "PaperMill" "buffer" "Ljava/lang/StringBuilder;" "PaperMill") ∈ lw_tbl := lw_at lw_m2 137 rfl
theorem q1086 : (Jvm.Cond.instantiable "PaperMill$TextReader" (5 : Nat)) ∈ lw_all := lw_g (lw_at lw_m5 15 rfl) rfl
theorem q1088 : (Jvm.Cond.instanceMethod ({ cls := "PaperMill$TextReader", name := "<init>", desc := "(LPaperMill;)V" } : Jvm.MethodName)) ∈ lw_all := lw_g (lw_at lw_m5 17 rfl) rfl
theorem q1089 : (Jvm.Cond.code ({ cls := "PaperMill$TextReader", name := "<init>", desc := "(LPaperMill;)V" } : Jvm.MethodName) prog_20_method_1_code (2 : Nat) (Option.none : Option Jvm.ClassFile.FieldType)) ∈ lw_all := lw_g (lw_at lw_m5 18 rfl) rfl
theorem q1090 : (Jvm.Cond.methodLink "PaperMill$TextReader" (9 : Nat) ({ cls := "java/lang/Object", name := "<init>", desc := "()V" } : Jvm.MethodName)) ∈ lw_all := lw_g (lw_at lw_m5 19 rfl) rfl
theorem q1091 : (Jvm.Cond.classLink "PaperMill$TextReader" (15 : Nat) "PaperMill$Work") ∈ lw_all := lw_g (lw_at lw_m5 20 rfl) rfl
theorem q1093 : (Jvm.Cond.fieldLink "PaperMill$TextReader" (29 : Nat) "PaperMill$TextReader" "place" "I") ∈ lw_all := lw_g (lw_at lw_m5 22 rfl) rfl
theorem q1095 : (Jvm.Cond.fieldLink "PaperMill$TextReader" (102 : Nat) "PaperMill$TextReader" "brackets" "I") ∈ lw_all := lw_g (lw_at lw_m5 24 rfl) rfl
theorem q1096 : (Jvm.Cond.fieldLink "PaperMill$TextReader" (17 : Nat) "PaperMill$TextReader" "works" "[LPaperMill$Work;") ∈ lw_all := lw_g (lw_at lw_m5 25 rfl) rfl
theorem q1097 : (Jvm.Cond.fieldLink "PaperMill$TextReader" (49 : Nat) "PaperMill$TextReader" "many" "I") ∈ lw_all := lw_g (lw_at lw_m5 26 rfl) rfl
theorem q1098 : (Jvm.Cond.fieldLink "PaperMill$TextReader" (3 : Nat) "PaperMill$TextReader" "this$0" "LPaperMill;") ∈ lw_all := lw_g (lw_at lw_m5 27 rfl) rfl
theorem q1099 : (Jvm.Cond.lays "PaperMill$TextReader" "PaperMill$TextReader" "place" "I") ∈ lw_all := lw_g (lw_at lw_m5 28 rfl) rfl
theorem q1100 : (Jvm.Cond.soleField "PaperMill$TextReader" "place") ∈ lw_all := lw_g (lw_at lw_m5 29 rfl) rfl
theorem q1101 : (Jvm.Cond.lays "PaperMill$TextReader" "PaperMill$TextReader" "brackets" "I") ∈ lw_all := lw_g (lw_at lw_m5 30 rfl) rfl
theorem q1102 : (Jvm.Cond.soleField "PaperMill$TextReader" "brackets") ∈ lw_all := lw_g (lw_at lw_m5 31 rfl) rfl
theorem q1103 : (Jvm.Cond.laysFinal "PaperMill$TextReader" "PaperMill$TextReader" "works" "[LPaperMill$Work;") ∈ lw_all := lw_g (lw_at lw_m5 32 rfl) rfl
theorem q1104 : (Jvm.Cond.soleField "PaperMill$TextReader" "works") ∈ lw_all := lw_g (lw_at lw_m5 33 rfl) rfl
theorem q1105 : (Jvm.Cond.lays "PaperMill$TextReader" "PaperMill$TextReader" "many" "I") ∈ lw_all := lw_g (lw_at lw_m5 34 rfl) rfl
theorem q1106 : (Jvm.Cond.soleField "PaperMill$TextReader" "many") ∈ lw_all := lw_g (lw_at lw_m5 35 rfl) rfl
theorem q1107 : (Jvm.Cond.laysFinal "PaperMill$TextReader" "PaperMill$TextReader" "this$0" "LPaperMill;") ∈ lw_all := lw_g (lw_at lw_m5 36 rfl) rfl
theorem q1108 : (Jvm.Cond.soleField "PaperMill$TextReader" "this$0") ∈ lw_all := lw_g (lw_at lw_m5 37 rfl) rfl
theorem q1109 : (Jvm.Cond.superclass "PaperMill$TextReader" "java/lang/Object") ∈ lw_all := lw_g (lw_at lw_m5 38 rfl) rfl
theorem q1111 : (Jvm.Cond.instanceMethod ({ cls := "PaperMill$TextReader", name := "readAll", desc := "()Z" } : Jvm.MethodName)) ∈ lw_all := lw_g (lw_at lw_m5 40 rfl) rfl
theorem q1112 : (Jvm.Cond.selects "PaperMill$TextReader" ({ cls := "PaperMill$TextReader", name := "readAll", desc := "()Z" } : Jvm.MethodName) ({ cls := "PaperMill$TextReader", name := "readAll", desc := "()Z" } : Jvm.MethodName)) ∈ lw_all := lw_g (lw_at lw_m5 41 rfl) rfl
theorem q1113 : (Jvm.Cond.codeWith ({ cls := "PaperMill$TextReader", name := "readAll", desc := "()Z" } : Jvm.MethodName) prog_20_method_2_code (2 : Nat) (Option.some Jvm.ClassFile.FieldType.boolean) [((0 : Nat), (43 : Nat), (44 : Nat), (47 : Nat))]) ∈ lw_all := lw_g (lw_at lw_m5 42 rfl) rfl
theorem q1114 : (Jvm.Cond.classLink "PaperMill$TextReader" (47 : Nat) "PaperMill$Unreadable") ∈ lw_all := lw_g (lw_at lw_m5 43 rfl) rfl
theorem q1115 : (Jvm.Cond.methodLink "PaperMill$TextReader" (21 : Nat) ({ cls := "PaperMill$TextReader", name := "part", desc := "()LPaperMill$Work;" } : Jvm.MethodName)) ∈ lw_all := lw_g (lw_at lw_m5 44 rfl) rfl
theorem q1116 : (Jvm.Cond.privateMethod ({ cls := "PaperMill$TextReader", name := "part", desc := "()LPaperMill$Work;" } : Jvm.MethodName)) ∈ lw_tbl := lw_at lw_m5 45 rfl
theorem q1117 : (Jvm.Cond.instanceMethod ({ cls := "PaperMill$TextReader", name := "part", desc := "()LPaperMill$Work;" } : Jvm.MethodName)) ∈ lw_all := lw_g (lw_at lw_m5 46 rfl) rfl
theorem q1118 : (Jvm.Cond.code ({ cls := "PaperMill$TextReader", name := "part", desc := "()LPaperMill$Work;" } : Jvm.MethodName) prog_20_method_10_code (2 : Nat) (Option.some (Jvm.ClassFile.FieldType.object "PaperMill$Work"))) ∈ lw_all := lw_g (lw_at lw_m5 47 rfl) rfl
theorem q1119 : (Jvm.Cond.methodLink "PaperMill$TextReader" (56 : Nat) ({ cls := "PaperMill$TextReader", name := "next", desc := "()C" } : Jvm.MethodName)) ∈ lw_all := lw_g (lw_at lw_m5 48 rfl) rfl
theorem q1120 : (Jvm.Cond.privateMethod ({ cls := "PaperMill$TextReader", name := "next", desc := "()C" } : Jvm.MethodName)) ∈ lw_tbl := lw_at lw_m5 49 rfl
theorem q1121 : (Jvm.Cond.instanceMethod ({ cls := "PaperMill$TextReader", name := "next", desc := "()C" } : Jvm.MethodName)) ∈ lw_all := lw_g (lw_at lw_m5 50 rfl) rfl
theorem q1122 : (Jvm.Cond.code ({ cls := "PaperMill$TextReader", name := "next", desc := "()C" } : Jvm.MethodName) prog_20_method_4_code (1 : Nat) (Option.some Jvm.ClassFile.FieldType.char)) ∈ lw_all := lw_g (lw_at lw_m5 51 rfl) rfl
theorem q1123 : (Jvm.Cond.methodLink "PaperMill$TextReader" (37 : Nat) ({ cls := "java/lang/StringBuilder", name := "length", desc := "()I" } : Jvm.MethodName)) ∈ lw_all := lw_g (lw_at lw_m5 52 rfl) rfl
theorem q1124 : (Jvm.Cond.methodLink "PaperMill$TextReader" (52 : Nat) ({ cls := "java/lang/StringBuilder", name := "charAt", desc := "(I)C" } : Jvm.MethodName)) ∈ lw_all := lw_g (lw_at lw_m5 53 rfl) rfl
theorem q1137 : (Jvm.Cond.methodLink "PaperMill$TextReader" (65 : Nat) ({ cls := "PaperMill$TextReader", name := "mix", desc := "()LPaperMill$Mix;" } : Jvm.MethodName)) ∈ lw_all := lw_g (lw_at lw_m5 66 rfl) rfl
theorem q1138 : (Jvm.Cond.privateMethod ({ cls := "PaperMill$TextReader", name := "mix", desc := "()LPaperMill$Mix;" } : Jvm.MethodName)) ∈ lw_tbl := lw_at lw_m5 67 rfl
theorem q1139 : (Jvm.Cond.instanceMethod ({ cls := "PaperMill$TextReader", name := "mix", desc := "()LPaperMill$Mix;" } : Jvm.MethodName)) ∈ lw_all := lw_g (lw_at lw_m5 68 rfl) rfl
theorem q1140 : (Jvm.Cond.code ({ cls := "PaperMill$TextReader", name := "mix", desc := "()LPaperMill$Mix;" } : Jvm.MethodName) prog_20_method_11_code (2 : Nat) (Option.some (Jvm.ClassFile.FieldType.object "PaperMill$Mix"))) ∈ lw_all := lw_g (lw_at lw_m5 69 rfl) rfl
theorem q1141 : (Jvm.Cond.methodLink "PaperMill$TextReader" (94 : Nat) ({ cls := "PaperMill$TextReader", name := "term", desc := "()LPaperMill$Mix;" } : Jvm.MethodName)) ∈ lw_all := lw_g (lw_at lw_m5 70 rfl) rfl
theorem q1142 : (Jvm.Cond.privateMethod ({ cls := "PaperMill$TextReader", name := "term", desc := "()LPaperMill$Mix;" } : Jvm.MethodName)) ∈ lw_tbl := lw_at lw_m5 71 rfl
theorem q1143 : (Jvm.Cond.instanceMethod ({ cls := "PaperMill$TextReader", name := "term", desc := "()LPaperMill$Mix;" } : Jvm.MethodName)) ∈ lw_all := lw_g (lw_at lw_m5 72 rfl) rfl
theorem q1144 : (Jvm.Cond.codeWith ({ cls := "PaperMill$TextReader", name := "term", desc := "()LPaperMill$Mix;" } : Jvm.MethodName) prog_20_method_12_code (3 : Nat) (Option.some (Jvm.ClassFile.FieldType.object "PaperMill$Mix")) [((37 : Nat), (48 : Nat), (61 : Nat), (0 : Nat))]) ∈ lw_all := lw_g (lw_at lw_m5 73 rfl) rfl
theorem q1145 : (Jvm.Cond.methodLink "PaperMill$TextReader" (43 : Nat) ({ cls := "PaperMill$TextReader", name := "sign", desc := "(C)V" } : Jvm.MethodName)) ∈ lw_all := lw_g (lw_at lw_m5 74 rfl) rfl
theorem q1146 : (Jvm.Cond.privateMethod ({ cls := "PaperMill$TextReader", name := "sign", desc := "(C)V" } : Jvm.MethodName)) ∈ lw_tbl := lw_at lw_m5 75 rfl
theorem q1147 : (Jvm.Cond.instanceMethod ({ cls := "PaperMill$TextReader", name := "sign", desc := "(C)V" } : Jvm.MethodName)) ∈ lw_all := lw_g (lw_at lw_m5 76 rfl) rfl
theorem q1148 : (Jvm.Cond.code ({ cls := "PaperMill$TextReader", name := "sign", desc := "(C)V" } : Jvm.MethodName) prog_20_method_5_code (2 : Nat) (Option.none : Option Jvm.ClassFile.FieldType)) ∈ lw_all := lw_g (lw_at lw_m5 77 rfl) rfl
theorem q1157 : (Jvm.Cond.methodLinkNest "PaperMill$TextReader" (60 : Nat) ({ cls := "PaperMill$Unreadable", name := "<init>", desc := "()V" } : Jvm.MethodName) "PaperMill") ∈ lw_tbl := lw_at lw_m5 86 rfl
theorem q1166 : (Jvm.Cond.classLink "PaperMill$TextReader" (105 : Nat) "PaperMill$Times") ∈ lw_all := lw_g (lw_at lw_m5 95 rfl) rfl
theorem q1168 : (Jvm.Cond.methodLink "PaperMill$TextReader" (61 : Nat) ({ cls := "PaperMill$TextReader", name := "digit", desc := "(CC)I" } : Jvm.MethodName)) ∈ lw_all := lw_g (lw_at lw_m5 97 rfl) rfl
theorem q1169 : (Jvm.Cond.privateMethod ({ cls := "PaperMill$TextReader", name := "digit", desc := "(CC)I" } : Jvm.MethodName)) ∈ lw_tbl := lw_at lw_m5 98 rfl
theorem q1170 : (Jvm.Cond.instanceMethod ({ cls := "PaperMill$TextReader", name := "digit", desc := "(CC)I" } : Jvm.MethodName)) ∈ lw_all := lw_g (lw_at lw_m5 99 rfl) rfl
theorem q1171 : (Jvm.Cond.code ({ cls := "PaperMill$TextReader", name := "digit", desc := "(CC)I" } : Jvm.MethodName) prog_20_method_6_code (4 : Nat) (Option.some Jvm.ClassFile.FieldType.int)) ∈ lw_all := lw_g (lw_at lw_m5 100 rfl) rfl
theorem q1172 : (Jvm.Cond.methodLink "PaperMill$TextReader" (107 : Nat) ({ cls := "PaperMill$Times", name := "<init>", desc := "(LPaperMill$Mix;I)V" } : Jvm.MethodName)) ∈ lw_all := lw_g (lw_at lw_m5 101 rfl) rfl
theorem q1185 : (Jvm.Cond.methodLink "PaperMill$TextReader" (110 : Nat) ({ cls := "PaperMill$TextReader", name := "sort", desc := "()I" } : Jvm.MethodName)) ∈ lw_all := lw_g (lw_at lw_m5 114 rfl) rfl
theorem q1186 : (Jvm.Cond.privateMethod ({ cls := "PaperMill$TextReader", name := "sort", desc := "()I" } : Jvm.MethodName)) ∈ lw_tbl := lw_at lw_m5 115 rfl
theorem q1187 : (Jvm.Cond.instanceMethod ({ cls := "PaperMill$TextReader", name := "sort", desc := "()I" } : Jvm.MethodName)) ∈ lw_all := lw_g (lw_at lw_m5 116 rfl) rfl
theorem q1188 : (Jvm.Cond.code ({ cls := "PaperMill$TextReader", name := "sort", desc := "()I" } : Jvm.MethodName) prog_20_method_9_code (3 : Nat) (Option.some Jvm.ClassFile.FieldType.int)) ∈ lw_all := lw_g (lw_at lw_m5 117 rfl) rfl
theorem q1189 : (Jvm.Cond.classLink "PaperMill$TextReader" (113 : Nat) "PaperMill$Rag") ∈ lw_all := lw_g (lw_at lw_m5 118 rfl) rfl
theorem q1190 : (Jvm.Cond.methodLink "PaperMill$TextReader" (115 : Nat) ({ cls := "PaperMill$Rag", name := "<init>", desc := "(II)V" } : Jvm.MethodName)) ∈ lw_all := lw_g (lw_at lw_m5 119 rfl) rfl
theorem q1191 : (Jvm.Cond.classLink "PaperMill$TextReader" (97 : Nat) "PaperMill$Both") ∈ lw_all := lw_g (lw_at lw_m5 120 rfl) rfl
theorem q1193 : (Jvm.Cond.methodLink "PaperMill$TextReader" (99 : Nat) ({ cls := "PaperMill$Both", name := "<init>", desc := "(LPaperMill$Mix;LPaperMill$Mix;)V" } : Jvm.MethodName)) ∈ lw_all := lw_g (lw_at lw_m5 122 rfl) rfl
theorem q1206 : (Jvm.Cond.methodLink "PaperMill$TextReader" (69 : Nat) ({ cls := "PaperMill$TextReader", name := "recipe", desc := "(LPaperMill$Mix;)LPaperMill$Work;" } : Jvm.MethodName)) ∈ lw_all := lw_g (lw_at lw_m5 135 rfl) rfl
theorem q1207 : (Jvm.Cond.privateMethod ({ cls := "PaperMill$TextReader", name := "recipe", desc := "(LPaperMill$Mix;)LPaperMill$Work;" } : Jvm.MethodName)) ∈ lw_tbl := lw_at lw_m5 136 rfl
theorem q1208 : (Jvm.Cond.instanceMethod ({ cls := "PaperMill$TextReader", name := "recipe", desc := "(LPaperMill$Mix;)LPaperMill$Work;" } : Jvm.MethodName)) ∈ lw_all := lw_g (lw_at lw_m5 137 rfl) rfl
theorem q1209 : (Jvm.Cond.code ({ cls := "PaperMill$TextReader", name := "recipe", desc := "(LPaperMill$Mix;)LPaperMill$Work;" } : Jvm.MethodName) prog_20_method_13_code (2 : Nat) (Option.some (Jvm.ClassFile.FieldType.object "PaperMill$Work"))) ∈ lw_all := lw_g (lw_at lw_m5 138 rfl) rfl
theorem q1210 : (Jvm.Cond.static ({ cls := "PaperMill$TextReader", name := "lambda$recipe$0", desc := "(LPaperMill$Mix;LPaperMill$State;)Z" } : Jvm.MethodName)) ∈ lw_all := lw_g (lw_at lw_m5 139 rfl) rfl
theorem q1211 : (Jvm.Cond.code ({ cls := "PaperMill$TextReader", name := "lambda$recipe$0", desc := "(LPaperMill$Mix;LPaperMill$State;)Z" } : Jvm.MethodName) prog_20_method_25_code (2 : Nat) (Option.some Jvm.ClassFile.FieldType.boolean)) ∈ lw_all := lw_g (lw_at lw_m5 140 rfl) rfl
theorem q1212 : (Jvm.Cond.methodLink "PaperMill$TextReader" (73 : Nat) ({ cls := "PaperMill$TextReader", name := "delivery", desc := "(I)LPaperMill$Work;" } : Jvm.MethodName)) ∈ lw_all := lw_g (lw_at lw_m5 141 rfl) rfl
theorem q1213 : (Jvm.Cond.privateMethod ({ cls := "PaperMill$TextReader", name := "delivery", desc := "(I)LPaperMill$Work;" } : Jvm.MethodName)) ∈ lw_tbl := lw_at lw_m5 142 rfl
theorem q1214 : (Jvm.Cond.instanceMethod ({ cls := "PaperMill$TextReader", name := "delivery", desc := "(I)LPaperMill$Work;" } : Jvm.MethodName)) ∈ lw_all := lw_g (lw_at lw_m5 143 rfl) rfl
theorem q1215 : (Jvm.Cond.code ({ cls := "PaperMill$TextReader", name := "delivery", desc := "(I)LPaperMill$Work;" } : Jvm.MethodName) prog_20_method_14_code (5 : Nat) (Option.some (Jvm.ClassFile.FieldType.object "PaperMill$Work"))) ∈ lw_all := lw_g (lw_at lw_m5 144 rfl) rfl
theorem q1216 : (Jvm.Cond.methodLink "PaperMill$TextReader" (121 : Nat) ({ cls := "PaperMill$TextReader", name := "longNumber", desc := "(I)I" } : Jvm.MethodName)) ∈ lw_all := lw_g (lw_at lw_m5 145 rfl) rfl
theorem q1217 : (Jvm.Cond.privateMethod ({ cls := "PaperMill$TextReader", name := "longNumber", desc := "(I)I" } : Jvm.MethodName)) ∈ lw_tbl := lw_at lw_m5 146 rfl
theorem q1218 : (Jvm.Cond.instanceMethod ({ cls := "PaperMill$TextReader", name := "longNumber", desc := "(I)I" } : Jvm.MethodName)) ∈ lw_all := lw_g (lw_at lw_m5 147 rfl) rfl
theorem q1219 : (Jvm.Cond.code ({ cls := "PaperMill$TextReader", name := "longNumber", desc := "(I)I" } : Jvm.MethodName) prog_20_method_8_code (3 : Nat) (Option.some Jvm.ClassFile.FieldType.int)) ∈ lw_all := lw_g (lw_at lw_m5 148 rfl) rfl
theorem q1220 : (Jvm.Cond.methodLink "PaperMill$TextReader" (87 : Nat) ({ cls := "PaperMill$TextReader", name := "number", desc := "(II)I" } : Jvm.MethodName)) ∈ lw_all := lw_g (lw_at lw_m5 149 rfl) rfl
theorem q1221 : (Jvm.Cond.privateMethod ({ cls := "PaperMill$TextReader", name := "number", desc := "(II)I" } : Jvm.MethodName)) ∈ lw_tbl := lw_at lw_m5 150 rfl
theorem q1222 : (Jvm.Cond.instanceMethod ({ cls := "PaperMill$TextReader", name := "number", desc := "(II)I" } : Jvm.MethodName)) ∈ lw_all := lw_g (lw_at lw_m5 151 rfl) rfl
theorem q1223 : (Jvm.Cond.code ({ cls := "PaperMill$TextReader", name := "number", desc := "(II)I" } : Jvm.MethodName) prog_20_method_7_code (4 : Nat) (Option.some Jvm.ClassFile.FieldType.int)) ∈ lw_all := lw_g (lw_at lw_m5 152 rfl) rfl
theorem q1224 : (Jvm.Cond.static ({ cls := "PaperMill$TextReader", name := "lambda$delivery$1", desc := "(IIIILPaperMill$State;)Z" } : Jvm.MethodName)) ∈ lw_all := lw_g (lw_at lw_m5 153 rfl) rfl
theorem q1225 : (Jvm.Cond.code ({ cls := "PaperMill$TextReader", name := "lambda$delivery$1", desc := "(IIIILPaperMill$State;)Z" } : Jvm.MethodName) prog_20_method_24_code (5 : Nat) (Option.some Jvm.ClassFile.FieldType.boolean)) ∈ lw_all := lw_g (lw_at lw_m5 154 rfl) rfl
theorem q1226 : (Jvm.Cond.methodLink "PaperMill$TextReader" (156 : Nat) ({ cls := "PaperMill$State", name := "deliver", desc := "(IIII)Z" } : Jvm.MethodName)) ∈ lw_all := lw_g (lw_at lw_m5 155 rfl) rfl
theorem q1265 : (Jvm.Cond.methodLink "PaperMill$TextReader" (77 : Nat) ({ cls := "PaperMill$TextReader", name := "beating", desc := "(I)LPaperMill$Work;" } : Jvm.MethodName)) ∈ lw_all := lw_g (lw_at lw_m5 194 rfl) rfl
theorem q1266 : (Jvm.Cond.privateMethod ({ cls := "PaperMill$TextReader", name := "beating", desc := "(I)LPaperMill$Work;" } : Jvm.MethodName)) ∈ lw_tbl := lw_at lw_m5 195 rfl
theorem q1267 : (Jvm.Cond.instanceMethod ({ cls := "PaperMill$TextReader", name := "beating", desc := "(I)LPaperMill$Work;" } : Jvm.MethodName)) ∈ lw_all := lw_g (lw_at lw_m5 196 rfl) rfl
theorem q1268 : (Jvm.Cond.code ({ cls := "PaperMill$TextReader", name := "beating", desc := "(I)LPaperMill$Work;" } : Jvm.MethodName) prog_20_method_15_code (3 : Nat) (Option.some (Jvm.ClassFile.FieldType.object "PaperMill$Work"))) ∈ lw_all := lw_g (lw_at lw_m5 197 rfl) rfl
theorem q1269 : (Jvm.Cond.static ({ cls := "PaperMill$TextReader", name := "lambda$beating$2", desc := "(IILPaperMill$State;)Z" } : Jvm.MethodName)) ∈ lw_all := lw_g (lw_at lw_m5 198 rfl) rfl
theorem q1270 : (Jvm.Cond.code ({ cls := "PaperMill$TextReader", name := "lambda$beating$2", desc := "(IILPaperMill$State;)Z" } : Jvm.MethodName) prog_20_method_23_code (3 : Nat) (Option.some Jvm.ClassFile.FieldType.boolean)) ∈ lw_all := lw_g (lw_at lw_m5 199 rfl) rfl
theorem q1271 : (Jvm.Cond.methodLink "PaperMill$TextReader" (153 : Nat) ({ cls := "PaperMill$State", name := "beat", desc := "(II)Z" } : Jvm.MethodName)) ∈ lw_all := lw_g (lw_at lw_m5 200 rfl) rfl
theorem q1300 : (Jvm.Cond.methodLink "PaperMill$TextReader" (80 : Nat) ({ cls := "PaperMill$TextReader", name := "stamping", desc := "(I)LPaperMill$Work;" } : Jvm.MethodName)) ∈ lw_all := lw_g (lw_at lw_m5 229 rfl) rfl
theorem q1301 : (Jvm.Cond.privateMethod ({ cls := "PaperMill$TextReader", name := "stamping", desc := "(I)LPaperMill$Work;" } : Jvm.MethodName)) ∈ lw_tbl := lw_at lw_m5 230 rfl
theorem q1302 : (Jvm.Cond.instanceMethod ({ cls := "PaperMill$TextReader", name := "stamping", desc := "(I)LPaperMill$Work;" } : Jvm.MethodName)) ∈ lw_all := lw_g (lw_at lw_m5 231 rfl) rfl
theorem q1303 : (Jvm.Cond.code ({ cls := "PaperMill$TextReader", name := "stamping", desc := "(I)LPaperMill$Work;" } : Jvm.MethodName) prog_20_method_16_code (3 : Nat) (Option.some (Jvm.ClassFile.FieldType.object "PaperMill$Work"))) ∈ lw_all := lw_g (lw_at lw_m5 232 rfl) rfl
theorem q1304 : (Jvm.Cond.static ({ cls := "PaperMill$TextReader", name := "lambda$stamping$3", desc := "(IILPaperMill$State;)Z" } : Jvm.MethodName)) ∈ lw_all := lw_g (lw_at lw_m5 233 rfl) rfl
theorem q1305 : (Jvm.Cond.code ({ cls := "PaperMill$TextReader", name := "lambda$stamping$3", desc := "(IILPaperMill$State;)Z" } : Jvm.MethodName) prog_20_method_22_code (3 : Nat) (Option.some Jvm.ClassFile.FieldType.boolean)) ∈ lw_all := lw_g (lw_at lw_m5 234 rfl) rfl
theorem q1306 : (Jvm.Cond.methodLink "PaperMill$TextReader" (149 : Nat) ({ cls := "PaperMill$State", name := "stamp", desc := "(II)Z" } : Jvm.MethodName)) ∈ lw_all := lw_g (lw_at lw_m5 235 rfl) rfl
theorem q1314 : (Jvm.Cond.methodLink "PaperMill$TextReader" (83 : Nat) ({ cls := "PaperMill$TextReader", name := "making", desc := "(II)LPaperMill$Work;" } : Jvm.MethodName)) ∈ lw_all := lw_g (lw_at lw_m6 3 rfl) rfl
theorem q1315 : (Jvm.Cond.privateMethod ({ cls := "PaperMill$TextReader", name := "making", desc := "(II)LPaperMill$Work;" } : Jvm.MethodName)) ∈ lw_tbl := lw_at lw_m6 4 rfl
theorem q1316 : (Jvm.Cond.instanceMethod ({ cls := "PaperMill$TextReader", name := "making", desc := "(II)LPaperMill$Work;" } : Jvm.MethodName)) ∈ lw_all := lw_g (lw_at lw_m6 5 rfl) rfl
theorem q1317 : (Jvm.Cond.code ({ cls := "PaperMill$TextReader", name := "making", desc := "(II)LPaperMill$Work;" } : Jvm.MethodName) prog_20_method_17_code (4 : Nat) (Option.some (Jvm.ClassFile.FieldType.object "PaperMill$Work"))) ∈ lw_all := lw_g (lw_at lw_m6 6 rfl) rfl
theorem q1318 : (Jvm.Cond.static ({ cls := "PaperMill$TextReader", name := "lambda$making$4", desc := "(IIILPaperMill$State;)Z" } : Jvm.MethodName)) ∈ lw_all := lw_g (lw_at lw_m6 7 rfl) rfl
theorem q1319 : (Jvm.Cond.code ({ cls := "PaperMill$TextReader", name := "lambda$making$4", desc := "(IIILPaperMill$State;)Z" } : Jvm.MethodName) prog_20_method_21_code (4 : Nat) (Option.some Jvm.ClassFile.FieldType.boolean)) ∈ lw_all := lw_g (lw_at lw_m6 8 rfl) rfl
theorem q1320 : (Jvm.Cond.methodLink "PaperMill$TextReader" (145 : Nat) ({ cls := "PaperMill$State", name := "make", desc := "(III)I" } : Jvm.MethodName)) ∈ lw_all := lw_g (lw_at lw_m6 9 rfl) rfl
theorem q1378 : (Jvm.Cond.methodLink "PaperMill$TextReader" (91 : Nat) ({ cls := "PaperMill$TextReader", name := "passing", desc := "(I)LPaperMill$Work;" } : Jvm.MethodName)) ∈ lw_all := lw_g (lw_at lw_m6 67 rfl) rfl
theorem q1379 : (Jvm.Cond.privateMethod ({ cls := "PaperMill$TextReader", name := "passing", desc := "(I)LPaperMill$Work;" } : Jvm.MethodName)) ∈ lw_tbl := lw_at lw_m6 68 rfl
theorem q1380 : (Jvm.Cond.instanceMethod ({ cls := "PaperMill$TextReader", name := "passing", desc := "(I)LPaperMill$Work;" } : Jvm.MethodName)) ∈ lw_all := lw_g (lw_at lw_m6 69 rfl) rfl
theorem q1381 : (Jvm.Cond.code ({ cls := "PaperMill$TextReader", name := "passing", desc := "(I)LPaperMill$Work;" } : Jvm.MethodName) prog_20_method_18_code (2 : Nat) (Option.some (Jvm.ClassFile.FieldType.object "PaperMill$Work"))) ∈ lw_all := lw_g (lw_at lw_m6 70 rfl) rfl
theorem q1382 : (Jvm.Cond.static ({ cls := "PaperMill$TextReader", name := "lambda$passing$5", desc := "(ILPaperMill$State;)Z" } : Jvm.MethodName)) ∈ lw_all := lw_g (lw_at lw_m6 71 rfl) rfl
theorem q1383 : (Jvm.Cond.code ({ cls := "PaperMill$TextReader", name := "lambda$passing$5", desc := "(ILPaperMill$State;)Z" } : Jvm.MethodName) prog_20_method_20_code (2 : Nat) (Option.some Jvm.ClassFile.FieldType.boolean)) ∈ lw_all := lw_g (lw_at lw_m6 72 rfl) rfl
theorem q1384 : (Jvm.Cond.methodLink "PaperMill$TextReader" (139 : Nat) ({ cls := "PaperMill$State", name := "pass", desc := "(I)Z" } : Jvm.MethodName)) ∈ lw_all := lw_g (lw_at lw_m6 73 rfl) rfl
theorem q1393 : (Jvm.Cond.methodLink "PaperMill$TextReader" (25 : Nat) ({ cls := "PaperMill$TextReader", name := "keep", desc := "(LPaperMill$Work;)V" } : Jvm.MethodName)) ∈ lw_all := lw_g (lw_at lw_m6 82 rfl) rfl
theorem q1394 : (Jvm.Cond.privateMethod ({ cls := "PaperMill$TextReader", name := "keep", desc := "(LPaperMill$Work;)V" } : Jvm.MethodName)) ∈ lw_tbl := lw_at lw_m6 83 rfl
theorem q1395 : (Jvm.Cond.instanceMethod ({ cls := "PaperMill$TextReader", name := "keep", desc := "(LPaperMill$Work;)V" } : Jvm.MethodName)) ∈ lw_all := lw_g (lw_at lw_m6 84 rfl) rfl
theorem q1396 : (Jvm.Cond.code ({ cls := "PaperMill$TextReader", name := "keep", desc := "(LPaperMill$Work;)V" } : Jvm.MethodName) prog_20_method_3_code (2 : Nat) (Option.none : Option Jvm.ClassFile.FieldType)) ∈ lw_all := lw_g (lw_at lw_m6 85 rfl) rfl
theorem q2020 : (Jvm.Cond.instanceMethod ({ cls := "PaperMill$TextReader", name := "doAll", desc := "(LPaperMill$State;)I" } : Jvm.MethodName)) ∈ lw_all := lw_g (lw_at lw_m8 229 rfl) rfl
theorem q2021 : (Jvm.Cond.selects "PaperMill$TextReader" ({ cls := "PaperMill$TextReader", name := "doAll", desc := "(LPaperMill$State;)I" } : Jvm.MethodName) ({ cls := "PaperMill$TextReader", name := "doAll", desc := "(LPaperMill$State;)I" } : Jvm.MethodName)) ∈ lw_all := lw_g (lw_at lw_m8 230 rfl) rfl
theorem q2022 : (Jvm.Cond.code ({ cls := "PaperMill$TextReader", name := "doAll", desc := "(LPaperMill$State;)I" } : Jvm.MethodName) prog_20_method_19_code (3 : Nat) (Option.some Jvm.ClassFile.FieldType.int)) ∈ lw_all := lw_g (lw_at lw_m8 231 rfl) rfl
theorem q2023 : (Jvm.Cond.interfaceEntry "PaperMill$TextReader" (136 : Nat)) ∈ lw_tbl := lw_at lw_m8 232 rfl
theorem q2024 : (Jvm.Cond.methodLink "PaperMill$TextReader" (136 : Nat) ({ cls := "PaperMill$Work", name := "doIt", desc := "(LPaperMill$State;)Z" } : Jvm.MethodName)) ∈ lw_all := lw_g (lw_at lw_m8 233 rfl) rfl
theorem q2722 : (Jvm.Cond.castable "PaperMill$TextReader" "java/lang/Object") ∈ lw_tbl := lw_at lw_m11 211 rfl
theorem in_X13 : ∀ w ∈ wsX130, w ∈ lw_all := lw_in wsX130 [1099, 1101, 1103, 1105, 1107] (by decide +kernel) (by decide +kernel)
/-! PaperMill$Unreadable -/
set_option maxRecDepth 100000
def RX14 : String := "PaperMill$Unreadable"
def TX14 : u_T := fun k => match k with
  | 0 => ("java/lang/Throwable", "cause", "Ljava/lang/Throwable;", false)
  | 1 => ("java/lang/Throwable", "stackTrace", "[Ljava/lang/StackTraceElement;", false)
  | 2 => ("java/lang/Throwable", "suppressedExceptions", "Ljava/util/List;", false)
  | 3 => ("java/lang/Throwable", "detailMessage", "Ljava/lang/String;", false)
  | 4 => ("java/lang/Throwable", "backtrace", "Ljava/lang/Object;", false)
  | _ => ("java/lang/Throwable", "depth", "I", false)
def tyX14 : Nat → FieldType := fun k => match k with
  | 0 => .object "java/lang/Throwable"
  | 1 => .array (.object "java/lang/StackTraceElement")
  | 2 => .object "java/util/List"
  | 3 => .object "java/lang/String"
  | 4 => .object "java/lang/Object"
  | _ => .int
abbrev wsX140 : List Cond := u_ws RX14 TX14 6
theorem nmX14 : ∀ a, a < 6 → ∀ b, b < 6 → a ≠ b → (TX14 a).2.1 ≠ (TX14 b).2.1 := by decide +kernel
theorem tyX14_ok : ∀ k, k < 6 → parseFieldDescriptor (TX14 k).2.2.1 = some (tyX14 k) := by decide +kernel
abbrev cX14_init : ByteArray := prog_22_method_1_code
def yX14_init : MethodName := ⟨RX14, "<init>", "()V"⟩
theorem dX14_init_0 : decode cX14_init 0 = .ok (.aload_n 0, 1) := by decide +kernel
theorem dX14_init_1 : decode cX14_init 1 = .ok (.invokespecial 1, 3) := by decide +kernel
theorem dX14_init_4 : decode cX14_init 4 = .ok (.return_, 1) := by decide +kernel
theorem q151 : (Jvm.Cond.initialized "PaperMill$Unreadable") ∈ lw_all := lw_g (lw_at lw_m1 40 rfl) rfl
theorem q353 : (Jvm.Cond.selects "PaperMill$Unreadable" ({ cls := "java/lang/Object", name := "getClass", desc := "()Ljava/lang/Class;" } : Jvm.MethodName) ({ cls := "java/lang/Object", name := "getClass", desc := "()Ljava/lang/Class;" } : Jvm.MethodName)) ∈ lw_all := lw_g (lw_at lw_m2 2 rfl) rfl
theorem q965 : (Jvm.Cond.selects "PaperMill$Unreadable" ({ cls := "java/lang/Throwable", name := "fillInStackTrace", desc := "()Ljava/lang/Throwable;" } : Jvm.MethodName) ({ cls := "java/lang/Throwable", name := "fillInStackTrace", desc := "()Ljava/lang/Throwable;" } : Jvm.MethodName)) ∈ lw_all := lw_g (lw_at lw_m4 134 rfl) rfl
theorem q1149 : (Jvm.Cond.instantiable "PaperMill$Unreadable" (6 : Nat)) ∈ lw_all := lw_g (lw_at lw_m5 78 rfl) rfl
theorem q1150 : (Jvm.Cond.castable "PaperMill$Unreadable" "PaperMill$Unreadable") ∈ lw_tbl := lw_at lw_m5 79 rfl
theorem q1151 : (Jvm.Cond.selects "PaperMill$Unreadable" ({ cls := "java/lang/Throwable", name := "fillInStackTrace", desc := "(I)Ljava/lang/Throwable;" } : Jvm.MethodName) ({ cls := "java/lang/Throwable", name := "fillInStackTrace", desc := "(I)Ljava/lang/Throwable;" } : Jvm.MethodName)) ∈ lw_all := lw_g (lw_at lw_m5 80 rfl) rfl
theorem q1152 : (Jvm.Cond.lays "PaperMill$Unreadable" "java/lang/Throwable" "cause" "Ljava/lang/Throwable;") ∈ lw_all := lw_g (lw_at lw_m5 81 rfl) rfl
theorem q1153 : (Jvm.Cond.lays "PaperMill$Unreadable" "java/lang/Throwable" "stackTrace" "[Ljava/lang/StackTraceElement;") ∈ lw_all := lw_g (lw_at lw_m5 82 rfl) rfl
theorem q1154 : (Jvm.Cond.lays "PaperMill$Unreadable" "java/lang/Throwable" "suppressedExceptions" "Ljava/util/List;") ∈ lw_all := lw_g (lw_at lw_m5 83 rfl) rfl
theorem q1155 : (Jvm.Cond.lays "PaperMill$Unreadable" "java/lang/Throwable" "detailMessage" "Ljava/lang/String;") ∈ lw_all := lw_g (lw_at lw_m5 84 rfl) rfl
theorem q1156 : (Jvm.Cond.lays "PaperMill$Unreadable" "java/lang/Throwable" "backtrace" "Ljava/lang/Object;") ∈ lw_all := lw_g (lw_at lw_m5 85 rfl) rfl
theorem q1158 : (Jvm.Cond.instanceMethod ({ cls := "PaperMill$Unreadable", name := "<init>", desc := "()V" } : Jvm.MethodName)) ∈ lw_all := lw_g (lw_at lw_m5 87 rfl) rfl
theorem q1159 : (Jvm.Cond.code ({ cls := "PaperMill$Unreadable", name := "<init>", desc := "()V" } : Jvm.MethodName) prog_22_method_1_code (1 : Nat) (Option.none : Option Jvm.ClassFile.FieldType)) ∈ lw_all := lw_g (lw_at lw_m5 88 rfl) rfl
theorem q1160 : (Jvm.Cond.methodLink "PaperMill$Unreadable" (1 : Nat) ({ cls := "java/lang/Exception", name := "<init>", desc := "()V" } : Jvm.MethodName)) ∈ lw_all := lw_g (lw_at lw_m5 89 rfl) rfl
theorem q1164 : (Jvm.Cond.lays "PaperMill$Unreadable" "java/lang/Throwable" "depth" "I") ∈ lw_all := lw_g (lw_at lw_m5 93 rfl) rfl
theorem q1165 : (Jvm.Cond.superclass "PaperMill$Unreadable" "java/lang/Exception") ∈ lw_all := lw_g (lw_at lw_m5 94 rfl) rfl
theorem q2723 : (Jvm.Cond.castable "PaperMill$Unreadable" "java/lang/Object") ∈ lw_tbl := lw_at lw_m11 212 rfl
theorem in_X14 : ∀ w ∈ wsX140, w ∈ lw_all := lw_in wsX140 [1152, 1153, 1154, 1155, 1156, 1164] (by decide +kernel) (by decide +kernel)
/-! PaperMill$Times -/
set_option maxRecDepth 100000
def RX15 : String := "PaperMill$Times"
def TX15 : u_T := fun k => match k with
  | 0 => ("PaperMill$Times", "mix", "LPaperMill$Mix;", true)
  | _ => ("PaperMill$Times", "times", "I", true)
def tyX15 : Nat → FieldType := fun k => match k with
  | 0 => .object "PaperMill$Mix"
  | _ => .int
abbrev wsX150 : List Cond := u_ws RX15 TX15 2
theorem nmX15 : ∀ a, a < 2 → ∀ b, b < 2 → a ≠ b → (TX15 a).2.1 ≠ (TX15 b).2.1 := by decide +kernel
theorem tyX15_ok : ∀ k, k < 2 → parseFieldDescriptor (TX15 k).2.2.1 = some (tyX15 k) := by decide +kernel
abbrev cX15_init : ByteArray := prog_21_method_1_code
def yX15_init : MethodName := ⟨RX15, "<init>", "(LPaperMill$Mix;I)V"⟩
def dkwX15_init_0 : List UInt8 := [42, 183, 0, 1, 42, 43, 181, 0, 7, 42, 28, 181, 0, 13, 177]
abbrev dktX15_init_0 : List UInt8 := dkwX15_init_0 ++ []
theorem dksX15_init_0 : cX15_init.data.toList.drop 0 = dktX15_init_0 := by decide +kernel
theorem dX15_init_0 : decode cX15_init 0 = .ok (.aload_n 0, 1) := dk_42 (dk_at dksX15_init_0 0 rfl rfl)
theorem dX15_init_1 : decode cX15_init 1 = .ok (.invokespecial 1, 3) := dk_183 0 1 (dk_at dksX15_init_0 1 rfl rfl)
theorem dX15_init_4 : decode cX15_init 4 = .ok (.aload_n 0, 1) := dk_42 (dk_at dksX15_init_0 4 rfl rfl)
theorem dX15_init_5 : decode cX15_init 5 = .ok (.aload_n 1, 1) := dk_43 (dk_at dksX15_init_0 5 rfl rfl)
theorem dX15_init_6 : decode cX15_init 6 = .ok (.putfield 7, 3) := dk_181 0 7 (dk_at dksX15_init_0 6 rfl rfl)
theorem dX15_init_9 : decode cX15_init 9 = .ok (.aload_n 0, 1) := dk_42 (dk_at dksX15_init_0 9 rfl rfl)
theorem dX15_init_10 : decode cX15_init 10 = .ok (.iload_n 2, 1) := dk_28 (dk_at dksX15_init_0 10 rfl rfl)
theorem dX15_init_11 : decode cX15_init 11 = .ok (.putfield 13, 3) := dk_181 0 13 (dk_at dksX15_init_0 11 rfl rfl)
theorem dX15_init_14 : decode cX15_init 14 = .ok (.return_, 1) := dk_177 (dk_at dksX15_init_0 14 rfl rfl)
theorem q152 : (Jvm.Cond.initialized "PaperMill$Times") ∈ lw_all := lw_g (lw_at lw_m1 41 rfl) rfl
theorem q352 : (Jvm.Cond.selects "PaperMill$Times" ({ cls := "java/lang/Object", name := "getClass", desc := "()Ljava/lang/Class;" } : Jvm.MethodName) ({ cls := "java/lang/Object", name := "getClass", desc := "()Ljava/lang/Class;" } : Jvm.MethodName)) ∈ lw_all := lw_g (lw_at lw_m2 1 rfl) rfl
theorem q1167 : (Jvm.Cond.instantiable "PaperMill$Times" (2 : Nat)) ∈ lw_all := lw_g (lw_at lw_m5 96 rfl) rfl
theorem q1173 : (Jvm.Cond.instanceMethod ({ cls := "PaperMill$Times", name := "<init>", desc := "(LPaperMill$Mix;I)V" } : Jvm.MethodName)) ∈ lw_all := lw_g (lw_at lw_m5 102 rfl) rfl
theorem q1174 : (Jvm.Cond.code ({ cls := "PaperMill$Times", name := "<init>", desc := "(LPaperMill$Mix;I)V" } : Jvm.MethodName) prog_21_method_1_code (3 : Nat) (Option.none : Option Jvm.ClassFile.FieldType)) ∈ lw_all := lw_g (lw_at lw_m5 103 rfl) rfl
theorem q1175 : (Jvm.Cond.methodLink "PaperMill$Times" (1 : Nat) ({ cls := "java/lang/Object", name := "<init>", desc := "()V" } : Jvm.MethodName)) ∈ lw_all := lw_g (lw_at lw_m5 104 rfl) rfl
theorem q1176 : (Jvm.Cond.fieldLink "PaperMill$Times" (7 : Nat) "PaperMill$Times" "mix" "LPaperMill$Mix;") ∈ lw_all := lw_g (lw_at lw_m5 105 rfl) rfl
theorem q1178 : (Jvm.Cond.fieldLink "PaperMill$Times" (13 : Nat) "PaperMill$Times" "times" "I") ∈ lw_all := lw_g (lw_at lw_m5 107 rfl) rfl
theorem q1180 : (Jvm.Cond.laysFinal "PaperMill$Times" "PaperMill$Times" "mix" "LPaperMill$Mix;") ∈ lw_all := lw_g (lw_at lw_m5 109 rfl) rfl
theorem q1181 : (Jvm.Cond.soleField "PaperMill$Times" "mix") ∈ lw_all := lw_g (lw_at lw_m5 110 rfl) rfl
theorem q1182 : (Jvm.Cond.laysFinal "PaperMill$Times" "PaperMill$Times" "times" "I") ∈ lw_all := lw_g (lw_at lw_m5 111 rfl) rfl
theorem q1183 : (Jvm.Cond.soleField "PaperMill$Times" "times") ∈ lw_all := lw_g (lw_at lw_m5 112 rfl) rfl
theorem q1184 : (Jvm.Cond.superclass "PaperMill$Times" "java/lang/Object") ∈ lw_all := lw_g (lw_at lw_m5 113 rfl) rfl
theorem q2724 : (Jvm.Cond.castable "PaperMill$Times" "java/lang/Object") ∈ lw_tbl := lw_at lw_m11 213 rfl
theorem in_X15 : ∀ w ∈ wsX150, w ∈ lw_all := lw_in wsX150 [1180, 1182] (by decide +kernel) (by decide +kernel)
/-! PaperMill$Both -/
set_option maxRecDepth 100000
def RX16 : String := "PaperMill$Both"
def TX16 : u_T := fun k => match k with
  | 0 => ("PaperMill$Both", "left", "LPaperMill$Mix;", true)
  | _ => ("PaperMill$Both", "right", "LPaperMill$Mix;", true)
def tyX16 : Nat → FieldType := fun k => match k with
  | 0 => .object "PaperMill$Mix"
  | _ => .object "PaperMill$Mix"
abbrev wsX160 : List Cond := u_ws RX16 TX16 2
theorem nmX16 : ∀ a, a < 2 → ∀ b, b < 2 → a ≠ b → (TX16 a).2.1 ≠ (TX16 b).2.1 := by decide +kernel
theorem tyX16_ok : ∀ k, k < 2 → parseFieldDescriptor (TX16 k).2.2.1 = some (tyX16 k) := by decide +kernel
abbrev cX16_init : ByteArray := prog_3_method_1_code
def yX16_init : MethodName := ⟨RX16, "<init>", "(LPaperMill$Mix;LPaperMill$Mix;)V"⟩
def dkwX16_init_0 : List UInt8 := [42, 183, 0, 1, 42, 43, 181, 0, 7, 42, 44, 181, 0, 13, 177]
abbrev dktX16_init_0 : List UInt8 := dkwX16_init_0 ++ []
theorem dksX16_init_0 : cX16_init.data.toList.drop 0 = dktX16_init_0 := by decide +kernel
theorem dX16_init_0 : decode cX16_init 0 = .ok (.aload_n 0, 1) := dk_42 (dk_at dksX16_init_0 0 rfl rfl)
theorem dX16_init_1 : decode cX16_init 1 = .ok (.invokespecial 1, 3) := dk_183 0 1 (dk_at dksX16_init_0 1 rfl rfl)
theorem dX16_init_4 : decode cX16_init 4 = .ok (.aload_n 0, 1) := dk_42 (dk_at dksX16_init_0 4 rfl rfl)
theorem dX16_init_5 : decode cX16_init 5 = .ok (.aload_n 1, 1) := dk_43 (dk_at dksX16_init_0 5 rfl rfl)
theorem dX16_init_6 : decode cX16_init 6 = .ok (.putfield 7, 3) := dk_181 0 7 (dk_at dksX16_init_0 6 rfl rfl)
theorem dX16_init_9 : decode cX16_init 9 = .ok (.aload_n 0, 1) := dk_42 (dk_at dksX16_init_0 9 rfl rfl)
theorem dX16_init_10 : decode cX16_init 10 = .ok (.aload_n 2, 1) := dk_44 (dk_at dksX16_init_0 10 rfl rfl)
theorem dX16_init_11 : decode cX16_init 11 = .ok (.putfield 13, 3) := dk_181 0 13 (dk_at dksX16_init_0 11 rfl rfl)
theorem dX16_init_14 : decode cX16_init 14 = .ok (.return_, 1) := dk_177 (dk_at dksX16_init_0 14 rfl rfl)
theorem q153 : (Jvm.Cond.initialized "PaperMill$Both") ∈ lw_all := lw_g (lw_at lw_m1 42 rfl) rfl
theorem q338 : (Jvm.Cond.selects "PaperMill$Both" ({ cls := "java/lang/Object", name := "getClass", desc := "()Ljava/lang/Class;" } : Jvm.MethodName) ({ cls := "java/lang/Object", name := "getClass", desc := "()Ljava/lang/Class;" } : Jvm.MethodName)) ∈ lw_all := lw_g (lw_at lw_m1 227 rfl) rfl
theorem q1192 : (Jvm.Cond.instantiable "PaperMill$Both" (2 : Nat)) ∈ lw_all := lw_g (lw_at lw_m5 121 rfl) rfl
theorem q1194 : (Jvm.Cond.instanceMethod ({ cls := "PaperMill$Both", name := "<init>", desc := "(LPaperMill$Mix;LPaperMill$Mix;)V" } : Jvm.MethodName)) ∈ lw_all := lw_g (lw_at lw_m5 123 rfl) rfl
theorem q1195 : (Jvm.Cond.code ({ cls := "PaperMill$Both", name := "<init>", desc := "(LPaperMill$Mix;LPaperMill$Mix;)V" } : Jvm.MethodName) prog_3_method_1_code (3 : Nat) (Option.none : Option Jvm.ClassFile.FieldType)) ∈ lw_all := lw_g (lw_at lw_m5 124 rfl) rfl
theorem q1196 : (Jvm.Cond.methodLink "PaperMill$Both" (1 : Nat) ({ cls := "java/lang/Object", name := "<init>", desc := "()V" } : Jvm.MethodName)) ∈ lw_all := lw_g (lw_at lw_m5 125 rfl) rfl
theorem q1197 : (Jvm.Cond.fieldLink "PaperMill$Both" (7 : Nat) "PaperMill$Both" "left" "LPaperMill$Mix;") ∈ lw_all := lw_g (lw_at lw_m5 126 rfl) rfl
theorem q1199 : (Jvm.Cond.fieldLink "PaperMill$Both" (13 : Nat) "PaperMill$Both" "right" "LPaperMill$Mix;") ∈ lw_all := lw_g (lw_at lw_m5 128 rfl) rfl
theorem q1201 : (Jvm.Cond.laysFinal "PaperMill$Both" "PaperMill$Both" "left" "LPaperMill$Mix;") ∈ lw_all := lw_g (lw_at lw_m5 130 rfl) rfl
theorem q1202 : (Jvm.Cond.soleField "PaperMill$Both" "left") ∈ lw_all := lw_g (lw_at lw_m5 131 rfl) rfl
theorem q1203 : (Jvm.Cond.laysFinal "PaperMill$Both" "PaperMill$Both" "right" "LPaperMill$Mix;") ∈ lw_all := lw_g (lw_at lw_m5 132 rfl) rfl
theorem q1204 : (Jvm.Cond.soleField "PaperMill$Both" "right") ∈ lw_all := lw_g (lw_at lw_m5 133 rfl) rfl
theorem q1205 : (Jvm.Cond.superclass "PaperMill$Both" "java/lang/Object") ∈ lw_all := lw_g (lw_at lw_m5 134 rfl) rfl
theorem q2725 : (Jvm.Cond.castable "PaperMill$Both" "java/lang/Object") ∈ lw_tbl := lw_at lw_m11 214 rfl
theorem in_X16 : ∀ w ∈ wsX160, w ∈ lw_all := lw_in wsX160 [1201, 1203] (by decide +kernel) (by decide +kernel)
/-! PaperMill$Grade$1 -/
set_option maxRecDepth 100000
def RX17 : String := "PaperMill$Grade$1"
abbrev cX17_least : ByteArray := prog_6_method_2_code
def yX17_least : MethodName := ⟨RX17, "least", "()I"⟩
theorem dX17_least_0 : decode cX17_least 0 = .ok (.bipush 60, 2) := by decide +kernel
theorem dX17_least_2 : decode cX17_least 2 = .ok (.ireturn, 1) := by decide +kernel
abbrev cX17_price : ByteArray := prog_6_method_3_code
def yX17_price : MethodName := ⟨RX17, "price", "(I)I"⟩
def dkwX17_price_0 : List UInt8 := [27, 6, 104, 5, 108, 172]
abbrev dktX17_price_0 : List UInt8 := dkwX17_price_0 ++ []
theorem dksX17_price_0 : cX17_price.data.toList.drop 0 = dktX17_price_0 := by decide +kernel
theorem dX17_price_0 : decode cX17_price 0 = .ok (.iload_n 1, 1) := dk_27 (dk_at dksX17_price_0 0 rfl rfl)
theorem dX17_price_1 : decode cX17_price 1 = .ok (.iconst 3, 1) := dk_6 (dk_at dksX17_price_0 1 rfl rfl)
theorem dX17_price_2 : decode cX17_price 2 = .ok (.imul, 1) := dk_104 (dk_at dksX17_price_0 2 rfl rfl)
theorem dX17_price_3 : decode cX17_price 3 = .ok (.iconst 2, 1) := dk_5 (dk_at dksX17_price_0 3 rfl rfl)
theorem dX17_price_4 : decode cX17_price 4 = .ok (.idiv, 1) := dk_108 (dk_at dksX17_price_0 4 rfl rfl)
theorem dX17_price_5 : decode cX17_price 5 = .ok (.ireturn, 1) := dk_172 (dk_at dksX17_price_0 5 rfl rfl)
theorem q340 : (Jvm.Cond.selects "PaperMill$Grade$1" ({ cls := "java/lang/Object", name := "getClass", desc := "()Ljava/lang/Class;" } : Jvm.MethodName) ({ cls := "java/lang/Object", name := "getClass", desc := "()Ljava/lang/Class;" } : Jvm.MethodName)) ∈ lw_all := lw_g (lw_at lw_m1 229 rfl) rfl
theorem q1356 : (Jvm.Cond.selects "PaperMill$Grade$1" ({ cls := "PaperMill$Grade", name := "least", desc := "()I" } : Jvm.MethodName) ({ cls := "PaperMill$Grade$1", name := "least", desc := "()I" } : Jvm.MethodName)) ∈ lw_all := lw_g (lw_at lw_m6 45 rfl) rfl
theorem q1357 : (Jvm.Cond.instanceMethod ({ cls := "PaperMill$Grade$1", name := "least", desc := "()I" } : Jvm.MethodName)) ∈ lw_all := lw_g (lw_at lw_m6 46 rfl) rfl
theorem q1358 : (Jvm.Cond.code ({ cls := "PaperMill$Grade$1", name := "least", desc := "()I" } : Jvm.MethodName) prog_6_method_2_code (1 : Nat) (Option.some Jvm.ClassFile.FieldType.int)) ∈ lw_all := lw_g (lw_at lw_m6 47 rfl) rfl
theorem q1738 : (Jvm.Cond.selects "PaperMill$Grade$1" ({ cls := "PaperMill$Grade", name := "price", desc := "(I)I" } : Jvm.MethodName) ({ cls := "PaperMill$Grade$1", name := "price", desc := "(I)I" } : Jvm.MethodName)) ∈ lw_all := lw_g (lw_at lw_m7 187 rfl) rfl
theorem q1739 : (Jvm.Cond.instanceMethod ({ cls := "PaperMill$Grade$1", name := "price", desc := "(I)I" } : Jvm.MethodName)) ∈ lw_all := lw_g (lw_at lw_m7 188 rfl) rfl
theorem q1740 : (Jvm.Cond.code ({ cls := "PaperMill$Grade$1", name := "price", desc := "(I)I" } : Jvm.MethodName) prog_6_method_3_code (2 : Nat) (Option.some Jvm.ClassFile.FieldType.int)) ∈ lw_all := lw_g (lw_at lw_m7 189 rfl) rfl
theorem q2717 : (Jvm.Cond.castable "PaperMill$Grade$1" "java/lang/Object") ∈ lw_tbl := lw_at lw_m11 206 rfl
/-! PaperMill$Grade$2 -/
set_option maxRecDepth 100000
def RX18 : String := "PaperMill$Grade$2"
abbrev cX18_least : ByteArray := prog_7_method_2_code
def yX18_least : MethodName := ⟨RX18, "least", "()I"⟩
theorem dX18_least_0 : decode cX18_least 0 = .ok (.bipush 45, 2) := by decide +kernel
theorem dX18_least_2 : decode cX18_least 2 = .ok (.ireturn, 1) := by decide +kernel
abbrev cX18_price : ByteArray := prog_7_method_3_code
def yX18_price : MethodName := ⟨RX18, "price", "(I)I"⟩
theorem dX18_price_0 : decode cX18_price 0 = .ok (.iload_n 1, 1) := by decide +kernel
theorem dX18_price_1 : decode cX18_price 1 = .ok (.ireturn, 1) := by decide +kernel
theorem q341 : (Jvm.Cond.selects "PaperMill$Grade$2" ({ cls := "java/lang/Object", name := "getClass", desc := "()Ljava/lang/Class;" } : Jvm.MethodName) ({ cls := "java/lang/Object", name := "getClass", desc := "()Ljava/lang/Class;" } : Jvm.MethodName)) ∈ lw_all := lw_g (lw_at lw_m1 230 rfl) rfl
theorem q1359 : (Jvm.Cond.selects "PaperMill$Grade$2" ({ cls := "PaperMill$Grade", name := "least", desc := "()I" } : Jvm.MethodName) ({ cls := "PaperMill$Grade$2", name := "least", desc := "()I" } : Jvm.MethodName)) ∈ lw_all := lw_g (lw_at lw_m6 48 rfl) rfl
theorem q1360 : (Jvm.Cond.instanceMethod ({ cls := "PaperMill$Grade$2", name := "least", desc := "()I" } : Jvm.MethodName)) ∈ lw_all := lw_g (lw_at lw_m6 49 rfl) rfl
theorem q1361 : (Jvm.Cond.code ({ cls := "PaperMill$Grade$2", name := "least", desc := "()I" } : Jvm.MethodName) prog_7_method_2_code (1 : Nat) (Option.some Jvm.ClassFile.FieldType.int)) ∈ lw_all := lw_g (lw_at lw_m6 50 rfl) rfl
theorem q1741 : (Jvm.Cond.selects "PaperMill$Grade$2" ({ cls := "PaperMill$Grade", name := "price", desc := "(I)I" } : Jvm.MethodName) ({ cls := "PaperMill$Grade$2", name := "price", desc := "(I)I" } : Jvm.MethodName)) ∈ lw_all := lw_g (lw_at lw_m7 190 rfl) rfl
theorem q1742 : (Jvm.Cond.instanceMethod ({ cls := "PaperMill$Grade$2", name := "price", desc := "(I)I" } : Jvm.MethodName)) ∈ lw_all := lw_g (lw_at lw_m7 191 rfl) rfl
theorem q1743 : (Jvm.Cond.code ({ cls := "PaperMill$Grade$2", name := "price", desc := "(I)I" } : Jvm.MethodName) prog_7_method_3_code (2 : Nat) (Option.some Jvm.ClassFile.FieldType.int)) ∈ lw_all := lw_g (lw_at lw_m7 192 rfl) rfl
theorem q2718 : (Jvm.Cond.castable "PaperMill$Grade$2" "java/lang/Object") ∈ lw_tbl := lw_at lw_m11 207 rfl
/-! PaperMill$Grade$3 -/
set_option maxRecDepth 100000
def RX19 : String := "PaperMill$Grade$3"
abbrev cX19_least : ByteArray := prog_8_method_2_code
def yX19_least : MethodName := ⟨RX19, "least", "()I"⟩
theorem dX19_least_0 : decode cX19_least 0 = .ok (.bipush 30, 2) := by decide +kernel
theorem dX19_least_2 : decode cX19_least 2 = .ok (.ireturn, 1) := by decide +kernel
abbrev cX19_price : ByteArray := prog_8_method_3_code
def yX19_price : MethodName := ⟨RX19, "price", "(I)I"⟩
def dkwX19_price_0 : List UInt8 := [27, 5, 108, 172]
abbrev dktX19_price_0 : List UInt8 := dkwX19_price_0 ++ []
theorem dksX19_price_0 : cX19_price.data.toList.drop 0 = dktX19_price_0 := by decide +kernel
theorem dX19_price_0 : decode cX19_price 0 = .ok (.iload_n 1, 1) := dk_27 (dk_at dksX19_price_0 0 rfl rfl)
theorem dX19_price_1 : decode cX19_price 1 = .ok (.iconst 2, 1) := dk_5 (dk_at dksX19_price_0 1 rfl rfl)
theorem dX19_price_2 : decode cX19_price 2 = .ok (.idiv, 1) := dk_108 (dk_at dksX19_price_0 2 rfl rfl)
theorem dX19_price_3 : decode cX19_price 3 = .ok (.ireturn, 1) := dk_172 (dk_at dksX19_price_0 3 rfl rfl)
theorem q342 : (Jvm.Cond.selects "PaperMill$Grade$3" ({ cls := "java/lang/Object", name := "getClass", desc := "()Ljava/lang/Class;" } : Jvm.MethodName) ({ cls := "java/lang/Object", name := "getClass", desc := "()Ljava/lang/Class;" } : Jvm.MethodName)) ∈ lw_all := lw_g (lw_at lw_m1 231 rfl) rfl
theorem q1362 : (Jvm.Cond.selects "PaperMill$Grade$3" ({ cls := "PaperMill$Grade", name := "least", desc := "()I" } : Jvm.MethodName) ({ cls := "PaperMill$Grade$3", name := "least", desc := "()I" } : Jvm.MethodName)) ∈ lw_all := lw_g (lw_at lw_m6 51 rfl) rfl
theorem q1363 : (Jvm.Cond.instanceMethod ({ cls := "PaperMill$Grade$3", name := "least", desc := "()I" } : Jvm.MethodName)) ∈ lw_all := lw_g (lw_at lw_m6 52 rfl) rfl
theorem q1364 : (Jvm.Cond.code ({ cls := "PaperMill$Grade$3", name := "least", desc := "()I" } : Jvm.MethodName) prog_8_method_2_code (1 : Nat) (Option.some Jvm.ClassFile.FieldType.int)) ∈ lw_all := lw_g (lw_at lw_m6 53 rfl) rfl
theorem q1744 : (Jvm.Cond.selects "PaperMill$Grade$3" ({ cls := "PaperMill$Grade", name := "price", desc := "(I)I" } : Jvm.MethodName) ({ cls := "PaperMill$Grade$3", name := "price", desc := "(I)I" } : Jvm.MethodName)) ∈ lw_all := lw_g (lw_at lw_m7 193 rfl) rfl
theorem q1745 : (Jvm.Cond.instanceMethod ({ cls := "PaperMill$Grade$3", name := "price", desc := "(I)I" } : Jvm.MethodName)) ∈ lw_all := lw_g (lw_at lw_m7 194 rfl) rfl
theorem q1746 : (Jvm.Cond.code ({ cls := "PaperMill$Grade$3", name := "price", desc := "(I)I" } : Jvm.MethodName) prog_8_method_3_code (2 : Nat) (Option.some Jvm.ClassFile.FieldType.int)) ∈ lw_all := lw_g (lw_at lw_m7 195 rfl) rfl
theorem q2719 : (Jvm.Cond.castable "PaperMill$Grade$3" "java/lang/Object") ∈ lw_tbl := lw_at lw_m11 208 rfl
/-! PaperMill$Size$1 -/
set_option maxRecDepth 100000
def RX20 : String := "PaperMill$Size$1"
abbrev cX20_units : ByteArray := prog_16_method_2_code
def yX20_units : MethodName := ⟨RX20, "units", "()I"⟩
theorem dX20_units_0 : decode cX20_units 0 = .ok (.iconst 1, 1) := by decide +kernel
theorem dX20_units_1 : decode cX20_units 1 = .ok (.ireturn, 1) := by decide +kernel
abbrev cX20_price : ByteArray := prog_16_method_3_code
def yX20_price : MethodName := ⟨RX20, "price", "()I"⟩
theorem dX20_price_0 : decode cX20_price 0 = .ok (.bipush 90, 2) := by decide +kernel
theorem dX20_price_2 : decode cX20_price 2 = .ok (.ireturn, 1) := by decide +kernel
theorem q347 : (Jvm.Cond.selects "PaperMill$Size$1" ({ cls := "java/lang/Object", name := "getClass", desc := "()Ljava/lang/Class;" } : Jvm.MethodName) ({ cls := "java/lang/Object", name := "getClass", desc := "()Ljava/lang/Class;" } : Jvm.MethodName)) ∈ lw_all := lw_g (lw_at lw_m1 236 rfl) rfl
theorem q572 : (Jvm.Cond.selects "PaperMill$Size$1" ({ cls := "PaperMill$Size", name := "units", desc := "()I" } : Jvm.MethodName) ({ cls := "PaperMill$Size$1", name := "units", desc := "()I" } : Jvm.MethodName)) ∈ lw_all := lw_g (lw_at lw_m2 221 rfl) rfl
theorem q573 : (Jvm.Cond.instanceMethod ({ cls := "PaperMill$Size$1", name := "units", desc := "()I" } : Jvm.MethodName)) ∈ lw_all := lw_g (lw_at lw_m2 222 rfl) rfl
theorem q574 : (Jvm.Cond.code ({ cls := "PaperMill$Size$1", name := "units", desc := "()I" } : Jvm.MethodName) prog_16_method_2_code (1 : Nat) (Option.some Jvm.ClassFile.FieldType.int)) ∈ lw_all := lw_g (lw_at lw_m2 223 rfl) rfl
theorem q1726 : (Jvm.Cond.selects "PaperMill$Size$1" ({ cls := "PaperMill$Size", name := "price", desc := "()I" } : Jvm.MethodName) ({ cls := "PaperMill$Size$1", name := "price", desc := "()I" } : Jvm.MethodName)) ∈ lw_all := lw_g (lw_at lw_m7 175 rfl) rfl
theorem q1727 : (Jvm.Cond.instanceMethod ({ cls := "PaperMill$Size$1", name := "price", desc := "()I" } : Jvm.MethodName)) ∈ lw_all := lw_g (lw_at lw_m7 176 rfl) rfl
theorem q1728 : (Jvm.Cond.code ({ cls := "PaperMill$Size$1", name := "price", desc := "()I" } : Jvm.MethodName) prog_16_method_3_code (1 : Nat) (Option.some Jvm.ClassFile.FieldType.int)) ∈ lw_all := lw_g (lw_at lw_m7 177 rfl) rfl
theorem q2704 : (Jvm.Cond.castable "PaperMill$Size$1" "java/lang/Object") ∈ lw_tbl := lw_at lw_m11 193 rfl
/-! PaperMill$Size$2 -/
set_option maxRecDepth 100000
def RX21 : String := "PaperMill$Size$2"
abbrev cX21_units : ByteArray := prog_17_method_2_code
def yX21_units : MethodName := ⟨RX21, "units", "()I"⟩
theorem dX21_units_0 : decode cX21_units 0 = .ok (.iconst 2, 1) := by decide +kernel
theorem dX21_units_1 : decode cX21_units 1 = .ok (.ireturn, 1) := by decide +kernel
abbrev cX21_price : ByteArray := prog_17_method_3_code
def yX21_price : MethodName := ⟨RX21, "price", "()I"⟩
theorem dX21_price_0 : decode cX21_price 0 = .ok (.sipush 150, 3) := by decide +kernel
theorem dX21_price_3 : decode cX21_price 3 = .ok (.ireturn, 1) := by decide +kernel
theorem q348 : (Jvm.Cond.selects "PaperMill$Size$2" ({ cls := "java/lang/Object", name := "getClass", desc := "()Ljava/lang/Class;" } : Jvm.MethodName) ({ cls := "java/lang/Object", name := "getClass", desc := "()Ljava/lang/Class;" } : Jvm.MethodName)) ∈ lw_all := lw_g (lw_at lw_m1 237 rfl) rfl
theorem q575 : (Jvm.Cond.selects "PaperMill$Size$2" ({ cls := "PaperMill$Size", name := "units", desc := "()I" } : Jvm.MethodName) ({ cls := "PaperMill$Size$2", name := "units", desc := "()I" } : Jvm.MethodName)) ∈ lw_all := lw_g (lw_at lw_m2 224 rfl) rfl
theorem q576 : (Jvm.Cond.instanceMethod ({ cls := "PaperMill$Size$2", name := "units", desc := "()I" } : Jvm.MethodName)) ∈ lw_all := lw_g (lw_at lw_m2 225 rfl) rfl
theorem q577 : (Jvm.Cond.code ({ cls := "PaperMill$Size$2", name := "units", desc := "()I" } : Jvm.MethodName) prog_17_method_2_code (1 : Nat) (Option.some Jvm.ClassFile.FieldType.int)) ∈ lw_all := lw_g (lw_at lw_m2 226 rfl) rfl
theorem q1729 : (Jvm.Cond.selects "PaperMill$Size$2" ({ cls := "PaperMill$Size", name := "price", desc := "()I" } : Jvm.MethodName) ({ cls := "PaperMill$Size$2", name := "price", desc := "()I" } : Jvm.MethodName)) ∈ lw_all := lw_g (lw_at lw_m7 178 rfl) rfl
theorem q1730 : (Jvm.Cond.instanceMethod ({ cls := "PaperMill$Size$2", name := "price", desc := "()I" } : Jvm.MethodName)) ∈ lw_all := lw_g (lw_at lw_m7 179 rfl) rfl
theorem q1731 : (Jvm.Cond.code ({ cls := "PaperMill$Size$2", name := "price", desc := "()I" } : Jvm.MethodName) prog_17_method_3_code (1 : Nat) (Option.some Jvm.ClassFile.FieldType.int)) ∈ lw_all := lw_g (lw_at lw_m7 180 rfl) rfl
theorem q2705 : (Jvm.Cond.castable "PaperMill$Size$2" "java/lang/Object") ∈ lw_tbl := lw_at lw_m11 194 rfl
/-! PaperMill$Size$3 -/
set_option maxRecDepth 100000
def RX22 : String := "PaperMill$Size$3"
abbrev cX22_units : ByteArray := prog_18_method_2_code
def yX22_units : MethodName := ⟨RX22, "units", "()I"⟩
theorem dX22_units_0 : decode cX22_units 0 = .ok (.iconst 4, 1) := by decide +kernel
theorem dX22_units_1 : decode cX22_units 1 = .ok (.ireturn, 1) := by decide +kernel
abbrev cX22_price : ByteArray := prog_18_method_3_code
def yX22_price : MethodName := ⟨RX22, "price", "()I"⟩
theorem dX22_price_0 : decode cX22_price 0 = .ok (.sipush 260, 3) := by decide +kernel
theorem dX22_price_3 : decode cX22_price 3 = .ok (.ireturn, 1) := by decide +kernel
theorem q349 : (Jvm.Cond.selects "PaperMill$Size$3" ({ cls := "java/lang/Object", name := "getClass", desc := "()Ljava/lang/Class;" } : Jvm.MethodName) ({ cls := "java/lang/Object", name := "getClass", desc := "()Ljava/lang/Class;" } : Jvm.MethodName)) ∈ lw_all := lw_g (lw_at lw_m1 238 rfl) rfl
theorem q578 : (Jvm.Cond.selects "PaperMill$Size$3" ({ cls := "PaperMill$Size", name := "units", desc := "()I" } : Jvm.MethodName) ({ cls := "PaperMill$Size$3", name := "units", desc := "()I" } : Jvm.MethodName)) ∈ lw_all := lw_g (lw_at lw_m2 227 rfl) rfl
theorem q579 : (Jvm.Cond.instanceMethod ({ cls := "PaperMill$Size$3", name := "units", desc := "()I" } : Jvm.MethodName)) ∈ lw_all := lw_g (lw_at lw_m2 228 rfl) rfl
theorem q580 : (Jvm.Cond.code ({ cls := "PaperMill$Size$3", name := "units", desc := "()I" } : Jvm.MethodName) prog_18_method_2_code (1 : Nat) (Option.some Jvm.ClassFile.FieldType.int)) ∈ lw_all := lw_g (lw_at lw_m2 229 rfl) rfl
theorem q1732 : (Jvm.Cond.selects "PaperMill$Size$3" ({ cls := "PaperMill$Size", name := "price", desc := "()I" } : Jvm.MethodName) ({ cls := "PaperMill$Size$3", name := "price", desc := "()I" } : Jvm.MethodName)) ∈ lw_all := lw_g (lw_at lw_m7 181 rfl) rfl
theorem q1733 : (Jvm.Cond.instanceMethod ({ cls := "PaperMill$Size$3", name := "price", desc := "()I" } : Jvm.MethodName)) ∈ lw_all := lw_g (lw_at lw_m7 182 rfl) rfl
theorem q1734 : (Jvm.Cond.code ({ cls := "PaperMill$Size$3", name := "price", desc := "()I" } : Jvm.MethodName) prog_18_method_3_code (1 : Nat) (Option.some Jvm.ClassFile.FieldType.int)) ∈ lw_all := lw_g (lw_at lw_m7 183 rfl) rfl
theorem q2706 : (Jvm.Cond.castable "PaperMill$Size$3" "java/lang/Object") ∈ lw_tbl := lw_at lw_m11 195 rfl
