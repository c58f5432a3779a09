theorem q1643 : (Jvm.Cond.interfaceMethod "AnnealingLehr$Reason" "AnnealingLehr$Reason" "holds" "()Z") ∈ lw_tbl := lw_at lw_m7 101 rfl
set_option maxRecDepth 100000
theorem q1644 : (Jvm.Cond.declares ({ cls := "AnnealingLehr$Reason", name := "holds", desc := "()Z" } : Jvm.MethodName)) ∈ lw_tbl := lw_at lw_m7 102 rfl
theorem q4427 : (Jvm.Cond.castable "AnnealingLehr$Reason" "java/lang/Object") ∈ lw_tbl := lw_at lw_m19 5 rfl
theorem q2721 : (Jvm.Cond.interfaceMethod "AnnealingLehr$Ware" "AnnealingLehr$Ware" "wall" "()I") ∈ lw_tbl := lw_at lw_m11 219 rfl
set_option maxRecDepth 100000
theorem q2722 : (Jvm.Cond.declares ({ cls := "AnnealingLehr$Ware", name := "wall", desc := "()I" } : Jvm.MethodName)) ∈ lw_tbl := lw_at lw_m11 220 rfl
theorem q3785 : (Jvm.Cond.interfaceMethod "AnnealingLehr$Work" "AnnealingLehr$Work" "doIt" "(LAnnealingLehr$State;)Z") ∈ lw_tbl := lw_at lw_m16 83 rfl
set_option maxRecDepth 100000
theorem q3786 : (Jvm.Cond.declares ({ cls := "AnnealingLehr$Work", name := "doIt", desc := "(LAnnealingLehr$State;)Z" } : Jvm.MethodName)) ∈ lw_tbl := lw_at lw_m16 84 rfl
theorem q4426 : (Jvm.Cond.castable "AnnealingLehr$Work" "java/lang/Object") ∈ lw_tbl := lw_at lw_m19 4 rfl
theorem q4479 : (Jvm.Cond.castable "[LAnnealingLehr$Piece;" "java/lang/Object") ∈ lw_tbl := lw_at lw_m19 57 rfl
set_option maxRecDepth 100000
theorem q4486 : (Jvm.Cond.castable "[LAnnealingLehr$Reason;" "java/lang/Object") ∈ lw_tbl := lw_at lw_m19 64 rfl
set_option maxRecDepth 100000
theorem q4485 : (Jvm.Cond.castable "[LAnnealingLehr$Work;" "java/lang/Object") ∈ lw_tbl := lw_at lw_m19 63 rfl
set_option maxRecDepth 100000
set_option maxRecDepth 100000
abbrev cX1_init : ByteArray := prog_1_method_3_code
def yX1_init : MethodName := ⟨RX1, "<init>", "()V"⟩
def dkwX1_init_1 : List UInt8 := [181, 0, 31, 42, 187, 0, 35, 89, 183, 0, 37, 181, 0, 38, 177]
abbrev dktX1_init_1 : List UInt8 := dkwX1_init_1 ++ []
def dkwX1_init_0 : List UInt8 := [42, 183, 0, 13, 42, 187, 0, 19, 89, 183, 0, 21, 181, 0, 22, 42, 187, 0, 28, 89, 183, 0, 30]
abbrev dktX1_init_0 : List UInt8 := dkwX1_init_0 ++ dktX1_init_1
theorem dksX1_init_0 : cX1_init.data.toList.drop 0 = dktX1_init_0 := by decide +kernel
theorem dksX1_init_1 : cX1_init.data.toList.drop 23 = dktX1_init_1 := dk_seg dksX1_init_0 23 rfl rfl
theorem dX1_init_0 : decode cX1_init 0 = .ok (.aload_n 0, 1) := dk_42 (dk_at dksX1_init_0 0 rfl rfl)
theorem dX1_init_1 : decode cX1_init 1 = .ok (.invokespecial 13, 3) := dk_183 0 13 (dk_at dksX1_init_0 1 rfl rfl)
theorem dX1_init_4 : decode cX1_init 4 = .ok (.aload_n 0, 1) := dk_42 (dk_at dksX1_init_0 4 rfl rfl)
theorem dX1_init_5 : decode cX1_init 5 = .ok (.new 19, 3) := dk_187 0 19 (dk_at dksX1_init_0 5 rfl rfl)
theorem dX1_init_8 : decode cX1_init 8 = .ok (.dup, 1) := dk_89 (dk_at dksX1_init_0 8 rfl rfl)
theorem dX1_init_9 : decode cX1_init 9 = .ok (.invokespecial 21, 3) := dk_183 0 21 (dk_at dksX1_init_0 9 rfl rfl)
theorem dX1_init_12 : decode cX1_init 12 = .ok (.putfield 22, 3) := dk_181 0 22 (dk_at dksX1_init_0 12 rfl rfl)
theorem dX1_init_15 : decode cX1_init 15 = .ok (.aload_n 0, 1) := dk_42 (dk_at dksX1_init_0 15 rfl rfl)
theorem dX1_init_16 : decode cX1_init 16 = .ok (.new 28, 3) := dk_187 0 28 (dk_at dksX1_init_0 16 rfl rfl)
theorem dX1_init_19 : decode cX1_init 19 = .ok (.dup, 1) := dk_89 (dk_at dksX1_init_0 19 rfl rfl)
theorem dX1_init_20 : decode cX1_init 20 = .ok (.invokespecial 30, 3) := dk_183 0 30 (dk_at dksX1_init_0 20 rfl rfl)
theorem dX1_init_23 : decode cX1_init 23 = .ok (.putfield 31, 3) := dk_181 0 31 (dk_at dksX1_init_1 0 rfl rfl)
theorem dX1_init_26 : decode cX1_init 26 = .ok (.aload_n 0, 1) := dk_42 (dk_at dksX1_init_1 3 rfl rfl)
theorem dX1_init_27 : decode cX1_init 27 = .ok (.new 35, 3) := dk_187 0 35 (dk_at dksX1_init_1 4 rfl rfl)
theorem dX1_init_30 : decode cX1_init 30 = .ok (.dup, 1) := dk_89 (dk_at dksX1_init_1 7 rfl rfl)
theorem dX1_init_31 : decode cX1_init 31 = .ok (.invokespecial 37, 3) := dk_183 0 37 (dk_at dksX1_init_1 8 rfl rfl)
theorem dX1_init_34 : decode cX1_init 34 = .ok (.putfield 38, 3) := dk_181 0 38 (dk_at dksX1_init_1 11 rfl rfl)
theorem dX1_init_37 : decode cX1_init 37 = .ok (.return_, 1) := dk_177 (dk_at dksX1_init_1 14 rfl rfl)
abbrev cX1_time : ByteArray := prog_1_method_21_code
def yX1_time : MethodName := ⟨RX1, "time", "()I"⟩
def dkwX1_time_0 : List UInt8 := [42, 180, 0, 22, 180, 0, 191, 172]
abbrev dktX1_time_0 : List UInt8 := dkwX1_time_0 ++ []
theorem dksX1_time_0 : cX1_time.data.toList.drop 0 = dktX1_time_0 := by decide +kernel
theorem dX1_time_0 : decode cX1_time 0 = .ok (.aload_n 0, 1) := dk_42 (dk_at dksX1_time_0 0 rfl rfl)
theorem dX1_time_1 : decode cX1_time 1 = .ok (.getfield 22, 3) := dk_180 0 22 (dk_at dksX1_time_0 1 rfl rfl)
theorem dX1_time_4 : decode cX1_time 4 = .ok (.getfield 191, 3) := dk_180 0 191 (dk_at dksX1_time_0 4 rfl rfl)
theorem dX1_time_7 : decode cX1_time 7 = .ok (.ireturn, 1) := dk_172 (dk_at dksX1_time_0 7 rfl rfl)
abbrev cX1_gasByZones : ByteArray := prog_1_method_27_code
def yX1_gasByZones : MethodName := ⟨RX1, "gasByZones", "()I"⟩
def dkwX1_gasByZones_1 : List UInt8 := [132, 2, 1, 167, 255, 235, 27, 172]
abbrev dktX1_gasByZones_1 : List UInt8 := dkwX1_gasByZones_1 ++ []
def dkwX1_gasByZones_0 : List UInt8 := [3, 60, 3, 61, 28, 16, 8, 162, 0, 21, 27, 42, 180, 0, 22, 180, 0, 200, 28, 46, 96, 60]
abbrev dktX1_gasByZones_0 : List UInt8 := dkwX1_gasByZones_0 ++ dktX1_gasByZones_1
theorem dksX1_gasByZones_0 : cX1_gasByZones.data.toList.drop 0 = dktX1_gasByZones_0 := by decide +kernel
theorem dksX1_gasByZones_1 : cX1_gasByZones.data.toList.drop 22 = dktX1_gasByZones_1 := dk_seg dksX1_gasByZones_0 22 rfl rfl
theorem dX1_gasByZones_0 : decode cX1_gasByZones 0 = .ok (.iconst 0, 1) := dk_3 (dk_at dksX1_gasByZones_0 0 rfl rfl)
theorem dX1_gasByZones_1 : decode cX1_gasByZones 1 = .ok (.istore_n 1, 1) := dk_60 (dk_at dksX1_gasByZones_0 1 rfl rfl)
theorem dX1_gasByZones_2 : decode cX1_gasByZones 2 = .ok (.iconst 0, 1) := dk_3 (dk_at dksX1_gasByZones_0 2 rfl rfl)
theorem dX1_gasByZones_3 : decode cX1_gasByZones 3 = .ok (.istore_n 2, 1) := dk_61 (dk_at dksX1_gasByZones_0 3 rfl rfl)
theorem dX1_gasByZones_4 : decode cX1_gasByZones 4 = .ok (.iload_n 2, 1) := dk_28 (dk_at dksX1_gasByZones_0 4 rfl rfl)
theorem dX1_gasByZones_5 : decode cX1_gasByZones 5 = .ok (.bipush 8, 2) := dk_16 8 (dk_at dksX1_gasByZones_0 5 rfl rfl)
theorem dX1_gasByZones_7 : decode cX1_gasByZones 7 = .ok (.if_icmp .ge 21, 3) := dk_162 0 21 (dk_at dksX1_gasByZones_0 7 rfl rfl)
theorem dX1_gasByZones_10 : decode cX1_gasByZones 10 = .ok (.iload_n 1, 1) := dk_27 (dk_at dksX1_gasByZones_0 10 rfl rfl)
theorem dX1_gasByZones_11 : decode cX1_gasByZones 11 = .ok (.aload_n 0, 1) := dk_42 (dk_at dksX1_gasByZones_0 11 rfl rfl)
theorem dX1_gasByZones_12 : decode cX1_gasByZones 12 = .ok (.getfield 22, 3) := dk_180 0 22 (dk_at dksX1_gasByZones_0 12 rfl rfl)
theorem dX1_gasByZones_15 : decode cX1_gasByZones 15 = .ok (.getfield 200, 3) := dk_180 0 200 (dk_at dksX1_gasByZones_0 15 rfl rfl)
theorem dX1_gasByZones_18 : decode cX1_gasByZones 18 = .ok (.iload_n 2, 1) := dk_28 (dk_at dksX1_gasByZones_0 18 rfl rfl)
theorem dX1_gasByZones_19 : decode cX1_gasByZones 19 = .ok (.iaload, 1) := dk_46 (dk_at dksX1_gasByZones_0 19 rfl rfl)
theorem dX1_gasByZones_20 : decode cX1_gasByZones 20 = .ok (.iadd, 1) := dk_96 (dk_at dksX1_gasByZones_0 20 rfl rfl)
theorem dX1_gasByZones_21 : decode cX1_gasByZones 21 = .ok (.istore_n 1, 1) := dk_60 (dk_at dksX1_gasByZones_0 21 rfl rfl)
theorem dX1_gasByZones_22 : decode cX1_gasByZones 22 = .ok (.iinc 2 1, 3) := dk_132 2 1 (dk_at dksX1_gasByZones_1 0 rfl rfl)
theorem dX1_gasByZones_25 : decode cX1_gasByZones 25 = .ok (.goto (-21), 3) := dk_167 255 235 (dk_at dksX1_gasByZones_1 3 rfl rfl)
theorem dX1_gasByZones_28 : decode cX1_gasByZones 28 = .ok (.iload_n 1, 1) := dk_27 (dk_at dksX1_gasByZones_1 6 rfl rfl)
theorem dX1_gasByZones_29 : decode cX1_gasByZones 29 = .ok (.ireturn, 1) := dk_172 (dk_at dksX1_gasByZones_1 7 rfl rfl)
abbrev cX1_gasByMinutes : ByteArray := prog_1_method_28_code
def yX1_gasByMinutes : MethodName := ⟨RX1, "gasByMinutes", "()I"⟩
def dkwX1_gasByMinutes_0 : List UInt8 := [42, 180, 0, 22, 180, 0, 203, 172]
abbrev dktX1_gasByMinutes_0 : List UInt8 := dkwX1_gasByMinutes_0 ++ []
theorem dksX1_gasByMinutes_0 : cX1_gasByMinutes.data.toList.drop 0 = dktX1_gasByMinutes_0 := by decide +kernel
theorem dX1_gasByMinutes_0 : decode cX1_gasByMinutes 0 = .ok (.aload_n 0, 1) := dk_42 (dk_at dksX1_gasByMinutes_0 0 rfl rfl)
theorem dX1_gasByMinutes_1 : decode cX1_gasByMinutes 1 = .ok (.getfield 22, 3) := dk_180 0 22 (dk_at dksX1_gasByMinutes_0 1 rfl rfl)
theorem dX1_gasByMinutes_4 : decode cX1_gasByMinutes 4 = .ok (.getfield 203, 3) := dk_180 0 203 (dk_at dksX1_gasByMinutes_0 4 rfl rfl)
theorem dX1_gasByMinutes_7 : decode cX1_gasByMinutes 7 = .ok (.ireturn, 1) := dk_172 (dk_at dksX1_gasByMinutes_0 7 rfl rfl)
abbrev cX1_plans : ByteArray := prog_1_method_29_code
def yX1_plans : MethodName := ⟨RX1, "plans", "()I"⟩
def dkwX1_plans_0 : List UInt8 := [42, 180, 0, 22, 180, 0, 206, 185, 0, 210, 1, 0, 172]
abbrev dktX1_plans_0 : List UInt8 := dkwX1_plans_0 ++ []
theorem dksX1_plans_0 : cX1_plans.data.toList.drop 0 = dktX1_plans_0 := by decide +kernel
theorem dX1_plans_0 : decode cX1_plans 0 = .ok (.aload_n 0, 1) := dk_42 (dk_at dksX1_plans_0 0 rfl rfl)
theorem dX1_plans_1 : decode cX1_plans 1 = .ok (.getfield 22, 3) := dk_180 0 22 (dk_at dksX1_plans_0 1 rfl rfl)
theorem dX1_plans_4 : decode cX1_plans 4 = .ok (.getfield 206, 3) := dk_180 0 206 (dk_at dksX1_plans_0 4 rfl rfl)
theorem dX1_plans_7 : decode cX1_plans 7 = .ok (.invokeinterface 210 1, 5) := by decide +kernel
theorem dX1_plans_12 : decode cX1_plans 12 = .ok (.ireturn, 1) := dk_172 (dk_at dksX1_plans_0 12 rfl rfl)
abbrev cX1_lots : ByteArray := prog_1_method_43_code
def yX1_lots : MethodName := ⟨RX1, "lots", "()I"⟩
def dkwX1_lots_0 : List UInt8 := [42, 180, 0, 22, 180, 0, 67, 185, 0, 71, 1, 0, 172]
abbrev dktX1_lots_0 : List UInt8 := dkwX1_lots_0 ++ []
theorem dksX1_lots_0 : cX1_lots.data.toList.drop 0 = dktX1_lots_0 := by decide +kernel
theorem dX1_lots_0 : decode cX1_lots 0 = .ok (.aload_n 0, 1) := dk_42 (dk_at dksX1_lots_0 0 rfl rfl)
theorem dX1_lots_1 : decode cX1_lots 1 = .ok (.getfield 22, 3) := dk_180 0 22 (dk_at dksX1_lots_0 1 rfl rfl)
theorem dX1_lots_4 : decode cX1_lots 4 = .ok (.getfield 67, 3) := dk_180 0 67 (dk_at dksX1_lots_0 4 rfl rfl)
theorem dX1_lots_7 : decode cX1_lots 7 = .ok (.invokeinterface 71 1, 5) := by decide +kernel
theorem dX1_lots_12 : decode cX1_lots 12 = .ok (.ireturn, 1) := dk_172 (dk_at dksX1_lots_0 12 rfl rfl)
abbrev cX1_orders : ByteArray := prog_1_method_51_code
def yX1_orders : MethodName := ⟨RX1, "orders", "()I"⟩
def dkwX1_orders_0 : List UInt8 := [42, 180, 0, 22, 180, 0, 169, 185, 0, 71, 1, 0, 172]
abbrev dktX1_orders_0 : List UInt8 := dkwX1_orders_0 ++ []
theorem dksX1_orders_0 : cX1_orders.data.toList.drop 0 = dktX1_orders_0 := by decide +kernel
theorem dX1_orders_0 : decode cX1_orders 0 = .ok (.aload_n 0, 1) := dk_42 (dk_at dksX1_orders_0 0 rfl rfl)
theorem dX1_orders_1 : decode cX1_orders 1 = .ok (.getfield 22, 3) := dk_180 0 22 (dk_at dksX1_orders_0 1 rfl rfl)
theorem dX1_orders_4 : decode cX1_orders 4 = .ok (.getfield 169, 3) := dk_180 0 169 (dk_at dksX1_orders_0 4 rfl rfl)
theorem dX1_orders_7 : decode cX1_orders 7 = .ok (.invokeinterface 71 1, 5) := by decide +kernel
theorem dX1_orders_12 : decode cX1_orders 12 = .ok (.ireturn, 1) := dk_172 (dk_at dksX1_orders_0 12 rfl rfl)
abbrev cX1_incomeByOrders : ByteArray := prog_1_method_54_code
def yX1_incomeByOrders : MethodName := ⟨RX1, "incomeByOrders", "()I"⟩
def dkwX1_incomeByOrders_2 : List UInt8 := [167, 255, 215, 27, 172]
abbrev dktX1_incomeByOrders_2 : List UInt8 := dkwX1_incomeByOrders_2 ++ []
def dkwX1_incomeByOrders_1 : List UInt8 := [180, 0, 22, 180, 0, 169, 28, 185, 0, 78, 2, 0, 192, 0, 160, 180, 1, 45, 96, 60, 132, 2, 1]
abbrev dktX1_incomeByOrders_1 : List UInt8 := dkwX1_incomeByOrders_1 ++ dktX1_incomeByOrders_2
def dkwX1_incomeByOrders_0 : List UInt8 := [3, 60, 3, 61, 28, 42, 180, 0, 22, 180, 0, 169, 185, 0, 71, 1, 0, 162, 0, 31, 27, 42]
abbrev dktX1_incomeByOrders_0 : List UInt8 := dkwX1_incomeByOrders_0 ++ dktX1_incomeByOrders_1
theorem dksX1_incomeByOrders_0 : cX1_incomeByOrders.data.toList.drop 0 = dktX1_incomeByOrders_0 := by decide +kernel
theorem dksX1_incomeByOrders_1 : cX1_incomeByOrders.data.toList.drop 22 = dktX1_incomeByOrders_1 := dk_seg dksX1_incomeByOrders_0 22 rfl rfl
theorem dksX1_incomeByOrders_2 : cX1_incomeByOrders.data.toList.drop 45 = dktX1_incomeByOrders_2 := dk_seg dksX1_incomeByOrders_1 23 rfl rfl
theorem dX1_incomeByOrders_0 : decode cX1_incomeByOrders 0 = .ok (.iconst 0, 1) := dk_3 (dk_at dksX1_incomeByOrders_0 0 rfl rfl)
theorem dX1_incomeByOrders_1 : decode cX1_incomeByOrders 1 = .ok (.istore_n 1, 1) := dk_60 (dk_at dksX1_incomeByOrders_0 1 rfl rfl)
theorem dX1_incomeByOrders_2 : decode cX1_incomeByOrders 2 = .ok (.iconst 0, 1) := dk_3 (dk_at dksX1_incomeByOrders_0 2 rfl rfl)
theorem dX1_incomeByOrders_3 : decode cX1_incomeByOrders 3 = .ok (.istore_n 2, 1) := dk_61 (dk_at dksX1_incomeByOrders_0 3 rfl rfl)
theorem dX1_incomeByOrders_4 : decode cX1_incomeByOrders 4 = .ok (.iload_n 2, 1) := dk_28 (dk_at dksX1_incomeByOrders_0 4 rfl rfl)
theorem dX1_incomeByOrders_5 : decode cX1_incomeByOrders 5 = .ok (.aload_n 0, 1) := dk_42 (dk_at dksX1_incomeByOrders_0 5 rfl rfl)
theorem dX1_incomeByOrders_6 : decode cX1_incomeByOrders 6 = .ok (.getfield 22, 3) := dk_180 0 22 (dk_at dksX1_incomeByOrders_0 6 rfl rfl)
theorem dX1_incomeByOrders_9 : decode cX1_incomeByOrders 9 = .ok (.getfield 169, 3) := dk_180 0 169 (dk_at dksX1_incomeByOrders_0 9 rfl rfl)
theorem dX1_incomeByOrders_12 : decode cX1_incomeByOrders 12 = .ok (.invokeinterface 71 1, 5) := by decide +kernel
theorem dX1_incomeByOrders_17 : decode cX1_incomeByOrders 17 = .ok (.if_icmp .ge 31, 3) := dk_162 0 31 (dk_at dksX1_incomeByOrders_0 17 rfl rfl)
theorem dX1_incomeByOrders_20 : decode cX1_incomeByOrders 20 = .ok (.iload_n 1, 1) := dk_27 (dk_at dksX1_incomeByOrders_0 20 rfl rfl)
theorem dX1_incomeByOrders_21 : decode cX1_incomeByOrders 21 = .ok (.aload_n 0, 1) := dk_42 (dk_at dksX1_incomeByOrders_0 21 rfl rfl)
theorem dX1_incomeByOrders_22 : decode cX1_incomeByOrders 22 = .ok (.getfield 22, 3) := dk_180 0 22 (dk_at dksX1_incomeByOrders_1 0 rfl rfl)
theorem dX1_incomeByOrders_25 : decode cX1_incomeByOrders 25 = .ok (.getfield 169, 3) := dk_180 0 169 (dk_at dksX1_incomeByOrders_1 3 rfl rfl)
theorem dX1_incomeByOrders_28 : decode cX1_incomeByOrders 28 = .ok (.iload_n 2, 1) := dk_28 (dk_at dksX1_incomeByOrders_1 6 rfl rfl)
theorem dX1_incomeByOrders_29 : decode cX1_incomeByOrders 29 = .ok (.invokeinterface 78 2, 5) := by decide +kernel
theorem dX1_incomeByOrders_34 : decode cX1_incomeByOrders 34 = .ok (.checkcast 160, 3) := dk_192 0 160 (dk_at dksX1_incomeByOrders_1 12 rfl rfl)
theorem dX1_incomeByOrders_37 : decode cX1_incomeByOrders 37 = .ok (.getfield 301, 3) := dk_180 1 45 (dk_at dksX1_incomeByOrders_1 15 rfl rfl)
theorem dX1_incomeByOrders_40 : decode cX1_incomeByOrders 40 = .ok (.iadd, 1) := dk_96 (dk_at dksX1_incomeByOrders_1 18 rfl rfl)
theorem dX1_incomeByOrders_41 : decode cX1_incomeByOrders 41 = .ok (.istore_n 1, 1) := dk_60 (dk_at dksX1_incomeByOrders_1 19 rfl rfl)
theorem dX1_incomeByOrders_42 : decode cX1_incomeByOrders 42 = .ok (.iinc 2 1, 3) := dk_132 2 1 (dk_at dksX1_incomeByOrders_1 20 rfl rfl)
theorem dX1_incomeByOrders_45 : decode cX1_incomeByOrders 45 = .ok (.goto (-41), 3) := dk_167 255 215 (dk_at dksX1_incomeByOrders_2 0 rfl rfl)
theorem dX1_incomeByOrders_48 : decode cX1_incomeByOrders 48 = .ok (.iload_n 1, 1) := dk_27 (dk_at dksX1_incomeByOrders_2 3 rfl rfl)
theorem dX1_incomeByOrders_49 : decode cX1_incomeByOrders 49 = .ok (.ireturn, 1) := dk_172 (dk_at dksX1_incomeByOrders_2 4 rfl rfl)
abbrev cX1_incomeByLots : ByteArray := prog_1_method_55_code
def yX1_incomeByLots : MethodName := ⟨RX1, "incomeByLots", "()I"⟩
def dkwX1_incomeByLots_0 : List UInt8 := [42, 180, 0, 22, 182, 1, 48, 172]
abbrev dktX1_incomeByLots_0 : List UInt8 := dkwX1_incomeByLots_0 ++ []
theorem dksX1_incomeByLots_0 : cX1_incomeByLots.data.toList.drop 0 = dktX1_incomeByLots_0 := by decide +kernel
theorem dX1_incomeByLots_0 : decode cX1_incomeByLots 0 = .ok (.aload_n 0, 1) := dk_42 (dk_at dksX1_incomeByLots_0 0 rfl rfl)
theorem dX1_incomeByLots_1 : decode cX1_incomeByLots 1 = .ok (.getfield 22, 3) := dk_180 0 22 (dk_at dksX1_incomeByLots_0 1 rfl rfl)
theorem dX1_incomeByLots_4 : decode cX1_incomeByLots 4 = .ok (.invokevirtual 304, 3) := dk_182 1 48 (dk_at dksX1_incomeByLots_0 4 rfl rfl)
theorem dX1_incomeByLots_7 : decode cX1_incomeByLots 7 = .ok (.ireturn, 1) := dk_172 (dk_at dksX1_incomeByLots_0 7 rfl rfl)
abbrev cX1_piecesByPlaces : ByteArray := prog_1_method_56_code
def yX1_piecesByPlaces : MethodName := ⟨RX1, "piecesByPlaces", "()I"⟩
def dkwX1_piecesByPlaces_1 : List UInt8 := [167, 0, 4, 4, 96, 60, 132, 2, 1, 167, 255, 227, 27, 172]
abbrev dktX1_piecesByPlaces_1 : List UInt8 := dkwX1_piecesByPlaces_1 ++ []
def dkwX1_piecesByPlaces_0 : List UInt8 := [3, 60, 3, 61, 28, 16, 24, 162, 0, 29, 27, 42, 180, 0, 22, 180, 0, 96, 28, 50, 199, 0, 7, 3]
abbrev dktX1_piecesByPlaces_0 : List UInt8 := dkwX1_piecesByPlaces_0 ++ dktX1_piecesByPlaces_1
theorem dksX1_piecesByPlaces_0 : cX1_piecesByPlaces.data.toList.drop 0 = dktX1_piecesByPlaces_0 := by decide +kernel
theorem dksX1_piecesByPlaces_1 : cX1_piecesByPlaces.data.toList.drop 24 = dktX1_piecesByPlaces_1 := dk_seg dksX1_piecesByPlaces_0 24 rfl rfl
theorem dX1_piecesByPlaces_0 : decode cX1_piecesByPlaces 0 = .ok (.iconst 0, 1) := dk_3 (dk_at dksX1_piecesByPlaces_0 0 rfl rfl)
theorem dX1_piecesByPlaces_1 : decode cX1_piecesByPlaces 1 = .ok (.istore_n 1, 1) := dk_60 (dk_at dksX1_piecesByPlaces_0 1 rfl rfl)
theorem dX1_piecesByPlaces_2 : decode cX1_piecesByPlaces 2 = .ok (.iconst 0, 1) := dk_3 (dk_at dksX1_piecesByPlaces_0 2 rfl rfl)
theorem dX1_piecesByPlaces_3 : decode cX1_piecesByPlaces 3 = .ok (.istore_n 2, 1) := dk_61 (dk_at dksX1_piecesByPlaces_0 3 rfl rfl)
theorem dX1_piecesByPlaces_4 : decode cX1_piecesByPlaces 4 = .ok (.iload_n 2, 1) := dk_28 (dk_at dksX1_piecesByPlaces_0 4 rfl rfl)
theorem dX1_piecesByPlaces_5 : decode cX1_piecesByPlaces 5 = .ok (.bipush 24, 2) := dk_16 24 (dk_at dksX1_piecesByPlaces_0 5 rfl rfl)
theorem dX1_piecesByPlaces_7 : decode cX1_piecesByPlaces 7 = .ok (.if_icmp .ge 29, 3) := dk_162 0 29 (dk_at dksX1_piecesByPlaces_0 7 rfl rfl)
theorem dX1_piecesByPlaces_10 : decode cX1_piecesByPlaces 10 = .ok (.iload_n 1, 1) := dk_27 (dk_at dksX1_piecesByPlaces_0 10 rfl rfl)
theorem dX1_piecesByPlaces_11 : decode cX1_piecesByPlaces 11 = .ok (.aload_n 0, 1) := dk_42 (dk_at dksX1_piecesByPlaces_0 11 rfl rfl)
theorem dX1_piecesByPlaces_12 : decode cX1_piecesByPlaces 12 = .ok (.getfield 22, 3) := dk_180 0 22 (dk_at dksX1_piecesByPlaces_0 12 rfl rfl)
theorem dX1_piecesByPlaces_15 : decode cX1_piecesByPlaces 15 = .ok (.getfield 96, 3) := dk_180 0 96 (dk_at dksX1_piecesByPlaces_0 15 rfl rfl)
theorem dX1_piecesByPlaces_18 : decode cX1_piecesByPlaces 18 = .ok (.iload_n 2, 1) := dk_28 (dk_at dksX1_piecesByPlaces_0 18 rfl rfl)
theorem dX1_piecesByPlaces_19 : decode cX1_piecesByPlaces 19 = .ok (.aaload, 1) := dk_50 (dk_at dksX1_piecesByPlaces_0 19 rfl rfl)
theorem dX1_piecesByPlaces_20 : decode cX1_piecesByPlaces 20 = .ok (.ifnonnull 7, 3) := dk_199 0 7 (dk_at dksX1_piecesByPlaces_0 20 rfl rfl)
theorem dX1_piecesByPlaces_23 : decode cX1_piecesByPlaces 23 = .ok (.iconst 0, 1) := dk_3 (dk_at dksX1_piecesByPlaces_0 23 rfl rfl)
theorem dX1_piecesByPlaces_24 : decode cX1_piecesByPlaces 24 = .ok (.goto 4, 3) := dk_167 0 4 (dk_at dksX1_piecesByPlaces_1 0 rfl rfl)
theorem dX1_piecesByPlaces_27 : decode cX1_piecesByPlaces 27 = .ok (.iconst 1, 1) := dk_4 (dk_at dksX1_piecesByPlaces_1 3 rfl rfl)
theorem dX1_piecesByPlaces_28 : decode cX1_piecesByPlaces 28 = .ok (.iadd, 1) := dk_96 (dk_at dksX1_piecesByPlaces_1 4 rfl rfl)
theorem dX1_piecesByPlaces_29 : decode cX1_piecesByPlaces 29 = .ok (.istore_n 1, 1) := dk_60 (dk_at dksX1_piecesByPlaces_1 5 rfl rfl)
theorem dX1_piecesByPlaces_30 : decode cX1_piecesByPlaces 30 = .ok (.iinc 2 1, 3) := dk_132 2 1 (dk_at dksX1_piecesByPlaces_1 6 rfl rfl)
theorem dX1_piecesByPlaces_33 : decode cX1_piecesByPlaces 33 = .ok (.goto (-29), 3) := dk_167 255 227 (dk_at dksX1_piecesByPlaces_1 9 rfl rfl)
theorem dX1_piecesByPlaces_36 : decode cX1_piecesByPlaces 36 = .ok (.iload_n 1, 1) := dk_27 (dk_at dksX1_piecesByPlaces_1 12 rfl rfl)
theorem dX1_piecesByPlaces_37 : decode cX1_piecesByPlaces 37 = .ok (.ireturn, 1) := dk_172 (dk_at dksX1_piecesByPlaces_1 13 rfl rfl)
abbrev cX1_piecesByLots : ByteArray := prog_1_method_57_code
def yX1_piecesByLots : MethodName := ⟨RX1, "piecesByLots", "()I"⟩
def dkwX1_piecesByLots_0 : List UInt8 := [42, 180, 0, 22, 182, 0, 185, 172]
abbrev dktX1_piecesByLots_0 : List UInt8 := dkwX1_piecesByLots_0 ++ []
theorem dksX1_piecesByLots_0 : cX1_piecesByLots.data.toList.drop 0 = dktX1_piecesByLots_0 := by decide +kernel
theorem dX1_piecesByLots_0 : decode cX1_piecesByLots 0 = .ok (.aload_n 0, 1) := dk_42 (dk_at dksX1_piecesByLots_0 0 rfl rfl)
theorem dX1_piecesByLots_1 : decode cX1_piecesByLots 1 = .ok (.getfield 22, 3) := dk_180 0 22 (dk_at dksX1_piecesByLots_0 1 rfl rfl)
theorem dX1_piecesByLots_4 : decode cX1_piecesByLots 4 = .ok (.invokevirtual 185, 3) := dk_182 0 185 (dk_at dksX1_piecesByLots_0 4 rfl rfl)
theorem dX1_piecesByLots_7 : decode cX1_piecesByLots 7 = .ok (.ireturn, 1) := dk_172 (dk_at dksX1_piecesByLots_0 7 rfl rfl)
abbrev cX1_greatestStress : ByteArray := prog_1_method_59_code
def yX1_greatestStress : MethodName := ⟨RX1, "greatestStress", "()F"⟩
def dkwX1_greatestStress_1 : List UInt8 := [45, 180, 0, 231, 35, 149, 158, 0, 8, 45, 180, 0, 231, 68, 132, 2, 1, 167, 255, 219, 35, 174]
abbrev dktX1_greatestStress_1 : List UInt8 := dkwX1_greatestStress_1 ++ []
def dkwX1_greatestStress_0 : List UInt8 := [11, 68, 3, 61, 28, 16, 24, 162, 0, 37, 42, 180, 0, 22, 180, 0, 96, 28, 50, 78, 45, 198, 0, 17]
abbrev dktX1_greatestStress_0 : List UInt8 := dkwX1_greatestStress_0 ++ dktX1_greatestStress_1
theorem dksX1_greatestStress_0 : cX1_greatestStress.data.toList.drop 0 = dktX1_greatestStress_0 := by decide +kernel
theorem dksX1_greatestStress_1 : cX1_greatestStress.data.toList.drop 24 = dktX1_greatestStress_1 := dk_seg dksX1_greatestStress_0 24 rfl rfl
theorem dX1_greatestStress_0 : decode cX1_greatestStress 0 = .ok (.fconst 0, 1) := dk_11 (dk_at dksX1_greatestStress_0 0 rfl rfl)
theorem dX1_greatestStress_1 : decode cX1_greatestStress 1 = .ok (.fstore_n 1, 1) := dk_68 (dk_at dksX1_greatestStress_0 1 rfl rfl)
theorem dX1_greatestStress_2 : decode cX1_greatestStress 2 = .ok (.iconst 0, 1) := dk_3 (dk_at dksX1_greatestStress_0 2 rfl rfl)
theorem dX1_greatestStress_3 : decode cX1_greatestStress 3 = .ok (.istore_n 2, 1) := dk_61 (dk_at dksX1_greatestStress_0 3 rfl rfl)
theorem dX1_greatestStress_4 : decode cX1_greatestStress 4 = .ok (.iload_n 2, 1) := dk_28 (dk_at dksX1_greatestStress_0 4 rfl rfl)
theorem dX1_greatestStress_5 : decode cX1_greatestStress 5 = .ok (.bipush 24, 2) := dk_16 24 (dk_at dksX1_greatestStress_0 5 rfl rfl)
theorem dX1_greatestStress_7 : decode cX1_greatestStress 7 = .ok (.if_icmp .ge 37, 3) := dk_162 0 37 (dk_at dksX1_greatestStress_0 7 rfl rfl)
theorem dX1_greatestStress_10 : decode cX1_greatestStress 10 = .ok (.aload_n 0, 1) := dk_42 (dk_at dksX1_greatestStress_0 10 rfl rfl)
theorem dX1_greatestStress_11 : decode cX1_greatestStress 11 = .ok (.getfield 22, 3) := dk_180 0 22 (dk_at dksX1_greatestStress_0 11 rfl rfl)
theorem dX1_greatestStress_14 : decode cX1_greatestStress 14 = .ok (.getfield 96, 3) := dk_180 0 96 (dk_at dksX1_greatestStress_0 14 rfl rfl)
theorem dX1_greatestStress_17 : decode cX1_greatestStress 17 = .ok (.iload_n 2, 1) := dk_28 (dk_at dksX1_greatestStress_0 17 rfl rfl)
theorem dX1_greatestStress_18 : decode cX1_greatestStress 18 = .ok (.aaload, 1) := dk_50 (dk_at dksX1_greatestStress_0 18 rfl rfl)
theorem dX1_greatestStress_19 : decode cX1_greatestStress 19 = .ok (.astore_n 3, 1) := dk_78 (dk_at dksX1_greatestStress_0 19 rfl rfl)
theorem dX1_greatestStress_20 : decode cX1_greatestStress 20 = .ok (.aload_n 3, 1) := dk_45 (dk_at dksX1_greatestStress_0 20 rfl rfl)
theorem dX1_greatestStress_21 : decode cX1_greatestStress 21 = .ok (.ifnull 17, 3) := dk_198 0 17 (dk_at dksX1_greatestStress_0 21 rfl rfl)
theorem dX1_greatestStress_24 : decode cX1_greatestStress 24 = .ok (.aload_n 3, 1) := dk_45 (dk_at dksX1_greatestStress_1 0 rfl rfl)
theorem dX1_greatestStress_25 : decode cX1_greatestStress 25 = .ok (.getfield 231, 3) := dk_180 0 231 (dk_at dksX1_greatestStress_1 1 rfl rfl)
theorem dX1_greatestStress_28 : decode cX1_greatestStress 28 = .ok (.fload_n 1, 1) := dk_35 (dk_at dksX1_greatestStress_1 4 rfl rfl)
theorem dX1_greatestStress_29 : decode cX1_greatestStress 29 = .ok (.fcmp .l, 1) := dk_149 (dk_at dksX1_greatestStress_1 5 rfl rfl)
theorem dX1_greatestStress_30 : decode cX1_greatestStress 30 = .ok (.ifCond .le 8, 3) := dk_158 0 8 (dk_at dksX1_greatestStress_1 6 rfl rfl)
theorem dX1_greatestStress_33 : decode cX1_greatestStress 33 = .ok (.aload_n 3, 1) := dk_45 (dk_at dksX1_greatestStress_1 9 rfl rfl)
theorem dX1_greatestStress_34 : decode cX1_greatestStress 34 = .ok (.getfield 231, 3) := dk_180 0 231 (dk_at dksX1_greatestStress_1 10 rfl rfl)
theorem dX1_greatestStress_37 : decode cX1_greatestStress 37 = .ok (.fstore_n 1, 1) := dk_68 (dk_at dksX1_greatestStress_1 13 rfl rfl)
theorem dX1_greatestStress_38 : decode cX1_greatestStress 38 = .ok (.iinc 2 1, 3) := dk_132 2 1 (dk_at dksX1_greatestStress_1 14 rfl rfl)
theorem dX1_greatestStress_41 : decode cX1_greatestStress 41 = .ok (.goto (-37), 3) := dk_167 255 219 (dk_at dksX1_greatestStress_1 17 rfl rfl)
theorem dX1_greatestStress_44 : decode cX1_greatestStress 44 = .ok (.fload_n 1, 1) := dk_35 (dk_at dksX1_greatestStress_1 20 rfl rfl)
theorem dX1_greatestStress_45 : decode cX1_greatestStress 45 = .ok (.freturn, 1) := dk_174 (dk_at dksX1_greatestStress_1 21 rfl rfl)
abbrev cX1_meanStress : ByteArray := prog_1_method_60_code
def yX1_meanStress : MethodName := ⟨RX1, "meanStress", "()D"⟩
def dkwX1_meanStress_2 : List UInt8 := [167, 255, 217, 29, 154, 0, 7, 14, 167, 0, 7, 39, 29, 135, 111, 175]
abbrev dktX1_meanStress_2 : List UInt8 := dkwX1_meanStress_2 ++ []
def dkwX1_meanStress_1 : List UInt8 := [58, 5, 25, 5, 198, 0, 15, 39, 25, 5, 180, 0, 231, 141, 99, 72, 132, 3, 1, 132, 4, 1]
abbrev dktX1_meanStress_1 : List UInt8 := dkwX1_meanStress_1 ++ dktX1_meanStress_2
def dkwX1_meanStress_0 : List UInt8 := [14, 72, 3, 62, 3, 54, 4, 21, 4, 16, 24, 162, 0, 38, 42, 180, 0, 22, 180, 0, 96, 21, 4, 50]
abbrev dktX1_meanStress_0 : List UInt8 := dkwX1_meanStress_0 ++ dktX1_meanStress_1
theorem dksX1_meanStress_0 : cX1_meanStress.data.toList.drop 0 = dktX1_meanStress_0 := by decide +kernel
theorem dksX1_meanStress_1 : cX1_meanStress.data.toList.drop 24 = dktX1_meanStress_1 := dk_seg dksX1_meanStress_0 24 rfl rfl
theorem dksX1_meanStress_2 : cX1_meanStress.data.toList.drop 46 = dktX1_meanStress_2 := dk_seg dksX1_meanStress_1 22 rfl rfl
theorem dX1_meanStress_0 : decode cX1_meanStress 0 = .ok (.dconst 0, 1) := dk_14 (dk_at dksX1_meanStress_0 0 rfl rfl)
theorem dX1_meanStress_1 : decode cX1_meanStress 1 = .ok (.dstore_n 1, 1) := dk_72 (dk_at dksX1_meanStress_0 1 rfl rfl)
theorem dX1_meanStress_2 : decode cX1_meanStress 2 = .ok (.iconst 0, 1) := dk_3 (dk_at dksX1_meanStress_0 2 rfl rfl)
theorem dX1_meanStress_3 : decode cX1_meanStress 3 = .ok (.istore_n 3, 1) := dk_62 (dk_at dksX1_meanStress_0 3 rfl rfl)
theorem dX1_meanStress_4 : decode cX1_meanStress 4 = .ok (.iconst 0, 1) := dk_3 (dk_at dksX1_meanStress_0 4 rfl rfl)
theorem dX1_meanStress_5 : decode cX1_meanStress 5 = .ok (.istore 4, 2) := dk_54 4 (dk_at dksX1_meanStress_0 5 rfl rfl)
theorem dX1_meanStress_7 : decode cX1_meanStress 7 = .ok (.iload 4, 2) := dk_21 4 (dk_at dksX1_meanStress_0 7 rfl rfl)
theorem dX1_meanStress_9 : decode cX1_meanStress 9 = .ok (.bipush 24, 2) := dk_16 24 (dk_at dksX1_meanStress_0 9 rfl rfl)
theorem dX1_meanStress_11 : decode cX1_meanStress 11 = .ok (.if_icmp .ge 38, 3) := dk_162 0 38 (dk_at dksX1_meanStress_0 11 rfl rfl)
theorem dX1_meanStress_14 : decode cX1_meanStress 14 = .ok (.aload_n 0, 1) := dk_42 (dk_at dksX1_meanStress_0 14 rfl rfl)
theorem dX1_meanStress_15 : decode cX1_meanStress 15 = .ok (.getfield 22, 3) := dk_180 0 22 (dk_at dksX1_meanStress_0 15 rfl rfl)
theorem dX1_meanStress_18 : decode cX1_meanStress 18 = .ok (.getfield 96, 3) := dk_180 0 96 (dk_at dksX1_meanStress_0 18 rfl rfl)
theorem dX1_meanStress_21 : decode cX1_meanStress 21 = .ok (.iload 4, 2) := dk_21 4 (dk_at dksX1_meanStress_0 21 rfl rfl)
theorem dX1_meanStress_23 : decode cX1_meanStress 23 = .ok (.aaload, 1) := dk_50 (dk_at dksX1_meanStress_0 23 rfl rfl)
theorem dX1_meanStress_24 : decode cX1_meanStress 24 = .ok (.astore 5, 2) := dk_58 5 (dk_at dksX1_meanStress_1 0 rfl rfl)
theorem dX1_meanStress_26 : decode cX1_meanStress 26 = .ok (.aload 5, 2) := dk_25 5 (dk_at dksX1_meanStress_1 2 rfl rfl)
theorem dX1_meanStress_28 : decode cX1_meanStress 28 = .ok (.ifnull 15, 3) := dk_198 0 15 (dk_at dksX1_meanStress_1 4 rfl rfl)
theorem dX1_meanStress_31 : decode cX1_meanStress 31 = .ok (.dload_n 1, 1) := dk_39 (dk_at dksX1_meanStress_1 7 rfl rfl)
theorem dX1_meanStress_32 : decode cX1_meanStress 32 = .ok (.aload 5, 2) := dk_25 5 (dk_at dksX1_meanStress_1 8 rfl rfl)
theorem dX1_meanStress_34 : decode cX1_meanStress 34 = .ok (.getfield 231, 3) := dk_180 0 231 (dk_at dksX1_meanStress_1 10 rfl rfl)
theorem dX1_meanStress_37 : decode cX1_meanStress 37 = .ok (.f2d, 1) := dk_141 (dk_at dksX1_meanStress_1 13 rfl rfl)
theorem dX1_meanStress_38 : decode cX1_meanStress 38 = .ok (.dadd, 1) := dk_99 (dk_at dksX1_meanStress_1 14 rfl rfl)
theorem dX1_meanStress_39 : decode cX1_meanStress 39 = .ok (.dstore_n 1, 1) := dk_72 (dk_at dksX1_meanStress_1 15 rfl rfl)
theorem dX1_meanStress_40 : decode cX1_meanStress 40 = .ok (.iinc 3 1, 3) := dk_132 3 1 (dk_at dksX1_meanStress_1 16 rfl rfl)
theorem dX1_meanStress_43 : decode cX1_meanStress 43 = .ok (.iinc 4 1, 3) := dk_132 4 1 (dk_at dksX1_meanStress_1 19 rfl rfl)
theorem dX1_meanStress_46 : decode cX1_meanStress 46 = .ok (.goto (-39), 3) := dk_167 255 217 (dk_at dksX1_meanStress_2 0 rfl rfl)
theorem dX1_meanStress_49 : decode cX1_meanStress 49 = .ok (.iload_n 3, 1) := dk_29 (dk_at dksX1_meanStress_2 3 rfl rfl)
theorem dX1_meanStress_50 : decode cX1_meanStress 50 = .ok (.ifCond .ne 7, 3) := dk_154 0 7 (dk_at dksX1_meanStress_2 4 rfl rfl)
theorem dX1_meanStress_53 : decode cX1_meanStress 53 = .ok (.dconst 0, 1) := dk_14 (dk_at dksX1_meanStress_2 7 rfl rfl)
theorem dX1_meanStress_54 : decode cX1_meanStress 54 = .ok (.goto 7, 3) := dk_167 0 7 (dk_at dksX1_meanStress_2 8 rfl rfl)
theorem dX1_meanStress_57 : decode cX1_meanStress 57 = .ok (.dload_n 1, 1) := dk_39 (dk_at dksX1_meanStress_2 11 rfl rfl)
theorem dX1_meanStress_58 : decode cX1_meanStress 58 = .ok (.iload_n 3, 1) := dk_29 (dk_at dksX1_meanStress_2 12 rfl rfl)
theorem dX1_meanStress_59 : decode cX1_meanStress 59 = .ok (.i2d, 1) := dk_135 (dk_at dksX1_meanStress_2 13 rfl rfl)
theorem dX1_meanStress_60 : decode cX1_meanStress 60 = .ok (.ddiv, 1) := dk_111 (dk_at dksX1_meanStress_2 14 rfl rfl)
theorem dX1_meanStress_61 : decode cX1_meanStress 61 = .ok (.dreturn, 1) := dk_175 (dk_at dksX1_meanStress_2 15 rfl rfl)
abbrev cX1_clearText : ByteArray := prog_1_method_68_code
def yX1_clearText : MethodName := ⟨RX1, "clearText", "()I"⟩
def dkwX1_clearText_0 : List UInt8 := [42, 180, 0, 38, 182, 1, 68, 60, 42, 180, 0, 38, 3, 182, 1, 75, 27, 172]
abbrev dktX1_clearText_0 : List UInt8 := dkwX1_clearText_0 ++ []
theorem dksX1_clearText_0 : cX1_clearText.data.toList.drop 0 = dktX1_clearText_0 := by decide +kernel
theorem dX1_clearText_0 : decode cX1_clearText 0 = .ok (.aload_n 0, 1) := dk_42 (dk_at dksX1_clearText_0 0 rfl rfl)
theorem dX1_clearText_1 : decode cX1_clearText 1 = .ok (.getfield 38, 3) := dk_180 0 38 (dk_at dksX1_clearText_0 1 rfl rfl)
theorem dX1_clearText_4 : decode cX1_clearText 4 = .ok (.invokevirtual 324, 3) := dk_182 1 68 (dk_at dksX1_clearText_0 4 rfl rfl)
theorem dX1_clearText_7 : decode cX1_clearText 7 = .ok (.istore_n 1, 1) := dk_60 (dk_at dksX1_clearText_0 7 rfl rfl)
theorem dX1_clearText_8 : decode cX1_clearText 8 = .ok (.aload_n 0, 1) := dk_42 (dk_at dksX1_clearText_0 8 rfl rfl)
theorem dX1_clearText_9 : decode cX1_clearText 9 = .ok (.getfield 38, 3) := dk_180 0 38 (dk_at dksX1_clearText_0 9 rfl rfl)
theorem dX1_clearText_12 : decode cX1_clearText 12 = .ok (.iconst 0, 1) := dk_3 (dk_at dksX1_clearText_0 12 rfl rfl)
theorem dX1_clearText_13 : decode cX1_clearText 13 = .ok (.invokevirtual 331, 3) := dk_182 1 75 (dk_at dksX1_clearText_0 13 rfl rfl)
theorem dX1_clearText_16 : decode cX1_clearText 16 = .ok (.iload_n 1, 1) := dk_27 (dk_at dksX1_clearText_0 16 rfl rfl)
theorem dX1_clearText_17 : decode cX1_clearText 17 = .ok (.ireturn, 1) := dk_172 (dk_at dksX1_clearText_0 17 rfl rfl)
abbrev cX1_errorPosition : ByteArray := prog_1_method_69_code
def yX1_errorPosition : MethodName := ⟨RX1, "errorPosition", "()I"⟩
def dkwX1_errorPosition_0 : List UInt8 := [187, 1, 79, 89, 42, 183, 1, 81, 76, 43, 182, 1, 84, 87, 43, 180, 1, 87, 172]
abbrev dktX1_errorPosition_0 : List UInt8 := dkwX1_errorPosition_0 ++ []
theorem dksX1_errorPosition_0 : cX1_errorPosition.data.toList.drop 0 = dktX1_errorPosition_0 := by decide +kernel
theorem dX1_errorPosition_0 : decode cX1_errorPosition 0 = .ok (.new 335, 3) := dk_187 1 79 (dk_at dksX1_errorPosition_0 0 rfl rfl)
theorem dX1_errorPosition_3 : decode cX1_errorPosition 3 = .ok (.dup, 1) := dk_89 (dk_at dksX1_errorPosition_0 3 rfl rfl)
theorem dX1_errorPosition_4 : decode cX1_errorPosition 4 = .ok (.aload_n 0, 1) := dk_42 (dk_at dksX1_errorPosition_0 4 rfl rfl)
theorem dX1_errorPosition_5 : decode cX1_errorPosition 5 = .ok (.invokespecial 337, 3) := dk_183 1 81 (dk_at dksX1_errorPosition_0 5 rfl rfl)
theorem dX1_errorPosition_8 : decode cX1_errorPosition 8 = .ok (.astore_n 1, 1) := dk_76 (dk_at dksX1_errorPosition_0 8 rfl rfl)
theorem dX1_errorPosition_9 : decode cX1_errorPosition 9 = .ok (.aload_n 1, 1) := dk_43 (dk_at dksX1_errorPosition_0 9 rfl rfl)
theorem dX1_errorPosition_10 : decode cX1_errorPosition 10 = .ok (.invokevirtual 340, 3) := dk_182 1 84 (dk_at dksX1_errorPosition_0 10 rfl rfl)
theorem dX1_errorPosition_13 : decode cX1_errorPosition 13 = .ok (.pop, 1) := dk_87 (dk_at dksX1_errorPosition_0 13 rfl rfl)
theorem dX1_errorPosition_14 : decode cX1_errorPosition 14 = .ok (.aload_n 1, 1) := dk_43 (dk_at dksX1_errorPosition_0 14 rfl rfl)
theorem dX1_errorPosition_15 : decode cX1_errorPosition 15 = .ok (.getfield 343, 3) := dk_180 1 87 (dk_at dksX1_errorPosition_0 15 rfl rfl)
theorem dX1_errorPosition_18 : decode cX1_errorPosition 18 = .ok (.ireturn, 1) := dk_172 (dk_at dksX1_errorPosition_0 18 rfl rfl)
abbrev cX1_first : ByteArray := prog_1_method_2_code
def yX1_first : MethodName := ⟨RX1, "first", "([LAnnealingLehr$Reason;)I"⟩
def dkwX1_first_1 : List UInt8 := [132, 1, 1, 167, 255, 232, 3, 172]
abbrev dktX1_first_1 : List UInt8 := dkwX1_first_1 ++ []
def dkwX1_first_0 : List UInt8 := [3, 60, 27, 42, 190, 162, 0, 24, 42, 27, 50, 185, 0, 7, 1, 0, 153, 0, 7, 27, 4, 96, 172]
abbrev dktX1_first_0 : List UInt8 := dkwX1_first_0 ++ dktX1_first_1
theorem dksX1_first_0 : cX1_first.data.toList.drop 0 = dktX1_first_0 := by decide +kernel
theorem dksX1_first_1 : cX1_first.data.toList.drop 23 = dktX1_first_1 := dk_seg dksX1_first_0 23 rfl rfl
theorem dX1_first_0 : decode cX1_first 0 = .ok (.iconst 0, 1) := dk_3 (dk_at dksX1_first_0 0 rfl rfl)
theorem dX1_first_1 : decode cX1_first 1 = .ok (.istore_n 1, 1) := dk_60 (dk_at dksX1_first_0 1 rfl rfl)
theorem dX1_first_2 : decode cX1_first 2 = .ok (.iload_n 1, 1) := dk_27 (dk_at dksX1_first_0 2 rfl rfl)
theorem dX1_first_3 : decode cX1_first 3 = .ok (.aload_n 0, 1) := dk_42 (dk_at dksX1_first_0 3 rfl rfl)
theorem dX1_first_4 : decode cX1_first 4 = .ok (.arraylength, 1) := dk_190 (dk_at dksX1_first_0 4 rfl rfl)
theorem dX1_first_5 : decode cX1_first 5 = .ok (.if_icmp .ge 24, 3) := dk_162 0 24 (dk_at dksX1_first_0 5 rfl rfl)
theorem dX1_first_8 : decode cX1_first 8 = .ok (.aload_n 0, 1) := dk_42 (dk_at dksX1_first_0 8 rfl rfl)
theorem dX1_first_9 : decode cX1_first 9 = .ok (.iload_n 1, 1) := dk_27 (dk_at dksX1_first_0 9 rfl rfl)
theorem dX1_first_10 : decode cX1_first 10 = .ok (.aaload, 1) := dk_50 (dk_at dksX1_first_0 10 rfl rfl)
theorem dX1_first_11 : decode cX1_first 11 = .ok (.invokeinterface 7 1, 5) := by decide +kernel
theorem dX1_first_16 : decode cX1_first 16 = .ok (.ifCond .eq 7, 3) := dk_153 0 7 (dk_at dksX1_first_0 16 rfl rfl)
theorem dX1_first_19 : decode cX1_first 19 = .ok (.iload_n 1, 1) := dk_27 (dk_at dksX1_first_0 19 rfl rfl)
theorem dX1_first_20 : decode cX1_first 20 = .ok (.iconst 1, 1) := dk_4 (dk_at dksX1_first_0 20 rfl rfl)
theorem dX1_first_21 : decode cX1_first 21 = .ok (.iadd, 1) := dk_96 (dk_at dksX1_first_0 21 rfl rfl)
theorem dX1_first_22 : decode cX1_first 22 = .ok (.ireturn, 1) := dk_172 (dk_at dksX1_first_0 22 rfl rfl)
theorem dX1_first_23 : decode cX1_first 23 = .ok (.iinc 1 1, 3) := dk_132 1 1 (dk_at dksX1_first_1 0 rfl rfl)
theorem dX1_first_26 : decode cX1_first 26 = .ok (.goto (-24), 3) := dk_167 255 232 (dk_at dksX1_first_1 3 rfl rfl)
theorem dX1_first_29 : decode cX1_first 29 = .ok (.iconst 0, 1) := dk_3 (dk_at dksX1_first_1 6 rfl rfl)
theorem dX1_first_30 : decode cX1_first 30 = .ok (.ireturn, 1) := dk_172 (dk_at dksX1_first_1 7 rfl rfl)
abbrev cX1_step : ByteArray := prog_1_method_1_code
def yX1_step : MethodName := ⟨RX1, "step", "(II)I"⟩
def dkwX1_step_0 : List UInt8 := [26, 27, 108, 61, 28, 153, 0, 7, 28, 167, 0, 7, 26, 184, 0, 1, 172]
abbrev dktX1_step_0 : List UInt8 := dkwX1_step_0 ++ []
theorem dksX1_step_0 : cX1_step.data.toList.drop 0 = dktX1_step_0 := by decide +kernel
theorem dX1_step_0 : decode cX1_step 0 = .ok (.iload_n 0, 1) := dk_26 (dk_at dksX1_step_0 0 rfl rfl)
theorem dX1_step_1 : decode cX1_step 1 = .ok (.iload_n 1, 1) := dk_27 (dk_at dksX1_step_0 1 rfl rfl)
theorem dX1_step_2 : decode cX1_step 2 = .ok (.idiv, 1) := dk_108 (dk_at dksX1_step_0 2 rfl rfl)
theorem dX1_step_3 : decode cX1_step 3 = .ok (.istore_n 2, 1) := dk_61 (dk_at dksX1_step_0 3 rfl rfl)
theorem dX1_step_4 : decode cX1_step 4 = .ok (.iload_n 2, 1) := dk_28 (dk_at dksX1_step_0 4 rfl rfl)
theorem dX1_step_5 : decode cX1_step 5 = .ok (.ifCond .eq 7, 3) := dk_153 0 7 (dk_at dksX1_step_0 5 rfl rfl)
theorem dX1_step_8 : decode cX1_step 8 = .ok (.iload_n 2, 1) := dk_28 (dk_at dksX1_step_0 8 rfl rfl)
theorem dX1_step_9 : decode cX1_step 9 = .ok (.goto 7, 3) := dk_167 0 7 (dk_at dksX1_step_0 9 rfl rfl)
theorem dX1_step_12 : decode cX1_step 12 = .ok (.iload_n 0, 1) := dk_26 (dk_at dksX1_step_0 12 rfl rfl)
theorem dX1_step_13 : decode cX1_step 13 = .ok (.invokestatic 1, 3) := dk_184 0 1 (dk_at dksX1_step_0 13 rfl rfl)
theorem dX1_step_16 : decode cX1_step 16 = .ok (.ireturn, 1) := dk_172 (dk_at dksX1_step_0 16 rfl rfl)
abbrev cX1_savedStates : ByteArray := prog_1_method_72_code
def yX1_savedStates : MethodName := ⟨RX1, "savedStates", "()I"⟩
def dkwX1_savedStates_0 : List UInt8 := [42, 180, 0, 31, 182, 0, 42, 172]
abbrev dktX1_savedStates_0 : List UInt8 := dkwX1_savedStates_0 ++ []
theorem dksX1_savedStates_0 : cX1_savedStates.data.toList.drop 0 = dktX1_savedStates_0 := by decide +kernel
theorem dX1_savedStates_0 : decode cX1_savedStates 0 = .ok (.aload_n 0, 1) := dk_42 (dk_at dksX1_savedStates_0 0 rfl rfl)
theorem dX1_savedStates_1 : decode cX1_savedStates 1 = .ok (.getfield 31, 3) := dk_180 0 31 (dk_at dksX1_savedStates_0 1 rfl rfl)
theorem dX1_savedStates_4 : decode cX1_savedStates 4 = .ok (.invokevirtual 42, 3) := dk_182 0 42 (dk_at dksX1_savedStates_0 4 rfl rfl)
theorem dX1_savedStates_7 : decode cX1_savedStates 7 = .ok (.ireturn, 1) := dk_172 (dk_at dksX1_savedStates_0 7 rfl rfl)
abbrev cX1_takeSnapshot : ByteArray := prog_1_method_73_code
def yX1_takeSnapshot : MethodName := ⟨RX1, "takeSnapshot", "()I"⟩
def dkwX1_takeSnapshot_0 : List UInt8 := [42, 42, 180, 0, 22, 182, 0, 50, 181, 1, 98, 42, 180, 0, 22, 180, 0, 191, 172]
abbrev dktX1_takeSnapshot_0 : List UInt8 := dkwX1_takeSnapshot_0 ++ []
theorem dksX1_takeSnapshot_0 : cX1_takeSnapshot.data.toList.drop 0 = dktX1_takeSnapshot_0 := by decide +kernel
theorem dX1_takeSnapshot_0 : decode cX1_takeSnapshot 0 = .ok (.aload_n 0, 1) := dk_42 (dk_at dksX1_takeSnapshot_0 0 rfl rfl)
theorem dX1_takeSnapshot_1 : decode cX1_takeSnapshot 1 = .ok (.aload_n 0, 1) := dk_42 (dk_at dksX1_takeSnapshot_0 1 rfl rfl)
theorem dX1_takeSnapshot_2 : decode cX1_takeSnapshot 2 = .ok (.getfield 22, 3) := dk_180 0 22 (dk_at dksX1_takeSnapshot_0 2 rfl rfl)
theorem dX1_takeSnapshot_5 : decode cX1_takeSnapshot 5 = .ok (.invokevirtual 50, 3) := dk_182 0 50 (dk_at dksX1_takeSnapshot_0 5 rfl rfl)
theorem dX1_takeSnapshot_8 : decode cX1_takeSnapshot 8 = .ok (.putfield 354, 3) := dk_181 1 98 (dk_at dksX1_takeSnapshot_0 8 rfl rfl)
theorem dX1_takeSnapshot_11 : decode cX1_takeSnapshot 11 = .ok (.aload_n 0, 1) := dk_42 (dk_at dksX1_takeSnapshot_0 11 rfl rfl)
theorem dX1_takeSnapshot_12 : decode cX1_takeSnapshot 12 = .ok (.getfield 22, 3) := dk_180 0 22 (dk_at dksX1_takeSnapshot_0 12 rfl rfl)
theorem dX1_takeSnapshot_15 : decode cX1_takeSnapshot 15 = .ok (.getfield 191, 3) := dk_180 0 191 (dk_at dksX1_takeSnapshot_0 15 rfl rfl)
theorem dX1_takeSnapshot_18 : decode cX1_takeSnapshot 18 = .ok (.ireturn, 1) := dk_172 (dk_at dksX1_takeSnapshot_0 18 rfl rfl)
abbrev cX1_setBurner : ByteArray := prog_1_method_11_code
def yX1_setBurner : MethodName := ⟨RX1, "setBurner", "(II)I"⟩
def dkwX1_setBurner_1 : List UInt8 := [46, 62, 42, 180, 0, 22, 27, 28, 182, 0, 115, 87, 29, 172]
abbrev dktX1_setBurner_1 : List UInt8 := dkwX1_setBurner_1 ++ []
def dkwX1_setBurner_0 : List UInt8 := [27, 16, 8, 184, 0, 74, 28, 3, 6, 184, 0, 104, 42, 182, 0, 108, 42, 180, 0, 22, 180, 0, 111, 27]
abbrev dktX1_setBurner_0 : List UInt8 := dkwX1_setBurner_0 ++ dktX1_setBurner_1
theorem dksX1_setBurner_0 : cX1_setBurner.data.toList.drop 0 = dktX1_setBurner_0 := by decide +kernel
theorem dksX1_setBurner_1 : cX1_setBurner.data.toList.drop 24 = dktX1_setBurner_1 := dk_seg dksX1_setBurner_0 24 rfl rfl
theorem dX1_setBurner_0 : decode cX1_setBurner 0 = .ok (.iload_n 1, 1) := dk_27 (dk_at dksX1_setBurner_0 0 rfl rfl)
theorem dX1_setBurner_1 : decode cX1_setBurner 1 = .ok (.bipush 8, 2) := dk_16 8 (dk_at dksX1_setBurner_0 1 rfl rfl)
theorem dX1_setBurner_3 : decode cX1_setBurner 3 = .ok (.invokestatic 74, 3) := dk_184 0 74 (dk_at dksX1_setBurner_0 3 rfl rfl)
theorem dX1_setBurner_6 : decode cX1_setBurner 6 = .ok (.iload_n 2, 1) := dk_28 (dk_at dksX1_setBurner_0 6 rfl rfl)
theorem dX1_setBurner_7 : decode cX1_setBurner 7 = .ok (.iconst 0, 1) := dk_3 (dk_at dksX1_setBurner_0 7 rfl rfl)
theorem dX1_setBurner_8 : decode cX1_setBurner 8 = .ok (.iconst 3, 1) := dk_6 (dk_at dksX1_setBurner_0 8 rfl rfl)
theorem dX1_setBurner_9 : decode cX1_setBurner 9 = .ok (.invokestatic 104, 3) := dk_184 0 104 (dk_at dksX1_setBurner_0 9 rfl rfl)
theorem dX1_setBurner_12 : decode cX1_setBurner 12 = .ok (.aload_n 0, 1) := dk_42 (dk_at dksX1_setBurner_0 12 rfl rfl)
theorem dX1_setBurner_13 : decode cX1_setBurner 13 = .ok (.invokevirtual 108, 3) := dk_182 0 108 (dk_at dksX1_setBurner_0 13 rfl rfl)
theorem dX1_setBurner_16 : decode cX1_setBurner 16 = .ok (.aload_n 0, 1) := dk_42 (dk_at dksX1_setBurner_0 16 rfl rfl)
theorem dX1_setBurner_17 : decode cX1_setBurner 17 = .ok (.getfield 22, 3) := dk_180 0 22 (dk_at dksX1_setBurner_0 17 rfl rfl)
theorem dX1_setBurner_20 : decode cX1_setBurner 20 = .ok (.getfield 111, 3) := dk_180 0 111 (dk_at dksX1_setBurner_0 20 rfl rfl)
theorem dX1_setBurner_23 : decode cX1_setBurner 23 = .ok (.iload_n 1, 1) := dk_27 (dk_at dksX1_setBurner_0 23 rfl rfl)
theorem dX1_setBurner_24 : decode cX1_setBurner 24 = .ok (.iaload, 1) := dk_46 (dk_at dksX1_setBurner_1 0 rfl rfl)
theorem dX1_setBurner_25 : decode cX1_setBurner 25 = .ok (.istore_n 3, 1) := dk_62 (dk_at dksX1_setBurner_1 1 rfl rfl)
theorem dX1_setBurner_26 : decode cX1_setBurner 26 = .ok (.aload_n 0, 1) := dk_42 (dk_at dksX1_setBurner_1 2 rfl rfl)
theorem dX1_setBurner_27 : decode cX1_setBurner 27 = .ok (.getfield 22, 3) := dk_180 0 22 (dk_at dksX1_setBurner_1 3 rfl rfl)
theorem dX1_setBurner_30 : decode cX1_setBurner 30 = .ok (.iload_n 1, 1) := dk_27 (dk_at dksX1_setBurner_1 6 rfl rfl)
theorem dX1_setBurner_31 : decode cX1_setBurner 31 = .ok (.iload_n 2, 1) := dk_28 (dk_at dksX1_setBurner_1 7 rfl rfl)
theorem dX1_setBurner_32 : decode cX1_setBurner 32 = .ok (.invokevirtual 115, 3) := dk_182 0 115 (dk_at dksX1_setBurner_1 8 rfl rfl)
theorem dX1_setBurner_35 : decode cX1_setBurner 35 = .ok (.pop, 1) := dk_87 (dk_at dksX1_setBurner_1 11 rfl rfl)
theorem dX1_setBurner_36 : decode cX1_setBurner 36 = .ok (.iload_n 3, 1) := dk_29 (dk_at dksX1_setBurner_1 12 rfl rfl)
theorem dX1_setBurner_37 : decode cX1_setBurner 37 = .ok (.ireturn, 1) := dk_172 (dk_at dksX1_setBurner_1 13 rfl rfl)
abbrev cX1_checkNumber : ByteArray := prog_1_method_5_code
def yX1_checkNumber : MethodName := ⟨RX1, "checkNumber", "(II)V"⟩
def dkwX1_checkNumber_0 : List UInt8 := [26, 155, 0, 8, 26, 27, 161, 0, 11, 187, 0, 58, 89, 183, 0, 60, 191, 177]
abbrev dktX1_checkNumber_0 : List UInt8 := dkwX1_checkNumber_0 ++ []
theorem dksX1_checkNumber_0 : cX1_checkNumber.data.toList.drop 0 = dktX1_checkNumber_0 := by decide +kernel
theorem dX1_checkNumber_0 : decode cX1_checkNumber 0 = .ok (.iload_n 0, 1) := dk_26 (dk_at dksX1_checkNumber_0 0 rfl rfl)
theorem dX1_checkNumber_1 : decode cX1_checkNumber 1 = .ok (.ifCond .lt 8, 3) := dk_155 0 8 (dk_at dksX1_checkNumber_0 1 rfl rfl)
theorem dX1_checkNumber_4 : decode cX1_checkNumber 4 = .ok (.iload_n 0, 1) := dk_26 (dk_at dksX1_checkNumber_0 4 rfl rfl)
theorem dX1_checkNumber_5 : decode cX1_checkNumber 5 = .ok (.iload_n 1, 1) := dk_27 (dk_at dksX1_checkNumber_0 5 rfl rfl)
theorem dX1_checkNumber_6 : decode cX1_checkNumber 6 = .ok (.if_icmp .lt 11, 3) := dk_161 0 11 (dk_at dksX1_checkNumber_0 6 rfl rfl)
theorem dX1_checkNumber_9 : decode cX1_checkNumber 9 = .ok (.new 58, 3) := dk_187 0 58 (dk_at dksX1_checkNumber_0 9 rfl rfl)
theorem dX1_checkNumber_12 : decode cX1_checkNumber 12 = .ok (.dup, 1) := dk_89 (dk_at dksX1_checkNumber_0 12 rfl rfl)
theorem dX1_checkNumber_13 : decode cX1_checkNumber 13 = .ok (.invokespecial 60, 3) := dk_183 0 60 (dk_at dksX1_checkNumber_0 13 rfl rfl)
theorem dX1_checkNumber_16 : decode cX1_checkNumber 16 = .ok (.athrow, 1) := dk_191 (dk_at dksX1_checkNumber_0 16 rfl rfl)
theorem dX1_checkNumber_17 : decode cX1_checkNumber 17 = .ok (.return_, 1) := dk_177 (dk_at dksX1_checkNumber_0 17 rfl rfl)
abbrev cX1_checkRange : ByteArray := prog_1_method_6_code
def yX1_checkRange : MethodName := ⟨RX1, "checkRange", "(III)V"⟩
def dkwX1_checkRange_0 : List UInt8 := [26, 27, 161, 0, 8, 26, 28, 164, 0, 11, 187, 0, 61, 89, 183, 0, 63, 191, 177]
abbrev dktX1_checkRange_0 : List UInt8 := dkwX1_checkRange_0 ++ []
theorem dksX1_checkRange_0 : cX1_checkRange.data.toList.drop 0 = dktX1_checkRange_0 := by decide +kernel
theorem dX1_checkRange_0 : decode cX1_checkRange 0 = .ok (.iload_n 0, 1) := dk_26 (dk_at dksX1_checkRange_0 0 rfl rfl)
theorem dX1_checkRange_1 : decode cX1_checkRange 1 = .ok (.iload_n 1, 1) := dk_27 (dk_at dksX1_checkRange_0 1 rfl rfl)
theorem dX1_checkRange_2 : decode cX1_checkRange 2 = .ok (.if_icmp .lt 8, 3) := dk_161 0 8 (dk_at dksX1_checkRange_0 2 rfl rfl)
theorem dX1_checkRange_5 : decode cX1_checkRange 5 = .ok (.iload_n 0, 1) := dk_26 (dk_at dksX1_checkRange_0 5 rfl rfl)
theorem dX1_checkRange_6 : decode cX1_checkRange 6 = .ok (.iload_n 2, 1) := dk_28 (dk_at dksX1_checkRange_0 6 rfl rfl)
theorem dX1_checkRange_7 : decode cX1_checkRange 7 = .ok (.if_icmp .le 11, 3) := dk_164 0 11 (dk_at dksX1_checkRange_0 7 rfl rfl)
theorem dX1_checkRange_10 : decode cX1_checkRange 10 = .ok (.new 61, 3) := dk_187 0 61 (dk_at dksX1_checkRange_0 10 rfl rfl)
theorem dX1_checkRange_13 : decode cX1_checkRange 13 = .ok (.dup, 1) := dk_89 (dk_at dksX1_checkRange_0 13 rfl rfl)
theorem dX1_checkRange_14 : decode cX1_checkRange 14 = .ok (.invokespecial 63, 3) := dk_183 0 63 (dk_at dksX1_checkRange_0 14 rfl rfl)
theorem dX1_checkRange_17 : decode cX1_checkRange 17 = .ok (.athrow, 1) := dk_191 (dk_at dksX1_checkRange_0 17 rfl rfl)
theorem dX1_checkRange_18 : decode cX1_checkRange 18 = .ok (.return_, 1) := dk_177 (dk_at dksX1_checkRange_0 18 rfl rfl)
abbrev cX1_save : ByteArray := prog_1_method_4_code
def yX1_save : MethodName := ⟨RX1, "save", "()V"⟩
def dkwX1_save_1 : List UInt8 := [180, 0, 22, 182, 0, 50, 182, 0, 54, 177]
abbrev dktX1_save_1 : List UInt8 := dkwX1_save_1 ++ []
def dkwX1_save_0 : List UInt8 := [42, 180, 0, 31, 182, 0, 42, 8, 160, 0, 11, 42, 180, 0, 31, 182, 0, 46, 87, 42, 180, 0, 31, 42]
abbrev dktX1_save_0 : List UInt8 := dkwX1_save_0 ++ dktX1_save_1
theorem dksX1_save_0 : cX1_save.data.toList.drop 0 = dktX1_save_0 := by decide +kernel
theorem dksX1_save_1 : cX1_save.data.toList.drop 24 = dktX1_save_1 := dk_seg dksX1_save_0 24 rfl rfl
theorem dX1_save_0 : decode cX1_save 0 = .ok (.aload_n 0, 1) := dk_42 (dk_at dksX1_save_0 0 rfl rfl)
theorem dX1_save_1 : decode cX1_save 1 = .ok (.getfield 31, 3) := dk_180 0 31 (dk_at dksX1_save_0 1 rfl rfl)
theorem dX1_save_4 : decode cX1_save 4 = .ok (.invokevirtual 42, 3) := dk_182 0 42 (dk_at dksX1_save_0 4 rfl rfl)
theorem dX1_save_7 : decode cX1_save 7 = .ok (.iconst 5, 1) := dk_8 (dk_at dksX1_save_0 7 rfl rfl)
theorem dX1_save_8 : decode cX1_save 8 = .ok (.if_icmp .ne 11, 3) := dk_160 0 11 (dk_at dksX1_save_0 8 rfl rfl)
theorem dX1_save_11 : decode cX1_save 11 = .ok (.aload_n 0, 1) := dk_42 (dk_at dksX1_save_0 11 rfl rfl)
theorem dX1_save_12 : decode cX1_save 12 = .ok (.getfield 31, 3) := dk_180 0 31 (dk_at dksX1_save_0 12 rfl rfl)
theorem dX1_save_15 : decode cX1_save 15 = .ok (.invokevirtual 46, 3) := dk_182 0 46 (dk_at dksX1_save_0 15 rfl rfl)
theorem dX1_save_18 : decode cX1_save 18 = .ok (.pop, 1) := dk_87 (dk_at dksX1_save_0 18 rfl rfl)
theorem dX1_save_19 : decode cX1_save 19 = .ok (.aload_n 0, 1) := dk_42 (dk_at dksX1_save_0 19 rfl rfl)
theorem dX1_save_20 : decode cX1_save 20 = .ok (.getfield 31, 3) := dk_180 0 31 (dk_at dksX1_save_0 20 rfl rfl)
theorem dX1_save_23 : decode cX1_save 23 = .ok (.aload_n 0, 1) := dk_42 (dk_at dksX1_save_0 23 rfl rfl)
theorem dX1_save_24 : decode cX1_save 24 = .ok (.getfield 22, 3) := dk_180 0 22 (dk_at dksX1_save_1 0 rfl rfl)
theorem dX1_save_27 : decode cX1_save 27 = .ok (.invokevirtual 50, 3) := dk_182 0 50 (dk_at dksX1_save_1 3 rfl rfl)
theorem dX1_save_30 : decode cX1_save 30 = .ok (.invokevirtual 54, 3) := dk_182 0 54 (dk_at dksX1_save_1 6 rfl rfl)
theorem dX1_save_33 : decode cX1_save 33 = .ok (.return_, 1) := dk_177 (dk_at dksX1_save_1 9 rfl rfl)
abbrev cX1_setFan : ByteArray := prog_1_method_12_code
def yX1_setFan : MethodName := ⟨RX1, "setFan", "(II)I"⟩
def dkwX1_setFan_1 : List UInt8 := [46, 62, 42, 180, 0, 22, 27, 28, 182, 0, 122, 87, 29, 172]
abbrev dktX1_setFan_1 : List UInt8 := dkwX1_setFan_1 ++ []
def dkwX1_setFan_0 : List UInt8 := [27, 16, 8, 184, 0, 74, 28, 3, 6, 184, 0, 104, 42, 182, 0, 108, 42, 180, 0, 22, 180, 0, 119, 27]
abbrev dktX1_setFan_0 : List UInt8 := dkwX1_setFan_0 ++ dktX1_setFan_1
theorem dksX1_setFan_0 : cX1_setFan.data.toList.drop 0 = dktX1_setFan_0 := by decide +kernel
theorem dksX1_setFan_1 : cX1_setFan.data.toList.drop 24 = dktX1_setFan_1 := dk_seg dksX1_setFan_0 24 rfl rfl
theorem dX1_setFan_0 : decode cX1_setFan 0 = .ok (.iload_n 1, 1) := dk_27 (dk_at dksX1_setFan_0 0 rfl rfl)
theorem dX1_setFan_1 : decode cX1_setFan 1 = .ok (.bipush 8, 2) := dk_16 8 (dk_at dksX1_setFan_0 1 rfl rfl)
theorem dX1_setFan_3 : decode cX1_setFan 3 = .ok (.invokestatic 74, 3) := dk_184 0 74 (dk_at dksX1_setFan_0 3 rfl rfl)
theorem dX1_setFan_6 : decode cX1_setFan 6 = .ok (.iload_n 2, 1) := dk_28 (dk_at dksX1_setFan_0 6 rfl rfl)
theorem dX1_setFan_7 : decode cX1_setFan 7 = .ok (.iconst 0, 1) := dk_3 (dk_at dksX1_setFan_0 7 rfl rfl)
theorem dX1_setFan_8 : decode cX1_setFan 8 = .ok (.iconst 3, 1) := dk_6 (dk_at dksX1_setFan_0 8 rfl rfl)
theorem dX1_setFan_9 : decode cX1_setFan 9 = .ok (.invokestatic 104, 3) := dk_184 0 104 (dk_at dksX1_setFan_0 9 rfl rfl)
theorem dX1_setFan_12 : decode cX1_setFan 12 = .ok (.aload_n 0, 1) := dk_42 (dk_at dksX1_setFan_0 12 rfl rfl)
theorem dX1_setFan_13 : decode cX1_setFan 13 = .ok (.invokevirtual 108, 3) := dk_182 0 108 (dk_at dksX1_setFan_0 13 rfl rfl)
theorem dX1_setFan_16 : decode cX1_setFan 16 = .ok (.aload_n 0, 1) := dk_42 (dk_at dksX1_setFan_0 16 rfl rfl)
theorem dX1_setFan_17 : decode cX1_setFan 17 = .ok (.getfield 22, 3) := dk_180 0 22 (dk_at dksX1_setFan_0 17 rfl rfl)
theorem dX1_setFan_20 : decode cX1_setFan 20 = .ok (.getfield 119, 3) := dk_180 0 119 (dk_at dksX1_setFan_0 20 rfl rfl)
theorem dX1_setFan_23 : decode cX1_setFan 23 = .ok (.iload_n 1, 1) := dk_27 (dk_at dksX1_setFan_0 23 rfl rfl)
theorem dX1_setFan_24 : decode cX1_setFan 24 = .ok (.iaload, 1) := dk_46 (dk_at dksX1_setFan_1 0 rfl rfl)
theorem dX1_setFan_25 : decode cX1_setFan 25 = .ok (.istore_n 3, 1) := dk_62 (dk_at dksX1_setFan_1 1 rfl rfl)
theorem dX1_setFan_26 : decode cX1_setFan 26 = .ok (.aload_n 0, 1) := dk_42 (dk_at dksX1_setFan_1 2 rfl rfl)
theorem dX1_setFan_27 : decode cX1_setFan 27 = .ok (.getfield 22, 3) := dk_180 0 22 (dk_at dksX1_setFan_1 3 rfl rfl)
theorem dX1_setFan_30 : decode cX1_setFan 30 = .ok (.iload_n 1, 1) := dk_27 (dk_at dksX1_setFan_1 6 rfl rfl)
theorem dX1_setFan_31 : decode cX1_setFan 31 = .ok (.iload_n 2, 1) := dk_28 (dk_at dksX1_setFan_1 7 rfl rfl)
theorem dX1_setFan_32 : decode cX1_setFan 32 = .ok (.invokevirtual 122, 3) := dk_182 0 122 (dk_at dksX1_setFan_1 8 rfl rfl)
theorem dX1_setFan_35 : decode cX1_setFan 35 = .ok (.pop, 1) := dk_87 (dk_at dksX1_setFan_1 11 rfl rfl)
theorem dX1_setFan_36 : decode cX1_setFan 36 = .ok (.iload_n 3, 1) := dk_29 (dk_at dksX1_setFan_1 12 rfl rfl)
theorem dX1_setFan_37 : decode cX1_setFan 37 = .ok (.ireturn, 1) := dk_172 (dk_at dksX1_setFan_1 13 rfl rfl)
abbrev cX1_setRollers : ByteArray := prog_1_method_13_code
def yX1_setRollers : MethodName := ⟨RX1, "setRollers", "(II)I"⟩
def dkwX1_setRollers_1 : List UInt8 := [27, 46, 62, 42, 180, 0, 22, 27, 28, 182, 0, 128, 87, 29, 172]
abbrev dktX1_setRollers_1 : List UInt8 := dkwX1_setRollers_1 ++ []
def dkwX1_setRollers_0 : List UInt8 := [27, 16, 8, 184, 0, 74, 28, 3, 16, 9, 184, 0, 104, 42, 182, 0, 108, 42, 180, 0, 22, 180, 0, 125]
abbrev dktX1_setRollers_0 : List UInt8 := dkwX1_setRollers_0 ++ dktX1_setRollers_1
theorem dksX1_setRollers_0 : cX1_setRollers.data.toList.drop 0 = dktX1_setRollers_0 := by decide +kernel
theorem dksX1_setRollers_1 : cX1_setRollers.data.toList.drop 24 = dktX1_setRollers_1 := dk_seg dksX1_setRollers_0 24 rfl rfl
theorem dX1_setRollers_0 : decode cX1_setRollers 0 = .ok (.iload_n 1, 1) := dk_27 (dk_at dksX1_setRollers_0 0 rfl rfl)
theorem dX1_setRollers_1 : decode cX1_setRollers 1 = .ok (.bipush 8, 2) := dk_16 8 (dk_at dksX1_setRollers_0 1 rfl rfl)
theorem dX1_setRollers_3 : decode cX1_setRollers 3 = .ok (.invokestatic 74, 3) := dk_184 0 74 (dk_at dksX1_setRollers_0 3 rfl rfl)
theorem dX1_setRollers_6 : decode cX1_setRollers 6 = .ok (.iload_n 2, 1) := dk_28 (dk_at dksX1_setRollers_0 6 rfl rfl)
theorem dX1_setRollers_7 : decode cX1_setRollers 7 = .ok (.iconst 0, 1) := dk_3 (dk_at dksX1_setRollers_0 7 rfl rfl)
theorem dX1_setRollers_8 : decode cX1_setRollers 8 = .ok (.bipush 9, 2) := dk_16 9 (dk_at dksX1_setRollers_0 8 rfl rfl)
theorem dX1_setRollers_10 : decode cX1_setRollers 10 = .ok (.invokestatic 104, 3) := dk_184 0 104 (dk_at dksX1_setRollers_0 10 rfl rfl)
theorem dX1_setRollers_13 : decode cX1_setRollers 13 = .ok (.aload_n 0, 1) := dk_42 (dk_at dksX1_setRollers_0 13 rfl rfl)
theorem dX1_setRollers_14 : decode cX1_setRollers 14 = .ok (.invokevirtual 108, 3) := dk_182 0 108 (dk_at dksX1_setRollers_0 14 rfl rfl)
theorem dX1_setRollers_17 : decode cX1_setRollers 17 = .ok (.aload_n 0, 1) := dk_42 (dk_at dksX1_setRollers_0 17 rfl rfl)
theorem dX1_setRollers_18 : decode cX1_setRollers 18 = .ok (.getfield 22, 3) := dk_180 0 22 (dk_at dksX1_setRollers_0 18 rfl rfl)
theorem dX1_setRollers_21 : decode cX1_setRollers 21 = .ok (.getfield 125, 3) := dk_180 0 125 (dk_at dksX1_setRollers_0 21 rfl rfl)
theorem dX1_setRollers_24 : decode cX1_setRollers 24 = .ok (.iload_n 1, 1) := dk_27 (dk_at dksX1_setRollers_1 0 rfl rfl)
theorem dX1_setRollers_25 : decode cX1_setRollers 25 = .ok (.iaload, 1) := dk_46 (dk_at dksX1_setRollers_1 1 rfl rfl)
theorem dX1_setRollers_26 : decode cX1_setRollers 26 = .ok (.istore_n 3, 1) := dk_62 (dk_at dksX1_setRollers_1 2 rfl rfl)
theorem dX1_setRollers_27 : decode cX1_setRollers 27 = .ok (.aload_n 0, 1) := dk_42 (dk_at dksX1_setRollers_1 3 rfl rfl)
theorem dX1_setRollers_28 : decode cX1_setRollers 28 = .ok (.getfield 22, 3) := dk_180 0 22 (dk_at dksX1_setRollers_1 4 rfl rfl)
theorem dX1_setRollers_31 : decode cX1_setRollers 31 = .ok (.iload_n 1, 1) := dk_27 (dk_at dksX1_setRollers_1 7 rfl rfl)
theorem dX1_setRollers_32 : decode cX1_setRollers 32 = .ok (.iload_n 2, 1) := dk_28 (dk_at dksX1_setRollers_1 8 rfl rfl)
theorem dX1_setRollers_33 : decode cX1_setRollers 33 = .ok (.invokevirtual 128, 3) := dk_182 0 128 (dk_at dksX1_setRollers_1 9 rfl rfl)
theorem dX1_setRollers_36 : decode cX1_setRollers 36 = .ok (.pop, 1) := dk_87 (dk_at dksX1_setRollers_1 12 rfl rfl)
theorem dX1_setRollers_37 : decode cX1_setRollers 37 = .ok (.iload_n 3, 1) := dk_29 (dk_at dksX1_setRollers_1 13 rfl rfl)
theorem dX1_setRollers_38 : decode cX1_setRollers 38 = .ok (.ireturn, 1) := dk_172 (dk_at dksX1_setRollers_1 14 rfl rfl)
abbrev cX1_setSupply : ByteArray := prog_1_method_14_code
def yX1_setSupply : MethodName := ⟨RX1, "setSupply", "(I)I"⟩
def dkwX1_setSupply_1 : List UInt8 := [181, 0, 131, 28, 172]
abbrev dktX1_setSupply_1 : List UInt8 := dkwX1_setSupply_1 ++ []
def dkwX1_setSupply_0 : List UInt8 := [27, 3, 16, 99, 184, 0, 104, 42, 182, 0, 108, 42, 180, 0, 22, 180, 0, 131, 61, 42, 180, 0, 22, 27]
abbrev dktX1_setSupply_0 : List UInt8 := dkwX1_setSupply_0 ++ dktX1_setSupply_1
theorem dksX1_setSupply_0 : cX1_setSupply.data.toList.drop 0 = dktX1_setSupply_0 := by decide +kernel
theorem dksX1_setSupply_1 : cX1_setSupply.data.toList.drop 24 = dktX1_setSupply_1 := dk_seg dksX1_setSupply_0 24 rfl rfl
theorem dX1_setSupply_0 : decode cX1_setSupply 0 = .ok (.iload_n 1, 1) := dk_27 (dk_at dksX1_setSupply_0 0 rfl rfl)
theorem dX1_setSupply_1 : decode cX1_setSupply 1 = .ok (.iconst 0, 1) := dk_3 (dk_at dksX1_setSupply_0 1 rfl rfl)
theorem dX1_setSupply_2 : decode cX1_setSupply 2 = .ok (.bipush 99, 2) := dk_16 99 (dk_at dksX1_setSupply_0 2 rfl rfl)
theorem dX1_setSupply_4 : decode cX1_setSupply 4 = .ok (.invokestatic 104, 3) := dk_184 0 104 (dk_at dksX1_setSupply_0 4 rfl rfl)
theorem dX1_setSupply_7 : decode cX1_setSupply 7 = .ok (.aload_n 0, 1) := dk_42 (dk_at dksX1_setSupply_0 7 rfl rfl)
theorem dX1_setSupply_8 : decode cX1_setSupply 8 = .ok (.invokevirtual 108, 3) := dk_182 0 108 (dk_at dksX1_setSupply_0 8 rfl rfl)
theorem dX1_setSupply_11 : decode cX1_setSupply 11 = .ok (.aload_n 0, 1) := dk_42 (dk_at dksX1_setSupply_0 11 rfl rfl)
theorem dX1_setSupply_12 : decode cX1_setSupply 12 = .ok (.getfield 22, 3) := dk_180 0 22 (dk_at dksX1_setSupply_0 12 rfl rfl)
theorem dX1_setSupply_15 : decode cX1_setSupply 15 = .ok (.getfield 131, 3) := dk_180 0 131 (dk_at dksX1_setSupply_0 15 rfl rfl)
theorem dX1_setSupply_18 : decode cX1_setSupply 18 = .ok (.istore_n 2, 1) := dk_61 (dk_at dksX1_setSupply_0 18 rfl rfl)
theorem dX1_setSupply_19 : decode cX1_setSupply 19 = .ok (.aload_n 0, 1) := dk_42 (dk_at dksX1_setSupply_0 19 rfl rfl)
theorem dX1_setSupply_20 : decode cX1_setSupply 20 = .ok (.getfield 22, 3) := dk_180 0 22 (dk_at dksX1_setSupply_0 20 rfl rfl)
theorem dX1_setSupply_23 : decode cX1_setSupply 23 = .ok (.iload_n 1, 1) := dk_27 (dk_at dksX1_setSupply_0 23 rfl rfl)
theorem dX1_setSupply_24 : decode cX1_setSupply 24 = .ok (.putfield 131, 3) := dk_181 0 131 (dk_at dksX1_setSupply_1 0 rfl rfl)
theorem dX1_setSupply_27 : decode cX1_setSupply 27 = .ok (.iload_n 2, 1) := dk_28 (dk_at dksX1_setSupply_1 3 rfl rfl)
theorem dX1_setSupply_28 : decode cX1_setSupply 28 = .ok (.ireturn, 1) := dk_172 (dk_at dksX1_setSupply_1 4 rfl rfl)
abbrev cX1_openLot : ByteArray := prog_1_method_15_code
def yX1_openLot : MethodName := ⟨RX1, "openLot", "(II)I"⟩
def dkwX1_openLot_2 : List UInt8 := [185, 0, 71, 1, 0, 4, 100, 172]
abbrev dktX1_openLot_2 : List UInt8 := dkwX1_openLot_2 ++ []
def dkwX1_openLot_1 : List UInt8 := [182, 0, 108, 42, 180, 0, 22, 27, 28, 182, 0, 137, 87, 42, 180, 0, 22, 180, 0, 67]
abbrev dktX1_openLot_1 : List UInt8 := dkwX1_openLot_1 ++ dktX1_openLot_2
def dkwX1_openLot_0 : List UInt8 := [27, 3, 5, 184, 0, 104, 28, 4, 16, 9, 184, 0, 104, 42, 180, 0, 22, 182, 0, 134, 184, 0, 100, 42]
abbrev dktX1_openLot_0 : List UInt8 := dkwX1_openLot_0 ++ dktX1_openLot_1
theorem dksX1_openLot_0 : cX1_openLot.data.toList.drop 0 = dktX1_openLot_0 := by decide +kernel
theorem dksX1_openLot_1 : cX1_openLot.data.toList.drop 24 = dktX1_openLot_1 := dk_seg dksX1_openLot_0 24 rfl rfl
theorem dksX1_openLot_2 : cX1_openLot.data.toList.drop 44 = dktX1_openLot_2 := dk_seg dksX1_openLot_1 20 rfl rfl
theorem dX1_openLot_0 : decode cX1_openLot 0 = .ok (.iload_n 1, 1) := dk_27 (dk_at dksX1_openLot_0 0 rfl rfl)
theorem dX1_openLot_1 : decode cX1_openLot 1 = .ok (.iconst 0, 1) := dk_3 (dk_at dksX1_openLot_0 1 rfl rfl)
theorem dX1_openLot_2 : decode cX1_openLot 2 = .ok (.iconst 2, 1) := dk_5 (dk_at dksX1_openLot_0 2 rfl rfl)
theorem dX1_openLot_3 : decode cX1_openLot 3 = .ok (.invokestatic 104, 3) := dk_184 0 104 (dk_at dksX1_openLot_0 3 rfl rfl)
theorem dX1_openLot_6 : decode cX1_openLot 6 = .ok (.iload_n 2, 1) := dk_28 (dk_at dksX1_openLot_0 6 rfl rfl)
theorem dX1_openLot_7 : decode cX1_openLot 7 = .ok (.iconst 1, 1) := dk_4 (dk_at dksX1_openLot_0 7 rfl rfl)
theorem dX1_openLot_8 : decode cX1_openLot 8 = .ok (.bipush 9, 2) := dk_16 9 (dk_at dksX1_openLot_0 8 rfl rfl)
theorem dX1_openLot_10 : decode cX1_openLot 10 = .ok (.invokestatic 104, 3) := dk_184 0 104 (dk_at dksX1_openLot_0 10 rfl rfl)
theorem dX1_openLot_13 : decode cX1_openLot 13 = .ok (.aload_n 0, 1) := dk_42 (dk_at dksX1_openLot_0 13 rfl rfl)
theorem dX1_openLot_14 : decode cX1_openLot 14 = .ok (.getfield 22, 3) := dk_180 0 22 (dk_at dksX1_openLot_0 14 rfl rfl)
theorem dX1_openLot_17 : decode cX1_openLot 17 = .ok (.invokevirtual 134, 3) := dk_182 0 134 (dk_at dksX1_openLot_0 17 rfl rfl)
theorem dX1_openLot_20 : decode cX1_openLot 20 = .ok (.invokestatic 100, 3) := dk_184 0 100 (dk_at dksX1_openLot_0 20 rfl rfl)
theorem dX1_openLot_23 : decode cX1_openLot 23 = .ok (.aload_n 0, 1) := dk_42 (dk_at dksX1_openLot_0 23 rfl rfl)
theorem dX1_openLot_24 : decode cX1_openLot 24 = .ok (.invokevirtual 108, 3) := dk_182 0 108 (dk_at dksX1_openLot_1 0 rfl rfl)
theorem dX1_openLot_27 : decode cX1_openLot 27 = .ok (.aload_n 0, 1) := dk_42 (dk_at dksX1_openLot_1 3 rfl rfl)
theorem dX1_openLot_28 : decode cX1_openLot 28 = .ok (.getfield 22, 3) := dk_180 0 22 (dk_at dksX1_openLot_1 4 rfl rfl)
theorem dX1_openLot_31 : decode cX1_openLot 31 = .ok (.iload_n 1, 1) := dk_27 (dk_at dksX1_openLot_1 7 rfl rfl)
theorem dX1_openLot_32 : decode cX1_openLot 32 = .ok (.iload_n 2, 1) := dk_28 (dk_at dksX1_openLot_1 8 rfl rfl)
theorem dX1_openLot_33 : decode cX1_openLot 33 = .ok (.invokevirtual 137, 3) := dk_182 0 137 (dk_at dksX1_openLot_1 9 rfl rfl)
theorem dX1_openLot_36 : decode cX1_openLot 36 = .ok (.pop, 1) := dk_87 (dk_at dksX1_openLot_1 12 rfl rfl)
theorem dX1_openLot_37 : decode cX1_openLot 37 = .ok (.aload_n 0, 1) := dk_42 (dk_at dksX1_openLot_1 13 rfl rfl)
theorem dX1_openLot_38 : decode cX1_openLot 38 = .ok (.getfield 22, 3) := dk_180 0 22 (dk_at dksX1_openLot_1 14 rfl rfl)
theorem dX1_openLot_41 : decode cX1_openLot 41 = .ok (.getfield 67, 3) := dk_180 0 67 (dk_at dksX1_openLot_1 17 rfl rfl)
theorem dX1_openLot_44 : decode cX1_openLot 44 = .ok (.invokeinterface 71 1, 5) := by decide +kernel
theorem dX1_openLot_49 : decode cX1_openLot 49 = .ok (.iconst 1, 1) := dk_4 (dk_at dksX1_openLot_2 5 rfl rfl)
theorem dX1_openLot_50 : decode cX1_openLot 50 = .ok (.isub, 1) := dk_100 (dk_at dksX1_openLot_2 6 rfl rfl)
theorem dX1_openLot_51 : decode cX1_openLot 51 = .ok (.ireturn, 1) := dk_172 (dk_at dksX1_openLot_2 7 rfl rfl)
abbrev cX1_checkState : ByteArray := prog_1_method_7_code
def yX1_checkState : MethodName := ⟨RX1, "checkState", "(Z)V"⟩
def dkwX1_checkState_0 : List UInt8 := [26, 154, 0, 11, 187, 0, 64, 89, 183, 0, 66, 191, 177]
abbrev dktX1_checkState_0 : List UInt8 := dkwX1_checkState_0 ++ []
theorem dksX1_checkState_0 : cX1_checkState.data.toList.drop 0 = dktX1_checkState_0 := by decide +kernel
theorem dX1_checkState_0 : decode cX1_checkState 0 = .ok (.iload_n 0, 1) := dk_26 (dk_at dksX1_checkState_0 0 rfl rfl)
theorem dX1_checkState_1 : decode cX1_checkState 1 = .ok (.ifCond .ne 11, 3) := dk_154 0 11 (dk_at dksX1_checkState_0 1 rfl rfl)
theorem dX1_checkState_4 : decode cX1_checkState 4 = .ok (.new 64, 3) := dk_187 0 64 (dk_at dksX1_checkState_0 4 rfl rfl)
theorem dX1_checkState_7 : decode cX1_checkState 7 = .ok (.dup, 1) := dk_89 (dk_at dksX1_checkState_0 7 rfl rfl)
theorem dX1_checkState_8 : decode cX1_checkState 8 = .ok (.invokespecial 66, 3) := dk_183 0 66 (dk_at dksX1_checkState_0 8 rfl rfl)
theorem dX1_checkState_11 : decode cX1_checkState 11 = .ok (.athrow, 1) := dk_191 (dk_at dksX1_checkState_0 11 rfl rfl)
theorem dX1_checkState_12 : decode cX1_checkState 12 = .ok (.return_, 1) := dk_177 (dk_at dksX1_checkState_0 12 rfl rfl)
abbrev cX1_load : ByteArray := prog_1_method_16_code
def yX1_load : MethodName := ⟨RX1, "load", "(I)I"⟩
def dkwX1_load_2 : List UInt8 := [42, 180, 0, 22, 180, 0, 67, 27, 185, 0, 78, 2, 0, 192, 0, 82, 180, 0, 88, 4, 100, 172]
abbrev dktX1_load_2 : List UInt8 := dkwX1_load_2 ++ []
def dkwX1_load_1 : List UInt8 := [154, 0, 7, 4, 167, 0, 4, 3, 184, 0, 100, 42, 182, 0, 108, 42, 180, 0, 22, 27, 182, 0, 143, 87]
abbrev dktX1_load_1 : List UInt8 := dkwX1_load_1 ++ dktX1_load_2
def dkwX1_load_0 : List UInt8 := [27, 42, 180, 0, 22, 180, 0, 67, 185, 0, 71, 1, 0, 184, 0, 74, 42, 180, 0, 22, 27, 182, 0, 140]
abbrev dktX1_load_0 : List UInt8 := dkwX1_load_0 ++ dktX1_load_1
theorem dksX1_load_0 : cX1_load.data.toList.drop 0 = dktX1_load_0 := by decide +kernel
theorem dksX1_load_1 : cX1_load.data.toList.drop 24 = dktX1_load_1 := dk_seg dksX1_load_0 24 rfl rfl
theorem dksX1_load_2 : cX1_load.data.toList.drop 48 = dktX1_load_2 := dk_seg dksX1_load_1 24 rfl rfl
theorem dX1_load_0 : decode cX1_load 0 = .ok (.iload_n 1, 1) := dk_27 (dk_at dksX1_load_0 0 rfl rfl)
theorem dX1_load_1 : decode cX1_load 1 = .ok (.aload_n 0, 1) := dk_42 (dk_at dksX1_load_0 1 rfl rfl)
theorem dX1_load_2 : decode cX1_load 2 = .ok (.getfield 22, 3) := dk_180 0 22 (dk_at dksX1_load_0 2 rfl rfl)
theorem dX1_load_5 : decode cX1_load 5 = .ok (.getfield 67, 3) := dk_180 0 67 (dk_at dksX1_load_0 5 rfl rfl)
theorem dX1_load_8 : decode cX1_load 8 = .ok (.invokeinterface 71 1, 5) := by decide +kernel
theorem dX1_load_13 : decode cX1_load 13 = .ok (.invokestatic 74, 3) := dk_184 0 74 (dk_at dksX1_load_0 13 rfl rfl)
theorem dX1_load_16 : decode cX1_load 16 = .ok (.aload_n 0, 1) := dk_42 (dk_at dksX1_load_0 16 rfl rfl)
theorem dX1_load_17 : decode cX1_load 17 = .ok (.getfield 22, 3) := dk_180 0 22 (dk_at dksX1_load_0 17 rfl rfl)
theorem dX1_load_20 : decode cX1_load 20 = .ok (.iload_n 1, 1) := dk_27 (dk_at dksX1_load_0 20 rfl rfl)
theorem dX1_load_21 : decode cX1_load 21 = .ok (.invokevirtual 140, 3) := dk_182 0 140 (dk_at dksX1_load_0 21 rfl rfl)
theorem dX1_load_24 : decode cX1_load 24 = .ok (.ifCond .ne 7, 3) := dk_154 0 7 (dk_at dksX1_load_1 0 rfl rfl)
theorem dX1_load_27 : decode cX1_load 27 = .ok (.iconst 1, 1) := dk_4 (dk_at dksX1_load_1 3 rfl rfl)
theorem dX1_load_28 : decode cX1_load 28 = .ok (.goto 4, 3) := dk_167 0 4 (dk_at dksX1_load_1 4 rfl rfl)
theorem dX1_load_31 : decode cX1_load 31 = .ok (.iconst 0, 1) := dk_3 (dk_at dksX1_load_1 7 rfl rfl)
theorem dX1_load_32 : decode cX1_load 32 = .ok (.invokestatic 100, 3) := dk_184 0 100 (dk_at dksX1_load_1 8 rfl rfl)
theorem dX1_load_35 : decode cX1_load 35 = .ok (.aload_n 0, 1) := dk_42 (dk_at dksX1_load_1 11 rfl rfl)
theorem dX1_load_36 : decode cX1_load 36 = .ok (.invokevirtual 108, 3) := dk_182 0 108 (dk_at dksX1_load_1 12 rfl rfl)
theorem dX1_load_39 : decode cX1_load 39 = .ok (.aload_n 0, 1) := dk_42 (dk_at dksX1_load_1 15 rfl rfl)
theorem dX1_load_40 : decode cX1_load 40 = .ok (.getfield 22, 3) := dk_180 0 22 (dk_at dksX1_load_1 16 rfl rfl)
theorem dX1_load_43 : decode cX1_load 43 = .ok (.iload_n 1, 1) := dk_27 (dk_at dksX1_load_1 19 rfl rfl)
theorem dX1_load_44 : decode cX1_load 44 = .ok (.invokevirtual 143, 3) := dk_182 0 143 (dk_at dksX1_load_1 20 rfl rfl)
theorem dX1_load_47 : decode cX1_load 47 = .ok (.pop, 1) := dk_87 (dk_at dksX1_load_1 23 rfl rfl)
theorem dX1_load_48 : decode cX1_load 48 = .ok (.aload_n 0, 1) := dk_42 (dk_at dksX1_load_2 0 rfl rfl)
theorem dX1_load_49 : decode cX1_load 49 = .ok (.getfield 22, 3) := dk_180 0 22 (dk_at dksX1_load_2 1 rfl rfl)
theorem dX1_load_52 : decode cX1_load 52 = .ok (.getfield 67, 3) := dk_180 0 67 (dk_at dksX1_load_2 4 rfl rfl)
theorem dX1_load_55 : decode cX1_load 55 = .ok (.iload_n 1, 1) := dk_27 (dk_at dksX1_load_2 7 rfl rfl)
theorem dX1_load_56 : decode cX1_load 56 = .ok (.invokeinterface 78 2, 5) := by decide +kernel
theorem dX1_load_61 : decode cX1_load 61 = .ok (.checkcast 82, 3) := dk_192 0 82 (dk_at dksX1_load_2 13 rfl rfl)
theorem dX1_load_64 : decode cX1_load 64 = .ok (.getfield 88, 3) := dk_180 0 88 (dk_at dksX1_load_2 16 rfl rfl)
theorem dX1_load_67 : decode cX1_load 67 = .ok (.iconst 1, 1) := dk_4 (dk_at dksX1_load_2 19 rfl rfl)
theorem dX1_load_68 : decode cX1_load 68 = .ok (.isub, 1) := dk_100 (dk_at dksX1_load_2 20 rfl rfl)
theorem dX1_load_69 : decode cX1_load 69 = .ok (.ireturn, 1) := dk_172 (dk_at dksX1_load_2 21 rfl rfl)
abbrev cX1_sendCleaner : ByteArray := prog_1_method_17_code
def yX1_sendCleaner : MethodName := ⟨RX1, "sendCleaner", "(II)I"⟩
def dkwX1_sendCleaner_2 : List UInt8 := [180, 0, 22, 180, 0, 154, 27, 46, 172]
abbrev dktX1_sendCleaner_2 : List UInt8 := dkwX1_sendCleaner_2 ++ []
def dkwX1_sendCleaner_1 : List UInt8 := [167, 0, 4, 3, 184, 0, 100, 42, 182, 0, 108, 42, 180, 0, 22, 27, 28, 182, 0, 151, 87, 42]
abbrev dktX1_sendCleaner_1 : List UInt8 := dkwX1_sendCleaner_1 ++ dktX1_sendCleaner_2
def dkwX1_sendCleaner_0 : List UInt8 := [27, 5, 184, 0, 74, 28, 16, 24, 184, 0, 74, 42, 180, 0, 22, 27, 28, 182, 0, 147, 154, 0, 7, 4]
abbrev dktX1_sendCleaner_0 : List UInt8 := dkwX1_sendCleaner_0 ++ dktX1_sendCleaner_1
theorem dksX1_sendCleaner_0 : cX1_sendCleaner.data.toList.drop 0 = dktX1_sendCleaner_0 := by decide +kernel
theorem dksX1_sendCleaner_1 : cX1_sendCleaner.data.toList.drop 24 = dktX1_sendCleaner_1 := dk_seg dksX1_sendCleaner_0 24 rfl rfl
theorem dksX1_sendCleaner_2 : cX1_sendCleaner.data.toList.drop 46 = dktX1_sendCleaner_2 := dk_seg dksX1_sendCleaner_1 22 rfl rfl
theorem dX1_sendCleaner_0 : decode cX1_sendCleaner 0 = .ok (.iload_n 1, 1) := dk_27 (dk_at dksX1_sendCleaner_0 0 rfl rfl)
theorem dX1_sendCleaner_1 : decode cX1_sendCleaner 1 = .ok (.iconst 2, 1) := dk_5 (dk_at dksX1_sendCleaner_0 1 rfl rfl)
theorem dX1_sendCleaner_2 : decode cX1_sendCleaner 2 = .ok (.invokestatic 74, 3) := dk_184 0 74 (dk_at dksX1_sendCleaner_0 2 rfl rfl)
theorem dX1_sendCleaner_5 : decode cX1_sendCleaner 5 = .ok (.iload_n 2, 1) := dk_28 (dk_at dksX1_sendCleaner_0 5 rfl rfl)
theorem dX1_sendCleaner_6 : decode cX1_sendCleaner 6 = .ok (.bipush 24, 2) := dk_16 24 (dk_at dksX1_sendCleaner_0 6 rfl rfl)
theorem dX1_sendCleaner_8 : decode cX1_sendCleaner 8 = .ok (.invokestatic 74, 3) := dk_184 0 74 (dk_at dksX1_sendCleaner_0 8 rfl rfl)
theorem dX1_sendCleaner_11 : decode cX1_sendCleaner 11 = .ok (.aload_n 0, 1) := dk_42 (dk_at dksX1_sendCleaner_0 11 rfl rfl)
theorem dX1_sendCleaner_12 : decode cX1_sendCleaner 12 = .ok (.getfield 22, 3) := dk_180 0 22 (dk_at dksX1_sendCleaner_0 12 rfl rfl)
theorem dX1_sendCleaner_15 : decode cX1_sendCleaner 15 = .ok (.iload_n 1, 1) := dk_27 (dk_at dksX1_sendCleaner_0 15 rfl rfl)
theorem dX1_sendCleaner_16 : decode cX1_sendCleaner 16 = .ok (.iload_n 2, 1) := dk_28 (dk_at dksX1_sendCleaner_0 16 rfl rfl)
theorem dX1_sendCleaner_17 : decode cX1_sendCleaner 17 = .ok (.invokevirtual 147, 3) := dk_182 0 147 (dk_at dksX1_sendCleaner_0 17 rfl rfl)
theorem dX1_sendCleaner_20 : decode cX1_sendCleaner 20 = .ok (.ifCond .ne 7, 3) := dk_154 0 7 (dk_at dksX1_sendCleaner_0 20 rfl rfl)
theorem dX1_sendCleaner_23 : decode cX1_sendCleaner 23 = .ok (.iconst 1, 1) := dk_4 (dk_at dksX1_sendCleaner_0 23 rfl rfl)
theorem dX1_sendCleaner_24 : decode cX1_sendCleaner 24 = .ok (.goto 4, 3) := dk_167 0 4 (dk_at dksX1_sendCleaner_1 0 rfl rfl)
theorem dX1_sendCleaner_27 : decode cX1_sendCleaner 27 = .ok (.iconst 0, 1) := dk_3 (dk_at dksX1_sendCleaner_1 3 rfl rfl)
theorem dX1_sendCleaner_28 : decode cX1_sendCleaner 28 = .ok (.invokestatic 100, 3) := dk_184 0 100 (dk_at dksX1_sendCleaner_1 4 rfl rfl)
theorem dX1_sendCleaner_31 : decode cX1_sendCleaner 31 = .ok (.aload_n 0, 1) := dk_42 (dk_at dksX1_sendCleaner_1 7 rfl rfl)
theorem dX1_sendCleaner_32 : decode cX1_sendCleaner 32 = .ok (.invokevirtual 108, 3) := dk_182 0 108 (dk_at dksX1_sendCleaner_1 8 rfl rfl)
theorem dX1_sendCleaner_35 : decode cX1_sendCleaner 35 = .ok (.aload_n 0, 1) := dk_42 (dk_at dksX1_sendCleaner_1 11 rfl rfl)
theorem dX1_sendCleaner_36 : decode cX1_sendCleaner 36 = .ok (.getfield 22, 3) := dk_180 0 22 (dk_at dksX1_sendCleaner_1 12 rfl rfl)
theorem dX1_sendCleaner_39 : decode cX1_sendCleaner 39 = .ok (.iload_n 1, 1) := dk_27 (dk_at dksX1_sendCleaner_1 15 rfl rfl)
theorem dX1_sendCleaner_40 : decode cX1_sendCleaner 40 = .ok (.iload_n 2, 1) := dk_28 (dk_at dksX1_sendCleaner_1 16 rfl rfl)
theorem dX1_sendCleaner_41 : decode cX1_sendCleaner 41 = .ok (.invokevirtual 151, 3) := dk_182 0 151 (dk_at dksX1_sendCleaner_1 17 rfl rfl)
theorem dX1_sendCleaner_44 : decode cX1_sendCleaner 44 = .ok (.pop, 1) := dk_87 (dk_at dksX1_sendCleaner_1 20 rfl rfl)
theorem dX1_sendCleaner_45 : decode cX1_sendCleaner 45 = .ok (.aload_n 0, 1) := dk_42 (dk_at dksX1_sendCleaner_1 21 rfl rfl)
theorem dX1_sendCleaner_46 : decode cX1_sendCleaner 46 = .ok (.getfield 22, 3) := dk_180 0 22 (dk_at dksX1_sendCleaner_2 0 rfl rfl)
theorem dX1_sendCleaner_49 : decode cX1_sendCleaner 49 = .ok (.getfield 154, 3) := dk_180 0 154 (dk_at dksX1_sendCleaner_2 3 rfl rfl)
theorem dX1_sendCleaner_52 : decode cX1_sendCleaner 52 = .ok (.iload_n 1, 1) := dk_27 (dk_at dksX1_sendCleaner_2 6 rfl rfl)
theorem dX1_sendCleaner_53 : decode cX1_sendCleaner 53 = .ok (.iaload, 1) := dk_46 (dk_at dksX1_sendCleaner_2 7 rfl rfl)
theorem dX1_sendCleaner_54 : decode cX1_sendCleaner 54 = .ok (.ireturn, 1) := dk_172 (dk_at dksX1_sendCleaner_2 8 rfl rfl)
abbrev cX1_takeOrder : ByteArray := prog_1_method_18_code
def yX1_takeOrder : MethodName := ⟨RX1, "takeOrder", "(IIIII)I"⟩
def dkwX1_takeOrder_3 : List UInt8 := [182, 0, 165, 42, 180, 0, 22, 180, 0, 169, 185, 0, 71, 1, 0, 4, 100, 172]
abbrev dktX1_takeOrder_3 : List UInt8 := dkwX1_takeOrder_3 ++ []
def dkwX1_takeOrder_2 : List UInt8 := [42, 182, 0, 108, 42, 180, 0, 22, 187, 0, 160, 89, 27, 28, 29, 21, 4, 21, 5, 183, 0, 162]
abbrev dktX1_takeOrder_2 : List UInt8 := dkwX1_takeOrder_2 ++ dktX1_takeOrder_3
def dkwX1_takeOrder_1 : List UInt8 := [17, 39, 15, 184, 0, 104, 21, 5, 4, 16, 99, 184, 0, 104, 42, 180, 0, 22, 182, 0, 157, 184, 0, 100]
abbrev dktX1_takeOrder_1 : List UInt8 := dkwX1_takeOrder_1 ++ dktX1_takeOrder_2
def dkwX1_takeOrder_0 : List UInt8 := [27, 3, 5, 184, 0, 104, 28, 4, 16, 9, 184, 0, 104, 29, 4, 16, 20, 184, 0, 104, 21, 4, 4]
abbrev dktX1_takeOrder_0 : List UInt8 := dkwX1_takeOrder_0 ++ dktX1_takeOrder_1
theorem dksX1_takeOrder_0 : cX1_takeOrder.data.toList.drop 0 = dktX1_takeOrder_0 := by decide +kernel
theorem dksX1_takeOrder_1 : cX1_takeOrder.data.toList.drop 23 = dktX1_takeOrder_1 := dk_seg dksX1_takeOrder_0 23 rfl rfl
theorem dksX1_takeOrder_2 : cX1_takeOrder.data.toList.drop 47 = dktX1_takeOrder_2 := dk_seg dksX1_takeOrder_1 24 rfl rfl
theorem dksX1_takeOrder_3 : cX1_takeOrder.data.toList.drop 69 = dktX1_takeOrder_3 := dk_seg dksX1_takeOrder_2 22 rfl rfl
theorem dX1_takeOrder_0 : decode cX1_takeOrder 0 = .ok (.iload_n 1, 1) := dk_27 (dk_at dksX1_takeOrder_0 0 rfl rfl)
theorem dX1_takeOrder_1 : decode cX1_takeOrder 1 = .ok (.iconst 0, 1) := dk_3 (dk_at dksX1_takeOrder_0 1 rfl rfl)
theorem dX1_takeOrder_2 : decode cX1_takeOrder 2 = .ok (.iconst 2, 1) := dk_5 (dk_at dksX1_takeOrder_0 2 rfl rfl)
theorem dX1_takeOrder_3 : decode cX1_takeOrder 3 = .ok (.invokestatic 104, 3) := dk_184 0 104 (dk_at dksX1_takeOrder_0 3 rfl rfl)
theorem dX1_takeOrder_6 : decode cX1_takeOrder 6 = .ok (.iload_n 2, 1) := dk_28 (dk_at dksX1_takeOrder_0 6 rfl rfl)
theorem dX1_takeOrder_7 : decode cX1_takeOrder 7 = .ok (.iconst 1, 1) := dk_4 (dk_at dksX1_takeOrder_0 7 rfl rfl)
theorem dX1_takeOrder_8 : decode cX1_takeOrder 8 = .ok (.bipush 9, 2) := dk_16 9 (dk_at dksX1_takeOrder_0 8 rfl rfl)
theorem dX1_takeOrder_10 : decode cX1_takeOrder 10 = .ok (.invokestatic 104, 3) := dk_184 0 104 (dk_at dksX1_takeOrder_0 10 rfl rfl)
theorem dX1_takeOrder_13 : decode cX1_takeOrder 13 = .ok (.iload_n 3, 1) := dk_29 (dk_at dksX1_takeOrder_0 13 rfl rfl)
theorem dX1_takeOrder_14 : decode cX1_takeOrder 14 = .ok (.iconst 1, 1) := dk_4 (dk_at dksX1_takeOrder_0 14 rfl rfl)
theorem dX1_takeOrder_15 : decode cX1_takeOrder 15 = .ok (.bipush 20, 2) := dk_16 20 (dk_at dksX1_takeOrder_0 15 rfl rfl)
theorem dX1_takeOrder_17 : decode cX1_takeOrder 17 = .ok (.invokestatic 104, 3) := dk_184 0 104 (dk_at dksX1_takeOrder_0 17 rfl rfl)
theorem dX1_takeOrder_20 : decode cX1_takeOrder 20 = .ok (.iload 4, 2) := dk_21 4 (dk_at dksX1_takeOrder_0 20 rfl rfl)
theorem dX1_takeOrder_22 : decode cX1_takeOrder 22 = .ok (.iconst 1, 1) := dk_4 (dk_at dksX1_takeOrder_0 22 rfl rfl)
theorem dX1_takeOrder_23 : decode cX1_takeOrder 23 = .ok (.sipush 9999, 3) := dk_17 39 15 (dk_at dksX1_takeOrder_1 0 rfl rfl)
theorem dX1_takeOrder_26 : decode cX1_takeOrder 26 = .ok (.invokestatic 104, 3) := dk_184 0 104 (dk_at dksX1_takeOrder_1 3 rfl rfl)
theorem dX1_takeOrder_29 : decode cX1_takeOrder 29 = .ok (.iload 5, 2) := dk_21 5 (dk_at dksX1_takeOrder_1 6 rfl rfl)
theorem dX1_takeOrder_31 : decode cX1_takeOrder 31 = .ok (.iconst 1, 1) := dk_4 (dk_at dksX1_takeOrder_1 8 rfl rfl)
theorem dX1_takeOrder_32 : decode cX1_takeOrder 32 = .ok (.bipush 99, 2) := dk_16 99 (dk_at dksX1_takeOrder_1 9 rfl rfl)
theorem dX1_takeOrder_34 : decode cX1_takeOrder 34 = .ok (.invokestatic 104, 3) := dk_184 0 104 (dk_at dksX1_takeOrder_1 11 rfl rfl)
theorem dX1_takeOrder_37 : decode cX1_takeOrder 37 = .ok (.aload_n 0, 1) := dk_42 (dk_at dksX1_takeOrder_1 14 rfl rfl)
theorem dX1_takeOrder_38 : decode cX1_takeOrder 38 = .ok (.getfield 22, 3) := dk_180 0 22 (dk_at dksX1_takeOrder_1 15 rfl rfl)
theorem dX1_takeOrder_41 : decode cX1_takeOrder 41 = .ok (.invokevirtual 157, 3) := dk_182 0 157 (dk_at dksX1_takeOrder_1 18 rfl rfl)
theorem dX1_takeOrder_44 : decode cX1_takeOrder 44 = .ok (.invokestatic 100, 3) := dk_184 0 100 (dk_at dksX1_takeOrder_1 21 rfl rfl)
theorem dX1_takeOrder_47 : decode cX1_takeOrder 47 = .ok (.aload_n 0, 1) := dk_42 (dk_at dksX1_takeOrder_2 0 rfl rfl)
theorem dX1_takeOrder_48 : decode cX1_takeOrder 48 = .ok (.invokevirtual 108, 3) := dk_182 0 108 (dk_at dksX1_takeOrder_2 1 rfl rfl)
theorem dX1_takeOrder_51 : decode cX1_takeOrder 51 = .ok (.aload_n 0, 1) := dk_42 (dk_at dksX1_takeOrder_2 4 rfl rfl)
theorem dX1_takeOrder_52 : decode cX1_takeOrder 52 = .ok (.getfield 22, 3) := dk_180 0 22 (dk_at dksX1_takeOrder_2 5 rfl rfl)
theorem dX1_takeOrder_55 : decode cX1_takeOrder 55 = .ok (.new 160, 3) := dk_187 0 160 (dk_at dksX1_takeOrder_2 8 rfl rfl)
theorem dX1_takeOrder_58 : decode cX1_takeOrder 58 = .ok (.dup, 1) := dk_89 (dk_at dksX1_takeOrder_2 11 rfl rfl)
theorem dX1_takeOrder_59 : decode cX1_takeOrder 59 = .ok (.iload_n 1, 1) := dk_27 (dk_at dksX1_takeOrder_2 12 rfl rfl)
theorem dX1_takeOrder_60 : decode cX1_takeOrder 60 = .ok (.iload_n 2, 1) := dk_28 (dk_at dksX1_takeOrder_2 13 rfl rfl)
theorem dX1_takeOrder_61 : decode cX1_takeOrder 61 = .ok (.iload_n 3, 1) := dk_29 (dk_at dksX1_takeOrder_2 14 rfl rfl)
theorem dX1_takeOrder_62 : decode cX1_takeOrder 62 = .ok (.iload 4, 2) := dk_21 4 (dk_at dksX1_takeOrder_2 15 rfl rfl)
theorem dX1_takeOrder_64 : decode cX1_takeOrder 64 = .ok (.iload 5, 2) := dk_21 5 (dk_at dksX1_takeOrder_2 17 rfl rfl)
theorem dX1_takeOrder_66 : decode cX1_takeOrder 66 = .ok (.invokespecial 162, 3) := dk_183 0 162 (dk_at dksX1_takeOrder_2 19 rfl rfl)
theorem dX1_takeOrder_69 : decode cX1_takeOrder 69 = .ok (.invokevirtual 165, 3) := dk_182 0 165 (dk_at dksX1_takeOrder_3 0 rfl rfl)
theorem dX1_takeOrder_72 : decode cX1_takeOrder 72 = .ok (.aload_n 0, 1) := dk_42 (dk_at dksX1_takeOrder_3 3 rfl rfl)
theorem dX1_takeOrder_73 : decode cX1_takeOrder 73 = .ok (.getfield 22, 3) := dk_180 0 22 (dk_at dksX1_takeOrder_3 4 rfl rfl)
theorem dX1_takeOrder_76 : decode cX1_takeOrder 76 = .ok (.getfield 169, 3) := dk_180 0 169 (dk_at dksX1_takeOrder_3 7 rfl rfl)
theorem dX1_takeOrder_79 : decode cX1_takeOrder 79 = .ok (.invokeinterface 71 1, 5) := by decide +kernel
theorem dX1_takeOrder_84 : decode cX1_takeOrder 84 = .ok (.iconst 1, 1) := dk_4 (dk_at dksX1_takeOrder_3 15 rfl rfl)
theorem dX1_takeOrder_85 : decode cX1_takeOrder 85 = .ok (.isub, 1) := dk_100 (dk_at dksX1_takeOrder_3 16 rfl rfl)
theorem dX1_takeOrder_86 : decode cX1_takeOrder 86 = .ok (.ireturn, 1) := dk_172 (dk_at dksX1_takeOrder_3 17 rfl rfl)
abbrev cX1_plan : ByteArray := prog_1_method_19_code
def yX1_plan : MethodName := ⟨RX1, "plan", "(III)I"⟩
def dkwX1_plan_2 : List UInt8 := [42, 180, 0, 22, 27, 28, 29, 182, 0, 179, 21, 4, 172]
abbrev dktX1_plan_2 : List UInt8 := dkwX1_plan_2 ++ []
def dkwX1_plan_1 : List UInt8 := [27, 28, 29, 182, 0, 172, 184, 0, 100, 42, 182, 0, 108, 42, 180, 0, 22, 27, 28, 182, 0, 176, 54, 4]
abbrev dktX1_plan_1 : List UInt8 := dkwX1_plan_1 ++ dktX1_plan_2
def dkwX1_plan_0 : List UInt8 := [28, 16, 8, 184, 0, 74, 27, 4, 17, 39, 15, 184, 0, 104, 29, 2, 6, 184, 0, 104, 42, 180, 0, 22]
abbrev dktX1_plan_0 : List UInt8 := dkwX1_plan_0 ++ dktX1_plan_1
theorem dksX1_plan_0 : cX1_plan.data.toList.drop 0 = dktX1_plan_0 := by decide +kernel
theorem dksX1_plan_1 : cX1_plan.data.toList.drop 24 = dktX1_plan_1 := dk_seg dksX1_plan_0 24 rfl rfl
theorem dksX1_plan_2 : cX1_plan.data.toList.drop 48 = dktX1_plan_2 := dk_seg dksX1_plan_1 24 rfl rfl
theorem dX1_plan_0 : decode cX1_plan 0 = .ok (.iload_n 2, 1) := dk_28 (dk_at dksX1_plan_0 0 rfl rfl)
theorem dX1_plan_1 : decode cX1_plan 1 = .ok (.bipush 8, 2) := dk_16 8 (dk_at dksX1_plan_0 1 rfl rfl)
theorem dX1_plan_3 : decode cX1_plan 3 = .ok (.invokestatic 74, 3) := dk_184 0 74 (dk_at dksX1_plan_0 3 rfl rfl)
theorem dX1_plan_6 : decode cX1_plan 6 = .ok (.iload_n 1, 1) := dk_27 (dk_at dksX1_plan_0 6 rfl rfl)
theorem dX1_plan_7 : decode cX1_plan 7 = .ok (.iconst 1, 1) := dk_4 (dk_at dksX1_plan_0 7 rfl rfl)
theorem dX1_plan_8 : decode cX1_plan 8 = .ok (.sipush 9999, 3) := dk_17 39 15 (dk_at dksX1_plan_0 8 rfl rfl)
theorem dX1_plan_11 : decode cX1_plan 11 = .ok (.invokestatic 104, 3) := dk_184 0 104 (dk_at dksX1_plan_0 11 rfl rfl)
theorem dX1_plan_14 : decode cX1_plan 14 = .ok (.iload_n 3, 1) := dk_29 (dk_at dksX1_plan_0 14 rfl rfl)
theorem dX1_plan_15 : decode cX1_plan 15 = .ok (.iconst (-1), 1) := dk_2 (dk_at dksX1_plan_0 15 rfl rfl)
theorem dX1_plan_16 : decode cX1_plan 16 = .ok (.iconst 3, 1) := dk_6 (dk_at dksX1_plan_0 16 rfl rfl)
theorem dX1_plan_17 : decode cX1_plan 17 = .ok (.invokestatic 104, 3) := dk_184 0 104 (dk_at dksX1_plan_0 17 rfl rfl)
theorem dX1_plan_20 : decode cX1_plan 20 = .ok (.aload_n 0, 1) := dk_42 (dk_at dksX1_plan_0 20 rfl rfl)
theorem dX1_plan_21 : decode cX1_plan 21 = .ok (.getfield 22, 3) := dk_180 0 22 (dk_at dksX1_plan_0 21 rfl rfl)
theorem dX1_plan_24 : decode cX1_plan 24 = .ok (.iload_n 1, 1) := dk_27 (dk_at dksX1_plan_1 0 rfl rfl)
theorem dX1_plan_25 : decode cX1_plan 25 = .ok (.iload_n 2, 1) := dk_28 (dk_at dksX1_plan_1 1 rfl rfl)
theorem dX1_plan_26 : decode cX1_plan 26 = .ok (.iload_n 3, 1) := dk_29 (dk_at dksX1_plan_1 2 rfl rfl)
theorem dX1_plan_27 : decode cX1_plan 27 = .ok (.invokevirtual 172, 3) := dk_182 0 172 (dk_at dksX1_plan_1 3 rfl rfl)
theorem dX1_plan_30 : decode cX1_plan 30 = .ok (.invokestatic 100, 3) := dk_184 0 100 (dk_at dksX1_plan_1 6 rfl rfl)
theorem dX1_plan_33 : decode cX1_plan 33 = .ok (.aload_n 0, 1) := dk_42 (dk_at dksX1_plan_1 9 rfl rfl)
theorem dX1_plan_34 : decode cX1_plan 34 = .ok (.invokevirtual 108, 3) := dk_182 0 108 (dk_at dksX1_plan_1 10 rfl rfl)
theorem dX1_plan_37 : decode cX1_plan 37 = .ok (.aload_n 0, 1) := dk_42 (dk_at dksX1_plan_1 13 rfl rfl)
theorem dX1_plan_38 : decode cX1_plan 38 = .ok (.getfield 22, 3) := dk_180 0 22 (dk_at dksX1_plan_1 14 rfl rfl)
theorem dX1_plan_41 : decode cX1_plan 41 = .ok (.iload_n 1, 1) := dk_27 (dk_at dksX1_plan_1 17 rfl rfl)
theorem dX1_plan_42 : decode cX1_plan 42 = .ok (.iload_n 2, 1) := dk_28 (dk_at dksX1_plan_1 18 rfl rfl)
theorem dX1_plan_43 : decode cX1_plan 43 = .ok (.invokevirtual 176, 3) := dk_182 0 176 (dk_at dksX1_plan_1 19 rfl rfl)
theorem dX1_plan_46 : decode cX1_plan 46 = .ok (.istore 4, 2) := dk_54 4 (dk_at dksX1_plan_1 22 rfl rfl)
theorem dX1_plan_48 : decode cX1_plan 48 = .ok (.aload_n 0, 1) := dk_42 (dk_at dksX1_plan_2 0 rfl rfl)
theorem dX1_plan_49 : decode cX1_plan 49 = .ok (.getfield 22, 3) := dk_180 0 22 (dk_at dksX1_plan_2 1 rfl rfl)
theorem dX1_plan_52 : decode cX1_plan 52 = .ok (.iload_n 1, 1) := dk_27 (dk_at dksX1_plan_2 4 rfl rfl)
theorem dX1_plan_53 : decode cX1_plan 53 = .ok (.iload_n 2, 1) := dk_28 (dk_at dksX1_plan_2 5 rfl rfl)
theorem dX1_plan_54 : decode cX1_plan 54 = .ok (.iload_n 3, 1) := dk_29 (dk_at dksX1_plan_2 6 rfl rfl)
theorem dX1_plan_55 : decode cX1_plan 55 = .ok (.invokevirtual 179, 3) := dk_182 0 179 (dk_at dksX1_plan_2 7 rfl rfl)
theorem dX1_plan_58 : decode cX1_plan 58 = .ok (.iload 4, 2) := dk_21 4 (dk_at dksX1_plan_2 10 rfl rfl)
theorem dX1_plan_60 : decode cX1_plan 60 = .ok (.ireturn, 1) := dk_172 (dk_at dksX1_plan_2 12 rfl rfl)
abbrev cX1_pass : ByteArray := prog_1_method_20_code
def yX1_pass : MethodName := ⟨RX1, "pass", "(I)I"⟩
def dkwX1_pass_2 : List UInt8 := [100, 172]
abbrev dktX1_pass_2 : List UInt8 := dkwX1_pass_2 ++ []
def dkwX1_pass_1 : List UInt8 := [180, 0, 22, 182, 0, 185, 61, 42, 180, 0, 22, 27, 182, 0, 188, 87, 28, 42, 180, 0, 22, 182, 0, 185]
abbrev dktX1_pass_1 : List UInt8 := dkwX1_pass_1 ++ dktX1_pass_2
def dkwX1_pass_0 : List UInt8 := [27, 4, 16, 60, 184, 0, 104, 42, 180, 0, 22, 27, 182, 0, 182, 184, 0, 100, 42, 182, 0, 108, 42]
abbrev dktX1_pass_0 : List UInt8 := dkwX1_pass_0 ++ dktX1_pass_1
theorem dksX1_pass_0 : cX1_pass.data.toList.drop 0 = dktX1_pass_0 := by decide +kernel
theorem dksX1_pass_1 : cX1_pass.data.toList.drop 23 = dktX1_pass_1 := dk_seg dksX1_pass_0 23 rfl rfl
theorem dksX1_pass_2 : cX1_pass.data.toList.drop 47 = dktX1_pass_2 := dk_seg dksX1_pass_1 24 rfl rfl
theorem dX1_pass_0 : decode cX1_pass 0 = .ok (.iload_n 1, 1) := dk_27 (dk_at dksX1_pass_0 0 rfl rfl)
theorem dX1_pass_1 : decode cX1_pass 1 = .ok (.iconst 1, 1) := dk_4 (dk_at dksX1_pass_0 1 rfl rfl)
theorem dX1_pass_2 : decode cX1_pass 2 = .ok (.bipush 60, 2) := dk_16 60 (dk_at dksX1_pass_0 2 rfl rfl)
theorem dX1_pass_4 : decode cX1_pass 4 = .ok (.invokestatic 104, 3) := dk_184 0 104 (dk_at dksX1_pass_0 4 rfl rfl)
theorem dX1_pass_7 : decode cX1_pass 7 = .ok (.aload_n 0, 1) := dk_42 (dk_at dksX1_pass_0 7 rfl rfl)
theorem dX1_pass_8 : decode cX1_pass 8 = .ok (.getfield 22, 3) := dk_180 0 22 (dk_at dksX1_pass_0 8 rfl rfl)
theorem dX1_pass_11 : decode cX1_pass 11 = .ok (.iload_n 1, 1) := dk_27 (dk_at dksX1_pass_0 11 rfl rfl)
theorem dX1_pass_12 : decode cX1_pass 12 = .ok (.invokevirtual 182, 3) := dk_182 0 182 (dk_at dksX1_pass_0 12 rfl rfl)
theorem dX1_pass_15 : decode cX1_pass 15 = .ok (.invokestatic 100, 3) := dk_184 0 100 (dk_at dksX1_pass_0 15 rfl rfl)
theorem dX1_pass_18 : decode cX1_pass 18 = .ok (.aload_n 0, 1) := dk_42 (dk_at dksX1_pass_0 18 rfl rfl)
theorem dX1_pass_19 : decode cX1_pass 19 = .ok (.invokevirtual 108, 3) := dk_182 0 108 (dk_at dksX1_pass_0 19 rfl rfl)
theorem dX1_pass_22 : decode cX1_pass 22 = .ok (.aload_n 0, 1) := dk_42 (dk_at dksX1_pass_0 22 rfl rfl)
theorem dX1_pass_23 : decode cX1_pass 23 = .ok (.getfield 22, 3) := dk_180 0 22 (dk_at dksX1_pass_1 0 rfl rfl)
theorem dX1_pass_26 : decode cX1_pass 26 = .ok (.invokevirtual 185, 3) := dk_182 0 185 (dk_at dksX1_pass_1 3 rfl rfl)
theorem dX1_pass_29 : decode cX1_pass 29 = .ok (.istore_n 2, 1) := dk_61 (dk_at dksX1_pass_1 6 rfl rfl)
theorem dX1_pass_30 : decode cX1_pass 30 = .ok (.aload_n 0, 1) := dk_42 (dk_at dksX1_pass_1 7 rfl rfl)
theorem dX1_pass_31 : decode cX1_pass 31 = .ok (.getfield 22, 3) := dk_180 0 22 (dk_at dksX1_pass_1 8 rfl rfl)
theorem dX1_pass_34 : decode cX1_pass 34 = .ok (.iload_n 1, 1) := dk_27 (dk_at dksX1_pass_1 11 rfl rfl)
theorem dX1_pass_35 : decode cX1_pass 35 = .ok (.invokevirtual 188, 3) := dk_182 0 188 (dk_at dksX1_pass_1 12 rfl rfl)
theorem dX1_pass_38 : decode cX1_pass 38 = .ok (.pop, 1) := dk_87 (dk_at dksX1_pass_1 15 rfl rfl)
theorem dX1_pass_39 : decode cX1_pass 39 = .ok (.iload_n 2, 1) := dk_28 (dk_at dksX1_pass_1 16 rfl rfl)
theorem dX1_pass_40 : decode cX1_pass 40 = .ok (.aload_n 0, 1) := dk_42 (dk_at dksX1_pass_1 17 rfl rfl)
theorem dX1_pass_41 : decode cX1_pass 41 = .ok (.getfield 22, 3) := dk_180 0 22 (dk_at dksX1_pass_1 18 rfl rfl)
theorem dX1_pass_44 : decode cX1_pass 44 = .ok (.invokevirtual 185, 3) := dk_182 0 185 (dk_at dksX1_pass_1 21 rfl rfl)
theorem dX1_pass_47 : decode cX1_pass 47 = .ok (.isub, 1) := dk_100 (dk_at dksX1_pass_2 0 rfl rfl)
theorem dX1_pass_48 : decode cX1_pass 48 = .ok (.ireturn, 1) := dk_172 (dk_at dksX1_pass_2 1 rfl rfl)
abbrev cX1_burnerOf : ByteArray := prog_1_method_22_code
def yX1_burnerOf : MethodName := ⟨RX1, "burnerOf", "(I)I"⟩
def dkwX1_burnerOf_0 : List UInt8 := [27, 16, 8, 184, 0, 74, 42, 180, 0, 22, 180, 0, 111, 27, 46, 172]
abbrev dktX1_burnerOf_0 : List UInt8 := dkwX1_burnerOf_0 ++ []
theorem dksX1_burnerOf_0 : cX1_burnerOf.data.toList.drop 0 = dktX1_burnerOf_0 := by decide +kernel
theorem dX1_burnerOf_0 : decode cX1_burnerOf 0 = .ok (.iload_n 1, 1) := dk_27 (dk_at dksX1_burnerOf_0 0 rfl rfl)
theorem dX1_burnerOf_1 : decode cX1_burnerOf 1 = .ok (.bipush 8, 2) := dk_16 8 (dk_at dksX1_burnerOf_0 1 rfl rfl)
theorem dX1_burnerOf_3 : decode cX1_burnerOf 3 = .ok (.invokestatic 74, 3) := dk_184 0 74 (dk_at dksX1_burnerOf_0 3 rfl rfl)
theorem dX1_burnerOf_6 : decode cX1_burnerOf 6 = .ok (.aload_n 0, 1) := dk_42 (dk_at dksX1_burnerOf_0 6 rfl rfl)
theorem dX1_burnerOf_7 : decode cX1_burnerOf 7 = .ok (.getfield 22, 3) := dk_180 0 22 (dk_at dksX1_burnerOf_0 7 rfl rfl)
theorem dX1_burnerOf_10 : decode cX1_burnerOf 10 = .ok (.getfield 111, 3) := dk_180 0 111 (dk_at dksX1_burnerOf_0 10 rfl rfl)
theorem dX1_burnerOf_13 : decode cX1_burnerOf 13 = .ok (.iload_n 1, 1) := dk_27 (dk_at dksX1_burnerOf_0 13 rfl rfl)
theorem dX1_burnerOf_14 : decode cX1_burnerOf 14 = .ok (.iaload, 1) := dk_46 (dk_at dksX1_burnerOf_0 14 rfl rfl)
theorem dX1_burnerOf_15 : decode cX1_burnerOf 15 = .ok (.ireturn, 1) := dk_172 (dk_at dksX1_burnerOf_0 15 rfl rfl)
abbrev cX1_burningOf : ByteArray := prog_1_method_23_code
def yX1_burningOf : MethodName := ⟨RX1, "burningOf", "(I)I"⟩
def dkwX1_burningOf_0 : List UInt8 := [27, 16, 8, 184, 0, 74, 42, 180, 0, 22, 27, 182, 0, 194, 172]
abbrev dktX1_burningOf_0 : List UInt8 := dkwX1_burningOf_0 ++ []
theorem dksX1_burningOf_0 : cX1_burningOf.data.toList.drop 0 = dktX1_burningOf_0 := by decide +kernel
theorem dX1_burningOf_0 : decode cX1_burningOf 0 = .ok (.iload_n 1, 1) := dk_27 (dk_at dksX1_burningOf_0 0 rfl rfl)
theorem dX1_burningOf_1 : decode cX1_burningOf 1 = .ok (.bipush 8, 2) := dk_16 8 (dk_at dksX1_burningOf_0 1 rfl rfl)
theorem dX1_burningOf_3 : decode cX1_burningOf 3 = .ok (.invokestatic 74, 3) := dk_184 0 74 (dk_at dksX1_burningOf_0 3 rfl rfl)
theorem dX1_burningOf_6 : decode cX1_burningOf 6 = .ok (.aload_n 0, 1) := dk_42 (dk_at dksX1_burningOf_0 6 rfl rfl)
theorem dX1_burningOf_7 : decode cX1_burningOf 7 = .ok (.getfield 22, 3) := dk_180 0 22 (dk_at dksX1_burningOf_0 7 rfl rfl)
theorem dX1_burningOf_10 : decode cX1_burningOf 10 = .ok (.iload_n 1, 1) := dk_27 (dk_at dksX1_burningOf_0 10 rfl rfl)
theorem dX1_burningOf_11 : decode cX1_burningOf 11 = .ok (.invokevirtual 194, 3) := dk_182 0 194 (dk_at dksX1_burningOf_0 11 rfl rfl)
theorem dX1_burningOf_14 : decode cX1_burningOf 14 = .ok (.ireturn, 1) := dk_172 (dk_at dksX1_burningOf_0 14 rfl rfl)
abbrev cX1_fanOf : ByteArray := prog_1_method_24_code
def yX1_fanOf : MethodName := ⟨RX1, "fanOf", "(I)I"⟩
def dkwX1_fanOf_0 : List UInt8 := [27, 16, 8, 184, 0, 74, 42, 180, 0, 22, 180, 0, 119, 27, 46, 172]
abbrev dktX1_fanOf_0 : List UInt8 := dkwX1_fanOf_0 ++ []
theorem dksX1_fanOf_0 : cX1_fanOf.data.toList.drop 0 = dktX1_fanOf_0 := by decide +kernel
theorem dX1_fanOf_0 : decode cX1_fanOf 0 = .ok (.iload_n 1, 1) := dk_27 (dk_at dksX1_fanOf_0 0 rfl rfl)
theorem dX1_fanOf_1 : decode cX1_fanOf 1 = .ok (.bipush 8, 2) := dk_16 8 (dk_at dksX1_fanOf_0 1 rfl rfl)
theorem dX1_fanOf_3 : decode cX1_fanOf 3 = .ok (.invokestatic 74, 3) := dk_184 0 74 (dk_at dksX1_fanOf_0 3 rfl rfl)
theorem dX1_fanOf_6 : decode cX1_fanOf 6 = .ok (.aload_n 0, 1) := dk_42 (dk_at dksX1_fanOf_0 6 rfl rfl)
theorem dX1_fanOf_7 : decode cX1_fanOf 7 = .ok (.getfield 22, 3) := dk_180 0 22 (dk_at dksX1_fanOf_0 7 rfl rfl)
theorem dX1_fanOf_10 : decode cX1_fanOf 10 = .ok (.getfield 119, 3) := dk_180 0 119 (dk_at dksX1_fanOf_0 10 rfl rfl)
theorem dX1_fanOf_13 : decode cX1_fanOf 13 = .ok (.iload_n 1, 1) := dk_27 (dk_at dksX1_fanOf_0 13 rfl rfl)
theorem dX1_fanOf_14 : decode cX1_fanOf 14 = .ok (.iaload, 1) := dk_46 (dk_at dksX1_fanOf_0 14 rfl rfl)
theorem dX1_fanOf_15 : decode cX1_fanOf 15 = .ok (.ireturn, 1) := dk_172 (dk_at dksX1_fanOf_0 15 rfl rfl)
abbrev cX1_rollersOf : ByteArray := prog_1_method_25_code
def yX1_rollersOf : MethodName := ⟨RX1, "rollersOf", "(I)I"⟩
def dkwX1_rollersOf_0 : List UInt8 := [27, 16, 8, 184, 0, 74, 42, 180, 0, 22, 180, 0, 125, 27, 46, 172]
abbrev dktX1_rollersOf_0 : List UInt8 := dkwX1_rollersOf_0 ++ []
theorem dksX1_rollersOf_0 : cX1_rollersOf.data.toList.drop 0 = dktX1_rollersOf_0 := by decide +kernel
theorem dX1_rollersOf_0 : decode cX1_rollersOf 0 = .ok (.iload_n 1, 1) := dk_27 (dk_at dksX1_rollersOf_0 0 rfl rfl)
theorem dX1_rollersOf_1 : decode cX1_rollersOf 1 = .ok (.bipush 8, 2) := dk_16 8 (dk_at dksX1_rollersOf_0 1 rfl rfl)
theorem dX1_rollersOf_3 : decode cX1_rollersOf 3 = .ok (.invokestatic 74, 3) := dk_184 0 74 (dk_at dksX1_rollersOf_0 3 rfl rfl)
theorem dX1_rollersOf_6 : decode cX1_rollersOf 6 = .ok (.aload_n 0, 1) := dk_42 (dk_at dksX1_rollersOf_0 6 rfl rfl)
theorem dX1_rollersOf_7 : decode cX1_rollersOf 7 = .ok (.getfield 22, 3) := dk_180 0 22 (dk_at dksX1_rollersOf_0 7 rfl rfl)
theorem dX1_rollersOf_10 : decode cX1_rollersOf 10 = .ok (.getfield 125, 3) := dk_180 0 125 (dk_at dksX1_rollersOf_0 10 rfl rfl)
theorem dX1_rollersOf_13 : decode cX1_rollersOf 13 = .ok (.iload_n 1, 1) := dk_27 (dk_at dksX1_rollersOf_0 13 rfl rfl)
theorem dX1_rollersOf_14 : decode cX1_rollersOf 14 = .ok (.iaload, 1) := dk_46 (dk_at dksX1_rollersOf_0 14 rfl rfl)
theorem dX1_rollersOf_15 : decode cX1_rollersOf 15 = .ok (.ireturn, 1) := dk_172 (dk_at dksX1_rollersOf_0 15 rfl rfl)
abbrev cX1_temperatureOf : ByteArray := prog_1_method_26_code
def yX1_temperatureOf : MethodName := ⟨RX1, "temperatureOf", "(I)I"⟩
def dkwX1_temperatureOf_0 : List UInt8 := [27, 16, 8, 184, 0, 74, 42, 180, 0, 22, 180, 0, 197, 27, 46, 172]
abbrev dktX1_temperatureOf_0 : List UInt8 := dkwX1_temperatureOf_0 ++ []
theorem dksX1_temperatureOf_0 : cX1_temperatureOf.data.toList.drop 0 = dktX1_temperatureOf_0 := by decide +kernel
theorem dX1_temperatureOf_0 : decode cX1_temperatureOf 0 = .ok (.iload_n 1, 1) := dk_27 (dk_at dksX1_temperatureOf_0 0 rfl rfl)
theorem dX1_temperatureOf_1 : decode cX1_temperatureOf 1 = .ok (.bipush 8, 2) := dk_16 8 (dk_at dksX1_temperatureOf_0 1 rfl rfl)
theorem dX1_temperatureOf_3 : decode cX1_temperatureOf 3 = .ok (.invokestatic 74, 3) := dk_184 0 74 (dk_at dksX1_temperatureOf_0 3 rfl rfl)
theorem dX1_temperatureOf_6 : decode cX1_temperatureOf 6 = .ok (.aload_n 0, 1) := dk_42 (dk_at dksX1_temperatureOf_0 6 rfl rfl)
theorem dX1_temperatureOf_7 : decode cX1_temperatureOf 7 = .ok (.getfield 22, 3) := dk_180 0 22 (dk_at dksX1_temperatureOf_0 7 rfl rfl)
theorem dX1_temperatureOf_10 : decode cX1_temperatureOf 10 = .ok (.getfield 197, 3) := dk_180 0 197 (dk_at dksX1_temperatureOf_0 10 rfl rfl)
theorem dX1_temperatureOf_13 : decode cX1_temperatureOf 13 = .ok (.iload_n 1, 1) := dk_27 (dk_at dksX1_temperatureOf_0 13 rfl rfl)
theorem dX1_temperatureOf_14 : decode cX1_temperatureOf 14 = .ok (.iaload, 1) := dk_46 (dk_at dksX1_temperatureOf_0 14 rfl rfl)
theorem dX1_temperatureOf_15 : decode cX1_temperatureOf 15 = .ok (.ireturn, 1) := dk_172 (dk_at dksX1_temperatureOf_0 15 rfl rfl)
abbrev cX1_plannedFor : ByteArray := prog_1_method_30_code
def yX1_plannedFor : MethodName := ⟨RX1, "plannedFor", "(II)I"⟩
def dkwX1_plannedFor_0 : List UInt8 := [28, 16, 8, 184, 0, 74, 27, 4, 17, 39, 15, 184, 0, 104, 42, 180, 0, 22, 27, 28, 182, 0, 176, 172]
abbrev dktX1_plannedFor_0 : List UInt8 := dkwX1_plannedFor_0 ++ []
theorem dksX1_plannedFor_0 : cX1_plannedFor.data.toList.drop 0 = dktX1_plannedFor_0 := by decide +kernel
theorem dX1_plannedFor_0 : decode cX1_plannedFor 0 = .ok (.iload_n 2, 1) := dk_28 (dk_at dksX1_plannedFor_0 0 rfl rfl)
theorem dX1_plannedFor_1 : decode cX1_plannedFor 1 = .ok (.bipush 8, 2) := dk_16 8 (dk_at dksX1_plannedFor_0 1 rfl rfl)
theorem dX1_plannedFor_3 : decode cX1_plannedFor 3 = .ok (.invokestatic 74, 3) := dk_184 0 74 (dk_at dksX1_plannedFor_0 3 rfl rfl)
theorem dX1_plannedFor_6 : decode cX1_plannedFor 6 = .ok (.iload_n 1, 1) := dk_27 (dk_at dksX1_plannedFor_0 6 rfl rfl)
theorem dX1_plannedFor_7 : decode cX1_plannedFor 7 = .ok (.iconst 1, 1) := dk_4 (dk_at dksX1_plannedFor_0 7 rfl rfl)
theorem dX1_plannedFor_8 : decode cX1_plannedFor 8 = .ok (.sipush 9999, 3) := dk_17 39 15 (dk_at dksX1_plannedFor_0 8 rfl rfl)
theorem dX1_plannedFor_11 : decode cX1_plannedFor 11 = .ok (.invokestatic 104, 3) := dk_184 0 104 (dk_at dksX1_plannedFor_0 11 rfl rfl)
theorem dX1_plannedFor_14 : decode cX1_plannedFor 14 = .ok (.aload_n 0, 1) := dk_42 (dk_at dksX1_plannedFor_0 14 rfl rfl)
theorem dX1_plannedFor_15 : decode cX1_plannedFor 15 = .ok (.getfield 22, 3) := dk_180 0 22 (dk_at dksX1_plannedFor_0 15 rfl rfl)
theorem dX1_plannedFor_18 : decode cX1_plannedFor 18 = .ok (.iload_n 1, 1) := dk_27 (dk_at dksX1_plannedFor_0 18 rfl rfl)
theorem dX1_plannedFor_19 : decode cX1_plannedFor 19 = .ok (.iload_n 2, 1) := dk_28 (dk_at dksX1_plannedFor_0 19 rfl rfl)
theorem dX1_plannedFor_20 : decode cX1_plannedFor 20 = .ok (.invokevirtual 176, 3) := dk_182 0 176 (dk_at dksX1_plannedFor_0 20 rfl rfl)
theorem dX1_plannedFor_23 : decode cX1_plannedFor 23 = .ok (.ireturn, 1) := dk_172 (dk_at dksX1_plannedFor_0 23 rfl rfl)
abbrev cX1_lotAt : ByteArray := prog_1_method_31_code
def yX1_lotAt : MethodName := ⟨RX1, "lotAt", "(I)I"⟩
def dkwX1_lotAt_1 : List UInt8 := [180, 0, 22, 180, 0, 96, 27, 50, 180, 0, 213, 180, 0, 219, 172]
abbrev dktX1_lotAt_1 : List UInt8 := dkwX1_lotAt_1 ++ []
def dkwX1_lotAt_0 : List UInt8 := [27, 16, 24, 184, 0, 74, 42, 180, 0, 22, 180, 0, 96, 27, 50, 199, 0, 7, 2, 167, 0, 18, 42]
abbrev dktX1_lotAt_0 : List UInt8 := dkwX1_lotAt_0 ++ dktX1_lotAt_1
theorem dksX1_lotAt_0 : cX1_lotAt.data.toList.drop 0 = dktX1_lotAt_0 := by decide +kernel
theorem dksX1_lotAt_1 : cX1_lotAt.data.toList.drop 23 = dktX1_lotAt_1 := dk_seg dksX1_lotAt_0 23 rfl rfl
theorem dX1_lotAt_0 : decode cX1_lotAt 0 = .ok (.iload_n 1, 1) := dk_27 (dk_at dksX1_lotAt_0 0 rfl rfl)
theorem dX1_lotAt_1 : decode cX1_lotAt 1 = .ok (.bipush 24, 2) := dk_16 24 (dk_at dksX1_lotAt_0 1 rfl rfl)
theorem dX1_lotAt_3 : decode cX1_lotAt 3 = .ok (.invokestatic 74, 3) := dk_184 0 74 (dk_at dksX1_lotAt_0 3 rfl rfl)
theorem dX1_lotAt_6 : decode cX1_lotAt 6 = .ok (.aload_n 0, 1) := dk_42 (dk_at dksX1_lotAt_0 6 rfl rfl)
theorem dX1_lotAt_7 : decode cX1_lotAt 7 = .ok (.getfield 22, 3) := dk_180 0 22 (dk_at dksX1_lotAt_0 7 rfl rfl)
theorem dX1_lotAt_10 : decode cX1_lotAt 10 = .ok (.getfield 96, 3) := dk_180 0 96 (dk_at dksX1_lotAt_0 10 rfl rfl)
theorem dX1_lotAt_13 : decode cX1_lotAt 13 = .ok (.iload_n 1, 1) := dk_27 (dk_at dksX1_lotAt_0 13 rfl rfl)
theorem dX1_lotAt_14 : decode cX1_lotAt 14 = .ok (.aaload, 1) := dk_50 (dk_at dksX1_lotAt_0 14 rfl rfl)
theorem dX1_lotAt_15 : decode cX1_lotAt 15 = .ok (.ifnonnull 7, 3) := dk_199 0 7 (dk_at dksX1_lotAt_0 15 rfl rfl)
theorem dX1_lotAt_18 : decode cX1_lotAt 18 = .ok (.iconst (-1), 1) := dk_2 (dk_at dksX1_lotAt_0 18 rfl rfl)
theorem dX1_lotAt_19 : decode cX1_lotAt 19 = .ok (.goto 18, 3) := dk_167 0 18 (dk_at dksX1_lotAt_0 19 rfl rfl)
theorem dX1_lotAt_22 : decode cX1_lotAt 22 = .ok (.aload_n 0, 1) := dk_42 (dk_at dksX1_lotAt_0 22 rfl rfl)
theorem dX1_lotAt_23 : decode cX1_lotAt 23 = .ok (.getfield 22, 3) := dk_180 0 22 (dk_at dksX1_lotAt_1 0 rfl rfl)
theorem dX1_lotAt_26 : decode cX1_lotAt 26 = .ok (.getfield 96, 3) := dk_180 0 96 (dk_at dksX1_lotAt_1 3 rfl rfl)
theorem dX1_lotAt_29 : decode cX1_lotAt 29 = .ok (.iload_n 1, 1) := dk_27 (dk_at dksX1_lotAt_1 6 rfl rfl)
theorem dX1_lotAt_30 : decode cX1_lotAt 30 = .ok (.aaload, 1) := dk_50 (dk_at dksX1_lotAt_1 7 rfl rfl)
theorem dX1_lotAt_31 : decode cX1_lotAt 31 = .ok (.getfield 213, 3) := dk_180 0 213 (dk_at dksX1_lotAt_1 8 rfl rfl)
theorem dX1_lotAt_34 : decode cX1_lotAt 34 = .ok (.getfield 219, 3) := dk_180 0 219 (dk_at dksX1_lotAt_1 11 rfl rfl)
theorem dX1_lotAt_37 : decode cX1_lotAt 37 = .ok (.ireturn, 1) := dk_172 (dk_at dksX1_lotAt_1 14 rfl rfl)
abbrev cX1_numberAt : ByteArray := prog_1_method_32_code
def yX1_numberAt : MethodName := ⟨RX1, "numberAt", "(I)I"⟩
def dkwX1_numberAt_1 : List UInt8 := [180, 0, 22, 180, 0, 96, 27, 50, 180, 0, 213, 180, 0, 221, 172]
abbrev dktX1_numberAt_1 : List UInt8 := dkwX1_numberAt_1 ++ []
def dkwX1_numberAt_0 : List UInt8 := [27, 16, 24, 184, 0, 74, 42, 180, 0, 22, 180, 0, 96, 27, 50, 199, 0, 7, 2, 167, 0, 18, 42]
abbrev dktX1_numberAt_0 : List UInt8 := dkwX1_numberAt_0 ++ dktX1_numberAt_1
theorem dksX1_numberAt_0 : cX1_numberAt.data.toList.drop 0 = dktX1_numberAt_0 := by decide +kernel
theorem dksX1_numberAt_1 : cX1_numberAt.data.toList.drop 23 = dktX1_numberAt_1 := dk_seg dksX1_numberAt_0 23 rfl rfl
theorem dX1_numberAt_0 : decode cX1_numberAt 0 = .ok (.iload_n 1, 1) := dk_27 (dk_at dksX1_numberAt_0 0 rfl rfl)
theorem dX1_numberAt_1 : decode cX1_numberAt 1 = .ok (.bipush 24, 2) := dk_16 24 (dk_at dksX1_numberAt_0 1 rfl rfl)
theorem dX1_numberAt_3 : decode cX1_numberAt 3 = .ok (.invokestatic 74, 3) := dk_184 0 74 (dk_at dksX1_numberAt_0 3 rfl rfl)
theorem dX1_numberAt_6 : decode cX1_numberAt 6 = .ok (.aload_n 0, 1) := dk_42 (dk_at dksX1_numberAt_0 6 rfl rfl)
theorem dX1_numberAt_7 : decode cX1_numberAt 7 = .ok (.getfield 22, 3) := dk_180 0 22 (dk_at dksX1_numberAt_0 7 rfl rfl)
theorem dX1_numberAt_10 : decode cX1_numberAt 10 = .ok (.getfield 96, 3) := dk_180 0 96 (dk_at dksX1_numberAt_0 10 rfl rfl)
theorem dX1_numberAt_13 : decode cX1_numberAt 13 = .ok (.iload_n 1, 1) := dk_27 (dk_at dksX1_numberAt_0 13 rfl rfl)
theorem dX1_numberAt_14 : decode cX1_numberAt 14 = .ok (.aaload, 1) := dk_50 (dk_at dksX1_numberAt_0 14 rfl rfl)
theorem dX1_numberAt_15 : decode cX1_numberAt 15 = .ok (.ifnonnull 7, 3) := dk_199 0 7 (dk_at dksX1_numberAt_0 15 rfl rfl)
theorem dX1_numberAt_18 : decode cX1_numberAt 18 = .ok (.iconst (-1), 1) := dk_2 (dk_at dksX1_numberAt_0 18 rfl rfl)
theorem dX1_numberAt_19 : decode cX1_numberAt 19 = .ok (.goto 18, 3) := dk_167 0 18 (dk_at dksX1_numberAt_0 19 rfl rfl)
theorem dX1_numberAt_22 : decode cX1_numberAt 22 = .ok (.aload_n 0, 1) := dk_42 (dk_at dksX1_numberAt_0 22 rfl rfl)
theorem dX1_numberAt_23 : decode cX1_numberAt 23 = .ok (.getfield 22, 3) := dk_180 0 22 (dk_at dksX1_numberAt_1 0 rfl rfl)
theorem dX1_numberAt_26 : decode cX1_numberAt 26 = .ok (.getfield 96, 3) := dk_180 0 96 (dk_at dksX1_numberAt_1 3 rfl rfl)
theorem dX1_numberAt_29 : decode cX1_numberAt 29 = .ok (.iload_n 1, 1) := dk_27 (dk_at dksX1_numberAt_1 6 rfl rfl)
theorem dX1_numberAt_30 : decode cX1_numberAt 30 = .ok (.aaload, 1) := dk_50 (dk_at dksX1_numberAt_1 7 rfl rfl)
theorem dX1_numberAt_31 : decode cX1_numberAt 31 = .ok (.getfield 213, 3) := dk_180 0 213 (dk_at dksX1_numberAt_1 8 rfl rfl)
theorem dX1_numberAt_34 : decode cX1_numberAt 34 = .ok (.getfield 221, 3) := dk_180 0 221 (dk_at dksX1_numberAt_1 11 rfl rfl)
theorem dX1_numberAt_37 : decode cX1_numberAt 37 = .ok (.ireturn, 1) := dk_172 (dk_at dksX1_numberAt_1 14 rfl rfl)
abbrev cX1_warmthAt : ByteArray := prog_1_method_33_code
def yX1_warmthAt : MethodName := ⟨RX1, "warmthAt", "(I)I"⟩
def dkwX1_warmthAt_0 : List UInt8 := [42, 27, 182, 0, 224, 180, 0, 228, 172]
abbrev dktX1_warmthAt_0 : List UInt8 := dkwX1_warmthAt_0 ++ []
theorem dksX1_warmthAt_0 : cX1_warmthAt.data.toList.drop 0 = dktX1_warmthAt_0 := by decide +kernel
theorem dX1_warmthAt_0 : decode cX1_warmthAt 0 = .ok (.aload_n 0, 1) := dk_42 (dk_at dksX1_warmthAt_0 0 rfl rfl)
theorem dX1_warmthAt_1 : decode cX1_warmthAt 1 = .ok (.iload_n 1, 1) := dk_27 (dk_at dksX1_warmthAt_0 1 rfl rfl)
theorem dX1_warmthAt_2 : decode cX1_warmthAt 2 = .ok (.invokevirtual 224, 3) := dk_182 0 224 (dk_at dksX1_warmthAt_0 2 rfl rfl)
theorem dX1_warmthAt_5 : decode cX1_warmthAt 5 = .ok (.getfield 228, 3) := dk_180 0 228 (dk_at dksX1_warmthAt_0 5 rfl rfl)
theorem dX1_warmthAt_8 : decode cX1_warmthAt 8 = .ok (.ireturn, 1) := dk_172 (dk_at dksX1_warmthAt_0 8 rfl rfl)
abbrev cX1_pieceAt : ByteArray := prog_1_method_10_code
def yX1_pieceAt : MethodName := ⟨RX1, "pieceAt", "(I)LAnnealingLehr$Piece;"⟩
def dkwX1_pieceAt_1 : List UInt8 := [184, 0, 100, 42, 180, 0, 22, 180, 0, 96, 27, 50, 176]
abbrev dktX1_pieceAt_1 : List UInt8 := dkwX1_pieceAt_1 ++ []
def dkwX1_pieceAt_0 : List UInt8 := [27, 16, 24, 184, 0, 74, 42, 180, 0, 22, 180, 0, 96, 27, 50, 198, 0, 7, 4, 167, 0, 4, 3]
abbrev dktX1_pieceAt_0 : List UInt8 := dkwX1_pieceAt_0 ++ dktX1_pieceAt_1
theorem dksX1_pieceAt_0 : cX1_pieceAt.data.toList.drop 0 = dktX1_pieceAt_0 := by decide +kernel
theorem dksX1_pieceAt_1 : cX1_pieceAt.data.toList.drop 23 = dktX1_pieceAt_1 := dk_seg dksX1_pieceAt_0 23 rfl rfl
theorem dX1_pieceAt_0 : decode cX1_pieceAt 0 = .ok (.iload_n 1, 1) := dk_27 (dk_at dksX1_pieceAt_0 0 rfl rfl)
theorem dX1_pieceAt_1 : decode cX1_pieceAt 1 = .ok (.bipush 24, 2) := dk_16 24 (dk_at dksX1_pieceAt_0 1 rfl rfl)
theorem dX1_pieceAt_3 : decode cX1_pieceAt 3 = .ok (.invokestatic 74, 3) := dk_184 0 74 (dk_at dksX1_pieceAt_0 3 rfl rfl)
theorem dX1_pieceAt_6 : decode cX1_pieceAt 6 = .ok (.aload_n 0, 1) := dk_42 (dk_at dksX1_pieceAt_0 6 rfl rfl)
theorem dX1_pieceAt_7 : decode cX1_pieceAt 7 = .ok (.getfield 22, 3) := dk_180 0 22 (dk_at dksX1_pieceAt_0 7 rfl rfl)
theorem dX1_pieceAt_10 : decode cX1_pieceAt 10 = .ok (.getfield 96, 3) := dk_180 0 96 (dk_at dksX1_pieceAt_0 10 rfl rfl)
theorem dX1_pieceAt_13 : decode cX1_pieceAt 13 = .ok (.iload_n 1, 1) := dk_27 (dk_at dksX1_pieceAt_0 13 rfl rfl)
theorem dX1_pieceAt_14 : decode cX1_pieceAt 14 = .ok (.aaload, 1) := dk_50 (dk_at dksX1_pieceAt_0 14 rfl rfl)
theorem dX1_pieceAt_15 : decode cX1_pieceAt 15 = .ok (.ifnull 7, 3) := dk_198 0 7 (dk_at dksX1_pieceAt_0 15 rfl rfl)
theorem dX1_pieceAt_18 : decode cX1_pieceAt 18 = .ok (.iconst 1, 1) := dk_4 (dk_at dksX1_pieceAt_0 18 rfl rfl)
theorem dX1_pieceAt_19 : decode cX1_pieceAt 19 = .ok (.goto 4, 3) := dk_167 0 4 (dk_at dksX1_pieceAt_0 19 rfl rfl)
theorem dX1_pieceAt_22 : decode cX1_pieceAt 22 = .ok (.iconst 0, 1) := dk_3 (dk_at dksX1_pieceAt_0 22 rfl rfl)
theorem dX1_pieceAt_23 : decode cX1_pieceAt 23 = .ok (.invokestatic 100, 3) := dk_184 0 100 (dk_at dksX1_pieceAt_1 0 rfl rfl)
theorem dX1_pieceAt_26 : decode cX1_pieceAt 26 = .ok (.aload_n 0, 1) := dk_42 (dk_at dksX1_pieceAt_1 3 rfl rfl)
theorem dX1_pieceAt_27 : decode cX1_pieceAt 27 = .ok (.getfield 22, 3) := dk_180 0 22 (dk_at dksX1_pieceAt_1 4 rfl rfl)
theorem dX1_pieceAt_30 : decode cX1_pieceAt 30 = .ok (.getfield 96, 3) := dk_180 0 96 (dk_at dksX1_pieceAt_1 7 rfl rfl)
theorem dX1_pieceAt_33 : decode cX1_pieceAt 33 = .ok (.iload_n 1, 1) := dk_27 (dk_at dksX1_pieceAt_1 10 rfl rfl)
theorem dX1_pieceAt_34 : decode cX1_pieceAt 34 = .ok (.aaload, 1) := dk_50 (dk_at dksX1_pieceAt_1 11 rfl rfl)
theorem dX1_pieceAt_35 : decode cX1_pieceAt 35 = .ok (.areturn, 1) := dk_176 (dk_at dksX1_pieceAt_1 12 rfl rfl)
abbrev cX1_stressAt : ByteArray := prog_1_method_34_code
def yX1_stressAt : MethodName := ⟨RX1, "stressAt", "(I)F"⟩
def dkwX1_stressAt_0 : List UInt8 := [42, 27, 182, 0, 224, 180, 0, 231, 174]
abbrev dktX1_stressAt_0 : List UInt8 := dkwX1_stressAt_0 ++ []
theorem dksX1_stressAt_0 : cX1_stressAt.data.toList.drop 0 = dktX1_stressAt_0 := by decide +kernel
theorem dX1_stressAt_0 : decode cX1_stressAt 0 = .ok (.aload_n 0, 1) := dk_42 (dk_at dksX1_stressAt_0 0 rfl rfl)
theorem dX1_stressAt_1 : decode cX1_stressAt 1 = .ok (.iload_n 1, 1) := dk_27 (dk_at dksX1_stressAt_0 1 rfl rfl)
theorem dX1_stressAt_2 : decode cX1_stressAt 2 = .ok (.invokevirtual 224, 3) := dk_182 0 224 (dk_at dksX1_stressAt_0 2 rfl rfl)
theorem dX1_stressAt_5 : decode cX1_stressAt 5 = .ok (.getfield 231, 3) := dk_180 0 231 (dk_at dksX1_stressAt_0 5 rfl rfl)
theorem dX1_stressAt_8 : decode cX1_stressAt 8 = .ok (.freturn, 1) := dk_174 (dk_at dksX1_stressAt_0 8 rfl rfl)
abbrev cX1_stressBitsAt : ByteArray := prog_1_method_35_code
def yX1_stressBitsAt : MethodName := ⟨RX1, "stressBitsAt", "(I)I"⟩
def dkwX1_stressBitsAt_0 : List UInt8 := [42, 27, 182, 0, 224, 180, 0, 231, 184, 0, 235, 172]
abbrev dktX1_stressBitsAt_0 : List UInt8 := dkwX1_stressBitsAt_0 ++ []
theorem dksX1_stressBitsAt_0 : cX1_stressBitsAt.data.toList.drop 0 = dktX1_stressBitsAt_0 := by decide +kernel
theorem dX1_stressBitsAt_0 : decode cX1_stressBitsAt 0 = .ok (.aload_n 0, 1) := dk_42 (dk_at dksX1_stressBitsAt_0 0 rfl rfl)
theorem dX1_stressBitsAt_1 : decode cX1_stressBitsAt 1 = .ok (.iload_n 1, 1) := dk_27 (dk_at dksX1_stressBitsAt_0 1 rfl rfl)
theorem dX1_stressBitsAt_2 : decode cX1_stressBitsAt 2 = .ok (.invokevirtual 224, 3) := dk_182 0 224 (dk_at dksX1_stressBitsAt_0 2 rfl rfl)
theorem dX1_stressBitsAt_5 : decode cX1_stressBitsAt 5 = .ok (.getfield 231, 3) := dk_180 0 231 (dk_at dksX1_stressBitsAt_0 5 rfl rfl)
theorem dX1_stressBitsAt_8 : decode cX1_stressBitsAt 8 = .ok (.invokestatic 235, 3) := dk_184 0 235 (dk_at dksX1_stressBitsAt_0 8 rfl rfl)
theorem dX1_stressBitsAt_11 : decode cX1_stressBitsAt 11 = .ok (.ireturn, 1) := dk_172 (dk_at dksX1_stressBitsAt_0 11 rfl rfl)
abbrev cX1_minutesAt : ByteArray := prog_1_method_36_code
def yX1_minutesAt : MethodName := ⟨RX1, "minutesAt", "(I)I"⟩
def dkwX1_minutesAt_0 : List UInt8 := [42, 27, 182, 0, 224, 180, 0, 241, 172]
abbrev dktX1_minutesAt_0 : List UInt8 := dkwX1_minutesAt_0 ++ []
theorem dksX1_minutesAt_0 : cX1_minutesAt.data.toList.drop 0 = dktX1_minutesAt_0 := by decide +kernel
theorem dX1_minutesAt_0 : decode cX1_minutesAt 0 = .ok (.aload_n 0, 1) := dk_42 (dk_at dksX1_minutesAt_0 0 rfl rfl)
theorem dX1_minutesAt_1 : decode cX1_minutesAt 1 = .ok (.iload_n 1, 1) := dk_27 (dk_at dksX1_minutesAt_0 1 rfl rfl)
theorem dX1_minutesAt_2 : decode cX1_minutesAt 2 = .ok (.invokevirtual 224, 3) := dk_182 0 224 (dk_at dksX1_minutesAt_0 2 rfl rfl)
theorem dX1_minutesAt_5 : decode cX1_minutesAt 5 = .ok (.getfield 241, 3) := dk_180 0 241 (dk_at dksX1_minutesAt_0 5 rfl rfl)
theorem dX1_minutesAt_8 : decode cX1_minutesAt 8 = .ok (.ireturn, 1) := dk_172 (dk_at dksX1_minutesAt_0 8 rfl rfl)
abbrev cX1_hasShards : ByteArray := prog_1_method_37_code
def yX1_hasShards : MethodName := ⟨RX1, "hasShards", "(I)Z"⟩
def dkwX1_hasShards_0 : List UInt8 := [27, 16, 24, 184, 0, 74, 42, 180, 0, 22, 180, 0, 244, 27, 51, 172]
abbrev dktX1_hasShards_0 : List UInt8 := dkwX1_hasShards_0 ++ []
theorem dksX1_hasShards_0 : cX1_hasShards.data.toList.drop 0 = dktX1_hasShards_0 := by decide +kernel
theorem dX1_hasShards_0 : decode cX1_hasShards 0 = .ok (.iload_n 1, 1) := dk_27 (dk_at dksX1_hasShards_0 0 rfl rfl)
theorem dX1_hasShards_1 : decode cX1_hasShards 1 = .ok (.bipush 24, 2) := dk_16 24 (dk_at dksX1_hasShards_0 1 rfl rfl)
theorem dX1_hasShards_3 : decode cX1_hasShards 3 = .ok (.invokestatic 74, 3) := dk_184 0 74 (dk_at dksX1_hasShards_0 3 rfl rfl)
theorem dX1_hasShards_6 : decode cX1_hasShards 6 = .ok (.aload_n 0, 1) := dk_42 (dk_at dksX1_hasShards_0 6 rfl rfl)
theorem dX1_hasShards_7 : decode cX1_hasShards 7 = .ok (.getfield 22, 3) := dk_180 0 22 (dk_at dksX1_hasShards_0 7 rfl rfl)
theorem dX1_hasShards_10 : decode cX1_hasShards 10 = .ok (.getfield 244, 3) := dk_180 0 244 (dk_at dksX1_hasShards_0 10 rfl rfl)
theorem dX1_hasShards_13 : decode cX1_hasShards 13 = .ok (.iload_n 1, 1) := dk_27 (dk_at dksX1_hasShards_0 13 rfl rfl)
theorem dX1_hasShards_14 : decode cX1_hasShards 14 = .ok (.baload, 1) := dk_51 (dk_at dksX1_hasShards_0 14 rfl rfl)
theorem dX1_hasShards_15 : decode cX1_hasShards 15 = .ok (.ireturn, 1) := dk_172 (dk_at dksX1_hasShards_0 15 rfl rfl)
abbrev cX1_whyNotMoving : ByteArray := prog_1_method_38_code
def yX1_whyNotMoving : MethodName := ⟨RX1, "whyNotMoving", "(I)I"⟩
def dkwX1_whyNotMoving_0 : List UInt8 := [27, 16, 24, 184, 0, 74, 42, 180, 0, 22, 182, 0, 248, 27, 46, 172]
abbrev dktX1_whyNotMoving_0 : List UInt8 := dkwX1_whyNotMoving_0 ++ []
theorem dksX1_whyNotMoving_0 : cX1_whyNotMoving.data.toList.drop 0 = dktX1_whyNotMoving_0 := by decide +kernel
theorem dX1_whyNotMoving_0 : decode cX1_whyNotMoving 0 = .ok (.iload_n 1, 1) := dk_27 (dk_at dksX1_whyNotMoving_0 0 rfl rfl)
theorem dX1_whyNotMoving_1 : decode cX1_whyNotMoving 1 = .ok (.bipush 24, 2) := dk_16 24 (dk_at dksX1_whyNotMoving_0 1 rfl rfl)
theorem dX1_whyNotMoving_3 : decode cX1_whyNotMoving 3 = .ok (.invokestatic 74, 3) := dk_184 0 74 (dk_at dksX1_whyNotMoving_0 3 rfl rfl)
theorem dX1_whyNotMoving_6 : decode cX1_whyNotMoving 6 = .ok (.aload_n 0, 1) := dk_42 (dk_at dksX1_whyNotMoving_0 6 rfl rfl)
theorem dX1_whyNotMoving_7 : decode cX1_whyNotMoving 7 = .ok (.getfield 22, 3) := dk_180 0 22 (dk_at dksX1_whyNotMoving_0 7 rfl rfl)
theorem dX1_whyNotMoving_10 : decode cX1_whyNotMoving 10 = .ok (.invokevirtual 248, 3) := dk_182 0 248 (dk_at dksX1_whyNotMoving_0 10 rfl rfl)
theorem dX1_whyNotMoving_13 : decode cX1_whyNotMoving 13 = .ok (.iload_n 1, 1) := dk_27 (dk_at dksX1_whyNotMoving_0 13 rfl rfl)
theorem dX1_whyNotMoving_14 : decode cX1_whyNotMoving 14 = .ok (.iaload, 1) := dk_46 (dk_at dksX1_whyNotMoving_0 14 rfl rfl)
theorem dX1_whyNotMoving_15 : decode cX1_whyNotMoving 15 = .ok (.ireturn, 1) := dk_172 (dk_at dksX1_whyNotMoving_0 15 rfl rfl)
abbrev cX1_heldUpBy : ByteArray := prog_1_method_39_code
def yX1_heldUpBy : MethodName := ⟨RX1, "heldUpBy", "(I)I"⟩
def dkwX1_heldUpBy_0 : List UInt8 := [27, 16, 24, 184, 0, 74, 42, 180, 0, 22, 27, 182, 0, 252, 172]
abbrev dktX1_heldUpBy_0 : List UInt8 := dkwX1_heldUpBy_0 ++ []
theorem dksX1_heldUpBy_0 : cX1_heldUpBy.data.toList.drop 0 = dktX1_heldUpBy_0 := by decide +kernel
theorem dX1_heldUpBy_0 : decode cX1_heldUpBy 0 = .ok (.iload_n 1, 1) := dk_27 (dk_at dksX1_heldUpBy_0 0 rfl rfl)
theorem dX1_heldUpBy_1 : decode cX1_heldUpBy 1 = .ok (.bipush 24, 2) := dk_16 24 (dk_at dksX1_heldUpBy_0 1 rfl rfl)
theorem dX1_heldUpBy_3 : decode cX1_heldUpBy 3 = .ok (.invokestatic 74, 3) := dk_184 0 74 (dk_at dksX1_heldUpBy_0 3 rfl rfl)
theorem dX1_heldUpBy_6 : decode cX1_heldUpBy 6 = .ok (.aload_n 0, 1) := dk_42 (dk_at dksX1_heldUpBy_0 6 rfl rfl)
theorem dX1_heldUpBy_7 : decode cX1_heldUpBy 7 = .ok (.getfield 22, 3) := dk_180 0 22 (dk_at dksX1_heldUpBy_0 7 rfl rfl)
theorem dX1_heldUpBy_10 : decode cX1_heldUpBy 10 = .ok (.iload_n 1, 1) := dk_27 (dk_at dksX1_heldUpBy_0 10 rfl rfl)
theorem dX1_heldUpBy_11 : decode cX1_heldUpBy 11 = .ok (.invokevirtual 252, 3) := dk_182 0 252 (dk_at dksX1_heldUpBy_0 11 rfl rfl)
theorem dX1_heldUpBy_14 : decode cX1_heldUpBy 14 = .ok (.ireturn, 1) := dk_172 (dk_at dksX1_heldUpBy_0 14 rfl rfl)
abbrev cX1_cleanerAt : ByteArray := prog_1_method_40_code
def yX1_cleanerAt : MethodName := ⟨RX1, "cleanerAt", "(I)I"⟩
def dkwX1_cleanerAt_0 : List UInt8 := [27, 5, 184, 0, 74, 42, 180, 0, 22, 180, 0, 255, 27, 46, 172]
abbrev dktX1_cleanerAt_0 : List UInt8 := dkwX1_cleanerAt_0 ++ []
theorem dksX1_cleanerAt_0 : cX1_cleanerAt.data.toList.drop 0 = dktX1_cleanerAt_0 := by decide +kernel
theorem dX1_cleanerAt_0 : decode cX1_cleanerAt 0 = .ok (.iload_n 1, 1) := dk_27 (dk_at dksX1_cleanerAt_0 0 rfl rfl)
theorem dX1_cleanerAt_1 : decode cX1_cleanerAt 1 = .ok (.iconst 2, 1) := dk_5 (dk_at dksX1_cleanerAt_0 1 rfl rfl)
theorem dX1_cleanerAt_2 : decode cX1_cleanerAt 2 = .ok (.invokestatic 74, 3) := dk_184 0 74 (dk_at dksX1_cleanerAt_0 2 rfl rfl)
theorem dX1_cleanerAt_5 : decode cX1_cleanerAt 5 = .ok (.aload_n 0, 1) := dk_42 (dk_at dksX1_cleanerAt_0 5 rfl rfl)
theorem dX1_cleanerAt_6 : decode cX1_cleanerAt 6 = .ok (.getfield 22, 3) := dk_180 0 22 (dk_at dksX1_cleanerAt_0 6 rfl rfl)
theorem dX1_cleanerAt_9 : decode cX1_cleanerAt 9 = .ok (.getfield 255, 3) := dk_180 0 255 (dk_at dksX1_cleanerAt_0 9 rfl rfl)
theorem dX1_cleanerAt_12 : decode cX1_cleanerAt 12 = .ok (.iload_n 1, 1) := dk_27 (dk_at dksX1_cleanerAt_0 12 rfl rfl)
theorem dX1_cleanerAt_13 : decode cX1_cleanerAt 13 = .ok (.iaload, 1) := dk_46 (dk_at dksX1_cleanerAt_0 13 rfl rfl)
theorem dX1_cleanerAt_14 : decode cX1_cleanerAt 14 = .ok (.ireturn, 1) := dk_172 (dk_at dksX1_cleanerAt_0 14 rfl rfl)
abbrev cX1_busyFor : ByteArray := prog_1_method_41_code
def yX1_busyFor : MethodName := ⟨RX1, "busyFor", "(I)I"⟩
def dkwX1_busyFor_0 : List UInt8 := [27, 5, 184, 0, 74, 42, 180, 0, 22, 180, 0, 154, 27, 46, 172]
abbrev dktX1_busyFor_0 : List UInt8 := dkwX1_busyFor_0 ++ []
theorem dksX1_busyFor_0 : cX1_busyFor.data.toList.drop 0 = dktX1_busyFor_0 := by decide +kernel
theorem dX1_busyFor_0 : decode cX1_busyFor 0 = .ok (.iload_n 1, 1) := dk_27 (dk_at dksX1_busyFor_0 0 rfl rfl)
theorem dX1_busyFor_1 : decode cX1_busyFor 1 = .ok (.iconst 2, 1) := dk_5 (dk_at dksX1_busyFor_0 1 rfl rfl)
theorem dX1_busyFor_2 : decode cX1_busyFor 2 = .ok (.invokestatic 74, 3) := dk_184 0 74 (dk_at dksX1_busyFor_0 2 rfl rfl)
theorem dX1_busyFor_5 : decode cX1_busyFor 5 = .ok (.aload_n 0, 1) := dk_42 (dk_at dksX1_busyFor_0 5 rfl rfl)
theorem dX1_busyFor_6 : decode cX1_busyFor 6 = .ok (.getfield 22, 3) := dk_180 0 22 (dk_at dksX1_busyFor_0 6 rfl rfl)
theorem dX1_busyFor_9 : decode cX1_busyFor 9 = .ok (.getfield 154, 3) := dk_180 0 154 (dk_at dksX1_busyFor_0 9 rfl rfl)
theorem dX1_busyFor_12 : decode cX1_busyFor 12 = .ok (.iload_n 1, 1) := dk_27 (dk_at dksX1_busyFor_0 12 rfl rfl)
theorem dX1_busyFor_13 : decode cX1_busyFor 13 = .ok (.iaload, 1) := dk_46 (dk_at dksX1_busyFor_0 13 rfl rfl)
theorem dX1_busyFor_14 : decode cX1_busyFor 14 = .ok (.ireturn, 1) := dk_172 (dk_at dksX1_busyFor_0 14 rfl rfl)
abbrev cX1_whyNotCleaning : ByteArray := prog_1_method_42_code
def yX1_whyNotCleaning : MethodName := ⟨RX1, "whyNotCleaning", "(II)I"⟩
def dkwX1_whyNotCleaning_0 : List UInt8 := [27, 5, 184, 0, 74, 28, 16, 24, 184, 0, 74, 42, 180, 0, 22, 27, 28, 182, 0, 147, 172]
abbrev dktX1_whyNotCleaning_0 : List UInt8 := dkwX1_whyNotCleaning_0 ++ []
theorem dksX1_whyNotCleaning_0 : cX1_whyNotCleaning.data.toList.drop 0 = dktX1_whyNotCleaning_0 := by decide +kernel
theorem dX1_whyNotCleaning_0 : decode cX1_whyNotCleaning 0 = .ok (.iload_n 1, 1) := dk_27 (dk_at dksX1_whyNotCleaning_0 0 rfl rfl)
theorem dX1_whyNotCleaning_1 : decode cX1_whyNotCleaning 1 = .ok (.iconst 2, 1) := dk_5 (dk_at dksX1_whyNotCleaning_0 1 rfl rfl)
theorem dX1_whyNotCleaning_2 : decode cX1_whyNotCleaning 2 = .ok (.invokestatic 74, 3) := dk_184 0 74 (dk_at dksX1_whyNotCleaning_0 2 rfl rfl)
theorem dX1_whyNotCleaning_5 : decode cX1_whyNotCleaning 5 = .ok (.iload_n 2, 1) := dk_28 (dk_at dksX1_whyNotCleaning_0 5 rfl rfl)
theorem dX1_whyNotCleaning_6 : decode cX1_whyNotCleaning 6 = .ok (.bipush 24, 2) := dk_16 24 (dk_at dksX1_whyNotCleaning_0 6 rfl rfl)
theorem dX1_whyNotCleaning_8 : decode cX1_whyNotCleaning 8 = .ok (.invokestatic 74, 3) := dk_184 0 74 (dk_at dksX1_whyNotCleaning_0 8 rfl rfl)
theorem dX1_whyNotCleaning_11 : decode cX1_whyNotCleaning 11 = .ok (.aload_n 0, 1) := dk_42 (dk_at dksX1_whyNotCleaning_0 11 rfl rfl)
theorem dX1_whyNotCleaning_12 : decode cX1_whyNotCleaning 12 = .ok (.getfield 22, 3) := dk_180 0 22 (dk_at dksX1_whyNotCleaning_0 12 rfl rfl)
theorem dX1_whyNotCleaning_15 : decode cX1_whyNotCleaning 15 = .ok (.iload_n 1, 1) := dk_27 (dk_at dksX1_whyNotCleaning_0 15 rfl rfl)
theorem dX1_whyNotCleaning_16 : decode cX1_whyNotCleaning 16 = .ok (.iload_n 2, 1) := dk_28 (dk_at dksX1_whyNotCleaning_0 16 rfl rfl)
theorem dX1_whyNotCleaning_17 : decode cX1_whyNotCleaning 17 = .ok (.invokevirtual 147, 3) := dk_182 0 147 (dk_at dksX1_whyNotCleaning_0 17 rfl rfl)
theorem dX1_whyNotCleaning_20 : decode cX1_whyNotCleaning 20 = .ok (.ireturn, 1) := dk_172 (dk_at dksX1_whyNotCleaning_0 20 rfl rfl)
abbrev cX1_kindOf : ByteArray := prog_1_method_44_code
def yX1_kindOf : MethodName := ⟨RX1, "kindOf", "(I)I"⟩
def dkwX1_kindOf_0 : List UInt8 := [42, 27, 182, 0, 84, 180, 1, 2, 184, 1, 6, 172]
abbrev dktX1_kindOf_0 : List UInt8 := dkwX1_kindOf_0 ++ []
theorem dksX1_kindOf_0 : cX1_kindOf.data.toList.drop 0 = dktX1_kindOf_0 := by decide +kernel
theorem dX1_kindOf_0 : decode cX1_kindOf 0 = .ok (.aload_n 0, 1) := dk_42 (dk_at dksX1_kindOf_0 0 rfl rfl)
theorem dX1_kindOf_1 : decode cX1_kindOf 1 = .ok (.iload_n 1, 1) := dk_27 (dk_at dksX1_kindOf_0 1 rfl rfl)
theorem dX1_kindOf_2 : decode cX1_kindOf 2 = .ok (.invokevirtual 84, 3) := dk_182 0 84 (dk_at dksX1_kindOf_0 2 rfl rfl)
theorem dX1_kindOf_5 : decode cX1_kindOf 5 = .ok (.getfield 258, 3) := dk_180 1 2 (dk_at dksX1_kindOf_0 5 rfl rfl)
theorem dX1_kindOf_8 : decode cX1_kindOf 8 = .ok (.invokestatic 262, 3) := dk_184 1 6 (dk_at dksX1_kindOf_0 8 rfl rfl)
theorem dX1_kindOf_11 : decode cX1_kindOf 11 = .ok (.ireturn, 1) := dk_172 (dk_at dksX1_kindOf_0 11 rfl rfl)
abbrev cX1_lot : ByteArray := prog_1_method_8_code
def yX1_lot : MethodName := ⟨RX1, "lot", "(I)LAnnealingLehr$Lot;"⟩
def dkwX1_lot_1 : List UInt8 := [185, 0, 78, 2, 0, 192, 0, 82, 176]
abbrev dktX1_lot_1 : List UInt8 := dkwX1_lot_1 ++ []
def dkwX1_lot_0 : List UInt8 := [27, 42, 180, 0, 22, 180, 0, 67, 185, 0, 71, 1, 0, 184, 0, 74, 42, 180, 0, 22, 180, 0, 67, 27]
abbrev dktX1_lot_0 : List UInt8 := dkwX1_lot_0 ++ dktX1_lot_1
theorem dksX1_lot_0 : cX1_lot.data.toList.drop 0 = dktX1_lot_0 := by decide +kernel
theorem dksX1_lot_1 : cX1_lot.data.toList.drop 24 = dktX1_lot_1 := dk_seg dksX1_lot_0 24 rfl rfl
theorem dX1_lot_0 : decode cX1_lot 0 = .ok (.iload_n 1, 1) := dk_27 (dk_at dksX1_lot_0 0 rfl rfl)
theorem dX1_lot_1 : decode cX1_lot 1 = .ok (.aload_n 0, 1) := dk_42 (dk_at dksX1_lot_0 1 rfl rfl)
theorem dX1_lot_2 : decode cX1_lot 2 = .ok (.getfield 22, 3) := dk_180 0 22 (dk_at dksX1_lot_0 2 rfl rfl)
theorem dX1_lot_5 : decode cX1_lot 5 = .ok (.getfield 67, 3) := dk_180 0 67 (dk_at dksX1_lot_0 5 rfl rfl)
theorem dX1_lot_8 : decode cX1_lot 8 = .ok (.invokeinterface 71 1, 5) := by decide +kernel
theorem dX1_lot_13 : decode cX1_lot 13 = .ok (.invokestatic 74, 3) := dk_184 0 74 (dk_at dksX1_lot_0 13 rfl rfl)
theorem dX1_lot_16 : decode cX1_lot 16 = .ok (.aload_n 0, 1) := dk_42 (dk_at dksX1_lot_0 16 rfl rfl)
theorem dX1_lot_17 : decode cX1_lot 17 = .ok (.getfield 22, 3) := dk_180 0 22 (dk_at dksX1_lot_0 17 rfl rfl)
theorem dX1_lot_20 : decode cX1_lot 20 = .ok (.getfield 67, 3) := dk_180 0 67 (dk_at dksX1_lot_0 20 rfl rfl)
theorem dX1_lot_23 : decode cX1_lot 23 = .ok (.iload_n 1, 1) := dk_27 (dk_at dksX1_lot_0 23 rfl rfl)
theorem dX1_lot_24 : decode cX1_lot 24 = .ok (.invokeinterface 78 2, 5) := by decide +kernel
theorem dX1_lot_29 : decode cX1_lot 29 = .ok (.checkcast 82, 3) := dk_192 0 82 (dk_at dksX1_lot_1 5 rfl rfl)
theorem dX1_lot_32 : decode cX1_lot 32 = .ok (.areturn, 1) := dk_176 (dk_at dksX1_lot_1 8 rfl rfl)
abbrev cX1_wallOf : ByteArray := prog_1_method_45_code
def yX1_wallOf : MethodName := ⟨RX1, "wallOf", "(I)I"⟩
def dkwX1_wallOf_0 : List UInt8 := [42, 27, 182, 0, 84, 180, 1, 2, 185, 1, 12, 1, 0, 172]
abbrev dktX1_wallOf_0 : List UInt8 := dkwX1_wallOf_0 ++ []
theorem dksX1_wallOf_0 : cX1_wallOf.data.toList.drop 0 = dktX1_wallOf_0 := by decide +kernel
theorem dX1_wallOf_0 : decode cX1_wallOf 0 = .ok (.aload_n 0, 1) := dk_42 (dk_at dksX1_wallOf_0 0 rfl rfl)
theorem dX1_wallOf_1 : decode cX1_wallOf 1 = .ok (.iload_n 1, 1) := dk_27 (dk_at dksX1_wallOf_0 1 rfl rfl)
theorem dX1_wallOf_2 : decode cX1_wallOf 2 = .ok (.invokevirtual 84, 3) := dk_182 0 84 (dk_at dksX1_wallOf_0 2 rfl rfl)
theorem dX1_wallOf_5 : decode cX1_wallOf 5 = .ok (.getfield 258, 3) := dk_180 1 2 (dk_at dksX1_wallOf_0 5 rfl rfl)
theorem dX1_wallOf_8 : decode cX1_wallOf 8 = .ok (.invokeinterface 268 1, 5) := by decide +kernel
theorem dX1_wallOf_13 : decode cX1_wallOf 13 = .ok (.ireturn, 1) := dk_172 (dk_at dksX1_wallOf_0 13 rfl rfl)
abbrev cX1_piecesOf : ByteArray := prog_1_method_46_code
def yX1_piecesOf : MethodName := ⟨RX1, "piecesOf", "(II)I"⟩
def dkwX1_piecesOf_0 : List UInt8 := [42, 27, 182, 0, 84, 78, 28, 3, 7, 184, 0, 104, 45, 28, 182, 1, 17, 172]
abbrev dktX1_piecesOf_0 : List UInt8 := dkwX1_piecesOf_0 ++ []
theorem dksX1_piecesOf_0 : cX1_piecesOf.data.toList.drop 0 = dktX1_piecesOf_0 := by decide +kernel
theorem dX1_piecesOf_0 : decode cX1_piecesOf 0 = .ok (.aload_n 0, 1) := dk_42 (dk_at dksX1_piecesOf_0 0 rfl rfl)
theorem dX1_piecesOf_1 : decode cX1_piecesOf 1 = .ok (.iload_n 1, 1) := dk_27 (dk_at dksX1_piecesOf_0 1 rfl rfl)
theorem dX1_piecesOf_2 : decode cX1_piecesOf 2 = .ok (.invokevirtual 84, 3) := dk_182 0 84 (dk_at dksX1_piecesOf_0 2 rfl rfl)
theorem dX1_piecesOf_5 : decode cX1_piecesOf 5 = .ok (.astore_n 3, 1) := dk_78 (dk_at dksX1_piecesOf_0 5 rfl rfl)
theorem dX1_piecesOf_6 : decode cX1_piecesOf 6 = .ok (.iload_n 2, 1) := dk_28 (dk_at dksX1_piecesOf_0 6 rfl rfl)
theorem dX1_piecesOf_7 : decode cX1_piecesOf 7 = .ok (.iconst 0, 1) := dk_3 (dk_at dksX1_piecesOf_0 7 rfl rfl)
theorem dX1_piecesOf_8 : decode cX1_piecesOf 8 = .ok (.iconst 4, 1) := dk_7 (dk_at dksX1_piecesOf_0 8 rfl rfl)
theorem dX1_piecesOf_9 : decode cX1_piecesOf 9 = .ok (.invokestatic 104, 3) := dk_184 0 104 (dk_at dksX1_piecesOf_0 9 rfl rfl)
theorem dX1_piecesOf_12 : decode cX1_piecesOf 12 = .ok (.aload_n 3, 1) := dk_45 (dk_at dksX1_piecesOf_0 12 rfl rfl)
theorem dX1_piecesOf_13 : decode cX1_piecesOf 13 = .ok (.iload_n 2, 1) := dk_28 (dk_at dksX1_piecesOf_0 13 rfl rfl)
theorem dX1_piecesOf_14 : decode cX1_piecesOf 14 = .ok (.invokevirtual 273, 3) := dk_182 1 17 (dk_at dksX1_piecesOf_0 14 rfl rfl)
theorem dX1_piecesOf_17 : decode cX1_piecesOf 17 = .ok (.ireturn, 1) := dk_172 (dk_at dksX1_piecesOf_0 17 rfl rfl)
abbrev cX1_fateOf : ByteArray := prog_1_method_47_code
def yX1_fateOf : MethodName := ⟨RX1, "fateOf", "(II)I"⟩
def dkwX1_fateOf_0 : List UInt8 := [42, 180, 0, 22, 42, 27, 28, 182, 1, 20, 182, 1, 23, 172]
abbrev dktX1_fateOf_0 : List UInt8 := dkwX1_fateOf_0 ++ []
theorem dksX1_fateOf_0 : cX1_fateOf.data.toList.drop 0 = dktX1_fateOf_0 := by decide +kernel
theorem dX1_fateOf_0 : decode cX1_fateOf 0 = .ok (.aload_n 0, 1) := dk_42 (dk_at dksX1_fateOf_0 0 rfl rfl)
theorem dX1_fateOf_1 : decode cX1_fateOf 1 = .ok (.getfield 22, 3) := dk_180 0 22 (dk_at dksX1_fateOf_0 1 rfl rfl)
theorem dX1_fateOf_4 : decode cX1_fateOf 4 = .ok (.aload_n 0, 1) := dk_42 (dk_at dksX1_fateOf_0 4 rfl rfl)
theorem dX1_fateOf_5 : decode cX1_fateOf 5 = .ok (.iload_n 1, 1) := dk_27 (dk_at dksX1_fateOf_0 5 rfl rfl)
theorem dX1_fateOf_6 : decode cX1_fateOf 6 = .ok (.iload_n 2, 1) := dk_28 (dk_at dksX1_fateOf_0 6 rfl rfl)
theorem dX1_fateOf_7 : decode cX1_fateOf 7 = .ok (.invokevirtual 276, 3) := dk_182 1 20 (dk_at dksX1_fateOf_0 7 rfl rfl)
theorem dX1_fateOf_10 : decode cX1_fateOf 10 = .ok (.invokevirtual 279, 3) := dk_182 1 23 (dk_at dksX1_fateOf_0 10 rfl rfl)
theorem dX1_fateOf_13 : decode cX1_fateOf 13 = .ok (.ireturn, 1) := dk_172 (dk_at dksX1_fateOf_0 13 rfl rfl)
abbrev cX1_key : ByteArray := prog_1_method_9_code
def yX1_key : MethodName := ⟨RX1, "key", "(II)LAnnealingLehr$PieceKey;"⟩
def dkwX1_key_0 : List UInt8 := [28, 42, 27, 182, 0, 84, 180, 0, 88, 184, 0, 74, 187, 0, 92, 89, 27, 28, 183, 0, 94, 176]
abbrev dktX1_key_0 : List UInt8 := dkwX1_key_0 ++ []
theorem dksX1_key_0 : cX1_key.data.toList.drop 0 = dktX1_key_0 := by decide +kernel
theorem dX1_key_0 : decode cX1_key 0 = .ok (.iload_n 2, 1) := dk_28 (dk_at dksX1_key_0 0 rfl rfl)
theorem dX1_key_1 : decode cX1_key 1 = .ok (.aload_n 0, 1) := dk_42 (dk_at dksX1_key_0 1 rfl rfl)
theorem dX1_key_2 : decode cX1_key 2 = .ok (.iload_n 1, 1) := dk_27 (dk_at dksX1_key_0 2 rfl rfl)
theorem dX1_key_3 : decode cX1_key 3 = .ok (.invokevirtual 84, 3) := dk_182 0 84 (dk_at dksX1_key_0 3 rfl rfl)
theorem dX1_key_6 : decode cX1_key 6 = .ok (.getfield 88, 3) := dk_180 0 88 (dk_at dksX1_key_0 6 rfl rfl)
theorem dX1_key_9 : decode cX1_key 9 = .ok (.invokestatic 74, 3) := dk_184 0 74 (dk_at dksX1_key_0 9 rfl rfl)
theorem dX1_key_12 : decode cX1_key 12 = .ok (.new 92, 3) := dk_187 0 92 (dk_at dksX1_key_0 12 rfl rfl)
theorem dX1_key_15 : decode cX1_key 15 = .ok (.dup, 1) := dk_89 (dk_at dksX1_key_0 15 rfl rfl)
theorem dX1_key_16 : decode cX1_key 16 = .ok (.iload_n 1, 1) := dk_27 (dk_at dksX1_key_0 16 rfl rfl)
theorem dX1_key_17 : decode cX1_key 17 = .ok (.iload_n 2, 1) := dk_28 (dk_at dksX1_key_0 17 rfl rfl)
theorem dX1_key_18 : decode cX1_key 18 = .ok (.invokespecial 94, 3) := dk_183 0 94 (dk_at dksX1_key_0 18 rfl rfl)
theorem dX1_key_21 : decode cX1_key 21 = .ok (.areturn, 1) := dk_176 (dk_at dksX1_key_0 21 rfl rfl)
abbrev cX1_placeOf : ByteArray := prog_1_method_48_code
def yX1_placeOf : MethodName := ⟨RX1, "placeOf", "(II)I"⟩
def dkwX1_placeOf_1 : List UInt8 := [199, 0, 7, 2, 167, 0, 7, 45, 180, 1, 33, 172]
abbrev dktX1_placeOf_1 : List UInt8 := dkwX1_placeOf_1 ++ []
def dkwX1_placeOf_0 : List UInt8 := [42, 180, 0, 22, 180, 1, 27, 42, 27, 28, 182, 1, 20, 185, 1, 30, 2, 0, 192, 0, 214, 78, 45]
abbrev dktX1_placeOf_0 : List UInt8 := dkwX1_placeOf_0 ++ dktX1_placeOf_1
theorem dksX1_placeOf_0 : cX1_placeOf.data.toList.drop 0 = dktX1_placeOf_0 := by decide +kernel
theorem dksX1_placeOf_1 : cX1_placeOf.data.toList.drop 23 = dktX1_placeOf_1 := dk_seg dksX1_placeOf_0 23 rfl rfl
theorem dX1_placeOf_0 : decode cX1_placeOf 0 = .ok (.aload_n 0, 1) := dk_42 (dk_at dksX1_placeOf_0 0 rfl rfl)
theorem dX1_placeOf_1 : decode cX1_placeOf 1 = .ok (.getfield 22, 3) := dk_180 0 22 (dk_at dksX1_placeOf_0 1 rfl rfl)
theorem dX1_placeOf_4 : decode cX1_placeOf 4 = .ok (.getfield 283, 3) := dk_180 1 27 (dk_at dksX1_placeOf_0 4 rfl rfl)
theorem dX1_placeOf_7 : decode cX1_placeOf 7 = .ok (.aload_n 0, 1) := dk_42 (dk_at dksX1_placeOf_0 7 rfl rfl)
theorem dX1_placeOf_8 : decode cX1_placeOf 8 = .ok (.iload_n 1, 1) := dk_27 (dk_at dksX1_placeOf_0 8 rfl rfl)
theorem dX1_placeOf_9 : decode cX1_placeOf 9 = .ok (.iload_n 2, 1) := dk_28 (dk_at dksX1_placeOf_0 9 rfl rfl)
theorem dX1_placeOf_10 : decode cX1_placeOf 10 = .ok (.invokevirtual 276, 3) := dk_182 1 20 (dk_at dksX1_placeOf_0 10 rfl rfl)
theorem dX1_placeOf_13 : decode cX1_placeOf 13 = .ok (.invokeinterface 286 2, 5) := by decide +kernel
theorem dX1_placeOf_18 : decode cX1_placeOf 18 = .ok (.checkcast 214, 3) := dk_192 0 214 (dk_at dksX1_placeOf_0 18 rfl rfl)
theorem dX1_placeOf_21 : decode cX1_placeOf 21 = .ok (.astore_n 3, 1) := dk_78 (dk_at dksX1_placeOf_0 21 rfl rfl)
theorem dX1_placeOf_22 : decode cX1_placeOf 22 = .ok (.aload_n 3, 1) := dk_45 (dk_at dksX1_placeOf_0 22 rfl rfl)
theorem dX1_placeOf_23 : decode cX1_placeOf 23 = .ok (.ifnonnull 7, 3) := dk_199 0 7 (dk_at dksX1_placeOf_1 0 rfl rfl)
theorem dX1_placeOf_26 : decode cX1_placeOf 26 = .ok (.iconst (-1), 1) := dk_2 (dk_at dksX1_placeOf_1 3 rfl rfl)
theorem dX1_placeOf_27 : decode cX1_placeOf 27 = .ok (.goto 7, 3) := dk_167 0 7 (dk_at dksX1_placeOf_1 4 rfl rfl)
theorem dX1_placeOf_30 : decode cX1_placeOf 30 = .ok (.aload_n 3, 1) := dk_45 (dk_at dksX1_placeOf_1 7 rfl rfl)
theorem dX1_placeOf_31 : decode cX1_placeOf 31 = .ok (.getfield 289, 3) := dk_180 1 33 (dk_at dksX1_placeOf_1 8 rfl rfl)
theorem dX1_placeOf_34 : decode cX1_placeOf 34 = .ok (.ireturn, 1) := dk_172 (dk_at dksX1_placeOf_1 11 rfl rfl)
abbrev cX1_whyNotLoading : ByteArray := prog_1_method_49_code
def yX1_whyNotLoading : MethodName := ⟨RX1, "whyNotLoading", "(I)I"⟩
def dkwX1_whyNotLoading_1 : List UInt8 := [172]
abbrev dktX1_whyNotLoading_1 : List UInt8 := dkwX1_whyNotLoading_1 ++ []
def dkwX1_whyNotLoading_0 : List UInt8 := [27, 42, 180, 0, 22, 180, 0, 67, 185, 0, 71, 1, 0, 184, 0, 74, 42, 180, 0, 22, 27, 182, 0, 140]
abbrev dktX1_whyNotLoading_0 : List UInt8 := dkwX1_whyNotLoading_0 ++ dktX1_whyNotLoading_1
theorem dksX1_whyNotLoading_0 : cX1_whyNotLoading.data.toList.drop 0 = dktX1_whyNotLoading_0 := by decide +kernel
theorem dksX1_whyNotLoading_1 : cX1_whyNotLoading.data.toList.drop 24 = dktX1_whyNotLoading_1 := dk_seg dksX1_whyNotLoading_0 24 rfl rfl
theorem dX1_whyNotLoading_0 : decode cX1_whyNotLoading 0 = .ok (.iload_n 1, 1) := dk_27 (dk_at dksX1_whyNotLoading_0 0 rfl rfl)
theorem dX1_whyNotLoading_1 : decode cX1_whyNotLoading 1 = .ok (.aload_n 0, 1) := dk_42 (dk_at dksX1_whyNotLoading_0 1 rfl rfl)
theorem dX1_whyNotLoading_2 : decode cX1_whyNotLoading 2 = .ok (.getfield 22, 3) := dk_180 0 22 (dk_at dksX1_whyNotLoading_0 2 rfl rfl)
theorem dX1_whyNotLoading_5 : decode cX1_whyNotLoading 5 = .ok (.getfield 67, 3) := dk_180 0 67 (dk_at dksX1_whyNotLoading_0 5 rfl rfl)
theorem dX1_whyNotLoading_8 : decode cX1_whyNotLoading 8 = .ok (.invokeinterface 71 1, 5) := by decide +kernel
theorem dX1_whyNotLoading_13 : decode cX1_whyNotLoading 13 = .ok (.invokestatic 74, 3) := dk_184 0 74 (dk_at dksX1_whyNotLoading_0 13 rfl rfl)
theorem dX1_whyNotLoading_16 : decode cX1_whyNotLoading 16 = .ok (.aload_n 0, 1) := dk_42 (dk_at dksX1_whyNotLoading_0 16 rfl rfl)
theorem dX1_whyNotLoading_17 : decode cX1_whyNotLoading 17 = .ok (.getfield 22, 3) := dk_180 0 22 (dk_at dksX1_whyNotLoading_0 17 rfl rfl)
theorem dX1_whyNotLoading_20 : decode cX1_whyNotLoading 20 = .ok (.iload_n 1, 1) := dk_27 (dk_at dksX1_whyNotLoading_0 20 rfl rfl)
theorem dX1_whyNotLoading_21 : decode cX1_whyNotLoading 21 = .ok (.invokevirtual 140, 3) := dk_182 0 140 (dk_at dksX1_whyNotLoading_0 21 rfl rfl)
theorem dX1_whyNotLoading_24 : decode cX1_whyNotLoading 24 = .ok (.ireturn, 1) := dk_172 (dk_at dksX1_whyNotLoading_1 0 rfl rfl)
abbrev cX1_stockOf : ByteArray := prog_1_method_50_code
def yX1_stockOf : MethodName := ⟨RX1, "stockOf", "(I)I"⟩
def dkwX1_stockOf_0 : List UInt8 := [42, 27, 182, 0, 84, 180, 1, 36, 172]
abbrev dktX1_stockOf_0 : List UInt8 := dkwX1_stockOf_0 ++ []
theorem dksX1_stockOf_0 : cX1_stockOf.data.toList.drop 0 = dktX1_stockOf_0 := by decide +kernel
theorem dX1_stockOf_0 : decode cX1_stockOf 0 = .ok (.aload_n 0, 1) := dk_42 (dk_at dksX1_stockOf_0 0 rfl rfl)
theorem dX1_stockOf_1 : decode cX1_stockOf 1 = .ok (.iload_n 1, 1) := dk_27 (dk_at dksX1_stockOf_0 1 rfl rfl)
theorem dX1_stockOf_2 : decode cX1_stockOf 2 = .ok (.invokevirtual 84, 3) := dk_182 0 84 (dk_at dksX1_stockOf_0 2 rfl rfl)
theorem dX1_stockOf_5 : decode cX1_stockOf 5 = .ok (.getfield 292, 3) := dk_180 1 36 (dk_at dksX1_stockOf_0 5 rfl rfl)
theorem dX1_stockOf_8 : decode cX1_stockOf 8 = .ok (.ireturn, 1) := dk_172 (dk_at dksX1_stockOf_0 8 rfl rfl)
abbrev cX1_wantedBy : ByteArray := prog_1_method_52_code
def yX1_wantedBy : MethodName := ⟨RX1, "wantedBy", "(I)I"⟩
def dkwX1_wantedBy_1 : List UInt8 := [185, 0, 78, 2, 0, 192, 0, 160, 180, 1, 39, 172]
abbrev dktX1_wantedBy_1 : List UInt8 := dkwX1_wantedBy_1 ++ []
def dkwX1_wantedBy_0 : List UInt8 := [27, 42, 180, 0, 22, 180, 0, 169, 185, 0, 71, 1, 0, 184, 0, 74, 42, 180, 0, 22, 180, 0, 169, 27]
abbrev dktX1_wantedBy_0 : List UInt8 := dkwX1_wantedBy_0 ++ dktX1_wantedBy_1
theorem dksX1_wantedBy_0 : cX1_wantedBy.data.toList.drop 0 = dktX1_wantedBy_0 := by decide +kernel
theorem dksX1_wantedBy_1 : cX1_wantedBy.data.toList.drop 24 = dktX1_wantedBy_1 := dk_seg dksX1_wantedBy_0 24 rfl rfl
theorem dX1_wantedBy_0 : decode cX1_wantedBy 0 = .ok (.iload_n 1, 1) := dk_27 (dk_at dksX1_wantedBy_0 0 rfl rfl)
theorem dX1_wantedBy_1 : decode cX1_wantedBy 1 = .ok (.aload_n 0, 1) := dk_42 (dk_at dksX1_wantedBy_0 1 rfl rfl)
theorem dX1_wantedBy_2 : decode cX1_wantedBy 2 = .ok (.getfield 22, 3) := dk_180 0 22 (dk_at dksX1_wantedBy_0 2 rfl rfl)
theorem dX1_wantedBy_5 : decode cX1_wantedBy 5 = .ok (.getfield 169, 3) := dk_180 0 169 (dk_at dksX1_wantedBy_0 5 rfl rfl)
theorem dX1_wantedBy_8 : decode cX1_wantedBy 8 = .ok (.invokeinterface 71 1, 5) := by decide +kernel
theorem dX1_wantedBy_13 : decode cX1_wantedBy 13 = .ok (.invokestatic 74, 3) := dk_184 0 74 (dk_at dksX1_wantedBy_0 13 rfl rfl)
theorem dX1_wantedBy_16 : decode cX1_wantedBy 16 = .ok (.aload_n 0, 1) := dk_42 (dk_at dksX1_wantedBy_0 16 rfl rfl)
theorem dX1_wantedBy_17 : decode cX1_wantedBy 17 = .ok (.getfield 22, 3) := dk_180 0 22 (dk_at dksX1_wantedBy_0 17 rfl rfl)
theorem dX1_wantedBy_20 : decode cX1_wantedBy 20 = .ok (.getfield 169, 3) := dk_180 0 169 (dk_at dksX1_wantedBy_0 20 rfl rfl)
theorem dX1_wantedBy_23 : decode cX1_wantedBy 23 = .ok (.iload_n 1, 1) := dk_27 (dk_at dksX1_wantedBy_0 23 rfl rfl)
theorem dX1_wantedBy_24 : decode cX1_wantedBy 24 = .ok (.invokeinterface 78 2, 5) := by decide +kernel
theorem dX1_wantedBy_29 : decode cX1_wantedBy 29 = .ok (.checkcast 160, 3) := dk_192 0 160 (dk_at dksX1_wantedBy_1 5 rfl rfl)
theorem dX1_wantedBy_32 : decode cX1_wantedBy 32 = .ok (.getfield 295, 3) := dk_180 1 39 (dk_at dksX1_wantedBy_1 8 rfl rfl)
theorem dX1_wantedBy_35 : decode cX1_wantedBy 35 = .ok (.ireturn, 1) := dk_172 (dk_at dksX1_wantedBy_1 11 rfl rfl)
abbrev cX1_incomeOf : ByteArray := prog_1_method_53_code
def yX1_incomeOf : MethodName := ⟨RX1, "incomeOf", "(I)I"⟩
def dkwX1_incomeOf_0 : List UInt8 := [42, 27, 182, 0, 84, 180, 1, 42, 172]
abbrev dktX1_incomeOf_0 : List UInt8 := dkwX1_incomeOf_0 ++ []
theorem dksX1_incomeOf_0 : cX1_incomeOf.data.toList.drop 0 = dktX1_incomeOf_0 := by decide +kernel
theorem dX1_incomeOf_0 : decode cX1_incomeOf 0 = .ok (.aload_n 0, 1) := dk_42 (dk_at dksX1_incomeOf_0 0 rfl rfl)
theorem dX1_incomeOf_1 : decode cX1_incomeOf 1 = .ok (.iload_n 1, 1) := dk_27 (dk_at dksX1_incomeOf_0 1 rfl rfl)
theorem dX1_incomeOf_2 : decode cX1_incomeOf 2 = .ok (.invokevirtual 84, 3) := dk_182 0 84 (dk_at dksX1_incomeOf_0 2 rfl rfl)
theorem dX1_incomeOf_5 : decode cX1_incomeOf 5 = .ok (.getfield 298, 3) := dk_180 1 42 (dk_at dksX1_incomeOf_0 5 rfl rfl)
theorem dX1_incomeOf_8 : decode cX1_incomeOf 8 = .ok (.ireturn, 1) := dk_172 (dk_at dksX1_incomeOf_0 8 rfl rfl)
abbrev cX1_piecesOfKind : ByteArray := prog_1_method_58_code
def yX1_piecesOfKind : MethodName := ⟨RX1, "piecesOfKind", "(II)I"⟩
def dkwX1_piecesOfKind_3 : List UInt8 := [25, 5, 28, 182, 1, 17, 167, 0, 4, 3, 96, 62, 132, 4, 1, 167, 255, 192, 29, 172]
abbrev dktX1_piecesOfKind_3 : List UInt8 := dkwX1_piecesOfKind_3 ++ []
def dkwX1_piecesOfKind_2 : List UInt8 := [185, 0, 78, 2, 0, 192, 0, 82, 58, 5, 29, 25, 5, 180, 1, 2, 184, 1, 6, 27, 160, 0, 12]
abbrev dktX1_piecesOfKind_2 : List UInt8 := dkwX1_piecesOfKind_2 ++ dktX1_piecesOfKind_3
def dkwX1_piecesOfKind_1 : List UInt8 := [180, 0, 67, 185, 0, 71, 1, 0, 162, 0, 53, 42, 180, 0, 22, 180, 0, 67, 21, 4]
abbrev dktX1_piecesOfKind_1 : List UInt8 := dkwX1_piecesOfKind_1 ++ dktX1_piecesOfKind_2
def dkwX1_piecesOfKind_0 : List UInt8 := [27, 3, 5, 184, 0, 104, 28, 3, 7, 184, 0, 104, 3, 62, 3, 54, 4, 21, 4, 42, 180, 0, 22]
abbrev dktX1_piecesOfKind_0 : List UInt8 := dkwX1_piecesOfKind_0 ++ dktX1_piecesOfKind_1
theorem dksX1_piecesOfKind_0 : cX1_piecesOfKind.data.toList.drop 0 = dktX1_piecesOfKind_0 := by decide +kernel
theorem dksX1_piecesOfKind_1 : cX1_piecesOfKind.data.toList.drop 23 = dktX1_piecesOfKind_1 := dk_seg dksX1_piecesOfKind_0 23 rfl rfl
theorem dksX1_piecesOfKind_2 : cX1_piecesOfKind.data.toList.drop 43 = dktX1_piecesOfKind_2 := dk_seg dksX1_piecesOfKind_1 20 rfl rfl
theorem dksX1_piecesOfKind_3 : cX1_piecesOfKind.data.toList.drop 66 = dktX1_piecesOfKind_3 := dk_seg dksX1_piecesOfKind_2 23 rfl rfl
theorem dX1_piecesOfKind_0 : decode cX1_piecesOfKind 0 = .ok (.iload_n 1, 1) := dk_27 (dk_at dksX1_piecesOfKind_0 0 rfl rfl)
theorem dX1_piecesOfKind_1 : decode cX1_piecesOfKind 1 = .ok (.iconst 0, 1) := dk_3 (dk_at dksX1_piecesOfKind_0 1 rfl rfl)
theorem dX1_piecesOfKind_2 : decode cX1_piecesOfKind 2 = .ok (.iconst 2, 1) := dk_5 (dk_at dksX1_piecesOfKind_0 2 rfl rfl)
theorem dX1_piecesOfKind_3 : decode cX1_piecesOfKind 3 = .ok (.invokestatic 104, 3) := dk_184 0 104 (dk_at dksX1_piecesOfKind_0 3 rfl rfl)
theorem dX1_piecesOfKind_6 : decode cX1_piecesOfKind 6 = .ok (.iload_n 2, 1) := dk_28 (dk_at dksX1_piecesOfKind_0 6 rfl rfl)
theorem dX1_piecesOfKind_7 : decode cX1_piecesOfKind 7 = .ok (.iconst 0, 1) := dk_3 (dk_at dksX1_piecesOfKind_0 7 rfl rfl)
theorem dX1_piecesOfKind_8 : decode cX1_piecesOfKind 8 = .ok (.iconst 4, 1) := dk_7 (dk_at dksX1_piecesOfKind_0 8 rfl rfl)
theorem dX1_piecesOfKind_9 : decode cX1_piecesOfKind 9 = .ok (.invokestatic 104, 3) := dk_184 0 104 (dk_at dksX1_piecesOfKind_0 9 rfl rfl)
theorem dX1_piecesOfKind_12 : decode cX1_piecesOfKind 12 = .ok (.iconst 0, 1) := dk_3 (dk_at dksX1_piecesOfKind_0 12 rfl rfl)
theorem dX1_piecesOfKind_13 : decode cX1_piecesOfKind 13 = .ok (.istore_n 3, 1) := dk_62 (dk_at dksX1_piecesOfKind_0 13 rfl rfl)
theorem dX1_piecesOfKind_14 : decode cX1_piecesOfKind 14 = .ok (.iconst 0, 1) := dk_3 (dk_at dksX1_piecesOfKind_0 14 rfl rfl)
theorem dX1_piecesOfKind_15 : decode cX1_piecesOfKind 15 = .ok (.istore 4, 2) := dk_54 4 (dk_at dksX1_piecesOfKind_0 15 rfl rfl)
theorem dX1_piecesOfKind_17 : decode cX1_piecesOfKind 17 = .ok (.iload 4, 2) := dk_21 4 (dk_at dksX1_piecesOfKind_0 17 rfl rfl)
theorem dX1_piecesOfKind_19 : decode cX1_piecesOfKind 19 = .ok (.aload_n 0, 1) := dk_42 (dk_at dksX1_piecesOfKind_0 19 rfl rfl)
theorem dX1_piecesOfKind_20 : decode cX1_piecesOfKind 20 = .ok (.getfield 22, 3) := dk_180 0 22 (dk_at dksX1_piecesOfKind_0 20 rfl rfl)
theorem dX1_piecesOfKind_23 : decode cX1_piecesOfKind 23 = .ok (.getfield 67, 3) := dk_180 0 67 (dk_at dksX1_piecesOfKind_1 0 rfl rfl)
theorem dX1_piecesOfKind_26 : decode cX1_piecesOfKind 26 = .ok (.invokeinterface 71 1, 5) := by decide +kernel
theorem dX1_piecesOfKind_31 : decode cX1_piecesOfKind 31 = .ok (.if_icmp .ge 53, 3) := dk_162 0 53 (dk_at dksX1_piecesOfKind_1 8 rfl rfl)
theorem dX1_piecesOfKind_34 : decode cX1_piecesOfKind 34 = .ok (.aload_n 0, 1) := dk_42 (dk_at dksX1_piecesOfKind_1 11 rfl rfl)
theorem dX1_piecesOfKind_35 : decode cX1_piecesOfKind 35 = .ok (.getfield 22, 3) := dk_180 0 22 (dk_at dksX1_piecesOfKind_1 12 rfl rfl)
theorem dX1_piecesOfKind_38 : decode cX1_piecesOfKind 38 = .ok (.getfield 67, 3) := dk_180 0 67 (dk_at dksX1_piecesOfKind_1 15 rfl rfl)
theorem dX1_piecesOfKind_41 : decode cX1_piecesOfKind 41 = .ok (.iload 4, 2) := dk_21 4 (dk_at dksX1_piecesOfKind_1 18 rfl rfl)
theorem dX1_piecesOfKind_43 : decode cX1_piecesOfKind 43 = .ok (.invokeinterface 78 2, 5) := by decide +kernel
theorem dX1_piecesOfKind_48 : decode cX1_piecesOfKind 48 = .ok (.checkcast 82, 3) := dk_192 0 82 (dk_at dksX1_piecesOfKind_2 5 rfl rfl)
theorem dX1_piecesOfKind_51 : decode cX1_piecesOfKind 51 = .ok (.astore 5, 2) := dk_58 5 (dk_at dksX1_piecesOfKind_2 8 rfl rfl)
theorem dX1_piecesOfKind_53 : decode cX1_piecesOfKind 53 = .ok (.iload_n 3, 1) := dk_29 (dk_at dksX1_piecesOfKind_2 10 rfl rfl)
theorem dX1_piecesOfKind_54 : decode cX1_piecesOfKind 54 = .ok (.aload 5, 2) := dk_25 5 (dk_at dksX1_piecesOfKind_2 11 rfl rfl)
theorem dX1_piecesOfKind_56 : decode cX1_piecesOfKind 56 = .ok (.getfield 258, 3) := dk_180 1 2 (dk_at dksX1_piecesOfKind_2 13 rfl rfl)
theorem dX1_piecesOfKind_59 : decode cX1_piecesOfKind 59 = .ok (.invokestatic 262, 3) := dk_184 1 6 (dk_at dksX1_piecesOfKind_2 16 rfl rfl)
theorem dX1_piecesOfKind_62 : decode cX1_piecesOfKind 62 = .ok (.iload_n 1, 1) := dk_27 (dk_at dksX1_piecesOfKind_2 19 rfl rfl)
theorem dX1_piecesOfKind_63 : decode cX1_piecesOfKind 63 = .ok (.if_icmp .ne 12, 3) := dk_160 0 12 (dk_at dksX1_piecesOfKind_2 20 rfl rfl)
theorem dX1_piecesOfKind_66 : decode cX1_piecesOfKind 66 = .ok (.aload 5, 2) := dk_25 5 (dk_at dksX1_piecesOfKind_3 0 rfl rfl)
theorem dX1_piecesOfKind_68 : decode cX1_piecesOfKind 68 = .ok (.iload_n 2, 1) := dk_28 (dk_at dksX1_piecesOfKind_3 2 rfl rfl)
theorem dX1_piecesOfKind_69 : decode cX1_piecesOfKind 69 = .ok (.invokevirtual 273, 3) := dk_182 1 17 (dk_at dksX1_piecesOfKind_3 3 rfl rfl)
theorem dX1_piecesOfKind_72 : decode cX1_piecesOfKind 72 = .ok (.goto 4, 3) := dk_167 0 4 (dk_at dksX1_piecesOfKind_3 6 rfl rfl)
theorem dX1_piecesOfKind_75 : decode cX1_piecesOfKind 75 = .ok (.iconst 0, 1) := dk_3 (dk_at dksX1_piecesOfKind_3 9 rfl rfl)
theorem dX1_piecesOfKind_76 : decode cX1_piecesOfKind 76 = .ok (.iadd, 1) := dk_96 (dk_at dksX1_piecesOfKind_3 10 rfl rfl)
theorem dX1_piecesOfKind_77 : decode cX1_piecesOfKind 77 = .ok (.istore_n 3, 1) := dk_62 (dk_at dksX1_piecesOfKind_3 11 rfl rfl)
theorem dX1_piecesOfKind_78 : decode cX1_piecesOfKind 78 = .ok (.iinc 4 1, 3) := dk_132 4 1 (dk_at dksX1_piecesOfKind_3 12 rfl rfl)
theorem dX1_piecesOfKind_81 : decode cX1_piecesOfKind 81 = .ok (.goto (-64), 3) := dk_167 255 192 (dk_at dksX1_piecesOfKind_3 15 rfl rfl)
theorem dX1_piecesOfKind_84 : decode cX1_piecesOfKind 84 = .ok (.iload_n 3, 1) := dk_29 (dk_at dksX1_piecesOfKind_3 18 rfl rfl)
theorem dX1_piecesOfKind_85 : decode cX1_piecesOfKind 85 = .ok (.ireturn, 1) := dk_172 (dk_at dksX1_piecesOfKind_3 19 rfl rfl)
abbrev cX1_brokenIn : ByteArray := prog_1_method_62_code
def yX1_brokenIn : MethodName := ⟨RX1, "brokenIn", "(I)I"⟩
def dkwX1_brokenIn_1 : List UInt8 := [180, 0, 22, 182, 1, 57, 100, 172]
abbrev dktX1_brokenIn_1 : List UInt8 := dkwX1_brokenIn_1 ++ []
def dkwX1_brokenIn_0 : List UInt8 := [27, 4, 16, 120, 184, 0, 104, 42, 180, 0, 22, 182, 0, 50, 27, 184, 1, 53, 182, 1, 57, 42]
abbrev dktX1_brokenIn_0 : List UInt8 := dkwX1_brokenIn_0 ++ dktX1_brokenIn_1
theorem dksX1_brokenIn_0 : cX1_brokenIn.data.toList.drop 0 = dktX1_brokenIn_0 := by decide +kernel
theorem dksX1_brokenIn_1 : cX1_brokenIn.data.toList.drop 22 = dktX1_brokenIn_1 := dk_seg dksX1_brokenIn_0 22 rfl rfl
theorem dX1_brokenIn_0 : decode cX1_brokenIn 0 = .ok (.iload_n 1, 1) := dk_27 (dk_at dksX1_brokenIn_0 0 rfl rfl)
theorem dX1_brokenIn_1 : decode cX1_brokenIn 1 = .ok (.iconst 1, 1) := dk_4 (dk_at dksX1_brokenIn_0 1 rfl rfl)
theorem dX1_brokenIn_2 : decode cX1_brokenIn 2 = .ok (.bipush 120, 2) := dk_16 120 (dk_at dksX1_brokenIn_0 2 rfl rfl)
theorem dX1_brokenIn_4 : decode cX1_brokenIn 4 = .ok (.invokestatic 104, 3) := dk_184 0 104 (dk_at dksX1_brokenIn_0 4 rfl rfl)
theorem dX1_brokenIn_7 : decode cX1_brokenIn 7 = .ok (.aload_n 0, 1) := dk_42 (dk_at dksX1_brokenIn_0 7 rfl rfl)
theorem dX1_brokenIn_8 : decode cX1_brokenIn 8 = .ok (.getfield 22, 3) := dk_180 0 22 (dk_at dksX1_brokenIn_0 8 rfl rfl)
theorem dX1_brokenIn_11 : decode cX1_brokenIn 11 = .ok (.invokevirtual 50, 3) := dk_182 0 50 (dk_at dksX1_brokenIn_0 11 rfl rfl)
theorem dX1_brokenIn_14 : decode cX1_brokenIn 14 = .ok (.iload_n 1, 1) := dk_27 (dk_at dksX1_brokenIn_0 14 rfl rfl)
theorem dX1_brokenIn_15 : decode cX1_brokenIn 15 = .ok (.invokestatic 309, 3) := dk_184 1 53 (dk_at dksX1_brokenIn_0 15 rfl rfl)
theorem dX1_brokenIn_18 : decode cX1_brokenIn 18 = .ok (.invokevirtual 313, 3) := dk_182 1 57 (dk_at dksX1_brokenIn_0 18 rfl rfl)
theorem dX1_brokenIn_21 : decode cX1_brokenIn 21 = .ok (.aload_n 0, 1) := dk_42 (dk_at dksX1_brokenIn_0 21 rfl rfl)
theorem dX1_brokenIn_22 : decode cX1_brokenIn 22 = .ok (.getfield 22, 3) := dk_180 0 22 (dk_at dksX1_brokenIn_1 0 rfl rfl)
theorem dX1_brokenIn_25 : decode cX1_brokenIn 25 = .ok (.invokevirtual 313, 3) := dk_182 1 57 (dk_at dksX1_brokenIn_1 3 rfl rfl)
theorem dX1_brokenIn_28 : decode cX1_brokenIn 28 = .ok (.isub, 1) := dk_100 (dk_at dksX1_brokenIn_1 6 rfl rfl)
theorem dX1_brokenIn_29 : decode cX1_brokenIn 29 = .ok (.ireturn, 1) := dk_172 (dk_at dksX1_brokenIn_1 7 rfl rfl)
abbrev cX1_run : ByteArray := prog_1_method_61_code
def yX1_run : MethodName := ⟨RX1, "run", "(LAnnealingLehr$State;I)LAnnealingLehr$State;"⟩
def dkwX1_run_0 : List UInt8 := [3, 61, 28, 27, 162, 0, 13, 42, 182, 1, 50, 132, 2, 1, 167, 255, 244, 42, 176]
abbrev dktX1_run_0 : List UInt8 := dkwX1_run_0 ++ []
theorem dksX1_run_0 : cX1_run.data.toList.drop 0 = dktX1_run_0 := by decide +kernel
theorem dX1_run_0 : decode cX1_run 0 = .ok (.iconst 0, 1) := dk_3 (dk_at dksX1_run_0 0 rfl rfl)
theorem dX1_run_1 : decode cX1_run 1 = .ok (.istore_n 2, 1) := dk_61 (dk_at dksX1_run_0 1 rfl rfl)
theorem dX1_run_2 : decode cX1_run 2 = .ok (.iload_n 2, 1) := dk_28 (dk_at dksX1_run_0 2 rfl rfl)
theorem dX1_run_3 : decode cX1_run 3 = .ok (.iload_n 1, 1) := dk_27 (dk_at dksX1_run_0 3 rfl rfl)
theorem dX1_run_4 : decode cX1_run 4 = .ok (.if_icmp .ge 13, 3) := dk_162 0 13 (dk_at dksX1_run_0 4 rfl rfl)
theorem dX1_run_7 : decode cX1_run 7 = .ok (.aload_n 0, 1) := dk_42 (dk_at dksX1_run_0 7 rfl rfl)
theorem dX1_run_8 : decode cX1_run 8 = .ok (.invokevirtual 306, 3) := dk_182 1 50 (dk_at dksX1_run_0 8 rfl rfl)
theorem dX1_run_11 : decode cX1_run 11 = .ok (.iinc 2 1, 3) := dk_132 2 1 (dk_at dksX1_run_0 11 rfl rfl)
theorem dX1_run_14 : decode cX1_run 14 = .ok (.goto (-12), 3) := dk_167 255 244 (dk_at dksX1_run_0 14 rfl rfl)
theorem dX1_run_17 : decode cX1_run 17 = .ok (.aload_n 0, 1) := dk_42 (dk_at dksX1_run_0 17 rfl rfl)
theorem dX1_run_18 : decode cX1_run 18 = .ok (.areturn, 1) := dk_176 (dk_at dksX1_run_0 18 rfl rfl)
abbrev cX1_incomeIn : ByteArray := prog_1_method_63_code
def yX1_incomeIn : MethodName := ⟨RX1, "incomeIn", "(I)I"⟩
def dkwX1_incomeIn_1 : List UInt8 := [180, 0, 22, 182, 1, 48, 100, 172]
abbrev dktX1_incomeIn_1 : List UInt8 := dkwX1_incomeIn_1 ++ []
def dkwX1_incomeIn_0 : List UInt8 := [27, 4, 16, 120, 184, 0, 104, 42, 180, 0, 22, 182, 0, 50, 27, 184, 1, 53, 182, 1, 48, 42]
abbrev dktX1_incomeIn_0 : List UInt8 := dkwX1_incomeIn_0 ++ dktX1_incomeIn_1
theorem dksX1_incomeIn_0 : cX1_incomeIn.data.toList.drop 0 = dktX1_incomeIn_0 := by decide +kernel
theorem dksX1_incomeIn_1 : cX1_incomeIn.data.toList.drop 22 = dktX1_incomeIn_1 := dk_seg dksX1_incomeIn_0 22 rfl rfl
theorem dX1_incomeIn_0 : decode cX1_incomeIn 0 = .ok (.iload_n 1, 1) := dk_27 (dk_at dksX1_incomeIn_0 0 rfl rfl)
theorem dX1_incomeIn_1 : decode cX1_incomeIn 1 = .ok (.iconst 1, 1) := dk_4 (dk_at dksX1_incomeIn_0 1 rfl rfl)
theorem dX1_incomeIn_2 : decode cX1_incomeIn 2 = .ok (.bipush 120, 2) := dk_16 120 (dk_at dksX1_incomeIn_0 2 rfl rfl)
theorem dX1_incomeIn_4 : decode cX1_incomeIn 4 = .ok (.invokestatic 104, 3) := dk_184 0 104 (dk_at dksX1_incomeIn_0 4 rfl rfl)
theorem dX1_incomeIn_7 : decode cX1_incomeIn 7 = .ok (.aload_n 0, 1) := dk_42 (dk_at dksX1_incomeIn_0 7 rfl rfl)
theorem dX1_incomeIn_8 : decode cX1_incomeIn 8 = .ok (.getfield 22, 3) := dk_180 0 22 (dk_at dksX1_incomeIn_0 8 rfl rfl)
theorem dX1_incomeIn_11 : decode cX1_incomeIn 11 = .ok (.invokevirtual 50, 3) := dk_182 0 50 (dk_at dksX1_incomeIn_0 11 rfl rfl)
theorem dX1_incomeIn_14 : decode cX1_incomeIn 14 = .ok (.iload_n 1, 1) := dk_27 (dk_at dksX1_incomeIn_0 14 rfl rfl)
theorem dX1_incomeIn_15 : decode cX1_incomeIn 15 = .ok (.invokestatic 309, 3) := dk_184 1 53 (dk_at dksX1_incomeIn_0 15 rfl rfl)
theorem dX1_incomeIn_18 : decode cX1_incomeIn 18 = .ok (.invokevirtual 304, 3) := dk_182 1 48 (dk_at dksX1_incomeIn_0 18 rfl rfl)
theorem dX1_incomeIn_21 : decode cX1_incomeIn 21 = .ok (.aload_n 0, 1) := dk_42 (dk_at dksX1_incomeIn_0 21 rfl rfl)
theorem dX1_incomeIn_22 : decode cX1_incomeIn 22 = .ok (.getfield 22, 3) := dk_180 0 22 (dk_at dksX1_incomeIn_1 0 rfl rfl)
theorem dX1_incomeIn_25 : decode cX1_incomeIn 25 = .ok (.invokevirtual 304, 3) := dk_182 1 48 (dk_at dksX1_incomeIn_1 3 rfl rfl)
theorem dX1_incomeIn_28 : decode cX1_incomeIn 28 = .ok (.isub, 1) := dk_100 (dk_at dksX1_incomeIn_1 6 rfl rfl)
theorem dX1_incomeIn_29 : decode cX1_incomeIn 29 = .ok (.ireturn, 1) := dk_172 (dk_at dksX1_incomeIn_1 7 rfl rfl)
abbrev cX1_minutesOnTheWay : ByteArray := prog_1_method_64_code
def yX1_minutesOnTheWay : MethodName := ⟨RX1, "minutesOnTheWay", "(II)I"⟩
def dkwX1_minutesOnTheWay_3 : List UInt8 := [21, 5, 172]
abbrev dktX1_minutesOnTheWay_3 : List UInt8 := dkwX1_minutesOnTheWay_3 ++ []
def dkwX1_minutesOnTheWay_2 : List UInt8 := [132, 5, 1, 167, 255, 226, 25, 4, 180, 1, 27, 45, 185, 1, 60, 2, 0, 153, 0, 7, 2, 167, 0, 5]
abbrev dktX1_minutesOnTheWay_2 : List UInt8 := dkwX1_minutesOnTheWay_2 ++ dktX1_minutesOnTheWay_3
def dkwX1_minutesOnTheWay_1 : List UInt8 := [45, 185, 1, 60, 2, 0, 153, 0, 22, 21, 5, 17, 0, 240, 162, 0, 14, 25, 4, 182, 1, 50]
abbrev dktX1_minutesOnTheWay_1 : List UInt8 := dkwX1_minutesOnTheWay_1 ++ dktX1_minutesOnTheWay_2
def dkwX1_minutesOnTheWay_0 : List UInt8 := [42, 27, 28, 182, 1, 20, 78, 42, 180, 0, 22, 182, 0, 50, 58, 4, 3, 54, 5, 25, 4, 180, 1, 27]
abbrev dktX1_minutesOnTheWay_0 : List UInt8 := dkwX1_minutesOnTheWay_0 ++ dktX1_minutesOnTheWay_1
theorem dksX1_minutesOnTheWay_0 : cX1_minutesOnTheWay.data.toList.drop 0 = dktX1_minutesOnTheWay_0 := by decide +kernel
theorem dksX1_minutesOnTheWay_1 : cX1_minutesOnTheWay.data.toList.drop 24 = dktX1_minutesOnTheWay_1 := dk_seg dksX1_minutesOnTheWay_0 24 rfl rfl
theorem dksX1_minutesOnTheWay_2 : cX1_minutesOnTheWay.data.toList.drop 46 = dktX1_minutesOnTheWay_2 := dk_seg dksX1_minutesOnTheWay_1 22 rfl rfl
theorem dksX1_minutesOnTheWay_3 : cX1_minutesOnTheWay.data.toList.drop 70 = dktX1_minutesOnTheWay_3 := dk_seg dksX1_minutesOnTheWay_2 24 rfl rfl
theorem dX1_minutesOnTheWay_0 : decode cX1_minutesOnTheWay 0 = .ok (.aload_n 0, 1) := dk_42 (dk_at dksX1_minutesOnTheWay_0 0 rfl rfl)
theorem dX1_minutesOnTheWay_1 : decode cX1_minutesOnTheWay 1 = .ok (.iload_n 1, 1) := dk_27 (dk_at dksX1_minutesOnTheWay_0 1 rfl rfl)
theorem dX1_minutesOnTheWay_2 : decode cX1_minutesOnTheWay 2 = .ok (.iload_n 2, 1) := dk_28 (dk_at dksX1_minutesOnTheWay_0 2 rfl rfl)
theorem dX1_minutesOnTheWay_3 : decode cX1_minutesOnTheWay 3 = .ok (.invokevirtual 276, 3) := dk_182 1 20 (dk_at dksX1_minutesOnTheWay_0 3 rfl rfl)
theorem dX1_minutesOnTheWay_6 : decode cX1_minutesOnTheWay 6 = .ok (.astore_n 3, 1) := dk_78 (dk_at dksX1_minutesOnTheWay_0 6 rfl rfl)
theorem dX1_minutesOnTheWay_7 : decode cX1_minutesOnTheWay 7 = .ok (.aload_n 0, 1) := dk_42 (dk_at dksX1_minutesOnTheWay_0 7 rfl rfl)
theorem dX1_minutesOnTheWay_8 : decode cX1_minutesOnTheWay 8 = .ok (.getfield 22, 3) := dk_180 0 22 (dk_at dksX1_minutesOnTheWay_0 8 rfl rfl)
theorem dX1_minutesOnTheWay_11 : decode cX1_minutesOnTheWay 11 = .ok (.invokevirtual 50, 3) := dk_182 0 50 (dk_at dksX1_minutesOnTheWay_0 11 rfl rfl)
theorem dX1_minutesOnTheWay_14 : decode cX1_minutesOnTheWay 14 = .ok (.astore 4, 2) := dk_58 4 (dk_at dksX1_minutesOnTheWay_0 14 rfl rfl)
theorem dX1_minutesOnTheWay_16 : decode cX1_minutesOnTheWay 16 = .ok (.iconst 0, 1) := dk_3 (dk_at dksX1_minutesOnTheWay_0 16 rfl rfl)
theorem dX1_minutesOnTheWay_17 : decode cX1_minutesOnTheWay 17 = .ok (.istore 5, 2) := dk_54 5 (dk_at dksX1_minutesOnTheWay_0 17 rfl rfl)
theorem dX1_minutesOnTheWay_19 : decode cX1_minutesOnTheWay 19 = .ok (.aload 4, 2) := dk_25 4 (dk_at dksX1_minutesOnTheWay_0 19 rfl rfl)
theorem dX1_minutesOnTheWay_21 : decode cX1_minutesOnTheWay 21 = .ok (.getfield 283, 3) := dk_180 1 27 (dk_at dksX1_minutesOnTheWay_0 21 rfl rfl)
theorem dX1_minutesOnTheWay_24 : decode cX1_minutesOnTheWay 24 = .ok (.aload_n 3, 1) := dk_45 (dk_at dksX1_minutesOnTheWay_1 0 rfl rfl)
theorem dX1_minutesOnTheWay_25 : decode cX1_minutesOnTheWay 25 = .ok (.invokeinterface 316 2, 5) := by decide +kernel
theorem dX1_minutesOnTheWay_30 : decode cX1_minutesOnTheWay 30 = .ok (.ifCond .eq 22, 3) := dk_153 0 22 (dk_at dksX1_minutesOnTheWay_1 6 rfl rfl)
theorem dX1_minutesOnTheWay_33 : decode cX1_minutesOnTheWay 33 = .ok (.iload 5, 2) := dk_21 5 (dk_at dksX1_minutesOnTheWay_1 9 rfl rfl)
theorem dX1_minutesOnTheWay_35 : decode cX1_minutesOnTheWay 35 = .ok (.sipush 240, 3) := dk_17 0 240 (dk_at dksX1_minutesOnTheWay_1 11 rfl rfl)
theorem dX1_minutesOnTheWay_38 : decode cX1_minutesOnTheWay 38 = .ok (.if_icmp .ge 14, 3) := dk_162 0 14 (dk_at dksX1_minutesOnTheWay_1 14 rfl rfl)
theorem dX1_minutesOnTheWay_41 : decode cX1_minutesOnTheWay 41 = .ok (.aload 4, 2) := dk_25 4 (dk_at dksX1_minutesOnTheWay_1 17 rfl rfl)
theorem dX1_minutesOnTheWay_43 : decode cX1_minutesOnTheWay 43 = .ok (.invokevirtual 306, 3) := dk_182 1 50 (dk_at dksX1_minutesOnTheWay_1 19 rfl rfl)
theorem dX1_minutesOnTheWay_46 : decode cX1_minutesOnTheWay 46 = .ok (.iinc 5 1, 3) := dk_132 5 1 (dk_at dksX1_minutesOnTheWay_2 0 rfl rfl)
theorem dX1_minutesOnTheWay_49 : decode cX1_minutesOnTheWay 49 = .ok (.goto (-30), 3) := dk_167 255 226 (dk_at dksX1_minutesOnTheWay_2 3 rfl rfl)
theorem dX1_minutesOnTheWay_52 : decode cX1_minutesOnTheWay 52 = .ok (.aload 4, 2) := dk_25 4 (dk_at dksX1_minutesOnTheWay_2 6 rfl rfl)
theorem dX1_minutesOnTheWay_54 : decode cX1_minutesOnTheWay 54 = .ok (.getfield 283, 3) := dk_180 1 27 (dk_at dksX1_minutesOnTheWay_2 8 rfl rfl)
theorem dX1_minutesOnTheWay_57 : decode cX1_minutesOnTheWay 57 = .ok (.aload_n 3, 1) := dk_45 (dk_at dksX1_minutesOnTheWay_2 11 rfl rfl)
theorem dX1_minutesOnTheWay_58 : decode cX1_minutesOnTheWay 58 = .ok (.invokeinterface 316 2, 5) := by decide +kernel
theorem dX1_minutesOnTheWay_63 : decode cX1_minutesOnTheWay 63 = .ok (.ifCond .eq 7, 3) := dk_153 0 7 (dk_at dksX1_minutesOnTheWay_2 17 rfl rfl)
theorem dX1_minutesOnTheWay_66 : decode cX1_minutesOnTheWay 66 = .ok (.iconst (-1), 1) := dk_2 (dk_at dksX1_minutesOnTheWay_2 20 rfl rfl)
theorem dX1_minutesOnTheWay_67 : decode cX1_minutesOnTheWay 67 = .ok (.goto 5, 3) := dk_167 0 5 (dk_at dksX1_minutesOnTheWay_2 21 rfl rfl)
theorem dX1_minutesOnTheWay_70 : decode cX1_minutesOnTheWay 70 = .ok (.iload 5, 2) := dk_21 5 (dk_at dksX1_minutesOnTheWay_3 0 rfl rfl)
theorem dX1_minutesOnTheWay_72 : decode cX1_minutesOnTheWay 72 = .ok (.ireturn, 1) := dk_172 (dk_at dksX1_minutesOnTheWay_3 2 rfl rfl)
abbrev cX1_minutesToGo : ByteArray := prog_1_method_65_code
def yX1_minutesToGo : MethodName := ⟨RX1, "minutesToGo", "(II)I"⟩
def dkwX1_minutesToGo_1 : List UInt8 := [199, 0, 7, 2, 167, 0, 11, 42, 180, 0, 22, 45, 182, 1, 64, 172]
abbrev dktX1_minutesToGo_1 : List UInt8 := dkwX1_minutesToGo_1 ++ []
def dkwX1_minutesToGo_0 : List UInt8 := [42, 180, 0, 22, 180, 1, 27, 42, 27, 28, 182, 1, 20, 185, 1, 30, 2, 0, 192, 0, 214, 78, 45]
abbrev dktX1_minutesToGo_0 : List UInt8 := dkwX1_minutesToGo_0 ++ dktX1_minutesToGo_1
theorem dksX1_minutesToGo_0 : cX1_minutesToGo.data.toList.drop 0 = dktX1_minutesToGo_0 := by decide +kernel
theorem dksX1_minutesToGo_1 : cX1_minutesToGo.data.toList.drop 23 = dktX1_minutesToGo_1 := dk_seg dksX1_minutesToGo_0 23 rfl rfl
theorem dX1_minutesToGo_0 : decode cX1_minutesToGo 0 = .ok (.aload_n 0, 1) := dk_42 (dk_at dksX1_minutesToGo_0 0 rfl rfl)
theorem dX1_minutesToGo_1 : decode cX1_minutesToGo 1 = .ok (.getfield 22, 3) := dk_180 0 22 (dk_at dksX1_minutesToGo_0 1 rfl rfl)
theorem dX1_minutesToGo_4 : decode cX1_minutesToGo 4 = .ok (.getfield 283, 3) := dk_180 1 27 (dk_at dksX1_minutesToGo_0 4 rfl rfl)
theorem dX1_minutesToGo_7 : decode cX1_minutesToGo 7 = .ok (.aload_n 0, 1) := dk_42 (dk_at dksX1_minutesToGo_0 7 rfl rfl)
theorem dX1_minutesToGo_8 : decode cX1_minutesToGo 8 = .ok (.iload_n 1, 1) := dk_27 (dk_at dksX1_minutesToGo_0 8 rfl rfl)
theorem dX1_minutesToGo_9 : decode cX1_minutesToGo 9 = .ok (.iload_n 2, 1) := dk_28 (dk_at dksX1_minutesToGo_0 9 rfl rfl)
theorem dX1_minutesToGo_10 : decode cX1_minutesToGo 10 = .ok (.invokevirtual 276, 3) := dk_182 1 20 (dk_at dksX1_minutesToGo_0 10 rfl rfl)
theorem dX1_minutesToGo_13 : decode cX1_minutesToGo 13 = .ok (.invokeinterface 286 2, 5) := by decide +kernel
theorem dX1_minutesToGo_18 : decode cX1_minutesToGo 18 = .ok (.checkcast 214, 3) := dk_192 0 214 (dk_at dksX1_minutesToGo_0 18 rfl rfl)
theorem dX1_minutesToGo_21 : decode cX1_minutesToGo 21 = .ok (.astore_n 3, 1) := dk_78 (dk_at dksX1_minutesToGo_0 21 rfl rfl)
theorem dX1_minutesToGo_22 : decode cX1_minutesToGo 22 = .ok (.aload_n 3, 1) := dk_45 (dk_at dksX1_minutesToGo_0 22 rfl rfl)
theorem dX1_minutesToGo_23 : decode cX1_minutesToGo 23 = .ok (.ifnonnull 7, 3) := dk_199 0 7 (dk_at dksX1_minutesToGo_1 0 rfl rfl)
theorem dX1_minutesToGo_26 : decode cX1_minutesToGo 26 = .ok (.iconst (-1), 1) := dk_2 (dk_at dksX1_minutesToGo_1 3 rfl rfl)
theorem dX1_minutesToGo_27 : decode cX1_minutesToGo 27 = .ok (.goto 11, 3) := dk_167 0 11 (dk_at dksX1_minutesToGo_1 4 rfl rfl)
theorem dX1_minutesToGo_30 : decode cX1_minutesToGo 30 = .ok (.aload_n 0, 1) := dk_42 (dk_at dksX1_minutesToGo_1 7 rfl rfl)
theorem dX1_minutesToGo_31 : decode cX1_minutesToGo 31 = .ok (.getfield 22, 3) := dk_180 0 22 (dk_at dksX1_minutesToGo_1 8 rfl rfl)
theorem dX1_minutesToGo_34 : decode cX1_minutesToGo 34 = .ok (.aload_n 3, 1) := dk_45 (dk_at dksX1_minutesToGo_1 11 rfl rfl)
theorem dX1_minutesToGo_35 : decode cX1_minutesToGo 35 = .ok (.invokevirtual 320, 3) := dk_182 1 64 (dk_at dksX1_minutesToGo_1 12 rfl rfl)
theorem dX1_minutesToGo_38 : decode cX1_minutesToGo 38 = .ok (.ireturn, 1) := dk_172 (dk_at dksX1_minutesToGo_1 15 rfl rfl)
abbrev cX1_lowestSafeBurner : ByteArray := prog_1_method_66_code
def yX1_lowestSafeBurner : MethodName := ⟨RX1, "lowestSafeBurner", "(I)I"⟩
def dkwX1_lowestSafeBurner_2 : List UInt8 := [172, 132, 2, 1, 167, 255, 212, 2, 172]
abbrev dktX1_lowestSafeBurner_2 : List UInt8 := dkwX1_lowestSafeBurner_2 ++ []
def dkwX1_lowestSafeBurner_1 : List UInt8 := [182, 0, 115, 87, 45, 16, 60, 184, 1, 53, 182, 1, 57, 42, 180, 0, 22, 182, 1, 57, 160, 0, 5, 28]
abbrev dktX1_lowestSafeBurner_1 : List UInt8 := dkwX1_lowestSafeBurner_1 ++ dktX1_lowestSafeBurner_2
def dkwX1_lowestSafeBurner_0 : List UInt8 := [27, 16, 8, 184, 0, 74, 3, 61, 28, 6, 163, 0, 45, 42, 180, 0, 22, 182, 0, 50, 78, 45, 27, 28]
abbrev dktX1_lowestSafeBurner_0 : List UInt8 := dkwX1_lowestSafeBurner_0 ++ dktX1_lowestSafeBurner_1
theorem dksX1_lowestSafeBurner_0 : cX1_lowestSafeBurner.data.toList.drop 0 = dktX1_lowestSafeBurner_0 := by decide +kernel
theorem dksX1_lowestSafeBurner_1 : cX1_lowestSafeBurner.data.toList.drop 24 = dktX1_lowestSafeBurner_1 := dk_seg dksX1_lowestSafeBurner_0 24 rfl rfl
theorem dksX1_lowestSafeBurner_2 : cX1_lowestSafeBurner.data.toList.drop 48 = dktX1_lowestSafeBurner_2 := dk_seg dksX1_lowestSafeBurner_1 24 rfl rfl
theorem dX1_lowestSafeBurner_0 : decode cX1_lowestSafeBurner 0 = .ok (.iload_n 1, 1) := dk_27 (dk_at dksX1_lowestSafeBurner_0 0 rfl rfl)
theorem dX1_lowestSafeBurner_1 : decode cX1_lowestSafeBurner 1 = .ok (.bipush 8, 2) := dk_16 8 (dk_at dksX1_lowestSafeBurner_0 1 rfl rfl)
theorem dX1_lowestSafeBurner_3 : decode cX1_lowestSafeBurner 3 = .ok (.invokestatic 74, 3) := dk_184 0 74 (dk_at dksX1_lowestSafeBurner_0 3 rfl rfl)
theorem dX1_lowestSafeBurner_6 : decode cX1_lowestSafeBurner 6 = .ok (.iconst 0, 1) := dk_3 (dk_at dksX1_lowestSafeBurner_0 6 rfl rfl)
theorem dX1_lowestSafeBurner_7 : decode cX1_lowestSafeBurner 7 = .ok (.istore_n 2, 1) := dk_61 (dk_at dksX1_lowestSafeBurner_0 7 rfl rfl)
theorem dX1_lowestSafeBurner_8 : decode cX1_lowestSafeBurner 8 = .ok (.iload_n 2, 1) := dk_28 (dk_at dksX1_lowestSafeBurner_0 8 rfl rfl)
theorem dX1_lowestSafeBurner_9 : decode cX1_lowestSafeBurner 9 = .ok (.iconst 3, 1) := dk_6 (dk_at dksX1_lowestSafeBurner_0 9 rfl rfl)
theorem dX1_lowestSafeBurner_10 : decode cX1_lowestSafeBurner 10 = .ok (.if_icmp .gt 45, 3) := dk_163 0 45 (dk_at dksX1_lowestSafeBurner_0 10 rfl rfl)
theorem dX1_lowestSafeBurner_13 : decode cX1_lowestSafeBurner 13 = .ok (.aload_n 0, 1) := dk_42 (dk_at dksX1_lowestSafeBurner_0 13 rfl rfl)
theorem dX1_lowestSafeBurner_14 : decode cX1_lowestSafeBurner 14 = .ok (.getfield 22, 3) := dk_180 0 22 (dk_at dksX1_lowestSafeBurner_0 14 rfl rfl)
theorem dX1_lowestSafeBurner_17 : decode cX1_lowestSafeBurner 17 = .ok (.invokevirtual 50, 3) := dk_182 0 50 (dk_at dksX1_lowestSafeBurner_0 17 rfl rfl)
theorem dX1_lowestSafeBurner_20 : decode cX1_lowestSafeBurner 20 = .ok (.astore_n 3, 1) := dk_78 (dk_at dksX1_lowestSafeBurner_0 20 rfl rfl)
theorem dX1_lowestSafeBurner_21 : decode cX1_lowestSafeBurner 21 = .ok (.aload_n 3, 1) := dk_45 (dk_at dksX1_lowestSafeBurner_0 21 rfl rfl)
theorem dX1_lowestSafeBurner_22 : decode cX1_lowestSafeBurner 22 = .ok (.iload_n 1, 1) := dk_27 (dk_at dksX1_lowestSafeBurner_0 22 rfl rfl)
theorem dX1_lowestSafeBurner_23 : decode cX1_lowestSafeBurner 23 = .ok (.iload_n 2, 1) := dk_28 (dk_at dksX1_lowestSafeBurner_0 23 rfl rfl)
theorem dX1_lowestSafeBurner_24 : decode cX1_lowestSafeBurner 24 = .ok (.invokevirtual 115, 3) := dk_182 0 115 (dk_at dksX1_lowestSafeBurner_1 0 rfl rfl)
theorem dX1_lowestSafeBurner_27 : decode cX1_lowestSafeBurner 27 = .ok (.pop, 1) := dk_87 (dk_at dksX1_lowestSafeBurner_1 3 rfl rfl)
theorem dX1_lowestSafeBurner_28 : decode cX1_lowestSafeBurner 28 = .ok (.aload_n 3, 1) := dk_45 (dk_at dksX1_lowestSafeBurner_1 4 rfl rfl)
theorem dX1_lowestSafeBurner_29 : decode cX1_lowestSafeBurner 29 = .ok (.bipush 60, 2) := dk_16 60 (dk_at dksX1_lowestSafeBurner_1 5 rfl rfl)
theorem dX1_lowestSafeBurner_31 : decode cX1_lowestSafeBurner 31 = .ok (.invokestatic 309, 3) := dk_184 1 53 (dk_at dksX1_lowestSafeBurner_1 7 rfl rfl)
theorem dX1_lowestSafeBurner_34 : decode cX1_lowestSafeBurner 34 = .ok (.invokevirtual 313, 3) := dk_182 1 57 (dk_at dksX1_lowestSafeBurner_1 10 rfl rfl)
theorem dX1_lowestSafeBurner_37 : decode cX1_lowestSafeBurner 37 = .ok (.aload_n 0, 1) := dk_42 (dk_at dksX1_lowestSafeBurner_1 13 rfl rfl)
theorem dX1_lowestSafeBurner_38 : decode cX1_lowestSafeBurner 38 = .ok (.getfield 22, 3) := dk_180 0 22 (dk_at dksX1_lowestSafeBurner_1 14 rfl rfl)
theorem dX1_lowestSafeBurner_41 : decode cX1_lowestSafeBurner 41 = .ok (.invokevirtual 313, 3) := dk_182 1 57 (dk_at dksX1_lowestSafeBurner_1 17 rfl rfl)
theorem dX1_lowestSafeBurner_44 : decode cX1_lowestSafeBurner 44 = .ok (.if_icmp .ne 5, 3) := dk_160 0 5 (dk_at dksX1_lowestSafeBurner_1 20 rfl rfl)
theorem dX1_lowestSafeBurner_47 : decode cX1_lowestSafeBurner 47 = .ok (.iload_n 2, 1) := dk_28 (dk_at dksX1_lowestSafeBurner_1 23 rfl rfl)
theorem dX1_lowestSafeBurner_48 : decode cX1_lowestSafeBurner 48 = .ok (.ireturn, 1) := dk_172 (dk_at dksX1_lowestSafeBurner_2 0 rfl rfl)
theorem dX1_lowestSafeBurner_49 : decode cX1_lowestSafeBurner 49 = .ok (.iinc 2 1, 3) := dk_132 2 1 (dk_at dksX1_lowestSafeBurner_2 1 rfl rfl)
theorem dX1_lowestSafeBurner_52 : decode cX1_lowestSafeBurner 52 = .ok (.goto (-44), 3) := dk_167 255 212 (dk_at dksX1_lowestSafeBurner_2 4 rfl rfl)
theorem dX1_lowestSafeBurner_55 : decode cX1_lowestSafeBurner 55 = .ok (.iconst (-1), 1) := dk_2 (dk_at dksX1_lowestSafeBurner_2 7 rfl rfl)
theorem dX1_lowestSafeBurner_56 : decode cX1_lowestSafeBurner 56 = .ok (.ireturn, 1) := dk_172 (dk_at dksX1_lowestSafeBurner_2 8 rfl rfl)
abbrev cX1_append : ByteArray := prog_1_method_67_code
def yX1_append : MethodName := ⟨RX1, "append", "(I)I"⟩
def dkwX1_append_1 : List UInt8 := [3, 184, 0, 100, 42, 180, 0, 38, 27, 146, 182, 1, 71, 87, 42, 180, 0, 38, 182, 1, 68, 172]
abbrev dktX1_append_1 : List UInt8 := dkwX1_append_1 ++ []
def dkwX1_append_0 : List UInt8 := [27, 16, 32, 16, 126, 184, 0, 104, 42, 180, 0, 38, 182, 1, 68, 16, 60, 162, 0, 7, 4, 167, 0, 4]
abbrev dktX1_append_0 : List UInt8 := dkwX1_append_0 ++ dktX1_append_1
theorem dksX1_append_0 : cX1_append.data.toList.drop 0 = dktX1_append_0 := by decide +kernel
theorem dksX1_append_1 : cX1_append.data.toList.drop 24 = dktX1_append_1 := dk_seg dksX1_append_0 24 rfl rfl
theorem dX1_append_0 : decode cX1_append 0 = .ok (.iload_n 1, 1) := dk_27 (dk_at dksX1_append_0 0 rfl rfl)
theorem dX1_append_1 : decode cX1_append 1 = .ok (.bipush 32, 2) := dk_16 32 (dk_at dksX1_append_0 1 rfl rfl)
theorem dX1_append_3 : decode cX1_append 3 = .ok (.bipush 126, 2) := dk_16 126 (dk_at dksX1_append_0 3 rfl rfl)
theorem dX1_append_5 : decode cX1_append 5 = .ok (.invokestatic 104, 3) := dk_184 0 104 (dk_at dksX1_append_0 5 rfl rfl)
theorem dX1_append_8 : decode cX1_append 8 = .ok (.aload_n 0, 1) := dk_42 (dk_at dksX1_append_0 8 rfl rfl)
theorem dX1_append_9 : decode cX1_append 9 = .ok (.getfield 38, 3) := dk_180 0 38 (dk_at dksX1_append_0 9 rfl rfl)
theorem dX1_append_12 : decode cX1_append 12 = .ok (.invokevirtual 324, 3) := dk_182 1 68 (dk_at dksX1_append_0 12 rfl rfl)
theorem dX1_append_15 : decode cX1_append 15 = .ok (.bipush 60, 2) := dk_16 60 (dk_at dksX1_append_0 15 rfl rfl)
theorem dX1_append_17 : decode cX1_append 17 = .ok (.if_icmp .ge 7, 3) := dk_162 0 7 (dk_at dksX1_append_0 17 rfl rfl)
theorem dX1_append_20 : decode cX1_append 20 = .ok (.iconst 1, 1) := dk_4 (dk_at dksX1_append_0 20 rfl rfl)
theorem dX1_append_21 : decode cX1_append 21 = .ok (.goto 4, 3) := dk_167 0 4 (dk_at dksX1_append_0 21 rfl rfl)
theorem dX1_append_24 : decode cX1_append 24 = .ok (.iconst 0, 1) := dk_3 (dk_at dksX1_append_1 0 rfl rfl)
theorem dX1_append_25 : decode cX1_append 25 = .ok (.invokestatic 100, 3) := dk_184 0 100 (dk_at dksX1_append_1 1 rfl rfl)
theorem dX1_append_28 : decode cX1_append 28 = .ok (.aload_n 0, 1) := dk_42 (dk_at dksX1_append_1 4 rfl rfl)
theorem dX1_append_29 : decode cX1_append 29 = .ok (.getfield 38, 3) := dk_180 0 38 (dk_at dksX1_append_1 5 rfl rfl)
theorem dX1_append_32 : decode cX1_append 32 = .ok (.iload_n 1, 1) := dk_27 (dk_at dksX1_append_1 8 rfl rfl)
theorem dX1_append_33 : decode cX1_append 33 = .ok (.i2c, 1) := dk_146 (dk_at dksX1_append_1 9 rfl rfl)
theorem dX1_append_34 : decode cX1_append 34 = .ok (.invokevirtual 327, 3) := dk_182 1 71 (dk_at dksX1_append_1 10 rfl rfl)
theorem dX1_append_37 : decode cX1_append 37 = .ok (.pop, 1) := dk_87 (dk_at dksX1_append_1 13 rfl rfl)
theorem dX1_append_38 : decode cX1_append 38 = .ok (.aload_n 0, 1) := dk_42 (dk_at dksX1_append_1 14 rfl rfl)
theorem dX1_append_39 : decode cX1_append 39 = .ok (.getfield 38, 3) := dk_180 0 38 (dk_at dksX1_append_1 15 rfl rfl)
theorem dX1_append_42 : decode cX1_append 42 = .ok (.invokevirtual 324, 3) := dk_182 1 68 (dk_at dksX1_append_1 18 rfl rfl)
theorem dX1_append_45 : decode cX1_append 45 = .ok (.ireturn, 1) := dk_172 (dk_at dksX1_append_1 21 rfl rfl)
abbrev cX1_runText : ByteArray := prog_1_method_70_code
def yX1_runText : MethodName := ⟨RX1, "runText", "()I"⟩
def dkwX1_runText_1 : List UInt8 := [42, 182, 0, 108, 43, 42, 180, 0, 22, 182, 1, 88, 172]
abbrev dktX1_runText_1 : List UInt8 := dkwX1_runText_1 ++ []
def dkwX1_runText_0 : List UInt8 := [187, 1, 79, 89, 42, 183, 1, 81, 76, 43, 182, 1, 84, 154, 0, 11, 187, 0, 61, 89, 183, 0, 63, 191]
abbrev dktX1_runText_0 : List UInt8 := dkwX1_runText_0 ++ dktX1_runText_1
theorem dksX1_runText_0 : cX1_runText.data.toList.drop 0 = dktX1_runText_0 := by decide +kernel
theorem dksX1_runText_1 : cX1_runText.data.toList.drop 24 = dktX1_runText_1 := dk_seg dksX1_runText_0 24 rfl rfl
theorem dX1_runText_0 : decode cX1_runText 0 = .ok (.new 335, 3) := dk_187 1 79 (dk_at dksX1_runText_0 0 rfl rfl)
theorem dX1_runText_3 : decode cX1_runText 3 = .ok (.dup, 1) := dk_89 (dk_at dksX1_runText_0 3 rfl rfl)
theorem dX1_runText_4 : decode cX1_runText 4 = .ok (.aload_n 0, 1) := dk_42 (dk_at dksX1_runText_0 4 rfl rfl)
theorem dX1_runText_5 : decode cX1_runText 5 = .ok (.invokespecial 337, 3) := dk_183 1 81 (dk_at dksX1_runText_0 5 rfl rfl)
theorem dX1_runText_8 : decode cX1_runText 8 = .ok (.astore_n 1, 1) := dk_76 (dk_at dksX1_runText_0 8 rfl rfl)
theorem dX1_runText_9 : decode cX1_runText 9 = .ok (.aload_n 1, 1) := dk_43 (dk_at dksX1_runText_0 9 rfl rfl)
theorem dX1_runText_10 : decode cX1_runText 10 = .ok (.invokevirtual 340, 3) := dk_182 1 84 (dk_at dksX1_runText_0 10 rfl rfl)
theorem dX1_runText_13 : decode cX1_runText 13 = .ok (.ifCond .ne 11, 3) := dk_154 0 11 (dk_at dksX1_runText_0 13 rfl rfl)
theorem dX1_runText_16 : decode cX1_runText 16 = .ok (.new 61, 3) := dk_187 0 61 (dk_at dksX1_runText_0 16 rfl rfl)
theorem dX1_runText_19 : decode cX1_runText 19 = .ok (.dup, 1) := dk_89 (dk_at dksX1_runText_0 19 rfl rfl)
theorem dX1_runText_20 : decode cX1_runText 20 = .ok (.invokespecial 63, 3) := dk_183 0 63 (dk_at dksX1_runText_0 20 rfl rfl)
theorem dX1_runText_23 : decode cX1_runText 23 = .ok (.athrow, 1) := dk_191 (dk_at dksX1_runText_0 23 rfl rfl)
theorem dX1_runText_24 : decode cX1_runText 24 = .ok (.aload_n 0, 1) := dk_42 (dk_at dksX1_runText_1 0 rfl rfl)
theorem dX1_runText_25 : decode cX1_runText 25 = .ok (.invokevirtual 108, 3) := dk_182 0 108 (dk_at dksX1_runText_1 1 rfl rfl)
theorem dX1_runText_28 : decode cX1_runText 28 = .ok (.aload_n 1, 1) := dk_43 (dk_at dksX1_runText_1 4 rfl rfl)
theorem dX1_runText_29 : decode cX1_runText 29 = .ok (.aload_n 0, 1) := dk_42 (dk_at dksX1_runText_1 5 rfl rfl)
theorem dX1_runText_30 : decode cX1_runText 30 = .ok (.getfield 22, 3) := dk_180 0 22 (dk_at dksX1_runText_1 6 rfl rfl)
theorem dX1_runText_33 : decode cX1_runText 33 = .ok (.invokevirtual 344, 3) := dk_182 1 88 (dk_at dksX1_runText_1 9 rfl rfl)
theorem dX1_runText_36 : decode cX1_runText 36 = .ok (.ireturn, 1) := dk_172 (dk_at dksX1_runText_1 12 rfl rfl)
abbrev cX1_undo : ByteArray := prog_1_method_71_code
def yX1_undo : MethodName := ⟨RX1, "undo", "()I"⟩
def dkwX1_undo_1 : List UInt8 := [182, 1, 95, 192, 0, 19, 181, 0, 22, 42, 180, 0, 31, 182, 0, 42, 172]
abbrev dktX1_undo_1 : List UInt8 := dkwX1_undo_1 ++ []
def dkwX1_undo_0 : List UInt8 := [42, 180, 0, 31, 182, 1, 92, 154, 0, 7, 4, 167, 0, 4, 3, 184, 0, 100, 42, 42, 180, 0, 31]
abbrev dktX1_undo_0 : List UInt8 := dkwX1_undo_0 ++ dktX1_undo_1
theorem dksX1_undo_0 : cX1_undo.data.toList.drop 0 = dktX1_undo_0 := by decide +kernel
theorem dksX1_undo_1 : cX1_undo.data.toList.drop 23 = dktX1_undo_1 := dk_seg dksX1_undo_0 23 rfl rfl
theorem dX1_undo_0 : decode cX1_undo 0 = .ok (.aload_n 0, 1) := dk_42 (dk_at dksX1_undo_0 0 rfl rfl)
theorem dX1_undo_1 : decode cX1_undo 1 = .ok (.getfield 31, 3) := dk_180 0 31 (dk_at dksX1_undo_0 1 rfl rfl)
theorem dX1_undo_4 : decode cX1_undo 4 = .ok (.invokevirtual 348, 3) := dk_182 1 92 (dk_at dksX1_undo_0 4 rfl rfl)
theorem dX1_undo_7 : decode cX1_undo 7 = .ok (.ifCond .ne 7, 3) := dk_154 0 7 (dk_at dksX1_undo_0 7 rfl rfl)
theorem dX1_undo_10 : decode cX1_undo 10 = .ok (.iconst 1, 1) := dk_4 (dk_at dksX1_undo_0 10 rfl rfl)
theorem dX1_undo_11 : decode cX1_undo 11 = .ok (.goto 4, 3) := dk_167 0 4 (dk_at dksX1_undo_0 11 rfl rfl)
theorem dX1_undo_14 : decode cX1_undo 14 = .ok (.iconst 0, 1) := dk_3 (dk_at dksX1_undo_0 14 rfl rfl)
theorem dX1_undo_15 : decode cX1_undo 15 = .ok (.invokestatic 100, 3) := dk_184 0 100 (dk_at dksX1_undo_0 15 rfl rfl)
theorem dX1_undo_18 : decode cX1_undo 18 = .ok (.aload_n 0, 1) := dk_42 (dk_at dksX1_undo_0 18 rfl rfl)
theorem dX1_undo_19 : decode cX1_undo 19 = .ok (.aload_n 0, 1) := dk_42 (dk_at dksX1_undo_0 19 rfl rfl)
theorem dX1_undo_20 : decode cX1_undo 20 = .ok (.getfield 31, 3) := dk_180 0 31 (dk_at dksX1_undo_0 20 rfl rfl)
theorem dX1_undo_23 : decode cX1_undo 23 = .ok (.invokevirtual 351, 3) := dk_182 1 95 (dk_at dksX1_undo_1 0 rfl rfl)
theorem dX1_undo_26 : decode cX1_undo 26 = .ok (.checkcast 19, 3) := dk_192 0 19 (dk_at dksX1_undo_1 3 rfl rfl)
theorem dX1_undo_29 : decode cX1_undo 29 = .ok (.putfield 22, 3) := dk_181 0 22 (dk_at dksX1_undo_1 6 rfl rfl)
theorem dX1_undo_32 : decode cX1_undo 32 = .ok (.aload_n 0, 1) := dk_42 (dk_at dksX1_undo_1 9 rfl rfl)
theorem dX1_undo_33 : decode cX1_undo 33 = .ok (.getfield 31, 3) := dk_180 0 31 (dk_at dksX1_undo_1 10 rfl rfl)
theorem dX1_undo_36 : decode cX1_undo 36 = .ok (.invokevirtual 42, 3) := dk_182 0 42 (dk_at dksX1_undo_1 13 rfl rfl)
theorem dX1_undo_39 : decode cX1_undo 39 = .ok (.ireturn, 1) := dk_172 (dk_at dksX1_undo_1 16 rfl rfl)
abbrev cX1_restoreSnapshot : ByteArray := prog_1_method_74_code
def yX1_restoreSnapshot : MethodName := ⟨RX1, "restoreSnapshot", "()I"⟩
def dkwX1_restoreSnapshot_1 : List UInt8 := [182, 0, 50, 181, 0, 22, 42, 180, 0, 22, 180, 0, 191, 172]
abbrev dktX1_restoreSnapshot_1 : List UInt8 := dkwX1_restoreSnapshot_1 ++ []
def dkwX1_restoreSnapshot_0 : List UInt8 := [42, 180, 1, 98, 198, 0, 7, 4, 167, 0, 4, 3, 184, 0, 100, 42, 182, 0, 108, 42, 42, 180, 1, 98]
abbrev dktX1_restoreSnapshot_0 : List UInt8 := dkwX1_restoreSnapshot_0 ++ dktX1_restoreSnapshot_1
theorem dksX1_restoreSnapshot_0 : cX1_restoreSnapshot.data.toList.drop 0 = dktX1_restoreSnapshot_0 := by decide +kernel
theorem dksX1_restoreSnapshot_1 : cX1_restoreSnapshot.data.toList.drop 24 = dktX1_restoreSnapshot_1 := dk_seg dksX1_restoreSnapshot_0 24 rfl rfl
theorem dX1_restoreSnapshot_0 : decode cX1_restoreSnapshot 0 = .ok (.aload_n 0, 1) := dk_42 (dk_at dksX1_restoreSnapshot_0 0 rfl rfl)
theorem dX1_restoreSnapshot_1 : decode cX1_restoreSnapshot 1 = .ok (.getfield 354, 3) := dk_180 1 98 (dk_at dksX1_restoreSnapshot_0 1 rfl rfl)
theorem dX1_restoreSnapshot_4 : decode cX1_restoreSnapshot 4 = .ok (.ifnull 7, 3) := dk_198 0 7 (dk_at dksX1_restoreSnapshot_0 4 rfl rfl)
theorem dX1_restoreSnapshot_7 : decode cX1_restoreSnapshot 7 = .ok (.iconst 1, 1) := dk_4 (dk_at dksX1_restoreSnapshot_0 7 rfl rfl)
theorem dX1_restoreSnapshot_8 : decode cX1_restoreSnapshot 8 = .ok (.goto 4, 3) := dk_167 0 4 (dk_at dksX1_restoreSnapshot_0 8 rfl rfl)
theorem dX1_restoreSnapshot_11 : decode cX1_restoreSnapshot 11 = .ok (.iconst 0, 1) := dk_3 (dk_at dksX1_restoreSnapshot_0 11 rfl rfl)
theorem dX1_restoreSnapshot_12 : decode cX1_restoreSnapshot 12 = .ok (.invokestatic 100, 3) := dk_184 0 100 (dk_at dksX1_restoreSnapshot_0 12 rfl rfl)
theorem dX1_restoreSnapshot_15 : decode cX1_restoreSnapshot 15 = .ok (.aload_n 0, 1) := dk_42 (dk_at dksX1_restoreSnapshot_0 15 rfl rfl)
theorem dX1_restoreSnapshot_16 : decode cX1_restoreSnapshot 16 = .ok (.invokevirtual 108, 3) := dk_182 0 108 (dk_at dksX1_restoreSnapshot_0 16 rfl rfl)
theorem dX1_restoreSnapshot_19 : decode cX1_restoreSnapshot 19 = .ok (.aload_n 0, 1) := dk_42 (dk_at dksX1_restoreSnapshot_0 19 rfl rfl)
theorem dX1_restoreSnapshot_20 : decode cX1_restoreSnapshot 20 = .ok (.aload_n 0, 1) := dk_42 (dk_at dksX1_restoreSnapshot_0 20 rfl rfl)
theorem dX1_restoreSnapshot_21 : decode cX1_restoreSnapshot 21 = .ok (.getfield 354, 3) := dk_180 1 98 (dk_at dksX1_restoreSnapshot_0 21 rfl rfl)
theorem dX1_restoreSnapshot_24 : decode cX1_restoreSnapshot 24 = .ok (.invokevirtual 50, 3) := dk_182 0 50 (dk_at dksX1_restoreSnapshot_1 0 rfl rfl)
theorem dX1_restoreSnapshot_27 : decode cX1_restoreSnapshot 27 = .ok (.putfield 22, 3) := dk_181 0 22 (dk_at dksX1_restoreSnapshot_1 3 rfl rfl)
theorem dX1_restoreSnapshot_30 : decode cX1_restoreSnapshot 30 = .ok (.aload_n 0, 1) := dk_42 (dk_at dksX1_restoreSnapshot_1 6 rfl rfl)
theorem dX1_restoreSnapshot_31 : decode cX1_restoreSnapshot 31 = .ok (.getfield 22, 3) := dk_180 0 22 (dk_at dksX1_restoreSnapshot_1 7 rfl rfl)
theorem dX1_restoreSnapshot_34 : decode cX1_restoreSnapshot 34 = .ok (.getfield 191, 3) := dk_180 0 191 (dk_at dksX1_restoreSnapshot_1 10 rfl rfl)
theorem dX1_restoreSnapshot_37 : decode cX1_restoreSnapshot 37 = .ok (.ireturn, 1) := dk_172 (dk_at dksX1_restoreSnapshot_1 13 rfl rfl)
theorem q103 : (Jvm.Cond.initialized "AnnealingLehr") ∈ lw_all := lw_g (lw_at lw_m1 1 rfl) rfl
theorem q180 : (Jvm.Cond.instantiable "AnnealingLehr" (4 : Nat)) ∈ lw_all := lw_g (lw_at lw_m1 78 rfl) rfl
theorem q182 : (Jvm.Cond.instanceMethod ({ cls := "AnnealingLehr", name := "<init>", desc := "()V" } : Jvm.MethodName)) ∈ lw_all := lw_g (lw_at lw_m1 80 rfl) rfl
theorem q183 : (Jvm.Cond.code ({ cls := "AnnealingLehr", name := "<init>", desc := "()V" } : Jvm.MethodName) prog_1_method_3_code (1 : Nat) (Option.none : Option Jvm.ClassFile.FieldType)) ∈ lw_all := lw_g (lw_at lw_m1 81 rfl) rfl
theorem q184 : (Jvm.Cond.methodLink "AnnealingLehr" (13 : Nat) ({ cls := "java/lang/Object", name := "<init>", desc := "()V" } : Jvm.MethodName)) ∈ lw_all := lw_g (lw_at lw_m1 82 rfl) rfl
theorem q187 : (Jvm.Cond.classLink "AnnealingLehr" (19 : Nat) "AnnealingLehr$State") ∈ lw_all := lw_g (lw_at lw_m1 85 rfl) rfl
theorem q189 : (Jvm.Cond.methodLink "AnnealingLehr" (21 : Nat) ({ cls := "AnnealingLehr$State", name := "<init>", desc := "()V" } : Jvm.MethodName)) ∈ lw_all := lw_g (lw_at lw_m1 87 rfl) rfl
theorem q963 : (Jvm.Cond.selects "AnnealingLehr" ({ cls := "java/lang/Object", name := "toString", desc := "()Ljava/lang/String;" } : Jvm.MethodName) ({ cls := "java/lang/Object", name := "toString", desc := "()Ljava/lang/String;" } : Jvm.MethodName)) ∈ lw_all := lw_g (lw_at lw_m4 141 rfl) rfl
theorem q987 : (Jvm.Cond.selects "AnnealingLehr" ({ cls := "java/lang/Object", name := "getClass", desc := "()Ljava/lang/Class;" } : Jvm.MethodName) ({ cls := "java/lang/Object", name := "getClass", desc := "()Ljava/lang/Class;" } : Jvm.MethodName)) ∈ lw_all := lw_g (lw_at lw_m4 165 rfl) rfl
theorem q1180 : (Jvm.Cond.fieldLink "AnnealingLehr" (191 : Nat) "AnnealingLehr$State" "time" "I") ∈ lw_all := lw_g (lw_at lw_m5 118 rfl) rfl
theorem q1182 : (Jvm.Cond.fieldLink "AnnealingLehr" (131 : Nat) "AnnealingLehr$State" "supply" "I") ∈ lw_all := lw_g (lw_at lw_m5 120 rfl) rfl
theorem q1184 : (Jvm.Cond.fieldLink "AnnealingLehr" (203 : Nat) "AnnealingLehr$State" "used" "I") ∈ lw_all := lw_g (lw_at lw_m5 122 rfl) rfl
theorem q1186 : (Jvm.Cond.fieldLink "AnnealingLehr" (111 : Nat) "AnnealingLehr$State" "burners" "[I") ∈ lw_all := lw_g (lw_at lw_m5 124 rfl) rfl
theorem q1188 : (Jvm.Cond.fieldLink "AnnealingLehr" (119 : Nat) "AnnealingLehr$State" "fans" "[I") ∈ lw_all := lw_g (lw_at lw_m5 126 rfl) rfl
theorem q1190 : (Jvm.Cond.fieldLink "AnnealingLehr" (125 : Nat) "AnnealingLehr$State" "rollers" "[I") ∈ lw_all := lw_g (lw_at lw_m5 128 rfl) rfl
theorem q1192 : (Jvm.Cond.fieldLink "AnnealingLehr" (197 : Nat) "AnnealingLehr$State" "temperatures" "[I") ∈ lw_all := lw_g (lw_at lw_m5 130 rfl) rfl
theorem q1194 : (Jvm.Cond.fieldLink "AnnealingLehr" (200 : Nat) "AnnealingLehr$State" "gas" "[I") ∈ lw_all := lw_g (lw_at lw_m5 132 rfl) rfl
theorem q1196 : (Jvm.Cond.fieldLink "AnnealingLehr" (96 : Nat) "AnnealingLehr$State" "places" "[LAnnealingLehr$Piece;") ∈ lw_all := lw_g (lw_at lw_m5 134 rfl) rfl
theorem q1198 : (Jvm.Cond.fieldLink "AnnealingLehr" (244 : Nat) "AnnealingLehr$State" "shards" "[Z") ∈ lw_all := lw_g (lw_at lw_m5 136 rfl) rfl
theorem q1200 : (Jvm.Cond.fieldLink "AnnealingLehr" (255 : Nat) "AnnealingLehr$State" "cleanerPlaces" "[I") ∈ lw_all := lw_g (lw_at lw_m5 138 rfl) rfl
theorem q1202 : (Jvm.Cond.fieldLink "AnnealingLehr" (154 : Nat) "AnnealingLehr$State" "cleanerMinutes" "[I") ∈ lw_all := lw_g (lw_at lw_m5 140 rfl) rfl
theorem q1204 : (Jvm.Cond.fieldLink "AnnealingLehr" (67 : Nat) "AnnealingLehr$State" "lots" "Ljava/util/List;") ∈ lw_all := lw_g (lw_at lw_m5 142 rfl) rfl
theorem q1206 : (Jvm.Cond.fieldLink "AnnealingLehr" (169 : Nat) "AnnealingLehr$State" "demands" "Ljava/util/List;") ∈ lw_all := lw_g (lw_at lw_m5 144 rfl) rfl
theorem q1208 : (Jvm.Cond.fieldLink "AnnealingLehr" (283 : Nat) "AnnealingLehr$State" "onTheWay" "Ljava/util/Map;") ∈ lw_all := lw_g (lw_at lw_m5 146 rfl) rfl
theorem q1211 : (Jvm.Cond.fieldLink "AnnealingLehr" (206 : Nat) "AnnealingLehr$State" "plans" "Ljava/util/Map;") ∈ lw_all := lw_g (lw_at lw_m5 149 rfl) rfl
theorem q1250 : (Jvm.Cond.classLink "AnnealingLehr" (28 : Nat) "java/util/ArrayDeque") ∈ lw_all := lw_g (lw_at lw_m5 188 rfl) rfl
theorem q1252 : (Jvm.Cond.methodLink "AnnealingLehr" (30 : Nat) ({ cls := "java/util/ArrayDeque", name := "<init>", desc := "()V" } : Jvm.MethodName)) ∈ lw_all := lw_g (lw_at lw_m5 190 rfl) rfl
theorem q1269 : (Jvm.Cond.classLink "AnnealingLehr" (35 : Nat) "java/lang/StringBuilder") ∈ lw_all := lw_g (lw_at lw_m5 207 rfl) rfl
theorem q1270 : (Jvm.Cond.methodLink "AnnealingLehr" (37 : Nat) ({ cls := "java/lang/StringBuilder", name := "<init>", desc := "()V" } : Jvm.MethodName)) ∈ lw_all := lw_g (lw_at lw_m5 208 rfl) rfl
theorem q1271 : (Jvm.Cond.fieldLink "AnnealingLehr" (22 : Nat) "AnnealingLehr" "state" "LAnnealingLehr$State;") ∈ lw_all := lw_g (lw_at lw_m5 209 rfl) rfl
theorem q1272 : (Jvm.Cond.fieldLink "AnnealingLehr" (354 : Nat) "AnnealingLehr" "snapshot" "LAnnealingLehr$State;") ∈ lw_all := lw_g (lw_at lw_m5 210 rfl) rfl
theorem q1273 : (Jvm.Cond.fieldLink "AnnealingLehr" (31 : Nat) "AnnealingLehr" "history" "Ljava/util/ArrayDeque;") ∈ lw_all := lw_g (lw_at lw_m5 211 rfl) rfl
theorem q1275 : (Jvm.Cond.fieldLink "AnnealingLehr" (38 : Nat) "AnnealingLehr" "buffer" "Ljava/lang/StringBuilder;") ∈ lw_all := lw_g (lw_at lw_m5 213 rfl) rfl
theorem q1276 : (Jvm.Cond.lays "AnnealingLehr" "AnnealingLehr" "state" "LAnnealingLehr$State;") ∈ lw_all := lw_g (lw_at lw_m5 214 rfl) rfl
theorem q1277 : (Jvm.Cond.soleField "AnnealingLehr" "state") ∈ lw_all := lw_g (lw_at lw_m5 215 rfl) rfl
theorem q1278 : (Jvm.Cond.lays "AnnealingLehr" "AnnealingLehr" "snapshot" "LAnnealingLehr$State;") ∈ lw_all := lw_g (lw_at lw_m5 216 rfl) rfl
theorem q1279 : (Jvm.Cond.soleField "AnnealingLehr" "snapshot") ∈ lw_all := lw_g (lw_at lw_m5 217 rfl) rfl
theorem q1280 : (Jvm.Cond.laysFinal "AnnealingLehr" "AnnealingLehr" "history" "Ljava/util/ArrayDeque;") ∈ lw_all := lw_g (lw_at lw_m5 218 rfl) rfl
theorem q1281 : (Jvm.Cond.soleField "AnnealingLehr" "history") ∈ lw_all := lw_g (lw_at lw_m5 219 rfl) rfl
theorem q1282 : (Jvm.Cond.laysFinal "AnnealingLehr" "AnnealingLehr" "buffer" "Ljava/lang/StringBuilder;") ∈ lw_all := lw_g (lw_at lw_m5 220 rfl) rfl
theorem q1283 : (Jvm.Cond.soleField "AnnealingLehr" "buffer") ∈ lw_all := lw_g (lw_at lw_m5 221 rfl) rfl
theorem q1284 : (Jvm.Cond.superclass "AnnealingLehr" "java/lang/Object") ∈ lw_all := lw_g (lw_at lw_m5 222 rfl) rfl
theorem q1286 : (Jvm.Cond.instanceMethod ({ cls := "AnnealingLehr", name := "time", desc := "()I" } : Jvm.MethodName)) ∈ lw_all := lw_g (lw_at lw_m5 224 rfl) rfl
theorem q1287 : (Jvm.Cond.selects "AnnealingLehr" ({ cls := "AnnealingLehr", name := "time", desc := "()I" } : Jvm.MethodName) ({ cls := "AnnealingLehr", name := "time", desc := "()I" } : Jvm.MethodName)) ∈ lw_all := lw_g (lw_at lw_m5 225 rfl) rfl
theorem q1288 : (Jvm.Cond.code ({ cls := "AnnealingLehr", name := "time", desc := "()I" } : Jvm.MethodName) prog_1_method_21_code (1 : Nat) (Option.some Jvm.ClassFile.FieldType.int)) ∈ lw_all := lw_g (lw_at lw_m5 226 rfl) rfl
theorem q1290 : (Jvm.Cond.instanceMethod ({ cls := "AnnealingLehr", name := "gasByZones", desc := "()I" } : Jvm.MethodName)) ∈ lw_all := lw_g (lw_at lw_m5 228 rfl) rfl
theorem q1291 : (Jvm.Cond.selects "AnnealingLehr" ({ cls := "AnnealingLehr", name := "gasByZones", desc := "()I" } : Jvm.MethodName) ({ cls := "AnnealingLehr", name := "gasByZones", desc := "()I" } : Jvm.MethodName)) ∈ lw_all := lw_g (lw_at lw_m5 229 rfl) rfl
theorem q1292 : (Jvm.Cond.code ({ cls := "AnnealingLehr", name := "gasByZones", desc := "()I" } : Jvm.MethodName) prog_1_method_27_code (3 : Nat) (Option.some Jvm.ClassFile.FieldType.int)) ∈ lw_all := lw_g (lw_at lw_m5 230 rfl) rfl
theorem q1294 : (Jvm.Cond.instanceMethod ({ cls := "AnnealingLehr", name := "gasByMinutes", desc := "()I" } : Jvm.MethodName)) ∈ lw_all := lw_g (lw_at lw_m5 232 rfl) rfl
theorem q1295 : (Jvm.Cond.selects "AnnealingLehr" ({ cls := "AnnealingLehr", name := "gasByMinutes", desc := "()I" } : Jvm.MethodName) ({ cls := "AnnealingLehr", name := "gasByMinutes", desc := "()I" } : Jvm.MethodName)) ∈ lw_all := lw_g (lw_at lw_m5 233 rfl) rfl
theorem q1296 : (Jvm.Cond.code ({ cls := "AnnealingLehr", name := "gasByMinutes", desc := "()I" } : Jvm.MethodName) prog_1_method_28_code (1 : Nat) (Option.some Jvm.ClassFile.FieldType.int)) ∈ lw_all := lw_g (lw_at lw_m5 234 rfl) rfl
theorem q1298 : (Jvm.Cond.instanceMethod ({ cls := "AnnealingLehr", name := "plans", desc := "()I" } : Jvm.MethodName)) ∈ lw_all := lw_g (lw_at lw_m5 236 rfl) rfl
theorem q1299 : (Jvm.Cond.selects "AnnealingLehr" ({ cls := "AnnealingLehr", name := "plans", desc := "()I" } : Jvm.MethodName) ({ cls := "AnnealingLehr", name := "plans", desc := "()I" } : Jvm.MethodName)) ∈ lw_all := lw_g (lw_at lw_m5 237 rfl) rfl
theorem q1300 : (Jvm.Cond.code ({ cls := "AnnealingLehr", name := "plans", desc := "()I" } : Jvm.MethodName) prog_1_method_29_code (1 : Nat) (Option.some Jvm.ClassFile.FieldType.int)) ∈ lw_all := lw_g (lw_at lw_m5 238 rfl) rfl
theorem q1301 : (Jvm.Cond.interfaceEntry "AnnealingLehr" (210 : Nat)) ∈ lw_tbl := lw_at lw_m5 239 rfl
theorem q1302 : (Jvm.Cond.methodLink "AnnealingLehr" (210 : Nat) ({ cls := "java/util/Map", name := "size", desc := "()I" } : Jvm.MethodName)) ∈ lw_all := lw_g (lw_at lw_m6 0 rfl) rfl
theorem q1312 : (Jvm.Cond.instanceMethod ({ cls := "AnnealingLehr", name := "lots", desc := "()I" } : Jvm.MethodName)) ∈ lw_all := lw_g (lw_at lw_m6 10 rfl) rfl
theorem q1313 : (Jvm.Cond.selects "AnnealingLehr" ({ cls := "AnnealingLehr", name := "lots", desc := "()I" } : Jvm.MethodName) ({ cls := "AnnealingLehr", name := "lots", desc := "()I" } : Jvm.MethodName)) ∈ lw_all := lw_g (lw_at lw_m6 11 rfl) rfl
theorem q1314 : (Jvm.Cond.code ({ cls := "AnnealingLehr", name := "lots", desc := "()I" } : Jvm.MethodName) prog_1_method_43_code (1 : Nat) (Option.some Jvm.ClassFile.FieldType.int)) ∈ lw_all := lw_g (lw_at lw_m6 12 rfl) rfl
theorem q1315 : (Jvm.Cond.interfaceEntry "AnnealingLehr" (71 : Nat)) ∈ lw_tbl := lw_at lw_m6 13 rfl
theorem q1316 : (Jvm.Cond.methodLink "AnnealingLehr" (71 : Nat) ({ cls := "java/util/List", name := "size", desc := "()I" } : Jvm.MethodName)) ∈ lw_all := lw_g (lw_at lw_m6 14 rfl) rfl
theorem q1325 : (Jvm.Cond.instanceMethod ({ cls := "AnnealingLehr", name := "orders", desc := "()I" } : Jvm.MethodName)) ∈ lw_all := lw_g (lw_at lw_m6 23 rfl) rfl
theorem q1326 : (Jvm.Cond.selects "AnnealingLehr" ({ cls := "AnnealingLehr", name := "orders", desc := "()I" } : Jvm.MethodName) ({ cls := "AnnealingLehr", name := "orders", desc := "()I" } : Jvm.MethodName)) ∈ lw_all := lw_g (lw_at lw_m6 24 rfl) rfl
theorem q1327 : (Jvm.Cond.code ({ cls := "AnnealingLehr", name := "orders", desc := "()I" } : Jvm.MethodName) prog_1_method_51_code (1 : Nat) (Option.some Jvm.ClassFile.FieldType.int)) ∈ lw_all := lw_g (lw_at lw_m6 25 rfl) rfl
theorem q1329 : (Jvm.Cond.instanceMethod ({ cls := "AnnealingLehr", name := "incomeByOrders", desc := "()I" } : Jvm.MethodName)) ∈ lw_all := lw_g (lw_at lw_m6 27 rfl) rfl
theorem q1330 : (Jvm.Cond.selects "AnnealingLehr" ({ cls := "AnnealingLehr", name := "incomeByOrders", desc := "()I" } : Jvm.MethodName) ({ cls := "AnnealingLehr", name := "incomeByOrders", desc := "()I" } : Jvm.MethodName)) ∈ lw_all := lw_g (lw_at lw_m6 28 rfl) rfl
theorem q1331 : (Jvm.Cond.code ({ cls := "AnnealingLehr", name := "incomeByOrders", desc := "()I" } : Jvm.MethodName) prog_1_method_54_code (3 : Nat) (Option.some Jvm.ClassFile.FieldType.int)) ∈ lw_all := lw_g (lw_at lw_m6 29 rfl) rfl
theorem q1332 : (Jvm.Cond.interfaceEntry "AnnealingLehr" (78 : Nat)) ∈ lw_tbl := lw_at lw_m6 30 rfl
theorem q1333 : (Jvm.Cond.methodLink "AnnealingLehr" (78 : Nat) ({ cls := "java/util/List", name := "get", desc := "(I)Ljava/lang/Object;" } : Jvm.MethodName)) ∈ lw_all := lw_g (lw_at lw_m6 31 rfl) rfl
theorem q1349 : (Jvm.Cond.classLink "AnnealingLehr" (160 : Nat) "AnnealingLehr$Demand") ∈ lw_all := lw_g (lw_at lw_m6 47 rfl) rfl
theorem q1351 : (Jvm.Cond.instanceMethod ({ cls := "AnnealingLehr", name := "incomeByLots", desc := "()I" } : Jvm.MethodName)) ∈ lw_all := lw_g (lw_at lw_m6 49 rfl) rfl
theorem q1352 : (Jvm.Cond.selects "AnnealingLehr" ({ cls := "AnnealingLehr", name := "incomeByLots", desc := "()I" } : Jvm.MethodName) ({ cls := "AnnealingLehr", name := "incomeByLots", desc := "()I" } : Jvm.MethodName)) ∈ lw_all := lw_g (lw_at lw_m6 50 rfl) rfl
theorem q1353 : (Jvm.Cond.code ({ cls := "AnnealingLehr", name := "incomeByLots", desc := "()I" } : Jvm.MethodName) prog_1_method_55_code (1 : Nat) (Option.some Jvm.ClassFile.FieldType.int)) ∈ lw_all := lw_g (lw_at lw_m6 51 rfl) rfl
theorem q1354 : (Jvm.Cond.methodLink "AnnealingLehr" (304 : Nat) ({ cls := "AnnealingLehr$State", name := "income", desc := "()I" } : Jvm.MethodName)) ∈ lw_all := lw_g (lw_at lw_m6 52 rfl) rfl
theorem q1364 : (Jvm.Cond.instanceMethod ({ cls := "AnnealingLehr", name := "piecesByPlaces", desc := "()I" } : Jvm.MethodName)) ∈ lw_all := lw_g (lw_at lw_m6 62 rfl) rfl
theorem q1365 : (Jvm.Cond.selects "AnnealingLehr" ({ cls := "AnnealingLehr", name := "piecesByPlaces", desc := "()I" } : Jvm.MethodName) ({ cls := "AnnealingLehr", name := "piecesByPlaces", desc := "()I" } : Jvm.MethodName)) ∈ lw_all := lw_g (lw_at lw_m6 63 rfl) rfl
theorem q1366 : (Jvm.Cond.code ({ cls := "AnnealingLehr", name := "piecesByPlaces", desc := "()I" } : Jvm.MethodName) prog_1_method_56_code (3 : Nat) (Option.some Jvm.ClassFile.FieldType.int)) ∈ lw_all := lw_g (lw_at lw_m6 64 rfl) rfl
theorem q1368 : (Jvm.Cond.instanceMethod ({ cls := "AnnealingLehr", name := "piecesByLots", desc := "()I" } : Jvm.MethodName)) ∈ lw_all := lw_g (lw_at lw_m6 66 rfl) rfl
theorem q1369 : (Jvm.Cond.selects "AnnealingLehr" ({ cls := "AnnealingLehr", name := "piecesByLots", desc := "()I" } : Jvm.MethodName) ({ cls := "AnnealingLehr", name := "piecesByLots", desc := "()I" } : Jvm.MethodName)) ∈ lw_all := lw_g (lw_at lw_m6 67 rfl) rfl
theorem q1370 : (Jvm.Cond.code ({ cls := "AnnealingLehr", name := "piecesByLots", desc := "()I" } : Jvm.MethodName) prog_1_method_57_code (1 : Nat) (Option.some Jvm.ClassFile.FieldType.int)) ∈ lw_all := lw_g (lw_at lw_m6 68 rfl) rfl
theorem q1371 : (Jvm.Cond.methodLink "AnnealingLehr" (185 : Nat) ({ cls := "AnnealingLehr$State", name := "piecesOnTheWay", desc := "()I" } : Jvm.MethodName)) ∈ lw_all := lw_g (lw_at lw_m6 69 rfl) rfl
theorem q1380 : (Jvm.Cond.instanceMethod ({ cls := "AnnealingLehr", name := "greatestStress", desc := "()F" } : Jvm.MethodName)) ∈ lw_all := lw_g (lw_at lw_m6 78 rfl) rfl
theorem q1381 : (Jvm.Cond.selects "AnnealingLehr" ({ cls := "AnnealingLehr", name := "greatestStress", desc := "()F" } : Jvm.MethodName) ({ cls := "AnnealingLehr", name := "greatestStress", desc := "()F" } : Jvm.MethodName)) ∈ lw_all := lw_g (lw_at lw_m6 79 rfl) rfl
theorem q1382 : (Jvm.Cond.code ({ cls := "AnnealingLehr", name := "greatestStress", desc := "()F" } : Jvm.MethodName) prog_1_method_59_code (4 : Nat) (Option.some Jvm.ClassFile.FieldType.float)) ∈ lw_all := lw_g (lw_at lw_m6 80 rfl) rfl
theorem q1384 : (Jvm.Cond.instanceMethod ({ cls := "AnnealingLehr", name := "meanStress", desc := "()D" } : Jvm.MethodName)) ∈ lw_all := lw_g (lw_at lw_m6 82 rfl) rfl
theorem q1385 : (Jvm.Cond.selects "AnnealingLehr" ({ cls := "AnnealingLehr", name := "meanStress", desc := "()D" } : Jvm.MethodName) ({ cls := "AnnealingLehr", name := "meanStress", desc := "()D" } : Jvm.MethodName)) ∈ lw_all := lw_g (lw_at lw_m6 83 rfl) rfl
theorem q1386 : (Jvm.Cond.code ({ cls := "AnnealingLehr", name := "meanStress", desc := "()D" } : Jvm.MethodName) prog_1_method_60_code (6 : Nat) (Option.some Jvm.ClassFile.FieldType.double)) ∈ lw_all := lw_g (lw_at lw_m6 84 rfl) rfl
theorem q1388 : (Jvm.Cond.instanceMethod ({ cls := "AnnealingLehr", name := "clearText", desc := "()I" } : Jvm.MethodName)) ∈ lw_all := lw_g (lw_at lw_m6 86 rfl) rfl
theorem q1389 : (Jvm.Cond.selects "AnnealingLehr" ({ cls := "AnnealingLehr", name := "clearText", desc := "()I" } : Jvm.MethodName) ({ cls := "AnnealingLehr", name := "clearText", desc := "()I" } : Jvm.MethodName)) ∈ lw_all := lw_g (lw_at lw_m6 87 rfl) rfl
theorem q1390 : (Jvm.Cond.code ({ cls := "AnnealingLehr", name := "clearText", desc := "()I" } : Jvm.MethodName) prog_1_method_68_code (2 : Nat) (Option.some Jvm.ClassFile.FieldType.int)) ∈ lw_all := lw_g (lw_at lw_m6 88 rfl) rfl
theorem q1391 : (Jvm.Cond.methodLink "AnnealingLehr" (324 : Nat) ({ cls := "java/lang/StringBuilder", name := "length", desc := "()I" } : Jvm.MethodName)) ∈ lw_all := lw_g (lw_at lw_m6 89 rfl) rfl
theorem q1392 : (Jvm.Cond.methodLink "AnnealingLehr" (331 : Nat) ({ cls := "java/lang/StringBuilder", name := "setLength", desc := "(I)V" } : Jvm.MethodName)) ∈ lw_all := lw_g (lw_at lw_m6 90 rfl) rfl
theorem q1461 : (Jvm.Cond.instanceMethod ({ cls := "AnnealingLehr", name := "errorPosition", desc := "()I" } : Jvm.MethodName)) ∈ lw_all := lw_g (lw_at lw_m6 159 rfl) rfl
theorem q1462 : (Jvm.Cond.selects "AnnealingLehr" ({ cls := "AnnealingLehr", name := "errorPosition", desc := "()I" } : Jvm.MethodName) ({ cls := "AnnealingLehr", name := "errorPosition", desc := "()I" } : Jvm.MethodName)) ∈ lw_all := lw_g (lw_at lw_m6 160 rfl) rfl
theorem q1463 : (Jvm.Cond.code ({ cls := "AnnealingLehr", name := "errorPosition", desc := "()I" } : Jvm.MethodName) prog_1_method_69_code (2 : Nat) (Option.some Jvm.ClassFile.FieldType.int)) ∈ lw_all := lw_g (lw_at lw_m6 161 rfl) rfl
theorem q1464 : (Jvm.Cond.classLink "AnnealingLehr" (335 : Nat) "AnnealingLehr$TextReader") ∈ lw_all := lw_g (lw_at lw_m6 162 rfl) rfl
theorem q1466 : (Jvm.Cond.methodLinkNest "AnnealingLehr" (337 : Nat) ({ cls := "AnnealingLehr$TextReader", name := "<init>", desc := "(LAnnealingLehr;)V" } : Jvm.MethodName) "AnnealingLehr") ∈ lw_tbl := lw_at lw_m6 164 rfl
theorem q1473 : (Jvm.Cond.fieldLinkNest "AnnealingLehr" (343 : Nat) "AnnealingLehr$TextReader" "place" "I" "AnnealingLehr") ∈ lw_tbl := lw_at lw_m6 171 rfl
theorem q1489 : (Jvm.Cond.methodLink "AnnealingLehr" (340 : Nat) ({ cls := "AnnealingLehr$TextReader", name := "readAll", desc := "()Z" } : Jvm.MethodName)) ∈ lw_all := lw_g (lw_at lw_m6 187 rfl) rfl
theorem q1587 : (Jvm.Cond.fieldLink "AnnealingLehr" (258 : Nat) "AnnealingLehr$Lot" "ware" "LAnnealingLehr$Ware;") ∈ lw_all := lw_g (lw_at lw_m7 45 rfl) rfl
theorem q1591 : (Jvm.Cond.fieldLink "AnnealingLehr" (88 : Nat) "AnnealingLehr$Lot" "loaded" "I") ∈ lw_all := lw_g (lw_at lw_m7 49 rfl) rfl
theorem q1595 : (Jvm.Cond.fieldLink "AnnealingLehr" (292 : Nat) "AnnealingLehr$Lot" "stock" "I") ∈ lw_all := lw_g (lw_at lw_m7 53 rfl) rfl
theorem q1598 : (Jvm.Cond.fieldLink "AnnealingLehr" (298 : Nat) "AnnealingLehr$Lot" "income" "I") ∈ lw_all := lw_g (lw_at lw_m7 56 rfl) rfl
theorem q1639 : (Jvm.Cond.static ({ cls := "AnnealingLehr", name := "first", desc := "([LAnnealingLehr$Reason;)I" } : Jvm.MethodName)) ∈ lw_all := lw_g (lw_at lw_m7 97 rfl) rfl
theorem q1640 : (Jvm.Cond.code ({ cls := "AnnealingLehr", name := "first", desc := "([LAnnealingLehr$Reason;)I" } : Jvm.MethodName) prog_1_method_2_code (2 : Nat) (Option.some Jvm.ClassFile.FieldType.int)) ∈ lw_all := lw_g (lw_at lw_m7 98 rfl) rfl
theorem q1641 : (Jvm.Cond.interfaceEntry "AnnealingLehr" (7 : Nat)) ∈ lw_tbl := lw_at lw_m7 99 rfl
theorem q1642 : (Jvm.Cond.methodLink "AnnealingLehr" (7 : Nat) ({ cls := "AnnealingLehr$Reason", name := "holds", desc := "()Z" } : Jvm.MethodName)) ∈ lw_all := lw_g (lw_at lw_m7 100 rfl) rfl
theorem q1654 : (Jvm.Cond.fieldLink "AnnealingLehr" (219 : Nat) "AnnealingLehr$PieceKey" "lot" "I") ∈ lw_all := lw_g (lw_at lw_m7 112 rfl) rfl
theorem q1656 : (Jvm.Cond.fieldLink "AnnealingLehr" (221 : Nat) "AnnealingLehr$PieceKey" "number" "I") ∈ lw_all := lw_g (lw_at lw_m7 114 rfl) rfl
theorem q1668 : (Jvm.Cond.fieldLink "AnnealingLehr" (213 : Nat) "AnnealingLehr$Piece" "key" "LAnnealingLehr$PieceKey;") ∈ lw_all := lw_g (lw_at lw_m7 126 rfl) rfl
theorem q1672 : (Jvm.Cond.fieldLink "AnnealingLehr" (289 : Nat) "AnnealingLehr$Piece" "place" "I") ∈ lw_all := lw_g (lw_at lw_m7 130 rfl) rfl
theorem q1675 : (Jvm.Cond.fieldLink "AnnealingLehr" (241 : Nat) "AnnealingLehr$Piece" "minutes" "I") ∈ lw_all := lw_g (lw_at lw_m7 133 rfl) rfl
theorem q1678 : (Jvm.Cond.fieldLink "AnnealingLehr" (228 : Nat) "AnnealingLehr$Piece" "warmth" "I") ∈ lw_all := lw_g (lw_at lw_m7 136 rfl) rfl
theorem q1680 : (Jvm.Cond.fieldLink "AnnealingLehr" (231 : Nat) "AnnealingLehr$Piece" "stress" "F") ∈ lw_all := lw_g (lw_at lw_m7 138 rfl) rfl
theorem q1710 : (Jvm.Cond.selects "AnnealingLehr" ({ cls := "java/lang/Object", name := "hashCode", desc := "()I" } : Jvm.MethodName) ({ cls := "java/lang/Object", name := "hashCode", desc := "()I" } : Jvm.MethodName)) ∈ lw_all := lw_g (lw_at lw_m7 168 rfl) rfl
theorem q2164 : (Jvm.Cond.selects "AnnealingLehr" ({ cls := "java/lang/Object", name := "equals", desc := "(Ljava/lang/Object;)Z" } : Jvm.MethodName) ({ cls := "java/lang/Object", name := "equals", desc := "(Ljava/lang/Object;)Z" } : Jvm.MethodName)) ∈ lw_all := lw_g (lw_at lw_m9 142 rfl) rfl
theorem q2698 : (Jvm.Cond.static ({ cls := "AnnealingLehr", name := "step", desc := "(II)I" } : Jvm.MethodName)) ∈ lw_all := lw_g (lw_at lw_m11 196 rfl) rfl
theorem q2699 : (Jvm.Cond.code ({ cls := "AnnealingLehr", name := "step", desc := "(II)I" } : Jvm.MethodName) prog_1_method_1_code (3 : Nat) (Option.some Jvm.ClassFile.FieldType.int)) ∈ lw_all := lw_g (lw_at lw_m11 197 rfl) rfl
theorem q2700 : (Jvm.Cond.methodLink "AnnealingLehr" (1 : Nat) ({ cls := "java/lang/Integer", name := "signum", desc := "(I)I" } : Jvm.MethodName)) ∈ lw_all := lw_g (lw_at lw_m11 198 rfl) rfl
theorem q2838 : (Jvm.Cond.instanceMethod ({ cls := "AnnealingLehr", name := "savedStates", desc := "()I" } : Jvm.MethodName)) ∈ lw_all := lw_g (lw_at lw_m12 96 rfl) rfl
theorem q2839 : (Jvm.Cond.selects "AnnealingLehr" ({ cls := "AnnealingLehr", name := "savedStates", desc := "()I" } : Jvm.MethodName) ({ cls := "AnnealingLehr", name := "savedStates", desc := "()I" } : Jvm.MethodName)) ∈ lw_all := lw_g (lw_at lw_m12 97 rfl) rfl
theorem q2840 : (Jvm.Cond.code ({ cls := "AnnealingLehr", name := "savedStates", desc := "()I" } : Jvm.MethodName) prog_1_method_72_code (1 : Nat) (Option.some Jvm.ClassFile.FieldType.int)) ∈ lw_all := lw_g (lw_at lw_m12 98 rfl) rfl
theorem q2841 : (Jvm.Cond.methodLink "AnnealingLehr" (42 : Nat) ({ cls := "java/util/ArrayDeque", name := "size", desc := "()I" } : Jvm.MethodName)) ∈ lw_all := lw_g (lw_at lw_m12 99 rfl) rfl
theorem q2849 : (Jvm.Cond.instanceMethod ({ cls := "AnnealingLehr", name := "takeSnapshot", desc := "()I" } : Jvm.MethodName)) ∈ lw_all := lw_g (lw_at lw_m12 107 rfl) rfl
theorem q2850 : (Jvm.Cond.selects "AnnealingLehr" ({ cls := "AnnealingLehr", name := "takeSnapshot", desc := "()I" } : Jvm.MethodName) ({ cls := "AnnealingLehr", name := "takeSnapshot", desc := "()I" } : Jvm.MethodName)) ∈ lw_all := lw_g (lw_at lw_m12 108 rfl) rfl
theorem q2851 : (Jvm.Cond.code ({ cls := "AnnealingLehr", name := "takeSnapshot", desc := "()I" } : Jvm.MethodName) prog_1_method_73_code (1 : Nat) (Option.some Jvm.ClassFile.FieldType.int)) ∈ lw_all := lw_g (lw_at lw_m12 109 rfl) rfl
theorem q2852 : (Jvm.Cond.methodLink "AnnealingLehr" (50 : Nat) ({ cls := "AnnealingLehr$State", name := "copy", desc := "()LAnnealingLehr$State;" } : Jvm.MethodName)) ∈ lw_all := lw_g (lw_at lw_m12 110 rfl) rfl
theorem q2987 : (Jvm.Cond.fieldLink "AnnealingLehr" (295 : Nat) "AnnealingLehr$Demand" "wanted" "I") ∈ lw_all := lw_g (lw_at lw_m13 5 rfl) rfl
theorem q2989 : (Jvm.Cond.fieldLink "AnnealingLehr" (301 : Nat) "AnnealingLehr$Demand" "paid" "I") ∈ lw_all := lw_g (lw_at lw_m13 7 rfl) rfl
theorem q3206 : (Jvm.Cond.instanceMethod ({ cls := "AnnealingLehr", name := "setBurner", desc := "(II)I" } : Jvm.MethodName)) ∈ lw_all := lw_g (lw_at lw_m13 224 rfl) rfl
theorem q3207 : (Jvm.Cond.selects "AnnealingLehr" ({ cls := "AnnealingLehr", name := "setBurner", desc := "(II)I" } : Jvm.MethodName) ({ cls := "AnnealingLehr", name := "setBurner", desc := "(II)I" } : Jvm.MethodName)) ∈ lw_all := lw_g (lw_at lw_m13 225 rfl) rfl
theorem q3208 : (Jvm.Cond.code ({ cls := "AnnealingLehr", name := "setBurner", desc := "(II)I" } : Jvm.MethodName) prog_1_method_11_code (4 : Nat) (Option.some Jvm.ClassFile.FieldType.int)) ∈ lw_all := lw_g (lw_at lw_m13 226 rfl) rfl
theorem q3209 : (Jvm.Cond.methodLink "AnnealingLehr" (74 : Nat) ({ cls := "AnnealingLehr", name := "checkNumber", desc := "(II)V" } : Jvm.MethodName)) ∈ lw_all := lw_g (lw_at lw_m13 227 rfl) rfl
theorem q3210 : (Jvm.Cond.static ({ cls := "AnnealingLehr", name := "checkNumber", desc := "(II)V" } : Jvm.MethodName)) ∈ lw_all := lw_g (lw_at lw_m13 228 rfl) rfl
theorem q3211 : (Jvm.Cond.code ({ cls := "AnnealingLehr", name := "checkNumber", desc := "(II)V" } : Jvm.MethodName) prog_1_method_5_code (2 : Nat) (Option.none : Option Jvm.ClassFile.FieldType)) ∈ lw_all := lw_g (lw_at lw_m13 229 rfl) rfl
theorem q3212 : (Jvm.Cond.classLink "AnnealingLehr" (58 : Nat) "java/lang/IndexOutOfBoundsException") ∈ lw_all := lw_g (lw_at lw_m13 230 rfl) rfl
theorem q3221 : (Jvm.Cond.methodLink "AnnealingLehr" (60 : Nat) ({ cls := "java/lang/IndexOutOfBoundsException", name := "<init>", desc := "()V" } : Jvm.MethodName)) ∈ lw_all := lw_g (lw_at lw_m13 239 rfl) rfl
theorem q3233 : (Jvm.Cond.methodLink "AnnealingLehr" (104 : Nat) ({ cls := "AnnealingLehr", name := "checkRange", desc := "(III)V" } : Jvm.MethodName)) ∈ lw_all := lw_g (lw_at lw_m14 11 rfl) rfl
theorem q3234 : (Jvm.Cond.static ({ cls := "AnnealingLehr", name := "checkRange", desc := "(III)V" } : Jvm.MethodName)) ∈ lw_all := lw_g (lw_at lw_m14 12 rfl) rfl
theorem q3235 : (Jvm.Cond.code ({ cls := "AnnealingLehr", name := "checkRange", desc := "(III)V" } : Jvm.MethodName) prog_1_method_6_code (3 : Nat) (Option.none : Option Jvm.ClassFile.FieldType)) ∈ lw_all := lw_g (lw_at lw_m14 13 rfl) rfl
theorem q3236 : (Jvm.Cond.classLink "AnnealingLehr" (61 : Nat) "java/lang/IllegalArgumentException") ∈ lw_all := lw_g (lw_at lw_m14 14 rfl) rfl
theorem q3237 : (Jvm.Cond.methodLink "AnnealingLehr" (63 : Nat) ({ cls := "java/lang/IllegalArgumentException", name := "<init>", desc := "()V" } : Jvm.MethodName)) ∈ lw_all := lw_g (lw_at lw_m14 15 rfl) rfl
theorem q3241 : (Jvm.Cond.methodLink "AnnealingLehr" (108 : Nat) ({ cls := "AnnealingLehr", name := "save", desc := "()V" } : Jvm.MethodName)) ∈ lw_all := lw_g (lw_at lw_m14 19 rfl) rfl
theorem q3242 : (Jvm.Cond.privateMethod ({ cls := "AnnealingLehr", name := "save", desc := "()V" } : Jvm.MethodName)) ∈ lw_tbl := lw_at lw_m14 20 rfl
theorem q3243 : (Jvm.Cond.instanceMethod ({ cls := "AnnealingLehr", name := "save", desc := "()V" } : Jvm.MethodName)) ∈ lw_all := lw_g (lw_at lw_m14 21 rfl) rfl
theorem q3244 : (Jvm.Cond.code ({ cls := "AnnealingLehr", name := "save", desc := "()V" } : Jvm.MethodName) prog_1_method_4_code (1 : Nat) (Option.none : Option Jvm.ClassFile.FieldType)) ∈ lw_all := lw_g (lw_at lw_m14 22 rfl) rfl
theorem q3245 : (Jvm.Cond.methodLink "AnnealingLehr" (46 : Nat) ({ cls := "java/util/ArrayDeque", name := "removeFirst", desc := "()Ljava/lang/Object;" } : Jvm.MethodName)) ∈ lw_all := lw_g (lw_at lw_m14 23 rfl) rfl
theorem q3256 : (Jvm.Cond.methodLink "AnnealingLehr" (54 : Nat) ({ cls := "java/util/ArrayDeque", name := "addLast", desc := "(Ljava/lang/Object;)V" } : Jvm.MethodName)) ∈ lw_all := lw_g (lw_at lw_m14 34 rfl) rfl
theorem q3257 : (Jvm.Cond.methodLink "AnnealingLehr" (115 : Nat) ({ cls := "AnnealingLehr$State", name := "setBurner", desc := "(II)Z" } : Jvm.MethodName)) ∈ lw_all := lw_g (lw_at lw_m14 35 rfl) rfl
theorem q3262 : (Jvm.Cond.instanceMethod ({ cls := "AnnealingLehr", name := "setFan", desc := "(II)I" } : Jvm.MethodName)) ∈ lw_all := lw_g (lw_at lw_m14 40 rfl) rfl
theorem q3263 : (Jvm.Cond.selects "AnnealingLehr" ({ cls := "AnnealingLehr", name := "setFan", desc := "(II)I" } : Jvm.MethodName) ({ cls := "AnnealingLehr", name := "setFan", desc := "(II)I" } : Jvm.MethodName)) ∈ lw_all := lw_g (lw_at lw_m14 41 rfl) rfl
theorem q3264 : (Jvm.Cond.code ({ cls := "AnnealingLehr", name := "setFan", desc := "(II)I" } : Jvm.MethodName) prog_1_method_12_code (4 : Nat) (Option.some Jvm.ClassFile.FieldType.int)) ∈ lw_all := lw_g (lw_at lw_m14 42 rfl) rfl
theorem q3265 : (Jvm.Cond.methodLink "AnnealingLehr" (122 : Nat) ({ cls := "AnnealingLehr$State", name := "setFan", desc := "(II)Z" } : Jvm.MethodName)) ∈ lw_all := lw_g (lw_at lw_m14 43 rfl) rfl
theorem q3270 : (Jvm.Cond.instanceMethod ({ cls := "AnnealingLehr", name := "setRollers", desc := "(II)I" } : Jvm.MethodName)) ∈ lw_all := lw_g (lw_at lw_m14 48 rfl) rfl
theorem q3271 : (Jvm.Cond.selects "AnnealingLehr" ({ cls := "AnnealingLehr", name := "setRollers", desc := "(II)I" } : Jvm.MethodName) ({ cls := "AnnealingLehr", name := "setRollers", desc := "(II)I" } : Jvm.MethodName)) ∈ lw_all := lw_g (lw_at lw_m14 49 rfl) rfl
theorem q3272 : (Jvm.Cond.code ({ cls := "AnnealingLehr", name := "setRollers", desc := "(II)I" } : Jvm.MethodName) prog_1_method_13_code (4 : Nat) (Option.some Jvm.ClassFile.FieldType.int)) ∈ lw_all := lw_g (lw_at lw_m14 50 rfl) rfl
theorem q3273 : (Jvm.Cond.methodLink "AnnealingLehr" (128 : Nat) ({ cls := "AnnealingLehr$State", name := "setRollers", desc := "(II)Z" } : Jvm.MethodName)) ∈ lw_all := lw_g (lw_at lw_m14 51 rfl) rfl
theorem q3278 : (Jvm.Cond.instanceMethod ({ cls := "AnnealingLehr", name := "setSupply", desc := "(I)I" } : Jvm.MethodName)) ∈ lw_all := lw_g (lw_at lw_m14 56 rfl) rfl
theorem q3279 : (Jvm.Cond.selects "AnnealingLehr" ({ cls := "AnnealingLehr", name := "setSupply", desc := "(I)I" } : Jvm.MethodName) ({ cls := "AnnealingLehr", name := "setSupply", desc := "(I)I" } : Jvm.MethodName)) ∈ lw_all := lw_g (lw_at lw_m14 57 rfl) rfl
theorem q3280 : (Jvm.Cond.code ({ cls := "AnnealingLehr", name := "setSupply", desc := "(I)I" } : Jvm.MethodName) prog_1_method_14_code (3 : Nat) (Option.some Jvm.ClassFile.FieldType.int)) ∈ lw_all := lw_g (lw_at lw_m14 58 rfl) rfl
theorem q3286 : (Jvm.Cond.instanceMethod ({ cls := "AnnealingLehr", name := "openLot", desc := "(II)I" } : Jvm.MethodName)) ∈ lw_all := lw_g (lw_at lw_m14 64 rfl) rfl
theorem q3287 : (Jvm.Cond.selects "AnnealingLehr" ({ cls := "AnnealingLehr", name := "openLot", desc := "(II)I" } : Jvm.MethodName) ({ cls := "AnnealingLehr", name := "openLot", desc := "(II)I" } : Jvm.MethodName)) ∈ lw_all := lw_g (lw_at lw_m14 65 rfl) rfl
theorem q3288 : (Jvm.Cond.code ({ cls := "AnnealingLehr", name := "openLot", desc := "(II)I" } : Jvm.MethodName) prog_1_method_15_code (3 : Nat) (Option.some Jvm.ClassFile.FieldType.int)) ∈ lw_all := lw_g (lw_at lw_m14 66 rfl) rfl
theorem q3289 : (Jvm.Cond.methodLink "AnnealingLehr" (134 : Nat) ({ cls := "AnnealingLehr$State", name := "canOpenLot", desc := "()Z" } : Jvm.MethodName)) ∈ lw_all := lw_g (lw_at lw_m14 67 rfl) rfl
theorem q3290 : (Jvm.Cond.methodLink "AnnealingLehr" (100 : Nat) ({ cls := "AnnealingLehr", name := "checkState", desc := "(Z)V" } : Jvm.MethodName)) ∈ lw_all := lw_g (lw_at lw_m14 68 rfl) rfl
theorem q3291 : (Jvm.Cond.static ({ cls := "AnnealingLehr", name := "checkState", desc := "(Z)V" } : Jvm.MethodName)) ∈ lw_all := lw_g (lw_at lw_m14 69 rfl) rfl
theorem q3292 : (Jvm.Cond.code ({ cls := "AnnealingLehr", name := "checkState", desc := "(Z)V" } : Jvm.MethodName) prog_1_method_7_code (1 : Nat) (Option.none : Option Jvm.ClassFile.FieldType)) ∈ lw_all := lw_g (lw_at lw_m14 70 rfl) rfl
theorem q3293 : (Jvm.Cond.classLink "AnnealingLehr" (64 : Nat) "java/lang/IllegalStateException") ∈ lw_all := lw_g (lw_at lw_m14 71 rfl) rfl
theorem q3294 : (Jvm.Cond.methodLink "AnnealingLehr" (66 : Nat) ({ cls := "java/lang/IllegalStateException", name := "<init>", desc := "()V" } : Jvm.MethodName)) ∈ lw_all := lw_g (lw_at lw_m14 72 rfl) rfl
theorem q3298 : (Jvm.Cond.methodLink "AnnealingLehr" (137 : Nat) ({ cls := "AnnealingLehr$State", name := "openLot", desc := "(II)Z" } : Jvm.MethodName)) ∈ lw_all := lw_g (lw_at lw_m14 76 rfl) rfl
theorem q3303 : (Jvm.Cond.instanceMethod ({ cls := "AnnealingLehr", name := "load", desc := "(I)I" } : Jvm.MethodName)) ∈ lw_all := lw_g (lw_at lw_m14 81 rfl) rfl
theorem q3304 : (Jvm.Cond.selects "AnnealingLehr" ({ cls := "AnnealingLehr", name := "load", desc := "(I)I" } : Jvm.MethodName) ({ cls := "AnnealingLehr", name := "load", desc := "(I)I" } : Jvm.MethodName)) ∈ lw_all := lw_g (lw_at lw_m14 82 rfl) rfl
theorem q3305 : (Jvm.Cond.code ({ cls := "AnnealingLehr", name := "load", desc := "(I)I" } : Jvm.MethodName) prog_1_method_16_code (2 : Nat) (Option.some Jvm.ClassFile.FieldType.int)) ∈ lw_all := lw_g (lw_at lw_m14 83 rfl) rfl
theorem q3306 : (Jvm.Cond.methodLink "AnnealingLehr" (140 : Nat) ({ cls := "AnnealingLehr$State", name := "whyNotLoading", desc := "(I)I" } : Jvm.MethodName)) ∈ lw_all := lw_g (lw_at lw_m14 84 rfl) rfl
theorem q3307 : (Jvm.Cond.methodLink "AnnealingLehr" (143 : Nat) ({ cls := "AnnealingLehr$State", name := "load", desc := "(I)Z" } : Jvm.MethodName)) ∈ lw_all := lw_g (lw_at lw_m14 85 rfl) rfl
theorem q3308 : (Jvm.Cond.classLink "AnnealingLehr" (82 : Nat) "AnnealingLehr$Lot") ∈ lw_all := lw_g (lw_at lw_m14 86 rfl) rfl
theorem q3313 : (Jvm.Cond.instanceMethod ({ cls := "AnnealingLehr", name := "sendCleaner", desc := "(II)I" } : Jvm.MethodName)) ∈ lw_all := lw_g (lw_at lw_m14 91 rfl) rfl
theorem q3314 : (Jvm.Cond.selects "AnnealingLehr" ({ cls := "AnnealingLehr", name := "sendCleaner", desc := "(II)I" } : Jvm.MethodName) ({ cls := "AnnealingLehr", name := "sendCleaner", desc := "(II)I" } : Jvm.MethodName)) ∈ lw_all := lw_g (lw_at lw_m14 92 rfl) rfl
theorem q3315 : (Jvm.Cond.code ({ cls := "AnnealingLehr", name := "sendCleaner", desc := "(II)I" } : Jvm.MethodName) prog_1_method_17_code (3 : Nat) (Option.some Jvm.ClassFile.FieldType.int)) ∈ lw_all := lw_g (lw_at lw_m14 93 rfl) rfl
theorem q3316 : (Jvm.Cond.methodLink "AnnealingLehr" (147 : Nat) ({ cls := "AnnealingLehr$State", name := "whyNotCleaning", desc := "(II)I" } : Jvm.MethodName)) ∈ lw_all := lw_g (lw_at lw_m14 94 rfl) rfl
theorem q3317 : (Jvm.Cond.methodLink "AnnealingLehr" (151 : Nat) ({ cls := "AnnealingLehr$State", name := "sendCleaner", desc := "(II)Z" } : Jvm.MethodName)) ∈ lw_all := lw_g (lw_at lw_m14 95 rfl) rfl
theorem q3322 : (Jvm.Cond.instanceMethod ({ cls := "AnnealingLehr", name := "takeOrder", desc := "(IIIII)I" } : Jvm.MethodName)) ∈ lw_all := lw_g (lw_at lw_m14 100 rfl) rfl
theorem q3323 : (Jvm.Cond.selects "AnnealingLehr" ({ cls := "AnnealingLehr", name := "takeOrder", desc := "(IIIII)I" } : Jvm.MethodName) ({ cls := "AnnealingLehr", name := "takeOrder", desc := "(IIIII)I" } : Jvm.MethodName)) ∈ lw_all := lw_g (lw_at lw_m14 101 rfl) rfl
theorem q3324 : (Jvm.Cond.code ({ cls := "AnnealingLehr", name := "takeOrder", desc := "(IIIII)I" } : Jvm.MethodName) prog_1_method_18_code (6 : Nat) (Option.some Jvm.ClassFile.FieldType.int)) ∈ lw_all := lw_g (lw_at lw_m14 102 rfl) rfl
theorem q3325 : (Jvm.Cond.methodLink "AnnealingLehr" (157 : Nat) ({ cls := "AnnealingLehr$State", name := "canTakeOrder", desc := "()Z" } : Jvm.MethodName)) ∈ lw_all := lw_g (lw_at lw_m14 103 rfl) rfl
theorem q3329 : (Jvm.Cond.methodLink "AnnealingLehr" (162 : Nat) ({ cls := "AnnealingLehr$Demand", name := "<init>", desc := "(IIIII)V" } : Jvm.MethodName)) ∈ lw_all := lw_g (lw_at lw_m14 107 rfl) rfl
theorem q3330 : (Jvm.Cond.methodLink "AnnealingLehr" (165 : Nat) ({ cls := "AnnealingLehr$State", name := "takeOrder", desc := "(LAnnealingLehr$Demand;)V" } : Jvm.MethodName)) ∈ lw_all := lw_g (lw_at lw_m14 108 rfl) rfl
theorem q3338 : (Jvm.Cond.instanceMethod ({ cls := "AnnealingLehr", name := "plan", desc := "(III)I" } : Jvm.MethodName)) ∈ lw_all := lw_g (lw_at lw_m14 116 rfl) rfl
theorem q3339 : (Jvm.Cond.selects "AnnealingLehr" ({ cls := "AnnealingLehr", name := "plan", desc := "(III)I" } : Jvm.MethodName) ({ cls := "AnnealingLehr", name := "plan", desc := "(III)I" } : Jvm.MethodName)) ∈ lw_all := lw_g (lw_at lw_m14 117 rfl) rfl
theorem q3340 : (Jvm.Cond.code ({ cls := "AnnealingLehr", name := "plan", desc := "(III)I" } : Jvm.MethodName) prog_1_method_19_code (5 : Nat) (Option.some Jvm.ClassFile.FieldType.int)) ∈ lw_all := lw_g (lw_at lw_m14 118 rfl) rfl
theorem q3341 : (Jvm.Cond.methodLink "AnnealingLehr" (172 : Nat) ({ cls := "AnnealingLehr$State", name := "canPlan", desc := "(III)Z" } : Jvm.MethodName)) ∈ lw_all := lw_g (lw_at lw_m14 119 rfl) rfl
theorem q3361 : (Jvm.Cond.methodLink "AnnealingLehr" (176 : Nat) ({ cls := "AnnealingLehr$State", name := "plannedFor", desc := "(II)I" } : Jvm.MethodName)) ∈ lw_all := lw_g (lw_at lw_m14 139 rfl) rfl
theorem q3379 : (Jvm.Cond.methodLink "AnnealingLehr" (179 : Nat) ({ cls := "AnnealingLehr$State", name := "plan", desc := "(III)V" } : Jvm.MethodName)) ∈ lw_all := lw_g (lw_at lw_m14 157 rfl) rfl
theorem q3406 : (Jvm.Cond.instanceMethod ({ cls := "AnnealingLehr", name := "pass", desc := "(I)I" } : Jvm.MethodName)) ∈ lw_all := lw_g (lw_at lw_m14 184 rfl) rfl
theorem q3407 : (Jvm.Cond.selects "AnnealingLehr" ({ cls := "AnnealingLehr", name := "pass", desc := "(I)I" } : Jvm.MethodName) ({ cls := "AnnealingLehr", name := "pass", desc := "(I)I" } : Jvm.MethodName)) ∈ lw_all := lw_g (lw_at lw_m14 185 rfl) rfl
theorem q3408 : (Jvm.Cond.code ({ cls := "AnnealingLehr", name := "pass", desc := "(I)I" } : Jvm.MethodName) prog_1_method_20_code (3 : Nat) (Option.some Jvm.ClassFile.FieldType.int)) ∈ lw_all := lw_g (lw_at lw_m14 186 rfl) rfl
theorem q3409 : (Jvm.Cond.methodLink "AnnealingLehr" (182 : Nat) ({ cls := "AnnealingLehr$State", name := "canPass", desc := "(I)Z" } : Jvm.MethodName)) ∈ lw_all := lw_g (lw_at lw_m14 187 rfl) rfl
theorem q3410 : (Jvm.Cond.methodLink "AnnealingLehr" (188 : Nat) ({ cls := "AnnealingLehr$State", name := "pass", desc := "(I)Z" } : Jvm.MethodName)) ∈ lw_all := lw_g (lw_at lw_m14 188 rfl) rfl
theorem q3415 : (Jvm.Cond.instanceMethod ({ cls := "AnnealingLehr", name := "burnerOf", desc := "(I)I" } : Jvm.MethodName)) ∈ lw_all := lw_g (lw_at lw_m14 193 rfl) rfl
theorem q3416 : (Jvm.Cond.selects "AnnealingLehr" ({ cls := "AnnealingLehr", name := "burnerOf", desc := "(I)I" } : Jvm.MethodName) ({ cls := "AnnealingLehr", name := "burnerOf", desc := "(I)I" } : Jvm.MethodName)) ∈ lw_all := lw_g (lw_at lw_m14 194 rfl) rfl
theorem q3417 : (Jvm.Cond.code ({ cls := "AnnealingLehr", name := "burnerOf", desc := "(I)I" } : Jvm.MethodName) prog_1_method_22_code (2 : Nat) (Option.some Jvm.ClassFile.FieldType.int)) ∈ lw_all := lw_g (lw_at lw_m14 195 rfl) rfl
theorem q3422 : (Jvm.Cond.instanceMethod ({ cls := "AnnealingLehr", name := "burningOf", desc := "(I)I" } : Jvm.MethodName)) ∈ lw_all := lw_g (lw_at lw_m14 200 rfl) rfl
theorem q3423 : (Jvm.Cond.selects "AnnealingLehr" ({ cls := "AnnealingLehr", name := "burningOf", desc := "(I)I" } : Jvm.MethodName) ({ cls := "AnnealingLehr", name := "burningOf", desc := "(I)I" } : Jvm.MethodName)) ∈ lw_all := lw_g (lw_at lw_m14 201 rfl) rfl
theorem q3424 : (Jvm.Cond.code ({ cls := "AnnealingLehr", name := "burningOf", desc := "(I)I" } : Jvm.MethodName) prog_1_method_23_code (2 : Nat) (Option.some Jvm.ClassFile.FieldType.int)) ∈ lw_all := lw_g (lw_at lw_m14 202 rfl) rfl
theorem q3425 : (Jvm.Cond.methodLink "AnnealingLehr" (194 : Nat) ({ cls := "AnnealingLehr$State", name := "burning", desc := "(I)I" } : Jvm.MethodName)) ∈ lw_all := lw_g (lw_at lw_m14 203 rfl) rfl
theorem q3443 : (Jvm.Cond.instanceMethod ({ cls := "AnnealingLehr", name := "fanOf", desc := "(I)I" } : Jvm.MethodName)) ∈ lw_all := lw_g (lw_at lw_m14 221 rfl) rfl
theorem q3444 : (Jvm.Cond.selects "AnnealingLehr" ({ cls := "AnnealingLehr", name := "fanOf", desc := "(I)I" } : Jvm.MethodName) ({ cls := "AnnealingLehr", name := "fanOf", desc := "(I)I" } : Jvm.MethodName)) ∈ lw_all := lw_g (lw_at lw_m14 222 rfl) rfl
theorem q3445 : (Jvm.Cond.code ({ cls := "AnnealingLehr", name := "fanOf", desc := "(I)I" } : Jvm.MethodName) prog_1_method_24_code (2 : Nat) (Option.some Jvm.ClassFile.FieldType.int)) ∈ lw_all := lw_g (lw_at lw_m14 223 rfl) rfl
theorem q3450 : (Jvm.Cond.instanceMethod ({ cls := "AnnealingLehr", name := "rollersOf", desc := "(I)I" } : Jvm.MethodName)) ∈ lw_all := lw_g (lw_at lw_m14 228 rfl) rfl
theorem q3451 : (Jvm.Cond.selects "AnnealingLehr" ({ cls := "AnnealingLehr", name := "rollersOf", desc := "(I)I" } : Jvm.MethodName) ({ cls := "AnnealingLehr", name := "rollersOf", desc := "(I)I" } : Jvm.MethodName)) ∈ lw_all := lw_g (lw_at lw_m14 229 rfl) rfl
theorem q3452 : (Jvm.Cond.code ({ cls := "AnnealingLehr", name := "rollersOf", desc := "(I)I" } : Jvm.MethodName) prog_1_method_25_code (2 : Nat) (Option.some Jvm.ClassFile.FieldType.int)) ∈ lw_all := lw_g (lw_at lw_m14 230 rfl) rfl
theorem q3457 : (Jvm.Cond.instanceMethod ({ cls := "AnnealingLehr", name := "temperatureOf", desc := "(I)I" } : Jvm.MethodName)) ∈ lw_all := lw_g (lw_at lw_m14 235 rfl) rfl
theorem q3458 : (Jvm.Cond.selects "AnnealingLehr" ({ cls := "AnnealingLehr", name := "temperatureOf", desc := "(I)I" } : Jvm.MethodName) ({ cls := "AnnealingLehr", name := "temperatureOf", desc := "(I)I" } : Jvm.MethodName)) ∈ lw_all := lw_g (lw_at lw_m14 236 rfl) rfl
theorem q3459 : (Jvm.Cond.code ({ cls := "AnnealingLehr", name := "temperatureOf", desc := "(I)I" } : Jvm.MethodName) prog_1_method_26_code (2 : Nat) (Option.some Jvm.ClassFile.FieldType.int)) ∈ lw_all := lw_g (lw_at lw_m14 237 rfl) rfl
theorem q3464 : (Jvm.Cond.instanceMethod ({ cls := "AnnealingLehr", name := "plannedFor", desc := "(II)I" } : Jvm.MethodName)) ∈ lw_all := lw_g (lw_at lw_m15 2 rfl) rfl
theorem q3465 : (Jvm.Cond.selects "AnnealingLehr" ({ cls := "AnnealingLehr", name := "plannedFor", desc := "(II)I" } : Jvm.MethodName) ({ cls := "AnnealingLehr", name := "plannedFor", desc := "(II)I" } : Jvm.MethodName)) ∈ lw_all := lw_g (lw_at lw_m15 3 rfl) rfl
theorem q3466 : (Jvm.Cond.code ({ cls := "AnnealingLehr", name := "plannedFor", desc := "(II)I" } : Jvm.MethodName) prog_1_method_30_code (3 : Nat) (Option.some Jvm.ClassFile.FieldType.int)) ∈ lw_all := lw_g (lw_at lw_m15 4 rfl) rfl
theorem q3471 : (Jvm.Cond.instanceMethod ({ cls := "AnnealingLehr", name := "lotAt", desc := "(I)I" } : Jvm.MethodName)) ∈ lw_all := lw_g (lw_at lw_m15 9 rfl) rfl
theorem q3472 : (Jvm.Cond.selects "AnnealingLehr" ({ cls := "AnnealingLehr", name := "lotAt", desc := "(I)I" } : Jvm.MethodName) ({ cls := "AnnealingLehr", name := "lotAt", desc := "(I)I" } : Jvm.MethodName)) ∈ lw_all := lw_g (lw_at lw_m15 10 rfl) rfl
theorem q3473 : (Jvm.Cond.code ({ cls := "AnnealingLehr", name := "lotAt", desc := "(I)I" } : Jvm.MethodName) prog_1_method_31_code (2 : Nat) (Option.some Jvm.ClassFile.FieldType.int)) ∈ lw_all := lw_g (lw_at lw_m15 11 rfl) rfl
theorem q3478 : (Jvm.Cond.instanceMethod ({ cls := "AnnealingLehr", name := "numberAt", desc := "(I)I" } : Jvm.MethodName)) ∈ lw_all := lw_g (lw_at lw_m15 16 rfl) rfl
theorem q3479 : (Jvm.Cond.selects "AnnealingLehr" ({ cls := "AnnealingLehr", name := "numberAt", desc := "(I)I" } : Jvm.MethodName) ({ cls := "AnnealingLehr", name := "numberAt", desc := "(I)I" } : Jvm.MethodName)) ∈ lw_all := lw_g (lw_at lw_m15 17 rfl) rfl
theorem q3480 : (Jvm.Cond.code ({ cls := "AnnealingLehr", name := "numberAt", desc := "(I)I" } : Jvm.MethodName) prog_1_method_32_code (2 : Nat) (Option.some Jvm.ClassFile.FieldType.int)) ∈ lw_all := lw_g (lw_at lw_m15 18 rfl) rfl
theorem q3485 : (Jvm.Cond.instanceMethod ({ cls := "AnnealingLehr", name := "warmthAt", desc := "(I)I" } : Jvm.MethodName)) ∈ lw_all := lw_g (lw_at lw_m15 23 rfl) rfl
theorem q3486 : (Jvm.Cond.selects "AnnealingLehr" ({ cls := "AnnealingLehr", name := "warmthAt", desc := "(I)I" } : Jvm.MethodName) ({ cls := "AnnealingLehr", name := "warmthAt", desc := "(I)I" } : Jvm.MethodName)) ∈ lw_all := lw_g (lw_at lw_m15 24 rfl) rfl
theorem q3487 : (Jvm.Cond.code ({ cls := "AnnealingLehr", name := "warmthAt", desc := "(I)I" } : Jvm.MethodName) prog_1_method_33_code (2 : Nat) (Option.some Jvm.ClassFile.FieldType.int)) ∈ lw_all := lw_g (lw_at lw_m15 25 rfl) rfl
theorem q3488 : (Jvm.Cond.methodLink "AnnealingLehr" (224 : Nat) ({ cls := "AnnealingLehr", name := "pieceAt", desc := "(I)LAnnealingLehr$Piece;" } : Jvm.MethodName)) ∈ lw_all := lw_g (lw_at lw_m15 26 rfl) rfl
theorem q3489 : (Jvm.Cond.privateMethod ({ cls := "AnnealingLehr", name := "pieceAt", desc := "(I)LAnnealingLehr$Piece;" } : Jvm.MethodName)) ∈ lw_tbl := lw_at lw_m15 27 rfl
theorem q3490 : (Jvm.Cond.instanceMethod ({ cls := "AnnealingLehr", name := "pieceAt", desc := "(I)LAnnealingLehr$Piece;" } : Jvm.MethodName)) ∈ lw_all := lw_g (lw_at lw_m15 28 rfl) rfl
theorem q3491 : (Jvm.Cond.code ({ cls := "AnnealingLehr", name := "pieceAt", desc := "(I)LAnnealingLehr$Piece;" } : Jvm.MethodName) prog_1_method_10_code (2 : Nat) (Option.some (Jvm.ClassFile.FieldType.object "AnnealingLehr$Piece"))) ∈ lw_all := lw_g (lw_at lw_m15 29 rfl) rfl
theorem q3496 : (Jvm.Cond.instanceMethod ({ cls := "AnnealingLehr", name := "stressAt", desc := "(I)F" } : Jvm.MethodName)) ∈ lw_all := lw_g (lw_at lw_m15 34 rfl) rfl
theorem q3497 : (Jvm.Cond.selects "AnnealingLehr" ({ cls := "AnnealingLehr", name := "stressAt", desc := "(I)F" } : Jvm.MethodName) ({ cls := "AnnealingLehr", name := "stressAt", desc := "(I)F" } : Jvm.MethodName)) ∈ lw_all := lw_g (lw_at lw_m15 35 rfl) rfl
theorem q3498 : (Jvm.Cond.code ({ cls := "AnnealingLehr", name := "stressAt", desc := "(I)F" } : Jvm.MethodName) prog_1_method_34_code (2 : Nat) (Option.some Jvm.ClassFile.FieldType.float)) ∈ lw_all := lw_g (lw_at lw_m15 36 rfl) rfl
theorem q3503 : (Jvm.Cond.instanceMethod ({ cls := "AnnealingLehr", name := "stressBitsAt", desc := "(I)I" } : Jvm.MethodName)) ∈ lw_all := lw_g (lw_at lw_m15 41 rfl) rfl
theorem q3504 : (Jvm.Cond.selects "AnnealingLehr" ({ cls := "AnnealingLehr", name := "stressBitsAt", desc := "(I)I" } : Jvm.MethodName) ({ cls := "AnnealingLehr", name := "stressBitsAt", desc := "(I)I" } : Jvm.MethodName)) ∈ lw_all := lw_g (lw_at lw_m15 42 rfl) rfl
theorem q3505 : (Jvm.Cond.code ({ cls := "AnnealingLehr", name := "stressBitsAt", desc := "(I)I" } : Jvm.MethodName) prog_1_method_35_code (2 : Nat) (Option.some Jvm.ClassFile.FieldType.int)) ∈ lw_all := lw_g (lw_at lw_m15 43 rfl) rfl
theorem q3506 : (Jvm.Cond.methodLink "AnnealingLehr" (235 : Nat) ({ cls := "java/lang/Float", name := "floatToIntBits", desc := "(F)I" } : Jvm.MethodName)) ∈ lw_all := lw_g (lw_at lw_m15 44 rfl) rfl
theorem q3516 : (Jvm.Cond.instanceMethod ({ cls := "AnnealingLehr", name := "minutesAt", desc := "(I)I" } : Jvm.MethodName)) ∈ lw_all := lw_g (lw_at lw_m15 54 rfl) rfl
theorem q3517 : (Jvm.Cond.selects "AnnealingLehr" ({ cls := "AnnealingLehr", name := "minutesAt", desc := "(I)I" } : Jvm.MethodName) ({ cls := "AnnealingLehr", name := "minutesAt", desc := "(I)I" } : Jvm.MethodName)) ∈ lw_all := lw_g (lw_at lw_m15 55 rfl) rfl
theorem q3518 : (Jvm.Cond.code ({ cls := "AnnealingLehr", name := "minutesAt", desc := "(I)I" } : Jvm.MethodName) prog_1_method_36_code (2 : Nat) (Option.some Jvm.ClassFile.FieldType.int)) ∈ lw_all := lw_g (lw_at lw_m15 56 rfl) rfl
theorem q3523 : (Jvm.Cond.instanceMethod ({ cls := "AnnealingLehr", name := "hasShards", desc := "(I)Z" } : Jvm.MethodName)) ∈ lw_all := lw_g (lw_at lw_m15 61 rfl) rfl
theorem q3524 : (Jvm.Cond.selects "AnnealingLehr" ({ cls := "AnnealingLehr", name := "hasShards", desc := "(I)Z" } : Jvm.MethodName) ({ cls := "AnnealingLehr", name := "hasShards", desc := "(I)Z" } : Jvm.MethodName)) ∈ lw_all := lw_g (lw_at lw_m15 62 rfl) rfl
theorem q3525 : (Jvm.Cond.code ({ cls := "AnnealingLehr", name := "hasShards", desc := "(I)Z" } : Jvm.MethodName) prog_1_method_37_code (2 : Nat) (Option.some Jvm.ClassFile.FieldType.boolean)) ∈ lw_all := lw_g (lw_at lw_m15 63 rfl) rfl
theorem q3530 : (Jvm.Cond.instanceMethod ({ cls := "AnnealingLehr", name := "whyNotMoving", desc := "(I)I" } : Jvm.MethodName)) ∈ lw_all := lw_g (lw_at lw_m15 68 rfl) rfl
theorem q3531 : (Jvm.Cond.selects "AnnealingLehr" ({ cls := "AnnealingLehr", name := "whyNotMoving", desc := "(I)I" } : Jvm.MethodName) ({ cls := "AnnealingLehr", name := "whyNotMoving", desc := "(I)I" } : Jvm.MethodName)) ∈ lw_all := lw_g (lw_at lw_m15 69 rfl) rfl
theorem q3532 : (Jvm.Cond.code ({ cls := "AnnealingLehr", name := "whyNotMoving", desc := "(I)I" } : Jvm.MethodName) prog_1_method_38_code (2 : Nat) (Option.some Jvm.ClassFile.FieldType.int)) ∈ lw_all := lw_g (lw_at lw_m15 70 rfl) rfl
theorem q3533 : (Jvm.Cond.methodLink "AnnealingLehr" (248 : Nat) ({ cls := "AnnealingLehr$State", name := "whyNotMoving", desc := "()[I" } : Jvm.MethodName)) ∈ lw_all := lw_g (lw_at lw_m15 71 rfl) rfl
theorem q3541 : (Jvm.Cond.instanceMethod ({ cls := "AnnealingLehr", name := "heldUpBy", desc := "(I)I" } : Jvm.MethodName)) ∈ lw_all := lw_g (lw_at lw_m15 79 rfl) rfl
theorem q3542 : (Jvm.Cond.selects "AnnealingLehr" ({ cls := "AnnealingLehr", name := "heldUpBy", desc := "(I)I" } : Jvm.MethodName) ({ cls := "AnnealingLehr", name := "heldUpBy", desc := "(I)I" } : Jvm.MethodName)) ∈ lw_all := lw_g (lw_at lw_m15 80 rfl) rfl
theorem q3543 : (Jvm.Cond.code ({ cls := "AnnealingLehr", name := "heldUpBy", desc := "(I)I" } : Jvm.MethodName) prog_1_method_39_code (2 : Nat) (Option.some Jvm.ClassFile.FieldType.int)) ∈ lw_all := lw_g (lw_at lw_m15 81 rfl) rfl
theorem q3544 : (Jvm.Cond.methodLink "AnnealingLehr" (252 : Nat) ({ cls := "AnnealingLehr$State", name := "heldUpBy", desc := "(I)I" } : Jvm.MethodName)) ∈ lw_all := lw_g (lw_at lw_m15 82 rfl) rfl
theorem q3553 : (Jvm.Cond.instanceMethod ({ cls := "AnnealingLehr", name := "cleanerAt", desc := "(I)I" } : Jvm.MethodName)) ∈ lw_all := lw_g (lw_at lw_m15 91 rfl) rfl
theorem q3554 : (Jvm.Cond.selects "AnnealingLehr" ({ cls := "AnnealingLehr", name := "cleanerAt", desc := "(I)I" } : Jvm.MethodName) ({ cls := "AnnealingLehr", name := "cleanerAt", desc := "(I)I" } : Jvm.MethodName)) ∈ lw_all := lw_g (lw_at lw_m15 92 rfl) rfl
theorem q3555 : (Jvm.Cond.code ({ cls := "AnnealingLehr", name := "cleanerAt", desc := "(I)I" } : Jvm.MethodName) prog_1_method_40_code (2 : Nat) (Option.some Jvm.ClassFile.FieldType.int)) ∈ lw_all := lw_g (lw_at lw_m15 93 rfl) rfl
theorem q3560 : (Jvm.Cond.instanceMethod ({ cls := "AnnealingLehr", name := "busyFor", desc := "(I)I" } : Jvm.MethodName)) ∈ lw_all := lw_g (lw_at lw_m15 98 rfl) rfl
theorem q3561 : (Jvm.Cond.selects "AnnealingLehr" ({ cls := "AnnealingLehr", name := "busyFor", desc := "(I)I" } : Jvm.MethodName) ({ cls := "AnnealingLehr", name := "busyFor", desc := "(I)I" } : Jvm.MethodName)) ∈ lw_all := lw_g (lw_at lw_m15 99 rfl) rfl
theorem q3562 : (Jvm.Cond.code ({ cls := "AnnealingLehr", name := "busyFor", desc := "(I)I" } : Jvm.MethodName) prog_1_method_41_code (2 : Nat) (Option.some Jvm.ClassFile.FieldType.int)) ∈ lw_all := lw_g (lw_at lw_m15 100 rfl) rfl
theorem q3567 : (Jvm.Cond.instanceMethod ({ cls := "AnnealingLehr", name := "whyNotCleaning", desc := "(II)I" } : Jvm.MethodName)) ∈ lw_all := lw_g (lw_at lw_m15 105 rfl) rfl
theorem q3568 : (Jvm.Cond.selects "AnnealingLehr" ({ cls := "AnnealingLehr", name := "whyNotCleaning", desc := "(II)I" } : Jvm.MethodName) ({ cls := "AnnealingLehr", name := "whyNotCleaning", desc := "(II)I" } : Jvm.MethodName)) ∈ lw_all := lw_g (lw_at lw_m15 106 rfl) rfl
theorem q3569 : (Jvm.Cond.code ({ cls := "AnnealingLehr", name := "whyNotCleaning", desc := "(II)I" } : Jvm.MethodName) prog_1_method_42_code (3 : Nat) (Option.some Jvm.ClassFile.FieldType.int)) ∈ lw_all := lw_g (lw_at lw_m15 107 rfl) rfl
theorem q3574 : (Jvm.Cond.instanceMethod ({ cls := "AnnealingLehr", name := "kindOf", desc := "(I)I" } : Jvm.MethodName)) ∈ lw_all := lw_g (lw_at lw_m15 112 rfl) rfl
theorem q3575 : (Jvm.Cond.selects "AnnealingLehr" ({ cls := "AnnealingLehr", name := "kindOf", desc := "(I)I" } : Jvm.MethodName) ({ cls := "AnnealingLehr", name := "kindOf", desc := "(I)I" } : Jvm.MethodName)) ∈ lw_all := lw_g (lw_at lw_m15 113 rfl) rfl
theorem q3576 : (Jvm.Cond.code ({ cls := "AnnealingLehr", name := "kindOf", desc := "(I)I" } : Jvm.MethodName) prog_1_method_44_code (2 : Nat) (Option.some Jvm.ClassFile.FieldType.int)) ∈ lw_all := lw_g (lw_at lw_m15 114 rfl) rfl
theorem q3577 : (Jvm.Cond.methodLink "AnnealingLehr" (84 : Nat) ({ cls := "AnnealingLehr", name := "lot", desc := "(I)LAnnealingLehr$Lot;" } : Jvm.MethodName)) ∈ lw_all := lw_g (lw_at lw_m15 115 rfl) rfl
theorem q3578 : (Jvm.Cond.privateMethod ({ cls := "AnnealingLehr", name := "lot", desc := "(I)LAnnealingLehr$Lot;" } : Jvm.MethodName)) ∈ lw_tbl := lw_at lw_m15 116 rfl
theorem q3579 : (Jvm.Cond.instanceMethod ({ cls := "AnnealingLehr", name := "lot", desc := "(I)LAnnealingLehr$Lot;" } : Jvm.MethodName)) ∈ lw_all := lw_g (lw_at lw_m15 117 rfl) rfl
theorem q3580 : (Jvm.Cond.code ({ cls := "AnnealingLehr", name := "lot", desc := "(I)LAnnealingLehr$Lot;" } : Jvm.MethodName) prog_1_method_8_code (2 : Nat) (Option.some (Jvm.ClassFile.FieldType.object "AnnealingLehr$Lot"))) ∈ lw_all := lw_g (lw_at lw_m15 118 rfl) rfl
theorem q3581 : (Jvm.Cond.methodLink "AnnealingLehr" (262 : Nat) ({ cls := "AnnealingLehr$Glass", name := "kind", desc := "(LAnnealingLehr$Ware;)I" } : Jvm.MethodName)) ∈ lw_all := lw_g (lw_at lw_m15 119 rfl) rfl
theorem q3586 : (Jvm.Cond.instanceMethod ({ cls := "AnnealingLehr", name := "wallOf", desc := "(I)I" } : Jvm.MethodName)) ∈ lw_all := lw_g (lw_at lw_m15 124 rfl) rfl
theorem q3587 : (Jvm.Cond.selects "AnnealingLehr" ({ cls := "AnnealingLehr", name := "wallOf", desc := "(I)I" } : Jvm.MethodName) ({ cls := "AnnealingLehr", name := "wallOf", desc := "(I)I" } : Jvm.MethodName)) ∈ lw_all := lw_g (lw_at lw_m15 125 rfl) rfl
theorem q3588 : (Jvm.Cond.code ({ cls := "AnnealingLehr", name := "wallOf", desc := "(I)I" } : Jvm.MethodName) prog_1_method_45_code (2 : Nat) (Option.some Jvm.ClassFile.FieldType.int)) ∈ lw_all := lw_g (lw_at lw_m15 126 rfl) rfl
theorem q3589 : (Jvm.Cond.interfaceEntry "AnnealingLehr" (268 : Nat)) ∈ lw_tbl := lw_at lw_m15 127 rfl
theorem q3590 : (Jvm.Cond.methodLink "AnnealingLehr" (268 : Nat) ({ cls := "AnnealingLehr$Ware", name := "wall", desc := "()I" } : Jvm.MethodName)) ∈ lw_all := lw_g (lw_at lw_m15 128 rfl) rfl
theorem q3595 : (Jvm.Cond.instanceMethod ({ cls := "AnnealingLehr", name := "piecesOf", desc := "(II)I" } : Jvm.MethodName)) ∈ lw_all := lw_g (lw_at lw_m15 133 rfl) rfl
theorem q3596 : (Jvm.Cond.selects "AnnealingLehr" ({ cls := "AnnealingLehr", name := "piecesOf", desc := "(II)I" } : Jvm.MethodName) ({ cls := "AnnealingLehr", name := "piecesOf", desc := "(II)I" } : Jvm.MethodName)) ∈ lw_all := lw_g (lw_at lw_m15 134 rfl) rfl
theorem q3597 : (Jvm.Cond.code ({ cls := "AnnealingLehr", name := "piecesOf", desc := "(II)I" } : Jvm.MethodName) prog_1_method_46_code (4 : Nat) (Option.some Jvm.ClassFile.FieldType.int)) ∈ lw_all := lw_g (lw_at lw_m15 135 rfl) rfl
theorem q3598 : (Jvm.Cond.methodLink "AnnealingLehr" (273 : Nat) ({ cls := "AnnealingLehr$Lot", name := "piecesWith", desc := "(I)I" } : Jvm.MethodName)) ∈ lw_all := lw_g (lw_at lw_m15 136 rfl) rfl
theorem q3607 : (Jvm.Cond.instanceMethod ({ cls := "AnnealingLehr", name := "fateOf", desc := "(II)I" } : Jvm.MethodName)) ∈ lw_all := lw_g (lw_at lw_m15 145 rfl) rfl
theorem q3608 : (Jvm.Cond.selects "AnnealingLehr" ({ cls := "AnnealingLehr", name := "fateOf", desc := "(II)I" } : Jvm.MethodName) ({ cls := "AnnealingLehr", name := "fateOf", desc := "(II)I" } : Jvm.MethodName)) ∈ lw_all := lw_g (lw_at lw_m15 146 rfl) rfl
theorem q3609 : (Jvm.Cond.code ({ cls := "AnnealingLehr", name := "fateOf", desc := "(II)I" } : Jvm.MethodName) prog_1_method_47_code (3 : Nat) (Option.some Jvm.ClassFile.FieldType.int)) ∈ lw_all := lw_g (lw_at lw_m15 147 rfl) rfl
theorem q3610 : (Jvm.Cond.methodLink "AnnealingLehr" (276 : Nat) ({ cls := "AnnealingLehr", name := "key", desc := "(II)LAnnealingLehr$PieceKey;" } : Jvm.MethodName)) ∈ lw_all := lw_g (lw_at lw_m15 148 rfl) rfl
theorem q3611 : (Jvm.Cond.privateMethod ({ cls := "AnnealingLehr", name := "key", desc := "(II)LAnnealingLehr$PieceKey;" } : Jvm.MethodName)) ∈ lw_tbl := lw_at lw_m15 149 rfl
theorem q3612 : (Jvm.Cond.instanceMethod ({ cls := "AnnealingLehr", name := "key", desc := "(II)LAnnealingLehr$PieceKey;" } : Jvm.MethodName)) ∈ lw_all := lw_g (lw_at lw_m15 150 rfl) rfl
theorem q3613 : (Jvm.Cond.code ({ cls := "AnnealingLehr", name := "key", desc := "(II)LAnnealingLehr$PieceKey;" } : Jvm.MethodName) prog_1_method_9_code (3 : Nat) (Option.some (Jvm.ClassFile.FieldType.object "AnnealingLehr$PieceKey"))) ∈ lw_all := lw_g (lw_at lw_m15 151 rfl) rfl
theorem q3614 : (Jvm.Cond.classLink "AnnealingLehr" (92 : Nat) "AnnealingLehr$PieceKey") ∈ lw_all := lw_g (lw_at lw_m15 152 rfl) rfl
theorem q3615 : (Jvm.Cond.methodLink "AnnealingLehr" (94 : Nat) ({ cls := "AnnealingLehr$PieceKey", name := "<init>", desc := "(II)V" } : Jvm.MethodName)) ∈ lw_all := lw_g (lw_at lw_m15 153 rfl) rfl
theorem q3616 : (Jvm.Cond.methodLink "AnnealingLehr" (279 : Nat) ({ cls := "AnnealingLehr$State", name := "fateOf", desc := "(LAnnealingLehr$PieceKey;)I" } : Jvm.MethodName)) ∈ lw_all := lw_g (lw_at lw_m15 154 rfl) rfl
theorem q3674 : (Jvm.Cond.instanceMethod ({ cls := "AnnealingLehr", name := "placeOf", desc := "(II)I" } : Jvm.MethodName)) ∈ lw_all := lw_g (lw_at lw_m15 212 rfl) rfl
theorem q3675 : (Jvm.Cond.selects "AnnealingLehr" ({ cls := "AnnealingLehr", name := "placeOf", desc := "(II)I" } : Jvm.MethodName) ({ cls := "AnnealingLehr", name := "placeOf", desc := "(II)I" } : Jvm.MethodName)) ∈ lw_all := lw_g (lw_at lw_m15 213 rfl) rfl
theorem q3676 : (Jvm.Cond.code ({ cls := "AnnealingLehr", name := "placeOf", desc := "(II)I" } : Jvm.MethodName) prog_1_method_48_code (4 : Nat) (Option.some Jvm.ClassFile.FieldType.int)) ∈ lw_all := lw_g (lw_at lw_m15 214 rfl) rfl
theorem q3677 : (Jvm.Cond.interfaceEntry "AnnealingLehr" (286 : Nat)) ∈ lw_tbl := lw_at lw_m15 215 rfl
theorem q3678 : (Jvm.Cond.methodLink "AnnealingLehr" (286 : Nat) ({ cls := "java/util/Map", name := "get", desc := "(Ljava/lang/Object;)Ljava/lang/Object;" } : Jvm.MethodName)) ∈ lw_all := lw_g (lw_at lw_m15 216 rfl) rfl
theorem q3679 : (Jvm.Cond.classLink "AnnealingLehr" (214 : Nat) "AnnealingLehr$Piece") ∈ lw_all := lw_g (lw_at lw_m15 217 rfl) rfl
theorem q3684 : (Jvm.Cond.instanceMethod ({ cls := "AnnealingLehr", name := "whyNotLoading", desc := "(I)I" } : Jvm.MethodName)) ∈ lw_all := lw_g (lw_at lw_m15 222 rfl) rfl
theorem q3685 : (Jvm.Cond.selects "AnnealingLehr" ({ cls := "AnnealingLehr", name := "whyNotLoading", desc := "(I)I" } : Jvm.MethodName) ({ cls := "AnnealingLehr", name := "whyNotLoading", desc := "(I)I" } : Jvm.MethodName)) ∈ lw_all := lw_g (lw_at lw_m15 223 rfl) rfl
theorem q3686 : (Jvm.Cond.code ({ cls := "AnnealingLehr", name := "whyNotLoading", desc := "(I)I" } : Jvm.MethodName) prog_1_method_49_code (2 : Nat) (Option.some Jvm.ClassFile.FieldType.int)) ∈ lw_all := lw_g (lw_at lw_m15 224 rfl) rfl
theorem q3691 : (Jvm.Cond.instanceMethod ({ cls := "AnnealingLehr", name := "stockOf", desc := "(I)I" } : Jvm.MethodName)) ∈ lw_all := lw_g (lw_at lw_m15 229 rfl) rfl
theorem q3692 : (Jvm.Cond.selects "AnnealingLehr" ({ cls := "AnnealingLehr", name := "stockOf", desc := "(I)I" } : Jvm.MethodName) ({ cls := "AnnealingLehr", name := "stockOf", desc := "(I)I" } : Jvm.MethodName)) ∈ lw_all := lw_g (lw_at lw_m15 230 rfl) rfl
theorem q3693 : (Jvm.Cond.code ({ cls := "AnnealingLehr", name := "stockOf", desc := "(I)I" } : Jvm.MethodName) prog_1_method_50_code (2 : Nat) (Option.some Jvm.ClassFile.FieldType.int)) ∈ lw_all := lw_g (lw_at lw_m15 231 rfl) rfl
theorem q3698 : (Jvm.Cond.instanceMethod ({ cls := "AnnealingLehr", name := "wantedBy", desc := "(I)I" } : Jvm.MethodName)) ∈ lw_all := lw_g (lw_at lw_m15 236 rfl) rfl
theorem q3699 : (Jvm.Cond.selects "AnnealingLehr" ({ cls := "AnnealingLehr", name := "wantedBy", desc := "(I)I" } : Jvm.MethodName) ({ cls := "AnnealingLehr", name := "wantedBy", desc := "(I)I" } : Jvm.MethodName)) ∈ lw_all := lw_g (lw_at lw_m15 237 rfl) rfl
theorem q3700 : (Jvm.Cond.code ({ cls := "AnnealingLehr", name := "wantedBy", desc := "(I)I" } : Jvm.MethodName) prog_1_method_52_code (2 : Nat) (Option.some Jvm.ClassFile.FieldType.int)) ∈ lw_all := lw_g (lw_at lw_m15 238 rfl) rfl
theorem q3705 : (Jvm.Cond.instanceMethod ({ cls := "AnnealingLehr", name := "incomeOf", desc := "(I)I" } : Jvm.MethodName)) ∈ lw_all := lw_g (lw_at lw_m16 3 rfl) rfl
theorem q3706 : (Jvm.Cond.selects "AnnealingLehr" ({ cls := "AnnealingLehr", name := "incomeOf", desc := "(I)I" } : Jvm.MethodName) ({ cls := "AnnealingLehr", name := "incomeOf", desc := "(I)I" } : Jvm.MethodName)) ∈ lw_all := lw_g (lw_at lw_m16 4 rfl) rfl
theorem q3707 : (Jvm.Cond.code ({ cls := "AnnealingLehr", name := "incomeOf", desc := "(I)I" } : Jvm.MethodName) prog_1_method_53_code (2 : Nat) (Option.some Jvm.ClassFile.FieldType.int)) ∈ lw_all := lw_g (lw_at lw_m16 5 rfl) rfl
theorem q3712 : (Jvm.Cond.instanceMethod ({ cls := "AnnealingLehr", name := "piecesOfKind", desc := "(II)I" } : Jvm.MethodName)) ∈ lw_all := lw_g (lw_at lw_m16 10 rfl) rfl
theorem q3713 : (Jvm.Cond.selects "AnnealingLehr" ({ cls := "AnnealingLehr", name := "piecesOfKind", desc := "(II)I" } : Jvm.MethodName) ({ cls := "AnnealingLehr", name := "piecesOfKind", desc := "(II)I" } : Jvm.MethodName)) ∈ lw_all := lw_g (lw_at lw_m16 11 rfl) rfl
theorem q3714 : (Jvm.Cond.code ({ cls := "AnnealingLehr", name := "piecesOfKind", desc := "(II)I" } : Jvm.MethodName) prog_1_method_58_code (6 : Nat) (Option.some Jvm.ClassFile.FieldType.int)) ∈ lw_all := lw_g (lw_at lw_m16 12 rfl) rfl
theorem q3719 : (Jvm.Cond.instanceMethod ({ cls := "AnnealingLehr", name := "brokenIn", desc := "(I)I" } : Jvm.MethodName)) ∈ lw_all := lw_g (lw_at lw_m16 17 rfl) rfl
theorem q3720 : (Jvm.Cond.selects "AnnealingLehr" ({ cls := "AnnealingLehr", name := "brokenIn", desc := "(I)I" } : Jvm.MethodName) ({ cls := "AnnealingLehr", name := "brokenIn", desc := "(I)I" } : Jvm.MethodName)) ∈ lw_all := lw_g (lw_at lw_m16 18 rfl) rfl
theorem q3721 : (Jvm.Cond.code ({ cls := "AnnealingLehr", name := "brokenIn", desc := "(I)I" } : Jvm.MethodName) prog_1_method_62_code (2 : Nat) (Option.some Jvm.ClassFile.FieldType.int)) ∈ lw_all := lw_g (lw_at lw_m16 19 rfl) rfl
theorem q3722 : (Jvm.Cond.methodLink "AnnealingLehr" (309 : Nat) ({ cls := "AnnealingLehr", name := "run", desc := "(LAnnealingLehr$State;I)LAnnealingLehr$State;" } : Jvm.MethodName)) ∈ lw_all := lw_g (lw_at lw_m16 20 rfl) rfl
theorem q3723 : (Jvm.Cond.static ({ cls := "AnnealingLehr", name := "run", desc := "(LAnnealingLehr$State;I)LAnnealingLehr$State;" } : Jvm.MethodName)) ∈ lw_all := lw_g (lw_at lw_m16 21 rfl) rfl
theorem q3724 : (Jvm.Cond.code ({ cls := "AnnealingLehr", name := "run", desc := "(LAnnealingLehr$State;I)LAnnealingLehr$State;" } : Jvm.MethodName) prog_1_method_61_code (3 : Nat) (Option.some (Jvm.ClassFile.FieldType.object "AnnealingLehr$State"))) ∈ lw_all := lw_g (lw_at lw_m16 22 rfl) rfl
theorem q3725 : (Jvm.Cond.methodLink "AnnealingLehr" (306 : Nat) ({ cls := "AnnealingLehr$State", name := "minute", desc := "()V" } : Jvm.MethodName)) ∈ lw_all := lw_g (lw_at lw_m16 23 rfl) rfl
theorem q3726 : (Jvm.Cond.methodLink "AnnealingLehr" (313 : Nat) ({ cls := "AnnealingLehr$State", name := "broken", desc := "()I" } : Jvm.MethodName)) ∈ lw_all := lw_g (lw_at lw_m16 24 rfl) rfl
theorem q3734 : (Jvm.Cond.instanceMethod ({ cls := "AnnealingLehr", name := "incomeIn", desc := "(I)I" } : Jvm.MethodName)) ∈ lw_all := lw_g (lw_at lw_m16 32 rfl) rfl
theorem q3735 : (Jvm.Cond.selects "AnnealingLehr" ({ cls := "AnnealingLehr", name := "incomeIn", desc := "(I)I" } : Jvm.MethodName) ({ cls := "AnnealingLehr", name := "incomeIn", desc := "(I)I" } : Jvm.MethodName)) ∈ lw_all := lw_g (lw_at lw_m16 33 rfl) rfl
theorem q3736 : (Jvm.Cond.code ({ cls := "AnnealingLehr", name := "incomeIn", desc := "(I)I" } : Jvm.MethodName) prog_1_method_63_code (2 : Nat) (Option.some Jvm.ClassFile.FieldType.int)) ∈ lw_all := lw_g (lw_at lw_m16 34 rfl) rfl
theorem q3741 : (Jvm.Cond.instanceMethod ({ cls := "AnnealingLehr", name := "minutesOnTheWay", desc := "(II)I" } : Jvm.MethodName)) ∈ lw_all := lw_g (lw_at lw_m16 39 rfl) rfl
theorem q3742 : (Jvm.Cond.selects "AnnealingLehr" ({ cls := "AnnealingLehr", name := "minutesOnTheWay", desc := "(II)I" } : Jvm.MethodName) ({ cls := "AnnealingLehr", name := "minutesOnTheWay", desc := "(II)I" } : Jvm.MethodName)) ∈ lw_all := lw_g (lw_at lw_m16 40 rfl) rfl
theorem q3743 : (Jvm.Cond.code ({ cls := "AnnealingLehr", name := "minutesOnTheWay", desc := "(II)I" } : Jvm.MethodName) prog_1_method_64_code (6 : Nat) (Option.some Jvm.ClassFile.FieldType.int)) ∈ lw_all := lw_g (lw_at lw_m16 41 rfl) rfl
theorem q3744 : (Jvm.Cond.interfaceEntry "AnnealingLehr" (316 : Nat)) ∈ lw_tbl := lw_at lw_m16 42 rfl
theorem q3745 : (Jvm.Cond.methodLink "AnnealingLehr" (316 : Nat) ({ cls := "java/util/Map", name := "containsKey", desc := "(Ljava/lang/Object;)Z" } : Jvm.MethodName)) ∈ lw_all := lw_g (lw_at lw_m16 43 rfl) rfl
theorem q3750 : (Jvm.Cond.instanceMethod ({ cls := "AnnealingLehr", name := "minutesToGo", desc := "(II)I" } : Jvm.MethodName)) ∈ lw_all := lw_g (lw_at lw_m16 48 rfl) rfl
theorem q3751 : (Jvm.Cond.selects "AnnealingLehr" ({ cls := "AnnealingLehr", name := "minutesToGo", desc := "(II)I" } : Jvm.MethodName) ({ cls := "AnnealingLehr", name := "minutesToGo", desc := "(II)I" } : Jvm.MethodName)) ∈ lw_all := lw_g (lw_at lw_m16 49 rfl) rfl
theorem q3752 : (Jvm.Cond.code ({ cls := "AnnealingLehr", name := "minutesToGo", desc := "(II)I" } : Jvm.MethodName) prog_1_method_65_code (4 : Nat) (Option.some Jvm.ClassFile.FieldType.int)) ∈ lw_all := lw_g (lw_at lw_m16 50 rfl) rfl
theorem q3753 : (Jvm.Cond.methodLink "AnnealingLehr" (320 : Nat) ({ cls := "AnnealingLehr$State", name := "minutesToGo", desc := "(LAnnealingLehr$Piece;)I" } : Jvm.MethodName)) ∈ lw_all := lw_g (lw_at lw_m16 51 rfl) rfl
theorem q3761 : (Jvm.Cond.instanceMethod ({ cls := "AnnealingLehr", name := "lowestSafeBurner", desc := "(I)I" } : Jvm.MethodName)) ∈ lw_all := lw_g (lw_at lw_m16 59 rfl) rfl
theorem q3762 : (Jvm.Cond.selects "AnnealingLehr" ({ cls := "AnnealingLehr", name := "lowestSafeBurner", desc := "(I)I" } : Jvm.MethodName) ({ cls := "AnnealingLehr", name := "lowestSafeBurner", desc := "(I)I" } : Jvm.MethodName)) ∈ lw_all := lw_g (lw_at lw_m16 60 rfl) rfl
theorem q3763 : (Jvm.Cond.code ({ cls := "AnnealingLehr", name := "lowestSafeBurner", desc := "(I)I" } : Jvm.MethodName) prog_1_method_66_code (4 : Nat) (Option.some Jvm.ClassFile.FieldType.int)) ∈ lw_all := lw_g (lw_at lw_m16 61 rfl) rfl
theorem q3768 : (Jvm.Cond.instanceMethod ({ cls := "AnnealingLehr", name := "append", desc := "(I)I" } : Jvm.MethodName)) ∈ lw_all := lw_g (lw_at lw_m16 66 rfl) rfl
theorem q3769 : (Jvm.Cond.selects "AnnealingLehr" ({ cls := "AnnealingLehr", name := "append", desc := "(I)I" } : Jvm.MethodName) ({ cls := "AnnealingLehr", name := "append", desc := "(I)I" } : Jvm.MethodName)) ∈ lw_all := lw_g (lw_at lw_m16 67 rfl) rfl
theorem q3770 : (Jvm.Cond.code ({ cls := "AnnealingLehr", name := "append", desc := "(I)I" } : Jvm.MethodName) prog_1_method_67_code (2 : Nat) (Option.some Jvm.ClassFile.FieldType.int)) ∈ lw_all := lw_g (lw_at lw_m16 68 rfl) rfl
theorem q3771 : (Jvm.Cond.methodLink "AnnealingLehr" (327 : Nat) ({ cls := "java/lang/StringBuilder", name := "append", desc := "(C)Ljava/lang/StringBuilder;" } : Jvm.MethodName)) ∈ lw_all := lw_g (lw_at lw_m16 69 rfl) rfl
theorem q3776 : (Jvm.Cond.instanceMethod ({ cls := "AnnealingLehr", name := "runText", desc := "()I" } : Jvm.MethodName)) ∈ lw_all := lw_g (lw_at lw_m16 74 rfl) rfl
theorem q3777 : (Jvm.Cond.selects "AnnealingLehr" ({ cls := "AnnealingLehr", name := "runText", desc := "()I" } : Jvm.MethodName) ({ cls := "AnnealingLehr", name := "runText", desc := "()I" } : Jvm.MethodName)) ∈ lw_all := lw_g (lw_at lw_m16 75 rfl) rfl
theorem q3778 : (Jvm.Cond.code ({ cls := "AnnealingLehr", name := "runText", desc := "()I" } : Jvm.MethodName) prog_1_method_70_code (2 : Nat) (Option.some Jvm.ClassFile.FieldType.int)) ∈ lw_all := lw_g (lw_at lw_m16 76 rfl) rfl
theorem q3779 : (Jvm.Cond.methodLink "AnnealingLehr" (344 : Nat) ({ cls := "AnnealingLehr$TextReader", name := "doAll", desc := "(LAnnealingLehr$State;)I" } : Jvm.MethodName)) ∈ lw_all := lw_g (lw_at lw_m16 77 rfl) rfl
theorem q3791 : (Jvm.Cond.instanceMethod ({ cls := "AnnealingLehr", name := "undo", desc := "()I" } : Jvm.MethodName)) ∈ lw_all := lw_g (lw_at lw_m16 89 rfl) rfl
theorem q3792 : (Jvm.Cond.selects "AnnealingLehr" ({ cls := "AnnealingLehr", name := "undo", desc := "()I" } : Jvm.MethodName) ({ cls := "AnnealingLehr", name := "undo", desc := "()I" } : Jvm.MethodName)) ∈ lw_all := lw_g (lw_at lw_m16 90 rfl) rfl
theorem q3793 : (Jvm.Cond.code ({ cls := "AnnealingLehr", name := "undo", desc := "()I" } : Jvm.MethodName) prog_1_method_71_code (1 : Nat) (Option.some Jvm.ClassFile.FieldType.int)) ∈ lw_all := lw_g (lw_at lw_m16 91 rfl) rfl
theorem q3794 : (Jvm.Cond.methodLink "AnnealingLehr" (348 : Nat) ({ cls := "java/util/ArrayDeque", name := "isEmpty", desc := "()Z" } : Jvm.MethodName)) ∈ lw_all := lw_g (lw_at lw_m16 92 rfl) rfl
theorem q3798 : (Jvm.Cond.methodLink "AnnealingLehr" (351 : Nat) ({ cls := "java/util/ArrayDeque", name := "removeLast", desc := "()Ljava/lang/Object;" } : Jvm.MethodName)) ∈ lw_all := lw_g (lw_at lw_m16 96 rfl) rfl
theorem q3813 : (Jvm.Cond.instanceMethod ({ cls := "AnnealingLehr", name := "restoreSnapshot", desc := "()I" } : Jvm.MethodName)) ∈ lw_all := lw_g (lw_at lw_m16 111 rfl) rfl
theorem q3814 : (Jvm.Cond.selects "AnnealingLehr" ({ cls := "AnnealingLehr", name := "restoreSnapshot", desc := "()I" } : Jvm.MethodName) ({ cls := "AnnealingLehr", name := "restoreSnapshot", desc := "()I" } : Jvm.MethodName)) ∈ lw_all := lw_g (lw_at lw_m16 112 rfl) rfl
theorem q3815 : (Jvm.Cond.code ({ cls := "AnnealingLehr", name := "restoreSnapshot", desc := "()I" } : Jvm.MethodName) prog_1_method_74_code (1 : Nat) (Option.some Jvm.ClassFile.FieldType.int)) ∈ lw_all := lw_g (lw_at lw_m16 113 rfl) rfl
theorem q4429 : (Jvm.Cond.castable "AnnealingLehr" "java/lang/Object") ∈ lw_tbl := lw_at lw_m19 7 rfl

set_option maxRecDepth 100000
abbrev cX2_init : ByteArray := prog_17_method_1_code
def yX2_init : MethodName := ⟨RX2, "<init>", "()V"⟩
def dkwX2_init_8 : List UInt8 := [185, 0, 76, 2, 0, 87, 132, 1, 1, 167, 255, 231, 177]
abbrev dktX2_init_8 : List UInt8 := dkwX2_init_8 ++ []
def dkwX2_init_7 : List UInt8 := [132, 1, 1, 167, 255, 232, 4, 60, 27, 7, 163, 0, 26, 42, 180, 0, 38, 187, 0, 73, 89, 183, 0, 75]
abbrev dktX2_init_7 : List UInt8 := dkwX2_init_7 ++ dktX2_init_8
def dkwX2_init_6 : List UInt8 := [3, 60, 27, 16, 8, 162, 0, 24, 42, 180, 0, 51, 27, 6, 79, 42, 180, 0, 54, 27, 16, 20, 79]
abbrev dktX2_init_6 : List UInt8 := dkwX2_init_6 ++ dktX2_init_7
def dkwX2_init_5 : List UInt8 := [5, 188, 10, 181, 0, 64, 42, 5, 188, 10, 181, 0, 67, 42, 187, 0, 31, 89, 183, 0, 33, 181, 0, 70]
abbrev dktX2_init_5 : List UInt8 := dkwX2_init_5 ++ dktX2_init_6
def dkwX2_init_4 : List UInt8 := [16, 8, 188, 10, 181, 0, 54, 42, 16, 8, 188, 10, 181, 0, 57, 42, 16, 24, 188, 4, 181, 0, 60, 42]
abbrev dktX2_init_4 : List UInt8 := dkwX2_init_4 ++ dktX2_init_5
def dkwX2_init_3 : List UInt8 := [16, 8, 188, 10, 181, 0, 44, 42, 16, 8, 188, 10, 181, 0, 48, 42, 16, 8, 188, 10, 181, 0, 51, 42]
abbrev dktX2_init_3 : List UInt8 := dkwX2_init_3 ++ dktX2_init_4
def dkwX2_init_2 : List UInt8 := [183, 0, 33, 181, 0, 34, 42, 187, 0, 21, 89, 183, 0, 23, 181, 0, 38, 42, 2, 181, 0, 41, 42]
abbrev dktX2_init_2 : List UInt8 := dkwX2_init_2 ++ dktX2_init_3
def dkwX2_init_1 : List UInt8 := [183, 0, 23, 181, 0, 24, 42, 187, 0, 21, 89, 183, 0, 23, 181, 0, 28, 42, 187, 0, 31, 89]
abbrev dktX2_init_1 : List UInt8 := dkwX2_init_1 ++ dktX2_init_2
def dkwX2_init_0 : List UInt8 := [42, 183, 0, 3, 42, 16, 60, 181, 0, 9, 42, 16, 24, 189, 0, 15, 181, 0, 17, 42, 187, 0, 21, 89]
abbrev dktX2_init_0 : List UInt8 := dkwX2_init_0 ++ dktX2_init_1
theorem dksX2_init_0 : cX2_init.data.toList.drop 0 = dktX2_init_0 := by decide +kernel
theorem dksX2_init_1 : cX2_init.data.toList.drop 24 = dktX2_init_1 := dk_seg dksX2_init_0 24 rfl rfl
theorem dksX2_init_2 : cX2_init.data.toList.drop 46 = dktX2_init_2 := dk_seg dksX2_init_1 22 rfl rfl
theorem dksX2_init_3 : cX2_init.data.toList.drop 69 = dktX2_init_3 := dk_seg dksX2_init_2 23 rfl rfl
theorem dksX2_init_4 : cX2_init.data.toList.drop 93 = dktX2_init_4 := dk_seg dksX2_init_3 24 rfl rfl
theorem dksX2_init_5 : cX2_init.data.toList.drop 117 = dktX2_init_5 := dk_seg dksX2_init_4 24 rfl rfl
theorem dksX2_init_6 : cX2_init.data.toList.drop 141 = dktX2_init_6 := dk_seg dksX2_init_5 24 rfl rfl
theorem dksX2_init_7 : cX2_init.data.toList.drop 164 = dktX2_init_7 := dk_seg dksX2_init_6 23 rfl rfl
theorem dksX2_init_8 : cX2_init.data.toList.drop 188 = dktX2_init_8 := dk_seg dksX2_init_7 24 rfl rfl
theorem dX2_init_0 : decode cX2_init 0 = .ok (.aload_n 0, 1) := dk_42 (dk_at dksX2_init_0 0 rfl rfl)
theorem dX2_init_1 : decode cX2_init 1 = .ok (.invokespecial 3, 3) := dk_183 0 3 (dk_at dksX2_init_0 1 rfl rfl)
theorem dX2_init_4 : decode cX2_init 4 = .ok (.aload_n 0, 1) := dk_42 (dk_at dksX2_init_0 4 rfl rfl)
theorem dX2_init_5 : decode cX2_init 5 = .ok (.bipush 60, 2) := dk_16 60 (dk_at dksX2_init_0 5 rfl rfl)
theorem dX2_init_7 : decode cX2_init 7 = .ok (.putfield 9, 3) := dk_181 0 9 (dk_at dksX2_init_0 7 rfl rfl)
theorem dX2_init_10 : decode cX2_init 10 = .ok (.aload_n 0, 1) := dk_42 (dk_at dksX2_init_0 10 rfl rfl)
theorem dX2_init_11 : decode cX2_init 11 = .ok (.bipush 24, 2) := dk_16 24 (dk_at dksX2_init_0 11 rfl rfl)
theorem dX2_init_13 : decode cX2_init 13 = .ok (.anewarray 15, 3) := dk_189 0 15 (dk_at dksX2_init_0 13 rfl rfl)
theorem dX2_init_16 : decode cX2_init 16 = .ok (.putfield 17, 3) := dk_181 0 17 (dk_at dksX2_init_0 16 rfl rfl)
theorem dX2_init_19 : decode cX2_init 19 = .ok (.aload_n 0, 1) := dk_42 (dk_at dksX2_init_0 19 rfl rfl)
theorem dX2_init_20 : decode cX2_init 20 = .ok (.new 21, 3) := dk_187 0 21 (dk_at dksX2_init_0 20 rfl rfl)
theorem dX2_init_23 : decode cX2_init 23 = .ok (.dup, 1) := dk_89 (dk_at dksX2_init_0 23 rfl rfl)
theorem dX2_init_24 : decode cX2_init 24 = .ok (.invokespecial 23, 3) := dk_183 0 23 (dk_at dksX2_init_1 0 rfl rfl)
theorem dX2_init_27 : decode cX2_init 27 = .ok (.putfield 24, 3) := dk_181 0 24 (dk_at dksX2_init_1 3 rfl rfl)
theorem dX2_init_30 : decode cX2_init 30 = .ok (.aload_n 0, 1) := dk_42 (dk_at dksX2_init_1 6 rfl rfl)
theorem dX2_init_31 : decode cX2_init 31 = .ok (.new 21, 3) := dk_187 0 21 (dk_at dksX2_init_1 7 rfl rfl)
theorem dX2_init_34 : decode cX2_init 34 = .ok (.dup, 1) := dk_89 (dk_at dksX2_init_1 10 rfl rfl)
theorem dX2_init_35 : decode cX2_init 35 = .ok (.invokespecial 23, 3) := dk_183 0 23 (dk_at dksX2_init_1 11 rfl rfl)
theorem dX2_init_38 : decode cX2_init 38 = .ok (.putfield 28, 3) := dk_181 0 28 (dk_at dksX2_init_1 14 rfl rfl)
theorem dX2_init_41 : decode cX2_init 41 = .ok (.aload_n 0, 1) := dk_42 (dk_at dksX2_init_1 17 rfl rfl)
theorem dX2_init_42 : decode cX2_init 42 = .ok (.new 31, 3) := dk_187 0 31 (dk_at dksX2_init_1 18 rfl rfl)
theorem dX2_init_45 : decode cX2_init 45 = .ok (.dup, 1) := dk_89 (dk_at dksX2_init_1 21 rfl rfl)
theorem dX2_init_46 : decode cX2_init 46 = .ok (.invokespecial 33, 3) := dk_183 0 33 (dk_at dksX2_init_2 0 rfl rfl)
theorem dX2_init_49 : decode cX2_init 49 = .ok (.putfield 34, 3) := dk_181 0 34 (dk_at dksX2_init_2 3 rfl rfl)
theorem dX2_init_52 : decode cX2_init 52 = .ok (.aload_n 0, 1) := dk_42 (dk_at dksX2_init_2 6 rfl rfl)
theorem dX2_init_53 : decode cX2_init 53 = .ok (.new 21, 3) := dk_187 0 21 (dk_at dksX2_init_2 7 rfl rfl)
theorem dX2_init_56 : decode cX2_init 56 = .ok (.dup, 1) := dk_89 (dk_at dksX2_init_2 10 rfl rfl)
theorem dX2_init_57 : decode cX2_init 57 = .ok (.invokespecial 23, 3) := dk_183 0 23 (dk_at dksX2_init_2 11 rfl rfl)
theorem dX2_init_60 : decode cX2_init 60 = .ok (.putfield 38, 3) := dk_181 0 38 (dk_at dksX2_init_2 14 rfl rfl)
theorem dX2_init_63 : decode cX2_init 63 = .ok (.aload_n 0, 1) := dk_42 (dk_at dksX2_init_2 17 rfl rfl)
theorem dX2_init_64 : decode cX2_init 64 = .ok (.iconst (-1), 1) := dk_2 (dk_at dksX2_init_2 18 rfl rfl)
theorem dX2_init_65 : decode cX2_init 65 = .ok (.putfield 41, 3) := dk_181 0 41 (dk_at dksX2_init_2 19 rfl rfl)
theorem dX2_init_68 : decode cX2_init 68 = .ok (.aload_n 0, 1) := dk_42 (dk_at dksX2_init_2 22 rfl rfl)
theorem dX2_init_69 : decode cX2_init 69 = .ok (.bipush 8, 2) := dk_16 8 (dk_at dksX2_init_3 0 rfl rfl)
theorem dX2_init_71 : decode cX2_init 71 = .ok (.newarray .int, 2) := dk_188_10 (dk_at dksX2_init_3 2 rfl rfl)
theorem dX2_init_73 : decode cX2_init 73 = .ok (.putfield 44, 3) := dk_181 0 44 (dk_at dksX2_init_3 4 rfl rfl)
theorem dX2_init_76 : decode cX2_init 76 = .ok (.aload_n 0, 1) := dk_42 (dk_at dksX2_init_3 7 rfl rfl)
theorem dX2_init_77 : decode cX2_init 77 = .ok (.bipush 8, 2) := dk_16 8 (dk_at dksX2_init_3 8 rfl rfl)
theorem dX2_init_79 : decode cX2_init 79 = .ok (.newarray .int, 2) := dk_188_10 (dk_at dksX2_init_3 10 rfl rfl)
theorem dX2_init_81 : decode cX2_init 81 = .ok (.putfield 48, 3) := dk_181 0 48 (dk_at dksX2_init_3 12 rfl rfl)
theorem dX2_init_84 : decode cX2_init 84 = .ok (.aload_n 0, 1) := dk_42 (dk_at dksX2_init_3 15 rfl rfl)
theorem dX2_init_85 : decode cX2_init 85 = .ok (.bipush 8, 2) := dk_16 8 (dk_at dksX2_init_3 16 rfl rfl)
theorem dX2_init_87 : decode cX2_init 87 = .ok (.newarray .int, 2) := dk_188_10 (dk_at dksX2_init_3 18 rfl rfl)
theorem dX2_init_89 : decode cX2_init 89 = .ok (.putfield 51, 3) := dk_181 0 51 (dk_at dksX2_init_3 20 rfl rfl)
theorem dX2_init_92 : decode cX2_init 92 = .ok (.aload_n 0, 1) := dk_42 (dk_at dksX2_init_3 23 rfl rfl)
theorem dX2_init_93 : decode cX2_init 93 = .ok (.bipush 8, 2) := dk_16 8 (dk_at dksX2_init_4 0 rfl rfl)
theorem dX2_init_95 : decode cX2_init 95 = .ok (.newarray .int, 2) := dk_188_10 (dk_at dksX2_init_4 2 rfl rfl)
theorem dX2_init_97 : decode cX2_init 97 = .ok (.putfield 54, 3) := dk_181 0 54 (dk_at dksX2_init_4 4 rfl rfl)
theorem dX2_init_100 : decode cX2_init 100 = .ok (.aload_n 0, 1) := dk_42 (dk_at dksX2_init_4 7 rfl rfl)
theorem dX2_init_101 : decode cX2_init 101 = .ok (.bipush 8, 2) := dk_16 8 (dk_at dksX2_init_4 8 rfl rfl)
theorem dX2_init_103 : decode cX2_init 103 = .ok (.newarray .int, 2) := dk_188_10 (dk_at dksX2_init_4 10 rfl rfl)
theorem dX2_init_105 : decode cX2_init 105 = .ok (.putfield 57, 3) := dk_181 0 57 (dk_at dksX2_init_4 12 rfl rfl)
theorem dX2_init_108 : decode cX2_init 108 = .ok (.aload_n 0, 1) := dk_42 (dk_at dksX2_init_4 15 rfl rfl)
theorem dX2_init_109 : decode cX2_init 109 = .ok (.bipush 24, 2) := dk_16 24 (dk_at dksX2_init_4 16 rfl rfl)
theorem dX2_init_111 : decode cX2_init 111 = .ok (.newarray .boolean, 2) := dk_188_4 (dk_at dksX2_init_4 18 rfl rfl)
theorem dX2_init_113 : decode cX2_init 113 = .ok (.putfield 60, 3) := dk_181 0 60 (dk_at dksX2_init_4 20 rfl rfl)
theorem dX2_init_116 : decode cX2_init 116 = .ok (.aload_n 0, 1) := dk_42 (dk_at dksX2_init_4 23 rfl rfl)
theorem dX2_init_117 : decode cX2_init 117 = .ok (.iconst 2, 1) := dk_5 (dk_at dksX2_init_5 0 rfl rfl)
theorem dX2_init_118 : decode cX2_init 118 = .ok (.newarray .int, 2) := dk_188_10 (dk_at dksX2_init_5 1 rfl rfl)
theorem dX2_init_120 : decode cX2_init 120 = .ok (.putfield 64, 3) := dk_181 0 64 (dk_at dksX2_init_5 3 rfl rfl)
theorem dX2_init_123 : decode cX2_init 123 = .ok (.aload_n 0, 1) := dk_42 (dk_at dksX2_init_5 6 rfl rfl)
theorem dX2_init_124 : decode cX2_init 124 = .ok (.iconst 2, 1) := dk_5 (dk_at dksX2_init_5 7 rfl rfl)
theorem dX2_init_125 : decode cX2_init 125 = .ok (.newarray .int, 2) := dk_188_10 (dk_at dksX2_init_5 8 rfl rfl)
theorem dX2_init_127 : decode cX2_init 127 = .ok (.putfield 67, 3) := dk_181 0 67 (dk_at dksX2_init_5 10 rfl rfl)
theorem dX2_init_130 : decode cX2_init 130 = .ok (.aload_n 0, 1) := dk_42 (dk_at dksX2_init_5 13 rfl rfl)
theorem dX2_init_131 : decode cX2_init 131 = .ok (.new 31, 3) := dk_187 0 31 (dk_at dksX2_init_5 14 rfl rfl)
theorem dX2_init_134 : decode cX2_init 134 = .ok (.dup, 1) := dk_89 (dk_at dksX2_init_5 17 rfl rfl)
theorem dX2_init_135 : decode cX2_init 135 = .ok (.invokespecial 33, 3) := dk_183 0 33 (dk_at dksX2_init_5 18 rfl rfl)
theorem dX2_init_138 : decode cX2_init 138 = .ok (.putfield 70, 3) := dk_181 0 70 (dk_at dksX2_init_5 21 rfl rfl)
theorem dX2_init_141 : decode cX2_init 141 = .ok (.iconst 0, 1) := dk_3 (dk_at dksX2_init_6 0 rfl rfl)
theorem dX2_init_142 : decode cX2_init 142 = .ok (.istore_n 1, 1) := dk_60 (dk_at dksX2_init_6 1 rfl rfl)
theorem dX2_init_143 : decode cX2_init 143 = .ok (.iload_n 1, 1) := dk_27 (dk_at dksX2_init_6 2 rfl rfl)
theorem dX2_init_144 : decode cX2_init 144 = .ok (.bipush 8, 2) := dk_16 8 (dk_at dksX2_init_6 3 rfl rfl)
theorem dX2_init_146 : decode cX2_init 146 = .ok (.if_icmp .ge 24, 3) := dk_162 0 24 (dk_at dksX2_init_6 5 rfl rfl)
theorem dX2_init_149 : decode cX2_init 149 = .ok (.aload_n 0, 1) := dk_42 (dk_at dksX2_init_6 8 rfl rfl)
theorem dX2_init_150 : decode cX2_init 150 = .ok (.getfield 51, 3) := dk_180 0 51 (dk_at dksX2_init_6 9 rfl rfl)
theorem dX2_init_153 : decode cX2_init 153 = .ok (.iload_n 1, 1) := dk_27 (dk_at dksX2_init_6 12 rfl rfl)
theorem dX2_init_154 : decode cX2_init 154 = .ok (.iconst 3, 1) := dk_6 (dk_at dksX2_init_6 13 rfl rfl)
theorem dX2_init_155 : decode cX2_init 155 = .ok (.iastore, 1) := dk_79 (dk_at dksX2_init_6 14 rfl rfl)
theorem dX2_init_156 : decode cX2_init 156 = .ok (.aload_n 0, 1) := dk_42 (dk_at dksX2_init_6 15 rfl rfl)
theorem dX2_init_157 : decode cX2_init 157 = .ok (.getfield 54, 3) := dk_180 0 54 (dk_at dksX2_init_6 16 rfl rfl)
theorem dX2_init_160 : decode cX2_init 160 = .ok (.iload_n 1, 1) := dk_27 (dk_at dksX2_init_6 19 rfl rfl)
theorem dX2_init_161 : decode cX2_init 161 = .ok (.bipush 20, 2) := dk_16 20 (dk_at dksX2_init_6 20 rfl rfl)
theorem dX2_init_163 : decode cX2_init 163 = .ok (.iastore, 1) := dk_79 (dk_at dksX2_init_6 22 rfl rfl)
theorem dX2_init_164 : decode cX2_init 164 = .ok (.iinc 1 1, 3) := dk_132 1 1 (dk_at dksX2_init_7 0 rfl rfl)
theorem dX2_init_167 : decode cX2_init 167 = .ok (.goto (-24), 3) := dk_167 255 232 (dk_at dksX2_init_7 3 rfl rfl)
theorem dX2_init_170 : decode cX2_init 170 = .ok (.iconst 1, 1) := dk_4 (dk_at dksX2_init_7 6 rfl rfl)
theorem dX2_init_171 : decode cX2_init 171 = .ok (.istore_n 1, 1) := dk_60 (dk_at dksX2_init_7 7 rfl rfl)
theorem dX2_init_172 : decode cX2_init 172 = .ok (.iload_n 1, 1) := dk_27 (dk_at dksX2_init_7 8 rfl rfl)
theorem dX2_init_173 : decode cX2_init 173 = .ok (.iconst 4, 1) := dk_7 (dk_at dksX2_init_7 9 rfl rfl)
theorem dX2_init_174 : decode cX2_init 174 = .ok (.if_icmp .gt 26, 3) := dk_163 0 26 (dk_at dksX2_init_7 10 rfl rfl)
theorem dX2_init_177 : decode cX2_init 177 = .ok (.aload_n 0, 1) := dk_42 (dk_at dksX2_init_7 13 rfl rfl)
theorem dX2_init_178 : decode cX2_init 178 = .ok (.getfield 38, 3) := dk_180 0 38 (dk_at dksX2_init_7 14 rfl rfl)
theorem dX2_init_181 : decode cX2_init 181 = .ok (.new 73, 3) := dk_187 0 73 (dk_at dksX2_init_7 17 rfl rfl)
theorem dX2_init_184 : decode cX2_init 184 = .ok (.dup, 1) := dk_89 (dk_at dksX2_init_7 20 rfl rfl)
theorem dX2_init_185 : decode cX2_init 185 = .ok (.invokespecial 75, 3) := dk_183 0 75 (dk_at dksX2_init_7 21 rfl rfl)
theorem dX2_init_188 : decode cX2_init 188 = .ok (.invokeinterface 76 2, 5) := by decide +kernel
theorem dX2_init_193 : decode cX2_init 193 = .ok (.pop, 1) := dk_87 (dk_at dksX2_init_8 5 rfl rfl)
theorem dX2_init_194 : decode cX2_init 194 = .ok (.iinc 1 1, 3) := dk_132 1 1 (dk_at dksX2_init_8 6 rfl rfl)
theorem dX2_init_197 : decode cX2_init 197 = .ok (.goto (-25), 3) := dk_167 255 231 (dk_at dksX2_init_8 9 rfl rfl)
theorem dX2_init_200 : decode cX2_init 200 = .ok (.return_, 1) := dk_177 (dk_at dksX2_init_8 12 rfl rfl)
abbrev cX2_income : ByteArray := prog_17_method_38_code
def yX2_income : MethodName := ⟨RX2, "income", "()I"⟩
def dkwX2_income_1 : List UInt8 := [185, 0, 102, 2, 0, 192, 0, 106, 180, 0, 221, 96, 60, 132, 2, 1, 167, 255, 221, 27, 172]
abbrev dktX2_income_1 : List UInt8 := dkwX2_income_1 ++ []
def dkwX2_income_0 : List UInt8 := [3, 60, 3, 61, 28, 42, 180, 0, 24, 185, 0, 98, 1, 0, 162, 0, 28, 27, 42, 180, 0, 24, 28]
abbrev dktX2_income_0 : List UInt8 := dkwX2_income_0 ++ dktX2_income_1
theorem dksX2_income_0 : cX2_income.data.toList.drop 0 = dktX2_income_0 := by decide +kernel
theorem dksX2_income_1 : cX2_income.data.toList.drop 23 = dktX2_income_1 := dk_seg dksX2_income_0 23 rfl rfl
theorem dX2_income_0 : decode cX2_income 0 = .ok (.iconst 0, 1) := dk_3 (dk_at dksX2_income_0 0 rfl rfl)
theorem dX2_income_1 : decode cX2_income 1 = .ok (.istore_n 1, 1) := dk_60 (dk_at dksX2_income_0 1 rfl rfl)
theorem dX2_income_2 : decode cX2_income 2 = .ok (.iconst 0, 1) := dk_3 (dk_at dksX2_income_0 2 rfl rfl)
theorem dX2_income_3 : decode cX2_income 3 = .ok (.istore_n 2, 1) := dk_61 (dk_at dksX2_income_0 3 rfl rfl)
theorem dX2_income_4 : decode cX2_income 4 = .ok (.iload_n 2, 1) := dk_28 (dk_at dksX2_income_0 4 rfl rfl)
theorem dX2_income_5 : decode cX2_income 5 = .ok (.aload_n 0, 1) := dk_42 (dk_at dksX2_income_0 5 rfl rfl)
theorem dX2_income_6 : decode cX2_income 6 = .ok (.getfield 24, 3) := dk_180 0 24 (dk_at dksX2_income_0 6 rfl rfl)
theorem dX2_income_9 : decode cX2_income 9 = .ok (.invokeinterface 98 1, 5) := by decide +kernel
theorem dX2_income_14 : decode cX2_income 14 = .ok (.if_icmp .ge 28, 3) := dk_162 0 28 (dk_at dksX2_income_0 14 rfl rfl)
theorem dX2_income_17 : decode cX2_income 17 = .ok (.iload_n 1, 1) := dk_27 (dk_at dksX2_income_0 17 rfl rfl)
theorem dX2_income_18 : decode cX2_income 18 = .ok (.aload_n 0, 1) := dk_42 (dk_at dksX2_income_0 18 rfl rfl)
theorem dX2_income_19 : decode cX2_income 19 = .ok (.getfield 24, 3) := dk_180 0 24 (dk_at dksX2_income_0 19 rfl rfl)
theorem dX2_income_22 : decode cX2_income 22 = .ok (.iload_n 2, 1) := dk_28 (dk_at dksX2_income_0 22 rfl rfl)
theorem dX2_income_23 : decode cX2_income 23 = .ok (.invokeinterface 102 2, 5) := by decide +kernel
theorem dX2_income_28 : decode cX2_income 28 = .ok (.checkcast 106, 3) := dk_192 0 106 (dk_at dksX2_income_1 5 rfl rfl)
theorem dX2_income_31 : decode cX2_income 31 = .ok (.getfield 221, 3) := dk_180 0 221 (dk_at dksX2_income_1 8 rfl rfl)
theorem dX2_income_34 : decode cX2_income 34 = .ok (.iadd, 1) := dk_96 (dk_at dksX2_income_1 11 rfl rfl)
theorem dX2_income_35 : decode cX2_income 35 = .ok (.istore_n 1, 1) := dk_60 (dk_at dksX2_income_1 12 rfl rfl)
theorem dX2_income_36 : decode cX2_income 36 = .ok (.iinc 2 1, 3) := dk_132 2 1 (dk_at dksX2_income_1 13 rfl rfl)
theorem dX2_income_39 : decode cX2_income 39 = .ok (.goto (-35), 3) := dk_167 255 221 (dk_at dksX2_income_1 16 rfl rfl)
theorem dX2_income_42 : decode cX2_income 42 = .ok (.iload_n 1, 1) := dk_27 (dk_at dksX2_income_1 19 rfl rfl)
theorem dX2_income_43 : decode cX2_income 43 = .ok (.ireturn, 1) := dk_172 (dk_at dksX2_income_1 20 rfl rfl)
abbrev cX2_piecesOnTheWay : ByteArray := prog_17_method_39_code
def yX2_piecesOnTheWay : MethodName := ⟨RX2, "piecesOnTheWay", "()I"⟩
def dkwX2_piecesOnTheWay_1 : List UInt8 := [185, 0, 102, 2, 0, 192, 0, 106, 182, 1, 106, 96, 60, 132, 2, 1, 167, 255, 221, 27, 172]
abbrev dktX2_piecesOnTheWay_1 : List UInt8 := dkwX2_piecesOnTheWay_1 ++ []
def dkwX2_piecesOnTheWay_0 : List UInt8 := [3, 60, 3, 61, 28, 42, 180, 0, 24, 185, 0, 98, 1, 0, 162, 0, 28, 27, 42, 180, 0, 24, 28]
abbrev dktX2_piecesOnTheWay_0 : List UInt8 := dkwX2_piecesOnTheWay_0 ++ dktX2_piecesOnTheWay_1
theorem dksX2_piecesOnTheWay_0 : cX2_piecesOnTheWay.data.toList.drop 0 = dktX2_piecesOnTheWay_0 := by decide +kernel
theorem dksX2_piecesOnTheWay_1 : cX2_piecesOnTheWay.data.toList.drop 23 = dktX2_piecesOnTheWay_1 := dk_seg dksX2_piecesOnTheWay_0 23 rfl rfl
theorem dX2_piecesOnTheWay_0 : decode cX2_piecesOnTheWay 0 = .ok (.iconst 0, 1) := dk_3 (dk_at dksX2_piecesOnTheWay_0 0 rfl rfl)
theorem dX2_piecesOnTheWay_1 : decode cX2_piecesOnTheWay 1 = .ok (.istore_n 1, 1) := dk_60 (dk_at dksX2_piecesOnTheWay_0 1 rfl rfl)
theorem dX2_piecesOnTheWay_2 : decode cX2_piecesOnTheWay 2 = .ok (.iconst 0, 1) := dk_3 (dk_at dksX2_piecesOnTheWay_0 2 rfl rfl)
theorem dX2_piecesOnTheWay_3 : decode cX2_piecesOnTheWay 3 = .ok (.istore_n 2, 1) := dk_61 (dk_at dksX2_piecesOnTheWay_0 3 rfl rfl)
theorem dX2_piecesOnTheWay_4 : decode cX2_piecesOnTheWay 4 = .ok (.iload_n 2, 1) := dk_28 (dk_at dksX2_piecesOnTheWay_0 4 rfl rfl)
theorem dX2_piecesOnTheWay_5 : decode cX2_piecesOnTheWay 5 = .ok (.aload_n 0, 1) := dk_42 (dk_at dksX2_piecesOnTheWay_0 5 rfl rfl)
theorem dX2_piecesOnTheWay_6 : decode cX2_piecesOnTheWay 6 = .ok (.getfield 24, 3) := dk_180 0 24 (dk_at dksX2_piecesOnTheWay_0 6 rfl rfl)
theorem dX2_piecesOnTheWay_9 : decode cX2_piecesOnTheWay 9 = .ok (.invokeinterface 98 1, 5) := by decide +kernel
theorem dX2_piecesOnTheWay_14 : decode cX2_piecesOnTheWay 14 = .ok (.if_icmp .ge 28, 3) := dk_162 0 28 (dk_at dksX2_piecesOnTheWay_0 14 rfl rfl)
theorem dX2_piecesOnTheWay_17 : decode cX2_piecesOnTheWay 17 = .ok (.iload_n 1, 1) := dk_27 (dk_at dksX2_piecesOnTheWay_0 17 rfl rfl)
theorem dX2_piecesOnTheWay_18 : decode cX2_piecesOnTheWay 18 = .ok (.aload_n 0, 1) := dk_42 (dk_at dksX2_piecesOnTheWay_0 18 rfl rfl)
theorem dX2_piecesOnTheWay_19 : decode cX2_piecesOnTheWay 19 = .ok (.getfield 24, 3) := dk_180 0 24 (dk_at dksX2_piecesOnTheWay_0 19 rfl rfl)
theorem dX2_piecesOnTheWay_22 : decode cX2_piecesOnTheWay 22 = .ok (.iload_n 2, 1) := dk_28 (dk_at dksX2_piecesOnTheWay_0 22 rfl rfl)
theorem dX2_piecesOnTheWay_23 : decode cX2_piecesOnTheWay 23 = .ok (.invokeinterface 102 2, 5) := by decide +kernel
theorem dX2_piecesOnTheWay_28 : decode cX2_piecesOnTheWay 28 = .ok (.checkcast 106, 3) := dk_192 0 106 (dk_at dksX2_piecesOnTheWay_1 5 rfl rfl)
theorem dX2_piecesOnTheWay_31 : decode cX2_piecesOnTheWay 31 = .ok (.invokevirtual 362, 3) := dk_182 1 106 (dk_at dksX2_piecesOnTheWay_1 8 rfl rfl)
theorem dX2_piecesOnTheWay_34 : decode cX2_piecesOnTheWay 34 = .ok (.iadd, 1) := dk_96 (dk_at dksX2_piecesOnTheWay_1 11 rfl rfl)
theorem dX2_piecesOnTheWay_35 : decode cX2_piecesOnTheWay 35 = .ok (.istore_n 1, 1) := dk_60 (dk_at dksX2_piecesOnTheWay_1 12 rfl rfl)
theorem dX2_piecesOnTheWay_36 : decode cX2_piecesOnTheWay 36 = .ok (.iinc 2 1, 3) := dk_132 2 1 (dk_at dksX2_piecesOnTheWay_1 13 rfl rfl)
theorem dX2_piecesOnTheWay_39 : decode cX2_piecesOnTheWay 39 = .ok (.goto (-35), 3) := dk_167 255 221 (dk_at dksX2_piecesOnTheWay_1 16 rfl rfl)
theorem dX2_piecesOnTheWay_42 : decode cX2_piecesOnTheWay 42 = .ok (.iload_n 1, 1) := dk_27 (dk_at dksX2_piecesOnTheWay_1 19 rfl rfl)
theorem dX2_piecesOnTheWay_43 : decode cX2_piecesOnTheWay 43 = .ok (.ireturn, 1) := dk_172 (dk_at dksX2_piecesOnTheWay_1 20 rfl rfl)
abbrev cX2_setBurner : ByteArray := prog_17_method_5_code
def yX2_setBurner : MethodName := ⟨RX2, "setBurner", "(II)Z"⟩
def dkwX2_setBurner_0 : List UInt8 := [42, 180, 0, 44, 27, 28, 79, 4, 172]
abbrev dktX2_setBurner_0 : List UInt8 := dkwX2_setBurner_0 ++ []
theorem dksX2_setBurner_0 : cX2_setBurner.data.toList.drop 0 = dktX2_setBurner_0 := by decide +kernel
theorem dX2_setBurner_0 : decode cX2_setBurner 0 = .ok (.aload_n 0, 1) := dk_42 (dk_at dksX2_setBurner_0 0 rfl rfl)
theorem dX2_setBurner_1 : decode cX2_setBurner 1 = .ok (.getfield 44, 3) := dk_180 0 44 (dk_at dksX2_setBurner_0 1 rfl rfl)
theorem dX2_setBurner_4 : decode cX2_setBurner 4 = .ok (.iload_n 1, 1) := dk_27 (dk_at dksX2_setBurner_0 4 rfl rfl)
theorem dX2_setBurner_5 : decode cX2_setBurner 5 = .ok (.iload_n 2, 1) := dk_28 (dk_at dksX2_setBurner_0 5 rfl rfl)
theorem dX2_setBurner_6 : decode cX2_setBurner 6 = .ok (.iastore, 1) := dk_79 (dk_at dksX2_setBurner_0 6 rfl rfl)
theorem dX2_setBurner_7 : decode cX2_setBurner 7 = .ok (.iconst 1, 1) := dk_4 (dk_at dksX2_setBurner_0 7 rfl rfl)
theorem dX2_setBurner_8 : decode cX2_setBurner 8 = .ok (.ireturn, 1) := dk_172 (dk_at dksX2_setBurner_0 8 rfl rfl)
abbrev cX2_setFan : ByteArray := prog_17_method_6_code
def yX2_setFan : MethodName := ⟨RX2, "setFan", "(II)Z"⟩
def dkwX2_setFan_0 : List UInt8 := [42, 180, 0, 48, 27, 28, 79, 4, 172]
abbrev dktX2_setFan_0 : List UInt8 := dkwX2_setFan_0 ++ []
theorem dksX2_setFan_0 : cX2_setFan.data.toList.drop 0 = dktX2_setFan_0 := by decide +kernel
theorem dX2_setFan_0 : decode cX2_setFan 0 = .ok (.aload_n 0, 1) := dk_42 (dk_at dksX2_setFan_0 0 rfl rfl)
theorem dX2_setFan_1 : decode cX2_setFan 1 = .ok (.getfield 48, 3) := dk_180 0 48 (dk_at dksX2_setFan_0 1 rfl rfl)
theorem dX2_setFan_4 : decode cX2_setFan 4 = .ok (.iload_n 1, 1) := dk_27 (dk_at dksX2_setFan_0 4 rfl rfl)
theorem dX2_setFan_5 : decode cX2_setFan 5 = .ok (.iload_n 2, 1) := dk_28 (dk_at dksX2_setFan_0 5 rfl rfl)
theorem dX2_setFan_6 : decode cX2_setFan 6 = .ok (.iastore, 1) := dk_79 (dk_at dksX2_setFan_0 6 rfl rfl)
theorem dX2_setFan_7 : decode cX2_setFan 7 = .ok (.iconst 1, 1) := dk_4 (dk_at dksX2_setFan_0 7 rfl rfl)
theorem dX2_setFan_8 : decode cX2_setFan 8 = .ok (.ireturn, 1) := dk_172 (dk_at dksX2_setFan_0 8 rfl rfl)
abbrev cX2_setRollers : ByteArray := prog_17_method_7_code
def yX2_setRollers : MethodName := ⟨RX2, "setRollers", "(II)Z"⟩
def dkwX2_setRollers_0 : List UInt8 := [42, 180, 0, 51, 27, 28, 79, 4, 172]
abbrev dktX2_setRollers_0 : List UInt8 := dkwX2_setRollers_0 ++ []
theorem dksX2_setRollers_0 : cX2_setRollers.data.toList.drop 0 = dktX2_setRollers_0 := by decide +kernel
theorem dX2_setRollers_0 : decode cX2_setRollers 0 = .ok (.aload_n 0, 1) := dk_42 (dk_at dksX2_setRollers_0 0 rfl rfl)
theorem dX2_setRollers_1 : decode cX2_setRollers 1 = .ok (.getfield 51, 3) := dk_180 0 51 (dk_at dksX2_setRollers_0 1 rfl rfl)
theorem dX2_setRollers_4 : decode cX2_setRollers 4 = .ok (.iload_n 1, 1) := dk_27 (dk_at dksX2_setRollers_0 4 rfl rfl)
theorem dX2_setRollers_5 : decode cX2_setRollers 5 = .ok (.iload_n 2, 1) := dk_28 (dk_at dksX2_setRollers_0 5 rfl rfl)
theorem dX2_setRollers_6 : decode cX2_setRollers 6 = .ok (.iastore, 1) := dk_79 (dk_at dksX2_setRollers_0 6 rfl rfl)
theorem dX2_setRollers_7 : decode cX2_setRollers 7 = .ok (.iconst 1, 1) := dk_4 (dk_at dksX2_setRollers_0 7 rfl rfl)
theorem dX2_setRollers_8 : decode cX2_setRollers 8 = .ok (.ireturn, 1) := dk_172 (dk_at dksX2_setRollers_0 8 rfl rfl)
abbrev cX2_openLot : ByteArray := prog_17_method_9_code
def yX2_openLot : MethodName := ⟨RX2, "openLot", "(II)Z"⟩
def dkwX2_openLot_1 : List UInt8 := [188, 10, 183, 0, 167, 185, 0, 76, 2, 0, 87, 29, 172]
abbrev dktX2_openLot_1 : List UInt8 := dkwX2_openLot_1 ++ []
def dkwX2_openLot_0 : List UInt8 := [42, 182, 0, 158, 62, 29, 153, 0, 28, 42, 180, 0, 24, 187, 0, 106, 89, 27, 28, 184, 0, 161, 8]
abbrev dktX2_openLot_0 : List UInt8 := dkwX2_openLot_0 ++ dktX2_openLot_1
theorem dksX2_openLot_0 : cX2_openLot.data.toList.drop 0 = dktX2_openLot_0 := by decide +kernel
theorem dksX2_openLot_1 : cX2_openLot.data.toList.drop 23 = dktX2_openLot_1 := dk_seg dksX2_openLot_0 23 rfl rfl
theorem dX2_openLot_0 : decode cX2_openLot 0 = .ok (.aload_n 0, 1) := dk_42 (dk_at dksX2_openLot_0 0 rfl rfl)
theorem dX2_openLot_1 : decode cX2_openLot 1 = .ok (.invokevirtual 158, 3) := dk_182 0 158 (dk_at dksX2_openLot_0 1 rfl rfl)
theorem dX2_openLot_4 : decode cX2_openLot 4 = .ok (.istore_n 3, 1) := dk_62 (dk_at dksX2_openLot_0 4 rfl rfl)
theorem dX2_openLot_5 : decode cX2_openLot 5 = .ok (.iload_n 3, 1) := dk_29 (dk_at dksX2_openLot_0 5 rfl rfl)
theorem dX2_openLot_6 : decode cX2_openLot 6 = .ok (.ifCond .eq 28, 3) := dk_153 0 28 (dk_at dksX2_openLot_0 6 rfl rfl)
theorem dX2_openLot_9 : decode cX2_openLot 9 = .ok (.aload_n 0, 1) := dk_42 (dk_at dksX2_openLot_0 9 rfl rfl)
theorem dX2_openLot_10 : decode cX2_openLot 10 = .ok (.getfield 24, 3) := dk_180 0 24 (dk_at dksX2_openLot_0 10 rfl rfl)
theorem dX2_openLot_13 : decode cX2_openLot 13 = .ok (.new 106, 3) := dk_187 0 106 (dk_at dksX2_openLot_0 13 rfl rfl)
theorem dX2_openLot_16 : decode cX2_openLot 16 = .ok (.dup, 1) := dk_89 (dk_at dksX2_openLot_0 16 rfl rfl)
theorem dX2_openLot_17 : decode cX2_openLot 17 = .ok (.iload_n 1, 1) := dk_27 (dk_at dksX2_openLot_0 17 rfl rfl)
theorem dX2_openLot_18 : decode cX2_openLot 18 = .ok (.iload_n 2, 1) := dk_28 (dk_at dksX2_openLot_0 18 rfl rfl)
theorem dX2_openLot_19 : decode cX2_openLot 19 = .ok (.invokestatic 161, 3) := dk_184 0 161 (dk_at dksX2_openLot_0 19 rfl rfl)
theorem dX2_openLot_22 : decode cX2_openLot 22 = .ok (.iconst 5, 1) := dk_8 (dk_at dksX2_openLot_0 22 rfl rfl)
theorem dX2_openLot_23 : decode cX2_openLot 23 = .ok (.newarray .int, 2) := dk_188_10 (dk_at dksX2_openLot_1 0 rfl rfl)
theorem dX2_openLot_25 : decode cX2_openLot 25 = .ok (.invokespecial 167, 3) := dk_183 0 167 (dk_at dksX2_openLot_1 2 rfl rfl)
theorem dX2_openLot_28 : decode cX2_openLot 28 = .ok (.invokeinterface 76 2, 5) := by decide +kernel
theorem dX2_openLot_33 : decode cX2_openLot 33 = .ok (.pop, 1) := dk_87 (dk_at dksX2_openLot_1 10 rfl rfl)
theorem dX2_openLot_34 : decode cX2_openLot 34 = .ok (.iload_n 3, 1) := dk_29 (dk_at dksX2_openLot_1 11 rfl rfl)
theorem dX2_openLot_35 : decode cX2_openLot 35 = .ok (.ireturn, 1) := dk_172 (dk_at dksX2_openLot_1 12 rfl rfl)
abbrev cX2_canOpenLot : ByteArray := prog_17_method_8_code
def yX2_canOpenLot : MethodName := ⟨RX2, "canOpenLot", "()Z"⟩
def dkwX2_canOpenLot_0 : List UInt8 := [42, 180, 0, 24, 185, 0, 98, 1, 0, 16, 12, 162, 0, 7, 4, 167, 0, 4, 3, 172]
abbrev dktX2_canOpenLot_0 : List UInt8 := dkwX2_canOpenLot_0 ++ []
theorem dksX2_canOpenLot_0 : cX2_canOpenLot.data.toList.drop 0 = dktX2_canOpenLot_0 := by decide +kernel
theorem dX2_canOpenLot_0 : decode cX2_canOpenLot 0 = .ok (.aload_n 0, 1) := dk_42 (dk_at dksX2_canOpenLot_0 0 rfl rfl)
theorem dX2_canOpenLot_1 : decode cX2_canOpenLot 1 = .ok (.getfield 24, 3) := dk_180 0 24 (dk_at dksX2_canOpenLot_0 1 rfl rfl)
theorem dX2_canOpenLot_4 : decode cX2_canOpenLot 4 = .ok (.invokeinterface 98 1, 5) := by decide +kernel
theorem dX2_canOpenLot_9 : decode cX2_canOpenLot 9 = .ok (.bipush 12, 2) := dk_16 12 (dk_at dksX2_canOpenLot_0 9 rfl rfl)
theorem dX2_canOpenLot_11 : decode cX2_canOpenLot 11 = .ok (.if_icmp .ge 7, 3) := dk_162 0 7 (dk_at dksX2_canOpenLot_0 11 rfl rfl)
theorem dX2_canOpenLot_14 : decode cX2_canOpenLot 14 = .ok (.iconst 1, 1) := dk_4 (dk_at dksX2_canOpenLot_0 14 rfl rfl)
theorem dX2_canOpenLot_15 : decode cX2_canOpenLot 15 = .ok (.goto 4, 3) := dk_167 0 4 (dk_at dksX2_canOpenLot_0 15 rfl rfl)
theorem dX2_canOpenLot_18 : decode cX2_canOpenLot 18 = .ok (.iconst 0, 1) := dk_3 (dk_at dksX2_canOpenLot_0 18 rfl rfl)
theorem dX2_canOpenLot_19 : decode cX2_canOpenLot 19 = .ok (.ireturn, 1) := dk_172 (dk_at dksX2_canOpenLot_0 19 rfl rfl)
abbrev cX2_load : ByteArray := prog_17_method_11_code
def yX2_load : MethodName := ⟨RX2, "load", "(I)Z"⟩
def dkwX2_load_4 : List UInt8 := [25, 4, 180, 0, 141, 25, 4, 185, 0, 145, 3, 0, 87, 28, 172]
abbrev dktX2_load_4 : List UInt8 := dkwX2_load_4 ++ []
def dkwX2_load_3 : List UInt8 := [58, 4, 45, 89, 180, 0, 190, 4, 96, 181, 0, 190, 42, 180, 0, 17, 3, 25, 4, 83, 42, 180, 0, 34]
abbrev dktX2_load_3 : List UInt8 := dkwX2_load_3 ++ dktX2_load_4
def dkwX2_load_2 : List UInt8 := [187, 0, 15, 89, 187, 0, 188, 89, 27, 45, 180, 0, 190, 183, 0, 193, 45, 180, 0, 196, 183, 0, 200]
abbrev dktX2_load_2 : List UInt8 := dkwX2_load_2 ++ dktX2_load_3
def dkwX2_load_1 : List UInt8 := [167, 0, 4, 3, 61, 28, 153, 0, 77, 42, 180, 0, 24, 27, 185, 0, 102, 2, 0, 192, 0, 106, 78]
abbrev dktX2_load_1 : List UInt8 := dkwX2_load_1 ++ dktX2_load_2
def dkwX2_load_0 : List UInt8 := [27, 42, 180, 0, 24, 185, 0, 98, 1, 0, 162, 0, 15, 42, 27, 182, 0, 184, 154, 0, 7, 4]
abbrev dktX2_load_0 : List UInt8 := dkwX2_load_0 ++ dktX2_load_1
theorem dksX2_load_0 : cX2_load.data.toList.drop 0 = dktX2_load_0 := by decide +kernel
theorem dksX2_load_1 : cX2_load.data.toList.drop 22 = dktX2_load_1 := dk_seg dksX2_load_0 22 rfl rfl
theorem dksX2_load_2 : cX2_load.data.toList.drop 45 = dktX2_load_2 := dk_seg dksX2_load_1 23 rfl rfl
theorem dksX2_load_3 : cX2_load.data.toList.drop 68 = dktX2_load_3 := dk_seg dksX2_load_2 23 rfl rfl
theorem dksX2_load_4 : cX2_load.data.toList.drop 92 = dktX2_load_4 := dk_seg dksX2_load_3 24 rfl rfl
theorem dX2_load_0 : decode cX2_load 0 = .ok (.iload_n 1, 1) := dk_27 (dk_at dksX2_load_0 0 rfl rfl)
theorem dX2_load_1 : decode cX2_load 1 = .ok (.aload_n 0, 1) := dk_42 (dk_at dksX2_load_0 1 rfl rfl)
theorem dX2_load_2 : decode cX2_load 2 = .ok (.getfield 24, 3) := dk_180 0 24 (dk_at dksX2_load_0 2 rfl rfl)
theorem dX2_load_5 : decode cX2_load 5 = .ok (.invokeinterface 98 1, 5) := by decide +kernel
theorem dX2_load_10 : decode cX2_load 10 = .ok (.if_icmp .ge 15, 3) := dk_162 0 15 (dk_at dksX2_load_0 10 rfl rfl)
theorem dX2_load_13 : decode cX2_load 13 = .ok (.aload_n 0, 1) := dk_42 (dk_at dksX2_load_0 13 rfl rfl)
theorem dX2_load_14 : decode cX2_load 14 = .ok (.iload_n 1, 1) := dk_27 (dk_at dksX2_load_0 14 rfl rfl)
theorem dX2_load_15 : decode cX2_load 15 = .ok (.invokevirtual 184, 3) := dk_182 0 184 (dk_at dksX2_load_0 15 rfl rfl)
theorem dX2_load_18 : decode cX2_load 18 = .ok (.ifCond .ne 7, 3) := dk_154 0 7 (dk_at dksX2_load_0 18 rfl rfl)
theorem dX2_load_21 : decode cX2_load 21 = .ok (.iconst 1, 1) := dk_4 (dk_at dksX2_load_0 21 rfl rfl)
theorem dX2_load_22 : decode cX2_load 22 = .ok (.goto 4, 3) := dk_167 0 4 (dk_at dksX2_load_1 0 rfl rfl)
theorem dX2_load_25 : decode cX2_load 25 = .ok (.iconst 0, 1) := dk_3 (dk_at dksX2_load_1 3 rfl rfl)
theorem dX2_load_26 : decode cX2_load 26 = .ok (.istore_n 2, 1) := dk_61 (dk_at dksX2_load_1 4 rfl rfl)
theorem dX2_load_27 : decode cX2_load 27 = .ok (.iload_n 2, 1) := dk_28 (dk_at dksX2_load_1 5 rfl rfl)
theorem dX2_load_28 : decode cX2_load 28 = .ok (.ifCond .eq 77, 3) := dk_153 0 77 (dk_at dksX2_load_1 6 rfl rfl)
theorem dX2_load_31 : decode cX2_load 31 = .ok (.aload_n 0, 1) := dk_42 (dk_at dksX2_load_1 9 rfl rfl)
theorem dX2_load_32 : decode cX2_load 32 = .ok (.getfield 24, 3) := dk_180 0 24 (dk_at dksX2_load_1 10 rfl rfl)
theorem dX2_load_35 : decode cX2_load 35 = .ok (.iload_n 1, 1) := dk_27 (dk_at dksX2_load_1 13 rfl rfl)
theorem dX2_load_36 : decode cX2_load 36 = .ok (.invokeinterface 102 2, 5) := by decide +kernel
theorem dX2_load_41 : decode cX2_load 41 = .ok (.checkcast 106, 3) := dk_192 0 106 (dk_at dksX2_load_1 19 rfl rfl)
theorem dX2_load_44 : decode cX2_load 44 = .ok (.astore_n 3, 1) := dk_78 (dk_at dksX2_load_1 22 rfl rfl)
theorem dX2_load_45 : decode cX2_load 45 = .ok (.new 15, 3) := dk_187 0 15 (dk_at dksX2_load_2 0 rfl rfl)
theorem dX2_load_48 : decode cX2_load 48 = .ok (.dup, 1) := dk_89 (dk_at dksX2_load_2 3 rfl rfl)
theorem dX2_load_49 : decode cX2_load 49 = .ok (.new 188, 3) := dk_187 0 188 (dk_at dksX2_load_2 4 rfl rfl)
theorem dX2_load_52 : decode cX2_load 52 = .ok (.dup, 1) := dk_89 (dk_at dksX2_load_2 7 rfl rfl)
theorem dX2_load_53 : decode cX2_load 53 = .ok (.iload_n 1, 1) := dk_27 (dk_at dksX2_load_2 8 rfl rfl)
theorem dX2_load_54 : decode cX2_load 54 = .ok (.aload_n 3, 1) := dk_45 (dk_at dksX2_load_2 9 rfl rfl)
theorem dX2_load_55 : decode cX2_load 55 = .ok (.getfield 190, 3) := dk_180 0 190 (dk_at dksX2_load_2 10 rfl rfl)
theorem dX2_load_58 : decode cX2_load 58 = .ok (.invokespecial 193, 3) := dk_183 0 193 (dk_at dksX2_load_2 13 rfl rfl)
theorem dX2_load_61 : decode cX2_load 61 = .ok (.aload_n 3, 1) := dk_45 (dk_at dksX2_load_2 16 rfl rfl)
theorem dX2_load_62 : decode cX2_load 62 = .ok (.getfield 196, 3) := dk_180 0 196 (dk_at dksX2_load_2 17 rfl rfl)
theorem dX2_load_65 : decode cX2_load 65 = .ok (.invokespecial 200, 3) := dk_183 0 200 (dk_at dksX2_load_2 20 rfl rfl)
theorem dX2_load_68 : decode cX2_load 68 = .ok (.astore 4, 2) := dk_58 4 (dk_at dksX2_load_3 0 rfl rfl)
theorem dX2_load_70 : decode cX2_load 70 = .ok (.aload_n 3, 1) := dk_45 (dk_at dksX2_load_3 2 rfl rfl)
theorem dX2_load_71 : decode cX2_load 71 = .ok (.dup, 1) := dk_89 (dk_at dksX2_load_3 3 rfl rfl)
theorem dX2_load_72 : decode cX2_load 72 = .ok (.getfield 190, 3) := dk_180 0 190 (dk_at dksX2_load_3 4 rfl rfl)
theorem dX2_load_75 : decode cX2_load 75 = .ok (.iconst 1, 1) := dk_4 (dk_at dksX2_load_3 7 rfl rfl)
theorem dX2_load_76 : decode cX2_load 76 = .ok (.iadd, 1) := dk_96 (dk_at dksX2_load_3 8 rfl rfl)
theorem dX2_load_77 : decode cX2_load 77 = .ok (.putfield 190, 3) := dk_181 0 190 (dk_at dksX2_load_3 9 rfl rfl)
theorem dX2_load_80 : decode cX2_load 80 = .ok (.aload_n 0, 1) := dk_42 (dk_at dksX2_load_3 12 rfl rfl)
theorem dX2_load_81 : decode cX2_load 81 = .ok (.getfield 17, 3) := dk_180 0 17 (dk_at dksX2_load_3 13 rfl rfl)
theorem dX2_load_84 : decode cX2_load 84 = .ok (.iconst 0, 1) := dk_3 (dk_at dksX2_load_3 16 rfl rfl)
theorem dX2_load_85 : decode cX2_load 85 = .ok (.aload 4, 2) := dk_25 4 (dk_at dksX2_load_3 17 rfl rfl)
theorem dX2_load_87 : decode cX2_load 87 = .ok (.aastore, 1) := dk_83 (dk_at dksX2_load_3 19 rfl rfl)
theorem dX2_load_88 : decode cX2_load 88 = .ok (.aload_n 0, 1) := dk_42 (dk_at dksX2_load_3 20 rfl rfl)
theorem dX2_load_89 : decode cX2_load 89 = .ok (.getfield 34, 3) := dk_180 0 34 (dk_at dksX2_load_3 21 rfl rfl)
theorem dX2_load_92 : decode cX2_load 92 = .ok (.aload 4, 2) := dk_25 4 (dk_at dksX2_load_4 0 rfl rfl)
theorem dX2_load_94 : decode cX2_load 94 = .ok (.getfield 141, 3) := dk_180 0 141 (dk_at dksX2_load_4 2 rfl rfl)
theorem dX2_load_97 : decode cX2_load 97 = .ok (.aload 4, 2) := dk_25 4 (dk_at dksX2_load_4 5 rfl rfl)
theorem dX2_load_99 : decode cX2_load 99 = .ok (.invokeinterface 145 3, 5) := by decide +kernel
theorem dX2_load_104 : decode cX2_load 104 = .ok (.pop, 1) := dk_87 (dk_at dksX2_load_4 12 rfl rfl)
theorem dX2_load_105 : decode cX2_load 105 = .ok (.iload_n 2, 1) := dk_28 (dk_at dksX2_load_4 13 rfl rfl)
theorem dX2_load_106 : decode cX2_load 106 = .ok (.ireturn, 1) := dk_172 (dk_at dksX2_load_4 14 rfl rfl)
abbrev cX2_whyNotLoading : ByteArray := prog_17_method_10_code
def yX2_whyNotLoading : MethodName := ⟨RX2, "whyNotLoading", "(I)I"⟩
def dkwX2_whyNotLoading_2 : List UInt8 := [78, 45, 184, 0, 180, 172]
abbrev dktX2_whyNotLoading_2 : List UInt8 := dkwX2_whyNotLoading_2 ++ []
def dkwX2_whyNotLoading_1 : List UInt8 := [186, 0, 172, 0, 0, 83, 89, 4, 42, 186, 0, 176, 0, 0, 83, 89, 5, 42, 186, 0, 179, 0, 0, 83]
abbrev dktX2_whyNotLoading_1 : List UInt8 := dkwX2_whyNotLoading_1 ++ dktX2_whyNotLoading_2
def dkwX2_whyNotLoading_0 : List UInt8 := [42, 180, 0, 24, 27, 185, 0, 102, 2, 0, 192, 0, 106, 77, 6, 189, 0, 170, 89, 3, 44]
abbrev dktX2_whyNotLoading_0 : List UInt8 := dkwX2_whyNotLoading_0 ++ dktX2_whyNotLoading_1
theorem dksX2_whyNotLoading_0 : cX2_whyNotLoading.data.toList.drop 0 = dktX2_whyNotLoading_0 := by decide +kernel
theorem dksX2_whyNotLoading_1 : cX2_whyNotLoading.data.toList.drop 21 = dktX2_whyNotLoading_1 := dk_seg dksX2_whyNotLoading_0 21 rfl rfl
theorem dksX2_whyNotLoading_2 : cX2_whyNotLoading.data.toList.drop 45 = dktX2_whyNotLoading_2 := dk_seg dksX2_whyNotLoading_1 24 rfl rfl
theorem dX2_whyNotLoading_0 : decode cX2_whyNotLoading 0 = .ok (.aload_n 0, 1) := dk_42 (dk_at dksX2_whyNotLoading_0 0 rfl rfl)
theorem dX2_whyNotLoading_1 : decode cX2_whyNotLoading 1 = .ok (.getfield 24, 3) := dk_180 0 24 (dk_at dksX2_whyNotLoading_0 1 rfl rfl)
theorem dX2_whyNotLoading_4 : decode cX2_whyNotLoading 4 = .ok (.iload_n 1, 1) := dk_27 (dk_at dksX2_whyNotLoading_0 4 rfl rfl)
theorem dX2_whyNotLoading_5 : decode cX2_whyNotLoading 5 = .ok (.invokeinterface 102 2, 5) := by decide +kernel
theorem dX2_whyNotLoading_10 : decode cX2_whyNotLoading 10 = .ok (.checkcast 106, 3) := dk_192 0 106 (dk_at dksX2_whyNotLoading_0 10 rfl rfl)
theorem dX2_whyNotLoading_13 : decode cX2_whyNotLoading 13 = .ok (.astore_n 2, 1) := dk_77 (dk_at dksX2_whyNotLoading_0 13 rfl rfl)
theorem dX2_whyNotLoading_14 : decode cX2_whyNotLoading 14 = .ok (.iconst 3, 1) := dk_6 (dk_at dksX2_whyNotLoading_0 14 rfl rfl)
theorem dX2_whyNotLoading_15 : decode cX2_whyNotLoading 15 = .ok (.anewarray 170, 3) := dk_189 0 170 (dk_at dksX2_whyNotLoading_0 15 rfl rfl)
theorem dX2_whyNotLoading_18 : decode cX2_whyNotLoading 18 = .ok (.dup, 1) := dk_89 (dk_at dksX2_whyNotLoading_0 18 rfl rfl)
theorem dX2_whyNotLoading_19 : decode cX2_whyNotLoading 19 = .ok (.iconst 0, 1) := dk_3 (dk_at dksX2_whyNotLoading_0 19 rfl rfl)
theorem dX2_whyNotLoading_20 : decode cX2_whyNotLoading 20 = .ok (.aload_n 2, 1) := dk_44 (dk_at dksX2_whyNotLoading_0 20 rfl rfl)
theorem dX2_whyNotLoading_21 : decode cX2_whyNotLoading 21 = .ok (.invokedynamic 172, 5) := by decide +kernel
theorem dX2_whyNotLoading_26 : decode cX2_whyNotLoading 26 = .ok (.aastore, 1) := dk_83 (dk_at dksX2_whyNotLoading_1 5 rfl rfl)
theorem dX2_whyNotLoading_27 : decode cX2_whyNotLoading 27 = .ok (.dup, 1) := dk_89 (dk_at dksX2_whyNotLoading_1 6 rfl rfl)
theorem dX2_whyNotLoading_28 : decode cX2_whyNotLoading 28 = .ok (.iconst 1, 1) := dk_4 (dk_at dksX2_whyNotLoading_1 7 rfl rfl)
theorem dX2_whyNotLoading_29 : decode cX2_whyNotLoading 29 = .ok (.aload_n 0, 1) := dk_42 (dk_at dksX2_whyNotLoading_1 8 rfl rfl)
theorem dX2_whyNotLoading_30 : decode cX2_whyNotLoading 30 = .ok (.invokedynamic 176, 5) := by decide +kernel
theorem dX2_whyNotLoading_35 : decode cX2_whyNotLoading 35 = .ok (.aastore, 1) := dk_83 (dk_at dksX2_whyNotLoading_1 14 rfl rfl)
theorem dX2_whyNotLoading_36 : decode cX2_whyNotLoading 36 = .ok (.dup, 1) := dk_89 (dk_at dksX2_whyNotLoading_1 15 rfl rfl)
theorem dX2_whyNotLoading_37 : decode cX2_whyNotLoading 37 = .ok (.iconst 2, 1) := dk_5 (dk_at dksX2_whyNotLoading_1 16 rfl rfl)
theorem dX2_whyNotLoading_38 : decode cX2_whyNotLoading 38 = .ok (.aload_n 0, 1) := dk_42 (dk_at dksX2_whyNotLoading_1 17 rfl rfl)
theorem dX2_whyNotLoading_39 : decode cX2_whyNotLoading 39 = .ok (.invokedynamic 179, 5) := by decide +kernel
theorem dX2_whyNotLoading_44 : decode cX2_whyNotLoading 44 = .ok (.aastore, 1) := dk_83 (dk_at dksX2_whyNotLoading_1 23 rfl rfl)
theorem dX2_whyNotLoading_45 : decode cX2_whyNotLoading 45 = .ok (.astore_n 3, 1) := dk_78 (dk_at dksX2_whyNotLoading_2 0 rfl rfl)
theorem dX2_whyNotLoading_46 : decode cX2_whyNotLoading 46 = .ok (.aload_n 3, 1) := dk_45 (dk_at dksX2_whyNotLoading_2 1 rfl rfl)
theorem dX2_whyNotLoading_47 : decode cX2_whyNotLoading 47 = .ok (.invokestatic 180, 3) := dk_184 0 180 (dk_at dksX2_whyNotLoading_2 2 rfl rfl)
theorem dX2_whyNotLoading_50 : decode cX2_whyNotLoading 50 = .ok (.ireturn, 1) := dk_172 (dk_at dksX2_whyNotLoading_2 5 rfl rfl)
abbrev cX2_lambda_whyNotLoading_0 : ByteArray := prog_17_method_47_code
def yX2_lambda_whyNotLoading_0 : MethodName := ⟨RX2, "lambda$whyNotLoading$0", "(LAnnealingLehr$Lot;)Z"⟩
def dkwX2_lambda_whyNotLoading_0_0 : List UInt8 := [42, 180, 0, 190, 16, 20, 160, 0, 7, 4, 167, 0, 4, 3, 172]
abbrev dktX2_lambda_whyNotLoading_0_0 : List UInt8 := dkwX2_lambda_whyNotLoading_0_0 ++ []
theorem dksX2_lambda_whyNotLoading_0_0 : cX2_lambda_whyNotLoading_0.data.toList.drop 0 = dktX2_lambda_whyNotLoading_0_0 := by decide +kernel
theorem dX2_lambda_whyNotLoading_0_0 : decode cX2_lambda_whyNotLoading_0 0 = .ok (.aload_n 0, 1) := dk_42 (dk_at dksX2_lambda_whyNotLoading_0_0 0 rfl rfl)
theorem dX2_lambda_whyNotLoading_0_1 : decode cX2_lambda_whyNotLoading_0 1 = .ok (.getfield 190, 3) := dk_180 0 190 (dk_at dksX2_lambda_whyNotLoading_0_0 1 rfl rfl)
theorem dX2_lambda_whyNotLoading_0_4 : decode cX2_lambda_whyNotLoading_0 4 = .ok (.bipush 20, 2) := dk_16 20 (dk_at dksX2_lambda_whyNotLoading_0_0 4 rfl rfl)
theorem dX2_lambda_whyNotLoading_0_6 : decode cX2_lambda_whyNotLoading_0 6 = .ok (.if_icmp .ne 7, 3) := dk_160 0 7 (dk_at dksX2_lambda_whyNotLoading_0_0 6 rfl rfl)
theorem dX2_lambda_whyNotLoading_0_9 : decode cX2_lambda_whyNotLoading_0 9 = .ok (.iconst 1, 1) := dk_4 (dk_at dksX2_lambda_whyNotLoading_0_0 9 rfl rfl)
theorem dX2_lambda_whyNotLoading_0_10 : decode cX2_lambda_whyNotLoading_0 10 = .ok (.goto 4, 3) := dk_167 0 4 (dk_at dksX2_lambda_whyNotLoading_0_0 10 rfl rfl)
theorem dX2_lambda_whyNotLoading_0_13 : decode cX2_lambda_whyNotLoading_0 13 = .ok (.iconst 0, 1) := dk_3 (dk_at dksX2_lambda_whyNotLoading_0_0 13 rfl rfl)
theorem dX2_lambda_whyNotLoading_0_14 : decode cX2_lambda_whyNotLoading_0 14 = .ok (.ireturn, 1) := dk_172 (dk_at dksX2_lambda_whyNotLoading_0_0 14 rfl rfl)
abbrev cX2_lambda_whyNotLoading_1 : ByteArray := prog_17_method_46_code
def yX2_lambda_whyNotLoading_1 : MethodName := ⟨RX2, "lambda$whyNotLoading$1", "()Z"⟩
def dkwX2_lambda_whyNotLoading_1_0 : List UInt8 := [42, 180, 0, 17, 3, 50, 198, 0, 7, 4, 167, 0, 4, 3, 172]
abbrev dktX2_lambda_whyNotLoading_1_0 : List UInt8 := dkwX2_lambda_whyNotLoading_1_0 ++ []
theorem dksX2_lambda_whyNotLoading_1_0 : cX2_lambda_whyNotLoading_1.data.toList.drop 0 = dktX2_lambda_whyNotLoading_1_0 := by decide +kernel
theorem dX2_lambda_whyNotLoading_1_0 : decode cX2_lambda_whyNotLoading_1 0 = .ok (.aload_n 0, 1) := dk_42 (dk_at dksX2_lambda_whyNotLoading_1_0 0 rfl rfl)
theorem dX2_lambda_whyNotLoading_1_1 : decode cX2_lambda_whyNotLoading_1 1 = .ok (.getfield 17, 3) := dk_180 0 17 (dk_at dksX2_lambda_whyNotLoading_1_0 1 rfl rfl)
theorem dX2_lambda_whyNotLoading_1_4 : decode cX2_lambda_whyNotLoading_1 4 = .ok (.iconst 0, 1) := dk_3 (dk_at dksX2_lambda_whyNotLoading_1_0 4 rfl rfl)
theorem dX2_lambda_whyNotLoading_1_5 : decode cX2_lambda_whyNotLoading_1 5 = .ok (.aaload, 1) := dk_50 (dk_at dksX2_lambda_whyNotLoading_1_0 5 rfl rfl)
theorem dX2_lambda_whyNotLoading_1_6 : decode cX2_lambda_whyNotLoading_1 6 = .ok (.ifnull 7, 3) := dk_198 0 7 (dk_at dksX2_lambda_whyNotLoading_1_0 6 rfl rfl)
theorem dX2_lambda_whyNotLoading_1_9 : decode cX2_lambda_whyNotLoading_1 9 = .ok (.iconst 1, 1) := dk_4 (dk_at dksX2_lambda_whyNotLoading_1_0 9 rfl rfl)
theorem dX2_lambda_whyNotLoading_1_10 : decode cX2_lambda_whyNotLoading_1 10 = .ok (.goto 4, 3) := dk_167 0 4 (dk_at dksX2_lambda_whyNotLoading_1_0 10 rfl rfl)
theorem dX2_lambda_whyNotLoading_1_13 : decode cX2_lambda_whyNotLoading_1 13 = .ok (.iconst 0, 1) := dk_3 (dk_at dksX2_lambda_whyNotLoading_1_0 13 rfl rfl)
theorem dX2_lambda_whyNotLoading_1_14 : decode cX2_lambda_whyNotLoading_1 14 = .ok (.ireturn, 1) := dk_172 (dk_at dksX2_lambda_whyNotLoading_1_0 14 rfl rfl)
abbrev cX2_lambda_whyNotLoading_2 : ByteArray := prog_17_method_45_code
def yX2_lambda_whyNotLoading_2 : MethodName := ⟨RX2, "lambda$whyNotLoading$2", "()Z"⟩
def dkwX2_lambda_whyNotLoading_2_0 : List UInt8 := [42, 180, 0, 60, 3, 51, 172]
abbrev dktX2_lambda_whyNotLoading_2_0 : List UInt8 := dkwX2_lambda_whyNotLoading_2_0 ++ []
theorem dksX2_lambda_whyNotLoading_2_0 : cX2_lambda_whyNotLoading_2.data.toList.drop 0 = dktX2_lambda_whyNotLoading_2_0 := by decide +kernel
theorem dX2_lambda_whyNotLoading_2_0 : decode cX2_lambda_whyNotLoading_2 0 = .ok (.aload_n 0, 1) := dk_42 (dk_at dksX2_lambda_whyNotLoading_2_0 0 rfl rfl)
theorem dX2_lambda_whyNotLoading_2_1 : decode cX2_lambda_whyNotLoading_2 1 = .ok (.getfield 60, 3) := dk_180 0 60 (dk_at dksX2_lambda_whyNotLoading_2_0 1 rfl rfl)
theorem dX2_lambda_whyNotLoading_2_4 : decode cX2_lambda_whyNotLoading_2 4 = .ok (.iconst 0, 1) := dk_3 (dk_at dksX2_lambda_whyNotLoading_2_0 4 rfl rfl)
theorem dX2_lambda_whyNotLoading_2_5 : decode cX2_lambda_whyNotLoading_2 5 = .ok (.baload, 1) := dk_51 (dk_at dksX2_lambda_whyNotLoading_2_0 5 rfl rfl)
theorem dX2_lambda_whyNotLoading_2_6 : decode cX2_lambda_whyNotLoading_2 6 = .ok (.ireturn, 1) := dk_172 (dk_at dksX2_lambda_whyNotLoading_2_0 6 rfl rfl)
abbrev cX2_sendCleaner : ByteArray := prog_17_method_13_code
def yX2_sendCleaner : MethodName := ⟨RX2, "sendCleaner", "(II)Z"⟩
def dkwX2_sendCleaner_2 : List UInt8 := [5, 108, 96, 79, 42, 180, 0, 64, 27, 28, 79, 29, 172]
abbrev dktX2_sendCleaner_2 : List UInt8 := dkwX2_sendCleaner_2 ++ []
def dkwX2_sendCleaner_1 : List UInt8 := [27, 46, 100, 54, 4, 42, 180, 0, 67, 27, 6, 21, 4, 156, 0, 9, 21, 4, 116, 167, 0, 5, 21, 4]
abbrev dktX2_sendCleaner_1 : List UInt8 := dkwX2_sendCleaner_1 ++ dktX2_sendCleaner_2
def dkwX2_sendCleaner_0 : List UInt8 := [42, 27, 28, 182, 0, 210, 154, 0, 7, 4, 167, 0, 4, 3, 62, 29, 153, 0, 43, 28, 42, 180, 0, 64]
abbrev dktX2_sendCleaner_0 : List UInt8 := dkwX2_sendCleaner_0 ++ dktX2_sendCleaner_1
theorem dksX2_sendCleaner_0 : cX2_sendCleaner.data.toList.drop 0 = dktX2_sendCleaner_0 := by decide +kernel
theorem dksX2_sendCleaner_1 : cX2_sendCleaner.data.toList.drop 24 = dktX2_sendCleaner_1 := dk_seg dksX2_sendCleaner_0 24 rfl rfl
theorem dksX2_sendCleaner_2 : cX2_sendCleaner.data.toList.drop 48 = dktX2_sendCleaner_2 := dk_seg dksX2_sendCleaner_1 24 rfl rfl
theorem dX2_sendCleaner_0 : decode cX2_sendCleaner 0 = .ok (.aload_n 0, 1) := dk_42 (dk_at dksX2_sendCleaner_0 0 rfl rfl)
theorem dX2_sendCleaner_1 : decode cX2_sendCleaner 1 = .ok (.iload_n 1, 1) := dk_27 (dk_at dksX2_sendCleaner_0 1 rfl rfl)
theorem dX2_sendCleaner_2 : decode cX2_sendCleaner 2 = .ok (.iload_n 2, 1) := dk_28 (dk_at dksX2_sendCleaner_0 2 rfl rfl)
theorem dX2_sendCleaner_3 : decode cX2_sendCleaner 3 = .ok (.invokevirtual 210, 3) := dk_182 0 210 (dk_at dksX2_sendCleaner_0 3 rfl rfl)
theorem dX2_sendCleaner_6 : decode cX2_sendCleaner 6 = .ok (.ifCond .ne 7, 3) := dk_154 0 7 (dk_at dksX2_sendCleaner_0 6 rfl rfl)
theorem dX2_sendCleaner_9 : decode cX2_sendCleaner 9 = .ok (.iconst 1, 1) := dk_4 (dk_at dksX2_sendCleaner_0 9 rfl rfl)
theorem dX2_sendCleaner_10 : decode cX2_sendCleaner 10 = .ok (.goto 4, 3) := dk_167 0 4 (dk_at dksX2_sendCleaner_0 10 rfl rfl)
theorem dX2_sendCleaner_13 : decode cX2_sendCleaner 13 = .ok (.iconst 0, 1) := dk_3 (dk_at dksX2_sendCleaner_0 13 rfl rfl)
theorem dX2_sendCleaner_14 : decode cX2_sendCleaner 14 = .ok (.istore_n 3, 1) := dk_62 (dk_at dksX2_sendCleaner_0 14 rfl rfl)
theorem dX2_sendCleaner_15 : decode cX2_sendCleaner 15 = .ok (.iload_n 3, 1) := dk_29 (dk_at dksX2_sendCleaner_0 15 rfl rfl)
theorem dX2_sendCleaner_16 : decode cX2_sendCleaner 16 = .ok (.ifCond .eq 43, 3) := dk_153 0 43 (dk_at dksX2_sendCleaner_0 16 rfl rfl)
theorem dX2_sendCleaner_19 : decode cX2_sendCleaner 19 = .ok (.iload_n 2, 1) := dk_28 (dk_at dksX2_sendCleaner_0 19 rfl rfl)
theorem dX2_sendCleaner_20 : decode cX2_sendCleaner 20 = .ok (.aload_n 0, 1) := dk_42 (dk_at dksX2_sendCleaner_0 20 rfl rfl)
theorem dX2_sendCleaner_21 : decode cX2_sendCleaner 21 = .ok (.getfield 64, 3) := dk_180 0 64 (dk_at dksX2_sendCleaner_0 21 rfl rfl)
theorem dX2_sendCleaner_24 : decode cX2_sendCleaner 24 = .ok (.iload_n 1, 1) := dk_27 (dk_at dksX2_sendCleaner_1 0 rfl rfl)
theorem dX2_sendCleaner_25 : decode cX2_sendCleaner 25 = .ok (.iaload, 1) := dk_46 (dk_at dksX2_sendCleaner_1 1 rfl rfl)
theorem dX2_sendCleaner_26 : decode cX2_sendCleaner 26 = .ok (.isub, 1) := dk_100 (dk_at dksX2_sendCleaner_1 2 rfl rfl)
theorem dX2_sendCleaner_27 : decode cX2_sendCleaner 27 = .ok (.istore 4, 2) := dk_54 4 (dk_at dksX2_sendCleaner_1 3 rfl rfl)
theorem dX2_sendCleaner_29 : decode cX2_sendCleaner 29 = .ok (.aload_n 0, 1) := dk_42 (dk_at dksX2_sendCleaner_1 5 rfl rfl)
theorem dX2_sendCleaner_30 : decode cX2_sendCleaner 30 = .ok (.getfield 67, 3) := dk_180 0 67 (dk_at dksX2_sendCleaner_1 6 rfl rfl)
theorem dX2_sendCleaner_33 : decode cX2_sendCleaner 33 = .ok (.iload_n 1, 1) := dk_27 (dk_at dksX2_sendCleaner_1 9 rfl rfl)
theorem dX2_sendCleaner_34 : decode cX2_sendCleaner 34 = .ok (.iconst 3, 1) := dk_6 (dk_at dksX2_sendCleaner_1 10 rfl rfl)
theorem dX2_sendCleaner_35 : decode cX2_sendCleaner 35 = .ok (.iload 4, 2) := dk_21 4 (dk_at dksX2_sendCleaner_1 11 rfl rfl)
theorem dX2_sendCleaner_37 : decode cX2_sendCleaner 37 = .ok (.ifCond .ge 9, 3) := dk_156 0 9 (dk_at dksX2_sendCleaner_1 13 rfl rfl)
theorem dX2_sendCleaner_40 : decode cX2_sendCleaner 40 = .ok (.iload 4, 2) := dk_21 4 (dk_at dksX2_sendCleaner_1 16 rfl rfl)
theorem dX2_sendCleaner_42 : decode cX2_sendCleaner 42 = .ok (.ineg, 1) := dk_116 (dk_at dksX2_sendCleaner_1 18 rfl rfl)
theorem dX2_sendCleaner_43 : decode cX2_sendCleaner 43 = .ok (.goto 5, 3) := dk_167 0 5 (dk_at dksX2_sendCleaner_1 19 rfl rfl)
theorem dX2_sendCleaner_46 : decode cX2_sendCleaner 46 = .ok (.iload 4, 2) := dk_21 4 (dk_at dksX2_sendCleaner_1 22 rfl rfl)
theorem dX2_sendCleaner_48 : decode cX2_sendCleaner 48 = .ok (.iconst 2, 1) := dk_5 (dk_at dksX2_sendCleaner_2 0 rfl rfl)
theorem dX2_sendCleaner_49 : decode cX2_sendCleaner 49 = .ok (.idiv, 1) := dk_108 (dk_at dksX2_sendCleaner_2 1 rfl rfl)
theorem dX2_sendCleaner_50 : decode cX2_sendCleaner 50 = .ok (.iadd, 1) := dk_96 (dk_at dksX2_sendCleaner_2 2 rfl rfl)
theorem dX2_sendCleaner_51 : decode cX2_sendCleaner 51 = .ok (.iastore, 1) := dk_79 (dk_at dksX2_sendCleaner_2 3 rfl rfl)
theorem dX2_sendCleaner_52 : decode cX2_sendCleaner 52 = .ok (.aload_n 0, 1) := dk_42 (dk_at dksX2_sendCleaner_2 4 rfl rfl)
theorem dX2_sendCleaner_53 : decode cX2_sendCleaner 53 = .ok (.getfield 64, 3) := dk_180 0 64 (dk_at dksX2_sendCleaner_2 5 rfl rfl)
theorem dX2_sendCleaner_56 : decode cX2_sendCleaner 56 = .ok (.iload_n 1, 1) := dk_27 (dk_at dksX2_sendCleaner_2 8 rfl rfl)
theorem dX2_sendCleaner_57 : decode cX2_sendCleaner 57 = .ok (.iload_n 2, 1) := dk_28 (dk_at dksX2_sendCleaner_2 9 rfl rfl)
theorem dX2_sendCleaner_58 : decode cX2_sendCleaner 58 = .ok (.iastore, 1) := dk_79 (dk_at dksX2_sendCleaner_2 10 rfl rfl)
theorem dX2_sendCleaner_59 : decode cX2_sendCleaner 59 = .ok (.iload_n 3, 1) := dk_29 (dk_at dksX2_sendCleaner_2 11 rfl rfl)
theorem dX2_sendCleaner_60 : decode cX2_sendCleaner 60 = .ok (.ireturn, 1) := dk_172 (dk_at dksX2_sendCleaner_2 12 rfl rfl)
abbrev cX2_whyNotCleaning : ByteArray := prog_17_method_12_code
def yX2_whyNotCleaning : MethodName := ⟨RX2, "whyNotCleaning", "(II)I"⟩
def dkwX2_whyNotCleaning_2 : List UInt8 := [172]
abbrev dktX2_whyNotCleaning_2 : List UInt8 := dkwX2_whyNotCleaning_2 ++ []
def dkwX2_whyNotCleaning_1 : List UInt8 := [186, 0, 206, 0, 0, 83, 89, 5, 42, 29, 28, 186, 0, 207, 0, 0, 83, 58, 4, 25, 4, 184, 0, 180]
abbrev dktX2_whyNotCleaning_1 : List UInt8 := dkwX2_whyNotCleaning_1 ++ dktX2_whyNotCleaning_2
def dkwX2_whyNotCleaning_0 : List UInt8 := [4, 27, 100, 62, 6, 189, 0, 170, 89, 3, 42, 27, 186, 0, 203, 0, 0, 83, 89, 4, 42, 28]
abbrev dktX2_whyNotCleaning_0 : List UInt8 := dkwX2_whyNotCleaning_0 ++ dktX2_whyNotCleaning_1
theorem dksX2_whyNotCleaning_0 : cX2_whyNotCleaning.data.toList.drop 0 = dktX2_whyNotCleaning_0 := by decide +kernel
theorem dksX2_whyNotCleaning_1 : cX2_whyNotCleaning.data.toList.drop 22 = dktX2_whyNotCleaning_1 := dk_seg dksX2_whyNotCleaning_0 22 rfl rfl
theorem dksX2_whyNotCleaning_2 : cX2_whyNotCleaning.data.toList.drop 46 = dktX2_whyNotCleaning_2 := dk_seg dksX2_whyNotCleaning_1 24 rfl rfl
theorem dX2_whyNotCleaning_0 : decode cX2_whyNotCleaning 0 = .ok (.iconst 1, 1) := dk_4 (dk_at dksX2_whyNotCleaning_0 0 rfl rfl)
theorem dX2_whyNotCleaning_1 : decode cX2_whyNotCleaning 1 = .ok (.iload_n 1, 1) := dk_27 (dk_at dksX2_whyNotCleaning_0 1 rfl rfl)
theorem dX2_whyNotCleaning_2 : decode cX2_whyNotCleaning 2 = .ok (.isub, 1) := dk_100 (dk_at dksX2_whyNotCleaning_0 2 rfl rfl)
theorem dX2_whyNotCleaning_3 : decode cX2_whyNotCleaning 3 = .ok (.istore_n 3, 1) := dk_62 (dk_at dksX2_whyNotCleaning_0 3 rfl rfl)
theorem dX2_whyNotCleaning_4 : decode cX2_whyNotCleaning 4 = .ok (.iconst 3, 1) := dk_6 (dk_at dksX2_whyNotCleaning_0 4 rfl rfl)
theorem dX2_whyNotCleaning_5 : decode cX2_whyNotCleaning 5 = .ok (.anewarray 170, 3) := dk_189 0 170 (dk_at dksX2_whyNotCleaning_0 5 rfl rfl)
theorem dX2_whyNotCleaning_8 : decode cX2_whyNotCleaning 8 = .ok (.dup, 1) := dk_89 (dk_at dksX2_whyNotCleaning_0 8 rfl rfl)
theorem dX2_whyNotCleaning_9 : decode cX2_whyNotCleaning 9 = .ok (.iconst 0, 1) := dk_3 (dk_at dksX2_whyNotCleaning_0 9 rfl rfl)
theorem dX2_whyNotCleaning_10 : decode cX2_whyNotCleaning 10 = .ok (.aload_n 0, 1) := dk_42 (dk_at dksX2_whyNotCleaning_0 10 rfl rfl)
theorem dX2_whyNotCleaning_11 : decode cX2_whyNotCleaning 11 = .ok (.iload_n 1, 1) := dk_27 (dk_at dksX2_whyNotCleaning_0 11 rfl rfl)
theorem dX2_whyNotCleaning_12 : decode cX2_whyNotCleaning 12 = .ok (.invokedynamic 203, 5) := by decide +kernel
theorem dX2_whyNotCleaning_17 : decode cX2_whyNotCleaning 17 = .ok (.aastore, 1) := dk_83 (dk_at dksX2_whyNotCleaning_0 17 rfl rfl)
theorem dX2_whyNotCleaning_18 : decode cX2_whyNotCleaning 18 = .ok (.dup, 1) := dk_89 (dk_at dksX2_whyNotCleaning_0 18 rfl rfl)
theorem dX2_whyNotCleaning_19 : decode cX2_whyNotCleaning 19 = .ok (.iconst 1, 1) := dk_4 (dk_at dksX2_whyNotCleaning_0 19 rfl rfl)
theorem dX2_whyNotCleaning_20 : decode cX2_whyNotCleaning 20 = .ok (.aload_n 0, 1) := dk_42 (dk_at dksX2_whyNotCleaning_0 20 rfl rfl)
theorem dX2_whyNotCleaning_21 : decode cX2_whyNotCleaning 21 = .ok (.iload_n 2, 1) := dk_28 (dk_at dksX2_whyNotCleaning_0 21 rfl rfl)
theorem dX2_whyNotCleaning_22 : decode cX2_whyNotCleaning 22 = .ok (.invokedynamic 206, 5) := by decide +kernel
theorem dX2_whyNotCleaning_27 : decode cX2_whyNotCleaning 27 = .ok (.aastore, 1) := dk_83 (dk_at dksX2_whyNotCleaning_1 5 rfl rfl)
theorem dX2_whyNotCleaning_28 : decode cX2_whyNotCleaning 28 = .ok (.dup, 1) := dk_89 (dk_at dksX2_whyNotCleaning_1 6 rfl rfl)
theorem dX2_whyNotCleaning_29 : decode cX2_whyNotCleaning 29 = .ok (.iconst 2, 1) := dk_5 (dk_at dksX2_whyNotCleaning_1 7 rfl rfl)
theorem dX2_whyNotCleaning_30 : decode cX2_whyNotCleaning 30 = .ok (.aload_n 0, 1) := dk_42 (dk_at dksX2_whyNotCleaning_1 8 rfl rfl)
theorem dX2_whyNotCleaning_31 : decode cX2_whyNotCleaning 31 = .ok (.iload_n 3, 1) := dk_29 (dk_at dksX2_whyNotCleaning_1 9 rfl rfl)
theorem dX2_whyNotCleaning_32 : decode cX2_whyNotCleaning 32 = .ok (.iload_n 2, 1) := dk_28 (dk_at dksX2_whyNotCleaning_1 10 rfl rfl)
theorem dX2_whyNotCleaning_33 : decode cX2_whyNotCleaning 33 = .ok (.invokedynamic 207, 5) := by decide +kernel
theorem dX2_whyNotCleaning_38 : decode cX2_whyNotCleaning 38 = .ok (.aastore, 1) := dk_83 (dk_at dksX2_whyNotCleaning_1 16 rfl rfl)
theorem dX2_whyNotCleaning_39 : decode cX2_whyNotCleaning 39 = .ok (.astore 4, 2) := dk_58 4 (dk_at dksX2_whyNotCleaning_1 17 rfl rfl)
theorem dX2_whyNotCleaning_41 : decode cX2_whyNotCleaning 41 = .ok (.aload 4, 2) := dk_25 4 (dk_at dksX2_whyNotCleaning_1 19 rfl rfl)
theorem dX2_whyNotCleaning_43 : decode cX2_whyNotCleaning 43 = .ok (.invokestatic 180, 3) := dk_184 0 180 (dk_at dksX2_whyNotCleaning_1 21 rfl rfl)
theorem dX2_whyNotCleaning_46 : decode cX2_whyNotCleaning 46 = .ok (.ireturn, 1) := dk_172 (dk_at dksX2_whyNotCleaning_2 0 rfl rfl)
abbrev cX2_lambda_whyNotCleaning_3 : ByteArray := prog_17_method_44_code
def yX2_lambda_whyNotCleaning_3 : MethodName := ⟨RX2, "lambda$whyNotCleaning$3", "(I)Z"⟩
def dkwX2_lambda_whyNotCleaning_3_0 : List UInt8 := [42, 180, 0, 67, 27, 46, 158, 0, 7, 4, 167, 0, 4, 3, 172]
abbrev dktX2_lambda_whyNotCleaning_3_0 : List UInt8 := dkwX2_lambda_whyNotCleaning_3_0 ++ []
theorem dksX2_lambda_whyNotCleaning_3_0 : cX2_lambda_whyNotCleaning_3.data.toList.drop 0 = dktX2_lambda_whyNotCleaning_3_0 := by decide +kernel
theorem dX2_lambda_whyNotCleaning_3_0 : decode cX2_lambda_whyNotCleaning_3 0 = .ok (.aload_n 0, 1) := dk_42 (dk_at dksX2_lambda_whyNotCleaning_3_0 0 rfl rfl)
theorem dX2_lambda_whyNotCleaning_3_1 : decode cX2_lambda_whyNotCleaning_3 1 = .ok (.getfield 67, 3) := dk_180 0 67 (dk_at dksX2_lambda_whyNotCleaning_3_0 1 rfl rfl)
theorem dX2_lambda_whyNotCleaning_3_4 : decode cX2_lambda_whyNotCleaning_3 4 = .ok (.iload_n 1, 1) := dk_27 (dk_at dksX2_lambda_whyNotCleaning_3_0 4 rfl rfl)
theorem dX2_lambda_whyNotCleaning_3_5 : decode cX2_lambda_whyNotCleaning_3 5 = .ok (.iaload, 1) := dk_46 (dk_at dksX2_lambda_whyNotCleaning_3_0 5 rfl rfl)
theorem dX2_lambda_whyNotCleaning_3_6 : decode cX2_lambda_whyNotCleaning_3 6 = .ok (.ifCond .le 7, 3) := dk_158 0 7 (dk_at dksX2_lambda_whyNotCleaning_3_0 6 rfl rfl)
theorem dX2_lambda_whyNotCleaning_3_9 : decode cX2_lambda_whyNotCleaning_3 9 = .ok (.iconst 1, 1) := dk_4 (dk_at dksX2_lambda_whyNotCleaning_3_0 9 rfl rfl)
theorem dX2_lambda_whyNotCleaning_3_10 : decode cX2_lambda_whyNotCleaning_3 10 = .ok (.goto 4, 3) := dk_167 0 4 (dk_at dksX2_lambda_whyNotCleaning_3_0 10 rfl rfl)
theorem dX2_lambda_whyNotCleaning_3_13 : decode cX2_lambda_whyNotCleaning_3 13 = .ok (.iconst 0, 1) := dk_3 (dk_at dksX2_lambda_whyNotCleaning_3_0 13 rfl rfl)
theorem dX2_lambda_whyNotCleaning_3_14 : decode cX2_lambda_whyNotCleaning_3 14 = .ok (.ireturn, 1) := dk_172 (dk_at dksX2_lambda_whyNotCleaning_3_0 14 rfl rfl)
abbrev cX2_lambda_whyNotCleaning_4 : ByteArray := prog_17_method_43_code
def yX2_lambda_whyNotCleaning_4 : MethodName := ⟨RX2, "lambda$whyNotCleaning$4", "(I)Z"⟩
def dkwX2_lambda_whyNotCleaning_4_0 : List UInt8 := [42, 180, 0, 60, 27, 51, 154, 0, 7, 4, 167, 0, 4, 3, 172]
abbrev dktX2_lambda_whyNotCleaning_4_0 : List UInt8 := dkwX2_lambda_whyNotCleaning_4_0 ++ []
theorem dksX2_lambda_whyNotCleaning_4_0 : cX2_lambda_whyNotCleaning_4.data.toList.drop 0 = dktX2_lambda_whyNotCleaning_4_0 := by decide +kernel
theorem dX2_lambda_whyNotCleaning_4_0 : decode cX2_lambda_whyNotCleaning_4 0 = .ok (.aload_n 0, 1) := dk_42 (dk_at dksX2_lambda_whyNotCleaning_4_0 0 rfl rfl)
theorem dX2_lambda_whyNotCleaning_4_1 : decode cX2_lambda_whyNotCleaning_4 1 = .ok (.getfield 60, 3) := dk_180 0 60 (dk_at dksX2_lambda_whyNotCleaning_4_0 1 rfl rfl)
theorem dX2_lambda_whyNotCleaning_4_4 : decode cX2_lambda_whyNotCleaning_4 4 = .ok (.iload_n 1, 1) := dk_27 (dk_at dksX2_lambda_whyNotCleaning_4_0 4 rfl rfl)
theorem dX2_lambda_whyNotCleaning_4_5 : decode cX2_lambda_whyNotCleaning_4 5 = .ok (.baload, 1) := dk_51 (dk_at dksX2_lambda_whyNotCleaning_4_0 5 rfl rfl)
theorem dX2_lambda_whyNotCleaning_4_6 : decode cX2_lambda_whyNotCleaning_4 6 = .ok (.ifCond .ne 7, 3) := dk_154 0 7 (dk_at dksX2_lambda_whyNotCleaning_4_0 6 rfl rfl)
theorem dX2_lambda_whyNotCleaning_4_9 : decode cX2_lambda_whyNotCleaning_4 9 = .ok (.iconst 1, 1) := dk_4 (dk_at dksX2_lambda_whyNotCleaning_4_0 9 rfl rfl)
theorem dX2_lambda_whyNotCleaning_4_10 : decode cX2_lambda_whyNotCleaning_4 10 = .ok (.goto 4, 3) := dk_167 0 4 (dk_at dksX2_lambda_whyNotCleaning_4_0 10 rfl rfl)
theorem dX2_lambda_whyNotCleaning_4_13 : decode cX2_lambda_whyNotCleaning_4 13 = .ok (.iconst 0, 1) := dk_3 (dk_at dksX2_lambda_whyNotCleaning_4_0 13 rfl rfl)
theorem dX2_lambda_whyNotCleaning_4_14 : decode cX2_lambda_whyNotCleaning_4 14 = .ok (.ireturn, 1) := dk_172 (dk_at dksX2_lambda_whyNotCleaning_4_0 14 rfl rfl)
abbrev cX2_lambda_whyNotCleaning_5 : ByteArray := prog_17_method_42_code
def yX2_lambda_whyNotCleaning_5 : MethodName := ⟨RX2, "lambda$whyNotCleaning$5", "(II)Z"⟩
def dkwX2_lambda_whyNotCleaning_5_1 : List UInt8 := [172]
abbrev dktX2_lambda_whyNotCleaning_5_1 : List UInt8 := dkwX2_lambda_whyNotCleaning_5_1 ++ []
def dkwX2_lambda_whyNotCleaning_5_0 : List UInt8 := [42, 180, 0, 67, 27, 46, 158, 0, 17, 42, 180, 0, 64, 27, 46, 28, 160, 0, 7, 4, 167, 0, 4, 3]
abbrev dktX2_lambda_whyNotCleaning_5_0 : List UInt8 := dkwX2_lambda_whyNotCleaning_5_0 ++ dktX2_lambda_whyNotCleaning_5_1
theorem dksX2_lambda_whyNotCleaning_5_0 : cX2_lambda_whyNotCleaning_5.data.toList.drop 0 = dktX2_lambda_whyNotCleaning_5_0 := by decide +kernel
theorem dksX2_lambda_whyNotCleaning_5_1 : cX2_lambda_whyNotCleaning_5.data.toList.drop 24 = dktX2_lambda_whyNotCleaning_5_1 := dk_seg dksX2_lambda_whyNotCleaning_5_0 24 rfl rfl
theorem dX2_lambda_whyNotCleaning_5_0 : decode cX2_lambda_whyNotCleaning_5 0 = .ok (.aload_n 0, 1) := dk_42 (dk_at dksX2_lambda_whyNotCleaning_5_0 0 rfl rfl)
theorem dX2_lambda_whyNotCleaning_5_1 : decode cX2_lambda_whyNotCleaning_5 1 = .ok (.getfield 67, 3) := dk_180 0 67 (dk_at dksX2_lambda_whyNotCleaning_5_0 1 rfl rfl)
theorem dX2_lambda_whyNotCleaning_5_4 : decode cX2_lambda_whyNotCleaning_5 4 = .ok (.iload_n 1, 1) := dk_27 (dk_at dksX2_lambda_whyNotCleaning_5_0 4 rfl rfl)
theorem dX2_lambda_whyNotCleaning_5_5 : decode cX2_lambda_whyNotCleaning_5 5 = .ok (.iaload, 1) := dk_46 (dk_at dksX2_lambda_whyNotCleaning_5_0 5 rfl rfl)
theorem dX2_lambda_whyNotCleaning_5_6 : decode cX2_lambda_whyNotCleaning_5 6 = .ok (.ifCond .le 17, 3) := dk_158 0 17 (dk_at dksX2_lambda_whyNotCleaning_5_0 6 rfl rfl)
theorem dX2_lambda_whyNotCleaning_5_9 : decode cX2_lambda_whyNotCleaning_5 9 = .ok (.aload_n 0, 1) := dk_42 (dk_at dksX2_lambda_whyNotCleaning_5_0 9 rfl rfl)
theorem dX2_lambda_whyNotCleaning_5_10 : decode cX2_lambda_whyNotCleaning_5 10 = .ok (.getfield 64, 3) := dk_180 0 64 (dk_at dksX2_lambda_whyNotCleaning_5_0 10 rfl rfl)
theorem dX2_lambda_whyNotCleaning_5_13 : decode cX2_lambda_whyNotCleaning_5 13 = .ok (.iload_n 1, 1) := dk_27 (dk_at dksX2_lambda_whyNotCleaning_5_0 13 rfl rfl)
theorem dX2_lambda_whyNotCleaning_5_14 : decode cX2_lambda_whyNotCleaning_5 14 = .ok (.iaload, 1) := dk_46 (dk_at dksX2_lambda_whyNotCleaning_5_0 14 rfl rfl)
theorem dX2_lambda_whyNotCleaning_5_15 : decode cX2_lambda_whyNotCleaning_5 15 = .ok (.iload_n 2, 1) := dk_28 (dk_at dksX2_lambda_whyNotCleaning_5_0 15 rfl rfl)
theorem dX2_lambda_whyNotCleaning_5_16 : decode cX2_lambda_whyNotCleaning_5 16 = .ok (.if_icmp .ne 7, 3) := dk_160 0 7 (dk_at dksX2_lambda_whyNotCleaning_5_0 16 rfl rfl)
theorem dX2_lambda_whyNotCleaning_5_19 : decode cX2_lambda_whyNotCleaning_5 19 = .ok (.iconst 1, 1) := dk_4 (dk_at dksX2_lambda_whyNotCleaning_5_0 19 rfl rfl)
theorem dX2_lambda_whyNotCleaning_5_20 : decode cX2_lambda_whyNotCleaning_5 20 = .ok (.goto 4, 3) := dk_167 0 4 (dk_at dksX2_lambda_whyNotCleaning_5_0 20 rfl rfl)
theorem dX2_lambda_whyNotCleaning_5_23 : decode cX2_lambda_whyNotCleaning_5 23 = .ok (.iconst 0, 1) := dk_3 (dk_at dksX2_lambda_whyNotCleaning_5_0 23 rfl rfl)
theorem dX2_lambda_whyNotCleaning_5_24 : decode cX2_lambda_whyNotCleaning_5 24 = .ok (.ireturn, 1) := dk_172 (dk_at dksX2_lambda_whyNotCleaning_5_1 0 rfl rfl)
abbrev cX2_pass : ByteArray := prog_17_method_21_code
def yX2_pass : MethodName := ⟨RX2, "pass", "(I)Z"⟩
def dkwX2_pass_1 : List UInt8 := [167, 255, 240, 28, 172]
abbrev dktX2_pass_1 : List UInt8 := dkwX2_pass_1 ++ []
def dkwX2_pass_0 : List UInt8 := [42, 27, 182, 1, 4, 61, 3, 62, 29, 27, 162, 0, 17, 28, 153, 0, 13, 42, 182, 1, 8, 132, 3, 1]
abbrev dktX2_pass_0 : List UInt8 := dkwX2_pass_0 ++ dktX2_pass_1
theorem dksX2_pass_0 : cX2_pass.data.toList.drop 0 = dktX2_pass_0 := by decide +kernel
theorem dksX2_pass_1 : cX2_pass.data.toList.drop 24 = dktX2_pass_1 := dk_seg dksX2_pass_0 24 rfl rfl
theorem dX2_pass_0 : decode cX2_pass 0 = .ok (.aload_n 0, 1) := dk_42 (dk_at dksX2_pass_0 0 rfl rfl)
theorem dX2_pass_1 : decode cX2_pass 1 = .ok (.iload_n 1, 1) := dk_27 (dk_at dksX2_pass_0 1 rfl rfl)
theorem dX2_pass_2 : decode cX2_pass 2 = .ok (.invokevirtual 260, 3) := dk_182 1 4 (dk_at dksX2_pass_0 2 rfl rfl)
theorem dX2_pass_5 : decode cX2_pass 5 = .ok (.istore_n 2, 1) := dk_61 (dk_at dksX2_pass_0 5 rfl rfl)
theorem dX2_pass_6 : decode cX2_pass 6 = .ok (.iconst 0, 1) := dk_3 (dk_at dksX2_pass_0 6 rfl rfl)
theorem dX2_pass_7 : decode cX2_pass 7 = .ok (.istore_n 3, 1) := dk_62 (dk_at dksX2_pass_0 7 rfl rfl)
theorem dX2_pass_8 : decode cX2_pass 8 = .ok (.iload_n 3, 1) := dk_29 (dk_at dksX2_pass_0 8 rfl rfl)
theorem dX2_pass_9 : decode cX2_pass 9 = .ok (.iload_n 1, 1) := dk_27 (dk_at dksX2_pass_0 9 rfl rfl)
theorem dX2_pass_10 : decode cX2_pass 10 = .ok (.if_icmp .ge 17, 3) := dk_162 0 17 (dk_at dksX2_pass_0 10 rfl rfl)
theorem dX2_pass_13 : decode cX2_pass 13 = .ok (.iload_n 2, 1) := dk_28 (dk_at dksX2_pass_0 13 rfl rfl)
theorem dX2_pass_14 : decode cX2_pass 14 = .ok (.ifCond .eq 13, 3) := dk_153 0 13 (dk_at dksX2_pass_0 14 rfl rfl)
theorem dX2_pass_17 : decode cX2_pass 17 = .ok (.aload_n 0, 1) := dk_42 (dk_at dksX2_pass_0 17 rfl rfl)
theorem dX2_pass_18 : decode cX2_pass 18 = .ok (.invokevirtual 264, 3) := dk_182 1 8 (dk_at dksX2_pass_0 18 rfl rfl)
theorem dX2_pass_21 : decode cX2_pass 21 = .ok (.iinc 3 1, 3) := dk_132 3 1 (dk_at dksX2_pass_0 21 rfl rfl)
theorem dX2_pass_24 : decode cX2_pass 24 = .ok (.goto (-16), 3) := dk_167 255 240 (dk_at dksX2_pass_1 0 rfl rfl)
theorem dX2_pass_27 : decode cX2_pass 27 = .ok (.iload_n 2, 1) := dk_28 (dk_at dksX2_pass_1 3 rfl rfl)
theorem dX2_pass_28 : decode cX2_pass 28 = .ok (.ireturn, 1) := dk_172 (dk_at dksX2_pass_1 4 rfl rfl)
abbrev cX2_canPass : ByteArray := prog_17_method_20_code
def yX2_canPass : MethodName := ⟨RX2, "canPass", "(I)Z"⟩
def dkwX2_canPass_0 : List UInt8 := [42, 180, 0, 82, 27, 96, 17, 39, 15, 163, 0, 7, 4, 167, 0, 4, 3, 172]
abbrev dktX2_canPass_0 : List UInt8 := dkwX2_canPass_0 ++ []
theorem dksX2_canPass_0 : cX2_canPass.data.toList.drop 0 = dktX2_canPass_0 := by decide +kernel
theorem dX2_canPass_0 : decode cX2_canPass 0 = .ok (.aload_n 0, 1) := dk_42 (dk_at dksX2_canPass_0 0 rfl rfl)
theorem dX2_canPass_1 : decode cX2_canPass 1 = .ok (.getfield 82, 3) := dk_180 0 82 (dk_at dksX2_canPass_0 1 rfl rfl)
theorem dX2_canPass_4 : decode cX2_canPass 4 = .ok (.iload_n 1, 1) := dk_27 (dk_at dksX2_canPass_0 4 rfl rfl)
theorem dX2_canPass_5 : decode cX2_canPass 5 = .ok (.iadd, 1) := dk_96 (dk_at dksX2_canPass_0 5 rfl rfl)
theorem dX2_canPass_6 : decode cX2_canPass 6 = .ok (.sipush 9999, 3) := dk_17 39 15 (dk_at dksX2_canPass_0 6 rfl rfl)
theorem dX2_canPass_9 : decode cX2_canPass 9 = .ok (.if_icmp .gt 7, 3) := dk_163 0 7 (dk_at dksX2_canPass_0 9 rfl rfl)
theorem dX2_canPass_12 : decode cX2_canPass 12 = .ok (.iconst 1, 1) := dk_4 (dk_at dksX2_canPass_0 12 rfl rfl)
theorem dX2_canPass_13 : decode cX2_canPass 13 = .ok (.goto 4, 3) := dk_167 0 4 (dk_at dksX2_canPass_0 13 rfl rfl)
theorem dX2_canPass_16 : decode cX2_canPass 16 = .ok (.iconst 0, 1) := dk_3 (dk_at dksX2_canPass_0 16 rfl rfl)
theorem dX2_canPass_17 : decode cX2_canPass 17 = .ok (.ireturn, 1) := dk_172 (dk_at dksX2_canPass_0 17 rfl rfl)
abbrev cX2_minute : ByteArray := prog_17_method_22_code
def yX2_minute : MethodName := ⟨RX2, "minute", "()V"⟩
def dkwX2_minute_4 : List UInt8 := [167, 255, 244, 3, 61, 28, 5, 162, 0, 14, 42, 28, 182, 1, 37, 132, 2, 1, 167, 255, 243, 177]
abbrev dktX2_minute_4 : List UInt8 := dkwX2_minute_4 ++ []
def dkwX2_minute_3 : List UInt8 := [42, 43, 182, 1, 27, 42, 182, 1, 31, 16, 23, 61, 28, 155, 0, 14, 42, 28, 182, 1, 34, 132, 2, 255]
abbrev dktX2_minute_3 : List UInt8 := dkwX2_minute_3 ++ dktX2_minute_4
def dkwX2_minute_2 : List UInt8 := [198, 0, 18, 42, 180, 0, 17, 28, 50, 43, 28, 184, 1, 20, 46, 182, 1, 23, 132, 2, 1, 167, 255, 223]
abbrev dktX2_minute_2 : List UInt8 := dkwX2_minute_2 ++ dktX2_minute_3
def dkwX2_minute_1 : List UInt8 := [180, 0, 54, 182, 0, 88, 192, 0, 89, 76, 3, 61, 28, 16, 24, 162, 0, 33, 42, 180, 0, 17, 28, 50]
abbrev dktX2_minute_1 : List UInt8 := dkwX2_minute_1 ++ dktX2_minute_2
def dkwX2_minute_0 : List UInt8 := [42, 89, 180, 0, 82, 4, 96, 181, 0, 82, 42, 182, 1, 11, 42, 182, 1, 14, 42, 182, 1, 17, 42]
abbrev dktX2_minute_0 : List UInt8 := dkwX2_minute_0 ++ dktX2_minute_1
theorem dksX2_minute_0 : cX2_minute.data.toList.drop 0 = dktX2_minute_0 := by decide +kernel
theorem dksX2_minute_1 : cX2_minute.data.toList.drop 23 = dktX2_minute_1 := dk_seg dksX2_minute_0 23 rfl rfl
theorem dksX2_minute_2 : cX2_minute.data.toList.drop 47 = dktX2_minute_2 := dk_seg dksX2_minute_1 24 rfl rfl
theorem dksX2_minute_3 : cX2_minute.data.toList.drop 71 = dktX2_minute_3 := dk_seg dksX2_minute_2 24 rfl rfl
theorem dksX2_minute_4 : cX2_minute.data.toList.drop 95 = dktX2_minute_4 := dk_seg dksX2_minute_3 24 rfl rfl
theorem dX2_minute_0 : decode cX2_minute 0 = .ok (.aload_n 0, 1) := dk_42 (dk_at dksX2_minute_0 0 rfl rfl)
theorem dX2_minute_1 : decode cX2_minute 1 = .ok (.dup, 1) := dk_89 (dk_at dksX2_minute_0 1 rfl rfl)
theorem dX2_minute_2 : decode cX2_minute 2 = .ok (.getfield 82, 3) := dk_180 0 82 (dk_at dksX2_minute_0 2 rfl rfl)
theorem dX2_minute_5 : decode cX2_minute 5 = .ok (.iconst 1, 1) := dk_4 (dk_at dksX2_minute_0 5 rfl rfl)
theorem dX2_minute_6 : decode cX2_minute 6 = .ok (.iadd, 1) := dk_96 (dk_at dksX2_minute_0 6 rfl rfl)
theorem dX2_minute_7 : decode cX2_minute 7 = .ok (.putfield 82, 3) := dk_181 0 82 (dk_at dksX2_minute_0 7 rfl rfl)
theorem dX2_minute_10 : decode cX2_minute 10 = .ok (.aload_n 0, 1) := dk_42 (dk_at dksX2_minute_0 10 rfl rfl)
theorem dX2_minute_11 : decode cX2_minute 11 = .ok (.invokevirtual 267, 3) := dk_182 1 11 (dk_at dksX2_minute_0 11 rfl rfl)
theorem dX2_minute_14 : decode cX2_minute 14 = .ok (.aload_n 0, 1) := dk_42 (dk_at dksX2_minute_0 14 rfl rfl)
theorem dX2_minute_15 : decode cX2_minute 15 = .ok (.invokevirtual 270, 3) := dk_182 1 14 (dk_at dksX2_minute_0 15 rfl rfl)
theorem dX2_minute_18 : decode cX2_minute 18 = .ok (.aload_n 0, 1) := dk_42 (dk_at dksX2_minute_0 18 rfl rfl)
theorem dX2_minute_19 : decode cX2_minute 19 = .ok (.invokevirtual 273, 3) := dk_182 1 17 (dk_at dksX2_minute_0 19 rfl rfl)
theorem dX2_minute_22 : decode cX2_minute 22 = .ok (.aload_n 0, 1) := dk_42 (dk_at dksX2_minute_0 22 rfl rfl)
theorem dX2_minute_23 : decode cX2_minute 23 = .ok (.getfield 54, 3) := dk_180 0 54 (dk_at dksX2_minute_1 0 rfl rfl)
theorem dX2_minute_26 : decode cX2_minute 26 = .ok (.invokevirtual 88, 3) := dk_182 0 88 (dk_at dksX2_minute_1 3 rfl rfl)
theorem dX2_minute_29 : decode cX2_minute 29 = .ok (.checkcast 89, 3) := dk_192 0 89 (dk_at dksX2_minute_1 6 rfl rfl)
theorem dX2_minute_32 : decode cX2_minute 32 = .ok (.astore_n 1, 1) := dk_76 (dk_at dksX2_minute_1 9 rfl rfl)
theorem dX2_minute_33 : decode cX2_minute 33 = .ok (.iconst 0, 1) := dk_3 (dk_at dksX2_minute_1 10 rfl rfl)
theorem dX2_minute_34 : decode cX2_minute 34 = .ok (.istore_n 2, 1) := dk_61 (dk_at dksX2_minute_1 11 rfl rfl)
theorem dX2_minute_35 : decode cX2_minute 35 = .ok (.iload_n 2, 1) := dk_28 (dk_at dksX2_minute_1 12 rfl rfl)
theorem dX2_minute_36 : decode cX2_minute 36 = .ok (.bipush 24, 2) := dk_16 24 (dk_at dksX2_minute_1 13 rfl rfl)
theorem dX2_minute_38 : decode cX2_minute 38 = .ok (.if_icmp .ge 33, 3) := dk_162 0 33 (dk_at dksX2_minute_1 15 rfl rfl)
theorem dX2_minute_41 : decode cX2_minute 41 = .ok (.aload_n 0, 1) := dk_42 (dk_at dksX2_minute_1 18 rfl rfl)
theorem dX2_minute_42 : decode cX2_minute 42 = .ok (.getfield 17, 3) := dk_180 0 17 (dk_at dksX2_minute_1 19 rfl rfl)
theorem dX2_minute_45 : decode cX2_minute 45 = .ok (.iload_n 2, 1) := dk_28 (dk_at dksX2_minute_1 22 rfl rfl)
theorem dX2_minute_46 : decode cX2_minute 46 = .ok (.aaload, 1) := dk_50 (dk_at dksX2_minute_1 23 rfl rfl)
theorem dX2_minute_47 : decode cX2_minute 47 = .ok (.ifnull 18, 3) := dk_198 0 18 (dk_at dksX2_minute_2 0 rfl rfl)
theorem dX2_minute_50 : decode cX2_minute 50 = .ok (.aload_n 0, 1) := dk_42 (dk_at dksX2_minute_2 3 rfl rfl)
theorem dX2_minute_51 : decode cX2_minute 51 = .ok (.getfield 17, 3) := dk_180 0 17 (dk_at dksX2_minute_2 4 rfl rfl)
theorem dX2_minute_54 : decode cX2_minute 54 = .ok (.iload_n 2, 1) := dk_28 (dk_at dksX2_minute_2 7 rfl rfl)
theorem dX2_minute_55 : decode cX2_minute 55 = .ok (.aaload, 1) := dk_50 (dk_at dksX2_minute_2 8 rfl rfl)
theorem dX2_minute_56 : decode cX2_minute 56 = .ok (.aload_n 1, 1) := dk_43 (dk_at dksX2_minute_2 9 rfl rfl)
theorem dX2_minute_57 : decode cX2_minute 57 = .ok (.iload_n 2, 1) := dk_28 (dk_at dksX2_minute_2 10 rfl rfl)
theorem dX2_minute_58 : decode cX2_minute 58 = .ok (.invokestatic 276, 3) := dk_184 1 20 (dk_at dksX2_minute_2 11 rfl rfl)
theorem dX2_minute_61 : decode cX2_minute 61 = .ok (.iaload, 1) := dk_46 (dk_at dksX2_minute_2 14 rfl rfl)
theorem dX2_minute_62 : decode cX2_minute 62 = .ok (.invokevirtual 279, 3) := dk_182 1 23 (dk_at dksX2_minute_2 15 rfl rfl)
theorem dX2_minute_65 : decode cX2_minute 65 = .ok (.iinc 2 1, 3) := dk_132 2 1 (dk_at dksX2_minute_2 18 rfl rfl)
theorem dX2_minute_68 : decode cX2_minute 68 = .ok (.goto (-33), 3) := dk_167 255 223 (dk_at dksX2_minute_2 21 rfl rfl)
theorem dX2_minute_71 : decode cX2_minute 71 = .ok (.aload_n 0, 1) := dk_42 (dk_at dksX2_minute_3 0 rfl rfl)
theorem dX2_minute_72 : decode cX2_minute 72 = .ok (.aload_n 1, 1) := dk_43 (dk_at dksX2_minute_3 1 rfl rfl)
theorem dX2_minute_73 : decode cX2_minute 73 = .ok (.invokevirtual 283, 3) := dk_182 1 27 (dk_at dksX2_minute_3 2 rfl rfl)
theorem dX2_minute_76 : decode cX2_minute 76 = .ok (.aload_n 0, 1) := dk_42 (dk_at dksX2_minute_3 5 rfl rfl)
theorem dX2_minute_77 : decode cX2_minute 77 = .ok (.invokevirtual 287, 3) := dk_182 1 31 (dk_at dksX2_minute_3 6 rfl rfl)
theorem dX2_minute_80 : decode cX2_minute 80 = .ok (.bipush 23, 2) := dk_16 23 (dk_at dksX2_minute_3 9 rfl rfl)
theorem dX2_minute_82 : decode cX2_minute 82 = .ok (.istore_n 2, 1) := dk_61 (dk_at dksX2_minute_3 11 rfl rfl)
theorem dX2_minute_83 : decode cX2_minute 83 = .ok (.iload_n 2, 1) := dk_28 (dk_at dksX2_minute_3 12 rfl rfl)
theorem dX2_minute_84 : decode cX2_minute 84 = .ok (.ifCond .lt 14, 3) := dk_155 0 14 (dk_at dksX2_minute_3 13 rfl rfl)
theorem dX2_minute_87 : decode cX2_minute 87 = .ok (.aload_n 0, 1) := dk_42 (dk_at dksX2_minute_3 16 rfl rfl)
theorem dX2_minute_88 : decode cX2_minute 88 = .ok (.iload_n 2, 1) := dk_28 (dk_at dksX2_minute_3 17 rfl rfl)
theorem dX2_minute_89 : decode cX2_minute 89 = .ok (.invokevirtual 290, 3) := dk_182 1 34 (dk_at dksX2_minute_3 18 rfl rfl)
theorem dX2_minute_92 : decode cX2_minute 92 = .ok (.iinc 2 (-1), 3) := dk_132 2 255 (dk_at dksX2_minute_3 21 rfl rfl)
theorem dX2_minute_95 : decode cX2_minute 95 = .ok (.goto (-12), 3) := dk_167 255 244 (dk_at dksX2_minute_4 0 rfl rfl)
theorem dX2_minute_98 : decode cX2_minute 98 = .ok (.iconst 0, 1) := dk_3 (dk_at dksX2_minute_4 3 rfl rfl)
theorem dX2_minute_99 : decode cX2_minute 99 = .ok (.istore_n 2, 1) := dk_61 (dk_at dksX2_minute_4 4 rfl rfl)
theorem dX2_minute_100 : decode cX2_minute 100 = .ok (.iload_n 2, 1) := dk_28 (dk_at dksX2_minute_4 5 rfl rfl)
theorem dX2_minute_101 : decode cX2_minute 101 = .ok (.iconst 2, 1) := dk_5 (dk_at dksX2_minute_4 6 rfl rfl)
theorem dX2_minute_102 : decode cX2_minute 102 = .ok (.if_icmp .ge 14, 3) := dk_162 0 14 (dk_at dksX2_minute_4 7 rfl rfl)
theorem dX2_minute_105 : decode cX2_minute 105 = .ok (.aload_n 0, 1) := dk_42 (dk_at dksX2_minute_4 10 rfl rfl)
theorem dX2_minute_106 : decode cX2_minute 106 = .ok (.iload_n 2, 1) := dk_28 (dk_at dksX2_minute_4 11 rfl rfl)
theorem dX2_minute_107 : decode cX2_minute 107 = .ok (.invokevirtual 293, 3) := dk_182 1 37 (dk_at dksX2_minute_4 12 rfl rfl)
theorem dX2_minute_110 : decode cX2_minute 110 = .ok (.iinc 2 1, 3) := dk_132 2 1 (dk_at dksX2_minute_4 15 rfl rfl)
theorem dX2_minute_113 : decode cX2_minute 113 = .ok (.goto (-13), 3) := dk_167 255 243 (dk_at dksX2_minute_4 18 rfl rfl)
theorem dX2_minute_116 : decode cX2_minute 116 = .ok (.return_, 1) := dk_177 (dk_at dksX2_minute_4 21 rfl rfl)
abbrev cX2_carryOutPlans : ByteArray := prog_17_method_23_code
def yX2_carryOutPlans : MethodName := ⟨RX2, "carryOutPlans", "()V"⟩
def dkwX2_carryOutPlans_2 : List UInt8 := [198, 0, 13, 42, 180, 0, 44, 27, 44, 182, 0, 239, 79, 132, 1, 1, 167, 255, 208, 42, 182, 0, 249, 177]
abbrev dktX2_carryOutPlans_2 : List UInt8 := dkwX2_carryOutPlans_2 ++ []
def dkwX2_carryOutPlans_1 : List UInt8 := [187, 0, 227, 89, 42, 180, 0, 82, 27, 183, 0, 229, 185, 0, 242, 2, 0, 192, 0, 237, 77, 44]
abbrev dktX2_carryOutPlans_1 : List UInt8 := dkwX2_carryOutPlans_1 ++ dktX2_carryOutPlans_2
def dkwX2_carryOutPlans_0 : List UInt8 := [42, 180, 0, 41, 42, 180, 0, 82, 159, 0, 4, 177, 3, 60, 27, 16, 8, 162, 0, 48, 42, 180, 0, 70]
abbrev dktX2_carryOutPlans_0 : List UInt8 := dkwX2_carryOutPlans_0 ++ dktX2_carryOutPlans_1
theorem dksX2_carryOutPlans_0 : cX2_carryOutPlans.data.toList.drop 0 = dktX2_carryOutPlans_0 := by decide +kernel
theorem dksX2_carryOutPlans_1 : cX2_carryOutPlans.data.toList.drop 24 = dktX2_carryOutPlans_1 := dk_seg dksX2_carryOutPlans_0 24 rfl rfl
theorem dksX2_carryOutPlans_2 : cX2_carryOutPlans.data.toList.drop 46 = dktX2_carryOutPlans_2 := dk_seg dksX2_carryOutPlans_1 22 rfl rfl
theorem dX2_carryOutPlans_0 : decode cX2_carryOutPlans 0 = .ok (.aload_n 0, 1) := dk_42 (dk_at dksX2_carryOutPlans_0 0 rfl rfl)
theorem dX2_carryOutPlans_1 : decode cX2_carryOutPlans 1 = .ok (.getfield 41, 3) := dk_180 0 41 (dk_at dksX2_carryOutPlans_0 1 rfl rfl)
theorem dX2_carryOutPlans_4 : decode cX2_carryOutPlans 4 = .ok (.aload_n 0, 1) := dk_42 (dk_at dksX2_carryOutPlans_0 4 rfl rfl)
theorem dX2_carryOutPlans_5 : decode cX2_carryOutPlans 5 = .ok (.getfield 82, 3) := dk_180 0 82 (dk_at dksX2_carryOutPlans_0 5 rfl rfl)
theorem dX2_carryOutPlans_8 : decode cX2_carryOutPlans 8 = .ok (.if_icmp .eq 4, 3) := dk_159 0 4 (dk_at dksX2_carryOutPlans_0 8 rfl rfl)
theorem dX2_carryOutPlans_11 : decode cX2_carryOutPlans 11 = .ok (.return_, 1) := dk_177 (dk_at dksX2_carryOutPlans_0 11 rfl rfl)
theorem dX2_carryOutPlans_12 : decode cX2_carryOutPlans 12 = .ok (.iconst 0, 1) := dk_3 (dk_at dksX2_carryOutPlans_0 12 rfl rfl)
theorem dX2_carryOutPlans_13 : decode cX2_carryOutPlans 13 = .ok (.istore_n 1, 1) := dk_60 (dk_at dksX2_carryOutPlans_0 13 rfl rfl)
theorem dX2_carryOutPlans_14 : decode cX2_carryOutPlans 14 = .ok (.iload_n 1, 1) := dk_27 (dk_at dksX2_carryOutPlans_0 14 rfl rfl)
theorem dX2_carryOutPlans_15 : decode cX2_carryOutPlans 15 = .ok (.bipush 8, 2) := dk_16 8 (dk_at dksX2_carryOutPlans_0 15 rfl rfl)
theorem dX2_carryOutPlans_17 : decode cX2_carryOutPlans 17 = .ok (.if_icmp .ge 48, 3) := dk_162 0 48 (dk_at dksX2_carryOutPlans_0 17 rfl rfl)
theorem dX2_carryOutPlans_20 : decode cX2_carryOutPlans 20 = .ok (.aload_n 0, 1) := dk_42 (dk_at dksX2_carryOutPlans_0 20 rfl rfl)
theorem dX2_carryOutPlans_21 : decode cX2_carryOutPlans 21 = .ok (.getfield 70, 3) := dk_180 0 70 (dk_at dksX2_carryOutPlans_0 21 rfl rfl)
theorem dX2_carryOutPlans_24 : decode cX2_carryOutPlans 24 = .ok (.new 227, 3) := dk_187 0 227 (dk_at dksX2_carryOutPlans_1 0 rfl rfl)
theorem dX2_carryOutPlans_27 : decode cX2_carryOutPlans 27 = .ok (.dup, 1) := dk_89 (dk_at dksX2_carryOutPlans_1 3 rfl rfl)
theorem dX2_carryOutPlans_28 : decode cX2_carryOutPlans 28 = .ok (.aload_n 0, 1) := dk_42 (dk_at dksX2_carryOutPlans_1 4 rfl rfl)
theorem dX2_carryOutPlans_29 : decode cX2_carryOutPlans 29 = .ok (.getfield 82, 3) := dk_180 0 82 (dk_at dksX2_carryOutPlans_1 5 rfl rfl)
theorem dX2_carryOutPlans_32 : decode cX2_carryOutPlans 32 = .ok (.iload_n 1, 1) := dk_27 (dk_at dksX2_carryOutPlans_1 8 rfl rfl)
theorem dX2_carryOutPlans_33 : decode cX2_carryOutPlans 33 = .ok (.invokespecial 229, 3) := dk_183 0 229 (dk_at dksX2_carryOutPlans_1 9 rfl rfl)
theorem dX2_carryOutPlans_36 : decode cX2_carryOutPlans 36 = .ok (.invokeinterface 242 2, 5) := by decide +kernel
theorem dX2_carryOutPlans_41 : decode cX2_carryOutPlans 41 = .ok (.checkcast 237, 3) := dk_192 0 237 (dk_at dksX2_carryOutPlans_1 17 rfl rfl)
theorem dX2_carryOutPlans_44 : decode cX2_carryOutPlans 44 = .ok (.astore_n 2, 1) := dk_77 (dk_at dksX2_carryOutPlans_1 20 rfl rfl)
theorem dX2_carryOutPlans_45 : decode cX2_carryOutPlans 45 = .ok (.aload_n 2, 1) := dk_44 (dk_at dksX2_carryOutPlans_1 21 rfl rfl)
theorem dX2_carryOutPlans_46 : decode cX2_carryOutPlans 46 = .ok (.ifnull 13, 3) := dk_198 0 13 (dk_at dksX2_carryOutPlans_2 0 rfl rfl)
theorem dX2_carryOutPlans_49 : decode cX2_carryOutPlans 49 = .ok (.aload_n 0, 1) := dk_42 (dk_at dksX2_carryOutPlans_2 3 rfl rfl)
theorem dX2_carryOutPlans_50 : decode cX2_carryOutPlans 50 = .ok (.getfield 44, 3) := dk_180 0 44 (dk_at dksX2_carryOutPlans_2 4 rfl rfl)
theorem dX2_carryOutPlans_53 : decode cX2_carryOutPlans 53 = .ok (.iload_n 1, 1) := dk_27 (dk_at dksX2_carryOutPlans_2 7 rfl rfl)
theorem dX2_carryOutPlans_54 : decode cX2_carryOutPlans 54 = .ok (.aload_n 2, 1) := dk_44 (dk_at dksX2_carryOutPlans_2 8 rfl rfl)
theorem dX2_carryOutPlans_55 : decode cX2_carryOutPlans 55 = .ok (.invokevirtual 239, 3) := dk_182 0 239 (dk_at dksX2_carryOutPlans_2 9 rfl rfl)
theorem dX2_carryOutPlans_58 : decode cX2_carryOutPlans 58 = .ok (.iastore, 1) := dk_79 (dk_at dksX2_carryOutPlans_2 12 rfl rfl)
theorem dX2_carryOutPlans_59 : decode cX2_carryOutPlans 59 = .ok (.iinc 1 1, 3) := dk_132 1 1 (dk_at dksX2_carryOutPlans_2 13 rfl rfl)
theorem dX2_carryOutPlans_62 : decode cX2_carryOutPlans 62 = .ok (.goto (-48), 3) := dk_167 255 208 (dk_at dksX2_carryOutPlans_2 16 rfl rfl)
theorem dX2_carryOutPlans_65 : decode cX2_carryOutPlans 65 = .ok (.aload_n 0, 1) := dk_42 (dk_at dksX2_carryOutPlans_2 19 rfl rfl)
theorem dX2_carryOutPlans_66 : decode cX2_carryOutPlans 66 = .ok (.invokevirtual 249, 3) := dk_182 0 249 (dk_at dksX2_carryOutPlans_2 20 rfl rfl)
theorem dX2_carryOutPlans_69 : decode cX2_carryOutPlans 69 = .ok (.return_, 1) := dk_177 (dk_at dksX2_carryOutPlans_2 23 rfl rfl)
abbrev cX2_findNextPlan : ByteArray := prog_17_method_19_code
def yX2_findNextPlan : MethodName := ⟨RX2, "findNextPlan", "()V"⟩
def dkwX2_findNextPlan_3 : List UInt8 := [180, 0, 41, 181, 0, 41, 167, 255, 203, 177]
abbrev dktX2_findNextPlan_3 : List UInt8 := dkwX2_findNextPlan_3 ++ []
def dkwX2_findNextPlan_2 : List UInt8 := [159, 0, 14, 44, 180, 1, 3, 42, 180, 0, 41, 162, 0, 10, 44, 180, 1, 3, 167, 0, 7, 42]
abbrev dktX2_findNextPlan_2 : List UInt8 := dkwX2_findNextPlan_2 ++ dktX2_findNextPlan_3
def dkwX2_findNextPlan_1 : List UInt8 := [185, 0, 129, 1, 0, 153, 0, 50, 43, 185, 0, 135, 1, 0, 192, 0, 227, 77, 42, 42, 180, 0, 41, 2]
abbrev dktX2_findNextPlan_1 : List UInt8 := dkwX2_findNextPlan_1 ++ dktX2_findNextPlan_2
def dkwX2_findNextPlan_0 : List UInt8 := [42, 2, 181, 0, 41, 42, 180, 0, 70, 185, 0, 252, 1, 0, 185, 1, 0, 1, 0, 76, 43]
abbrev dktX2_findNextPlan_0 : List UInt8 := dkwX2_findNextPlan_0 ++ dktX2_findNextPlan_1
theorem dksX2_findNextPlan_0 : cX2_findNextPlan.data.toList.drop 0 = dktX2_findNextPlan_0 := by decide +kernel
theorem dksX2_findNextPlan_1 : cX2_findNextPlan.data.toList.drop 21 = dktX2_findNextPlan_1 := dk_seg dksX2_findNextPlan_0 21 rfl rfl
theorem dksX2_findNextPlan_2 : cX2_findNextPlan.data.toList.drop 45 = dktX2_findNextPlan_2 := dk_seg dksX2_findNextPlan_1 24 rfl rfl
theorem dksX2_findNextPlan_3 : cX2_findNextPlan.data.toList.drop 67 = dktX2_findNextPlan_3 := dk_seg dksX2_findNextPlan_2 22 rfl rfl
theorem dX2_findNextPlan_0 : decode cX2_findNextPlan 0 = .ok (.aload_n 0, 1) := dk_42 (dk_at dksX2_findNextPlan_0 0 rfl rfl)
theorem dX2_findNextPlan_1 : decode cX2_findNextPlan 1 = .ok (.iconst (-1), 1) := dk_2 (dk_at dksX2_findNextPlan_0 1 rfl rfl)
theorem dX2_findNextPlan_2 : decode cX2_findNextPlan 2 = .ok (.putfield 41, 3) := dk_181 0 41 (dk_at dksX2_findNextPlan_0 2 rfl rfl)
theorem dX2_findNextPlan_5 : decode cX2_findNextPlan 5 = .ok (.aload_n 0, 1) := dk_42 (dk_at dksX2_findNextPlan_0 5 rfl rfl)
theorem dX2_findNextPlan_6 : decode cX2_findNextPlan 6 = .ok (.getfield 70, 3) := dk_180 0 70 (dk_at dksX2_findNextPlan_0 6 rfl rfl)
theorem dX2_findNextPlan_9 : decode cX2_findNextPlan 9 = .ok (.invokeinterface 252 1, 5) := by decide +kernel
theorem dX2_findNextPlan_14 : decode cX2_findNextPlan 14 = .ok (.invokeinterface 256 1, 5) := by decide +kernel
theorem dX2_findNextPlan_19 : decode cX2_findNextPlan 19 = .ok (.astore_n 1, 1) := dk_76 (dk_at dksX2_findNextPlan_0 19 rfl rfl)
theorem dX2_findNextPlan_20 : decode cX2_findNextPlan 20 = .ok (.aload_n 1, 1) := dk_43 (dk_at dksX2_findNextPlan_0 20 rfl rfl)
theorem dX2_findNextPlan_21 : decode cX2_findNextPlan 21 = .ok (.invokeinterface 129 1, 5) := by decide +kernel
theorem dX2_findNextPlan_26 : decode cX2_findNextPlan 26 = .ok (.ifCond .eq 50, 3) := dk_153 0 50 (dk_at dksX2_findNextPlan_1 5 rfl rfl)
theorem dX2_findNextPlan_29 : decode cX2_findNextPlan 29 = .ok (.aload_n 1, 1) := dk_43 (dk_at dksX2_findNextPlan_1 8 rfl rfl)
theorem dX2_findNextPlan_30 : decode cX2_findNextPlan 30 = .ok (.invokeinterface 135 1, 5) := by decide +kernel
theorem dX2_findNextPlan_35 : decode cX2_findNextPlan 35 = .ok (.checkcast 227, 3) := dk_192 0 227 (dk_at dksX2_findNextPlan_1 14 rfl rfl)
theorem dX2_findNextPlan_38 : decode cX2_findNextPlan 38 = .ok (.astore_n 2, 1) := dk_77 (dk_at dksX2_findNextPlan_1 17 rfl rfl)
theorem dX2_findNextPlan_39 : decode cX2_findNextPlan 39 = .ok (.aload_n 0, 1) := dk_42 (dk_at dksX2_findNextPlan_1 18 rfl rfl)
theorem dX2_findNextPlan_40 : decode cX2_findNextPlan 40 = .ok (.aload_n 0, 1) := dk_42 (dk_at dksX2_findNextPlan_1 19 rfl rfl)
theorem dX2_findNextPlan_41 : decode cX2_findNextPlan 41 = .ok (.getfield 41, 3) := dk_180 0 41 (dk_at dksX2_findNextPlan_1 20 rfl rfl)
theorem dX2_findNextPlan_44 : decode cX2_findNextPlan 44 = .ok (.iconst (-1), 1) := dk_2 (dk_at dksX2_findNextPlan_1 23 rfl rfl)
theorem dX2_findNextPlan_45 : decode cX2_findNextPlan 45 = .ok (.if_icmp .eq 14, 3) := dk_159 0 14 (dk_at dksX2_findNextPlan_2 0 rfl rfl)
theorem dX2_findNextPlan_48 : decode cX2_findNextPlan 48 = .ok (.aload_n 2, 1) := dk_44 (dk_at dksX2_findNextPlan_2 3 rfl rfl)
theorem dX2_findNextPlan_49 : decode cX2_findNextPlan 49 = .ok (.getfield 259, 3) := dk_180 1 3 (dk_at dksX2_findNextPlan_2 4 rfl rfl)
theorem dX2_findNextPlan_52 : decode cX2_findNextPlan 52 = .ok (.aload_n 0, 1) := dk_42 (dk_at dksX2_findNextPlan_2 7 rfl rfl)
theorem dX2_findNextPlan_53 : decode cX2_findNextPlan 53 = .ok (.getfield 41, 3) := dk_180 0 41 (dk_at dksX2_findNextPlan_2 8 rfl rfl)
theorem dX2_findNextPlan_56 : decode cX2_findNextPlan 56 = .ok (.if_icmp .ge 10, 3) := dk_162 0 10 (dk_at dksX2_findNextPlan_2 11 rfl rfl)
theorem dX2_findNextPlan_59 : decode cX2_findNextPlan 59 = .ok (.aload_n 2, 1) := dk_44 (dk_at dksX2_findNextPlan_2 14 rfl rfl)
theorem dX2_findNextPlan_60 : decode cX2_findNextPlan 60 = .ok (.getfield 259, 3) := dk_180 1 3 (dk_at dksX2_findNextPlan_2 15 rfl rfl)
theorem dX2_findNextPlan_63 : decode cX2_findNextPlan 63 = .ok (.goto 7, 3) := dk_167 0 7 (dk_at dksX2_findNextPlan_2 18 rfl rfl)
theorem dX2_findNextPlan_66 : decode cX2_findNextPlan 66 = .ok (.aload_n 0, 1) := dk_42 (dk_at dksX2_findNextPlan_2 21 rfl rfl)
theorem dX2_findNextPlan_67 : decode cX2_findNextPlan 67 = .ok (.getfield 41, 3) := dk_180 0 41 (dk_at dksX2_findNextPlan_3 0 rfl rfl)
theorem dX2_findNextPlan_70 : decode cX2_findNextPlan 70 = .ok (.putfield 41, 3) := dk_181 0 41 (dk_at dksX2_findNextPlan_3 3 rfl rfl)
theorem dX2_findNextPlan_73 : decode cX2_findNextPlan 73 = .ok (.goto (-53), 3) := dk_167 255 203 (dk_at dksX2_findNextPlan_3 6 rfl rfl)
theorem dX2_findNextPlan_76 : decode cX2_findNextPlan 76 = .ok (.return_, 1) := dk_177 (dk_at dksX2_findNextPlan_3 9 rfl rfl)
abbrev cX2_burn : ByteArray := prog_17_method_24_code
def yX2_burn : MethodName := ⟨RX2, "burn", "()V"⟩
def dkwX2_burn_5 : List UInt8 := [96, 181, 0, 85, 177]
abbrev dktX2_burn_5 : List UInt8 := dkwX2_burn_5 ++ []
def dkwX2_burn_4 : List UInt8 := [180, 0, 54, 28, 21, 4, 79, 132, 2, 1, 167, 255, 160, 42, 89, 180, 0, 85, 42, 180, 0, 9, 27, 100]
abbrev dktX2_burn_4 : List UInt8 := dkwX2_burn_4 ++ dktX2_burn_5
def dkwX2_burn_3 : List UInt8 := [54, 4, 21, 4, 21, 4, 16, 20, 100, 42, 180, 0, 48, 28, 46, 104, 16, 50, 108, 100, 54, 4, 42]
abbrev dktX2_burn_3 : List UInt8 := dkwX2_burn_3 ++ dktX2_burn_4
def dkwX2_burn_2 : List UInt8 := [42, 180, 0, 54, 28, 46, 54, 4, 21, 4, 45, 182, 1, 50, 21, 4, 100, 16, 8, 184, 1, 53, 96]
abbrev dktX2_burn_2 : List UInt8 := dkwX2_burn_2 ++ dktX2_burn_3
def dkwX2_burn_1 : List UInt8 := [182, 1, 45, 78, 27, 45, 182, 1, 48, 100, 60, 42, 180, 0, 57, 28, 92, 46, 45, 182, 1, 48, 96, 79]
abbrev dktX2_burn_1 : List UInt8 := dkwX2_burn_1 ++ dktX2_burn_2
def dkwX2_burn_0 : List UInt8 := [42, 180, 0, 9, 60, 3, 61, 28, 16, 8, 162, 0, 96, 42, 180, 0, 44, 28, 46, 184, 1, 40, 27]
abbrev dktX2_burn_0 : List UInt8 := dkwX2_burn_0 ++ dktX2_burn_1
theorem dksX2_burn_0 : cX2_burn.data.toList.drop 0 = dktX2_burn_0 := by decide +kernel
theorem dksX2_burn_1 : cX2_burn.data.toList.drop 23 = dktX2_burn_1 := dk_seg dksX2_burn_0 23 rfl rfl
theorem dksX2_burn_2 : cX2_burn.data.toList.drop 47 = dktX2_burn_2 := dk_seg dksX2_burn_1 24 rfl rfl
theorem dksX2_burn_3 : cX2_burn.data.toList.drop 70 = dktX2_burn_3 := dk_seg dksX2_burn_2 23 rfl rfl
theorem dksX2_burn_4 : cX2_burn.data.toList.drop 93 = dktX2_burn_4 := dk_seg dksX2_burn_3 23 rfl rfl
theorem dksX2_burn_5 : cX2_burn.data.toList.drop 117 = dktX2_burn_5 := dk_seg dksX2_burn_4 24 rfl rfl
theorem dX2_burn_0 : decode cX2_burn 0 = .ok (.aload_n 0, 1) := dk_42 (dk_at dksX2_burn_0 0 rfl rfl)
theorem dX2_burn_1 : decode cX2_burn 1 = .ok (.getfield 9, 3) := dk_180 0 9 (dk_at dksX2_burn_0 1 rfl rfl)
theorem dX2_burn_4 : decode cX2_burn 4 = .ok (.istore_n 1, 1) := dk_60 (dk_at dksX2_burn_0 4 rfl rfl)
theorem dX2_burn_5 : decode cX2_burn 5 = .ok (.iconst 0, 1) := dk_3 (dk_at dksX2_burn_0 5 rfl rfl)
theorem dX2_burn_6 : decode cX2_burn 6 = .ok (.istore_n 2, 1) := dk_61 (dk_at dksX2_burn_0 6 rfl rfl)
theorem dX2_burn_7 : decode cX2_burn 7 = .ok (.iload_n 2, 1) := dk_28 (dk_at dksX2_burn_0 7 rfl rfl)
theorem dX2_burn_8 : decode cX2_burn 8 = .ok (.bipush 8, 2) := dk_16 8 (dk_at dksX2_burn_0 8 rfl rfl)
theorem dX2_burn_10 : decode cX2_burn 10 = .ok (.if_icmp .ge 96, 3) := dk_162 0 96 (dk_at dksX2_burn_0 10 rfl rfl)
theorem dX2_burn_13 : decode cX2_burn 13 = .ok (.aload_n 0, 1) := dk_42 (dk_at dksX2_burn_0 13 rfl rfl)
theorem dX2_burn_14 : decode cX2_burn 14 = .ok (.getfield 44, 3) := dk_180 0 44 (dk_at dksX2_burn_0 14 rfl rfl)
theorem dX2_burn_17 : decode cX2_burn 17 = .ok (.iload_n 2, 1) := dk_28 (dk_at dksX2_burn_0 17 rfl rfl)
theorem dX2_burn_18 : decode cX2_burn 18 = .ok (.iaload, 1) := dk_46 (dk_at dksX2_burn_0 18 rfl rfl)
theorem dX2_burn_19 : decode cX2_burn 19 = .ok (.invokestatic 296, 3) := dk_184 1 40 (dk_at dksX2_burn_0 19 rfl rfl)
theorem dX2_burn_22 : decode cX2_burn 22 = .ok (.iload_n 1, 1) := dk_27 (dk_at dksX2_burn_0 22 rfl rfl)
theorem dX2_burn_23 : decode cX2_burn 23 = .ok (.invokevirtual 301, 3) := dk_182 1 45 (dk_at dksX2_burn_1 0 rfl rfl)
theorem dX2_burn_26 : decode cX2_burn 26 = .ok (.astore_n 3, 1) := dk_78 (dk_at dksX2_burn_1 3 rfl rfl)
theorem dX2_burn_27 : decode cX2_burn 27 = .ok (.iload_n 1, 1) := dk_27 (dk_at dksX2_burn_1 4 rfl rfl)
theorem dX2_burn_28 : decode cX2_burn 28 = .ok (.aload_n 3, 1) := dk_45 (dk_at dksX2_burn_1 5 rfl rfl)
theorem dX2_burn_29 : decode cX2_burn 29 = .ok (.invokevirtual 304, 3) := dk_182 1 48 (dk_at dksX2_burn_1 6 rfl rfl)
theorem dX2_burn_32 : decode cX2_burn 32 = .ok (.isub, 1) := dk_100 (dk_at dksX2_burn_1 9 rfl rfl)
theorem dX2_burn_33 : decode cX2_burn 33 = .ok (.istore_n 1, 1) := dk_60 (dk_at dksX2_burn_1 10 rfl rfl)
theorem dX2_burn_34 : decode cX2_burn 34 = .ok (.aload_n 0, 1) := dk_42 (dk_at dksX2_burn_1 11 rfl rfl)
theorem dX2_burn_35 : decode cX2_burn 35 = .ok (.getfield 57, 3) := dk_180 0 57 (dk_at dksX2_burn_1 12 rfl rfl)
theorem dX2_burn_38 : decode cX2_burn 38 = .ok (.iload_n 2, 1) := dk_28 (dk_at dksX2_burn_1 15 rfl rfl)
theorem dX2_burn_39 : decode cX2_burn 39 = .ok (.dup2, 1) := dk_92 (dk_at dksX2_burn_1 16 rfl rfl)
theorem dX2_burn_40 : decode cX2_burn 40 = .ok (.iaload, 1) := dk_46 (dk_at dksX2_burn_1 17 rfl rfl)
theorem dX2_burn_41 : decode cX2_burn 41 = .ok (.aload_n 3, 1) := dk_45 (dk_at dksX2_burn_1 18 rfl rfl)
theorem dX2_burn_42 : decode cX2_burn 42 = .ok (.invokevirtual 304, 3) := dk_182 1 48 (dk_at dksX2_burn_1 19 rfl rfl)
theorem dX2_burn_45 : decode cX2_burn 45 = .ok (.iadd, 1) := dk_96 (dk_at dksX2_burn_1 22 rfl rfl)
theorem dX2_burn_46 : decode cX2_burn 46 = .ok (.iastore, 1) := dk_79 (dk_at dksX2_burn_1 23 rfl rfl)
theorem dX2_burn_47 : decode cX2_burn 47 = .ok (.aload_n 0, 1) := dk_42 (dk_at dksX2_burn_2 0 rfl rfl)
theorem dX2_burn_48 : decode cX2_burn 48 = .ok (.getfield 54, 3) := dk_180 0 54 (dk_at dksX2_burn_2 1 rfl rfl)
theorem dX2_burn_51 : decode cX2_burn 51 = .ok (.iload_n 2, 1) := dk_28 (dk_at dksX2_burn_2 4 rfl rfl)
theorem dX2_burn_52 : decode cX2_burn 52 = .ok (.iaload, 1) := dk_46 (dk_at dksX2_burn_2 5 rfl rfl)
theorem dX2_burn_53 : decode cX2_burn 53 = .ok (.istore 4, 2) := dk_54 4 (dk_at dksX2_burn_2 6 rfl rfl)
theorem dX2_burn_55 : decode cX2_burn 55 = .ok (.iload 4, 2) := dk_21 4 (dk_at dksX2_burn_2 8 rfl rfl)
theorem dX2_burn_57 : decode cX2_burn 57 = .ok (.aload_n 3, 1) := dk_45 (dk_at dksX2_burn_2 10 rfl rfl)
theorem dX2_burn_58 : decode cX2_burn 58 = .ok (.invokevirtual 306, 3) := dk_182 1 50 (dk_at dksX2_burn_2 11 rfl rfl)
theorem dX2_burn_61 : decode cX2_burn 61 = .ok (.iload 4, 2) := dk_21 4 (dk_at dksX2_burn_2 14 rfl rfl)
theorem dX2_burn_63 : decode cX2_burn 63 = .ok (.isub, 1) := dk_100 (dk_at dksX2_burn_2 16 rfl rfl)
theorem dX2_burn_64 : decode cX2_burn 64 = .ok (.bipush 8, 2) := dk_16 8 (dk_at dksX2_burn_2 17 rfl rfl)
theorem dX2_burn_66 : decode cX2_burn 66 = .ok (.invokestatic 309, 3) := dk_184 1 53 (dk_at dksX2_burn_2 19 rfl rfl)
theorem dX2_burn_69 : decode cX2_burn 69 = .ok (.iadd, 1) := dk_96 (dk_at dksX2_burn_2 22 rfl rfl)
theorem dX2_burn_70 : decode cX2_burn 70 = .ok (.istore 4, 2) := dk_54 4 (dk_at dksX2_burn_3 0 rfl rfl)
theorem dX2_burn_72 : decode cX2_burn 72 = .ok (.iload 4, 2) := dk_21 4 (dk_at dksX2_burn_3 2 rfl rfl)
theorem dX2_burn_74 : decode cX2_burn 74 = .ok (.iload 4, 2) := dk_21 4 (dk_at dksX2_burn_3 4 rfl rfl)
theorem dX2_burn_76 : decode cX2_burn 76 = .ok (.bipush 20, 2) := dk_16 20 (dk_at dksX2_burn_3 6 rfl rfl)
theorem dX2_burn_78 : decode cX2_burn 78 = .ok (.isub, 1) := dk_100 (dk_at dksX2_burn_3 8 rfl rfl)
theorem dX2_burn_79 : decode cX2_burn 79 = .ok (.aload_n 0, 1) := dk_42 (dk_at dksX2_burn_3 9 rfl rfl)
theorem dX2_burn_80 : decode cX2_burn 80 = .ok (.getfield 48, 3) := dk_180 0 48 (dk_at dksX2_burn_3 10 rfl rfl)
theorem dX2_burn_83 : decode cX2_burn 83 = .ok (.iload_n 2, 1) := dk_28 (dk_at dksX2_burn_3 13 rfl rfl)
theorem dX2_burn_84 : decode cX2_burn 84 = .ok (.iaload, 1) := dk_46 (dk_at dksX2_burn_3 14 rfl rfl)
theorem dX2_burn_85 : decode cX2_burn 85 = .ok (.imul, 1) := dk_104 (dk_at dksX2_burn_3 15 rfl rfl)
theorem dX2_burn_86 : decode cX2_burn 86 = .ok (.bipush 50, 2) := dk_16 50 (dk_at dksX2_burn_3 16 rfl rfl)
theorem dX2_burn_88 : decode cX2_burn 88 = .ok (.idiv, 1) := dk_108 (dk_at dksX2_burn_3 18 rfl rfl)
theorem dX2_burn_89 : decode cX2_burn 89 = .ok (.isub, 1) := dk_100 (dk_at dksX2_burn_3 19 rfl rfl)
theorem dX2_burn_90 : decode cX2_burn 90 = .ok (.istore 4, 2) := dk_54 4 (dk_at dksX2_burn_3 20 rfl rfl)
theorem dX2_burn_92 : decode cX2_burn 92 = .ok (.aload_n 0, 1) := dk_42 (dk_at dksX2_burn_3 22 rfl rfl)
theorem dX2_burn_93 : decode cX2_burn 93 = .ok (.getfield 54, 3) := dk_180 0 54 (dk_at dksX2_burn_4 0 rfl rfl)
theorem dX2_burn_96 : decode cX2_burn 96 = .ok (.iload_n 2, 1) := dk_28 (dk_at dksX2_burn_4 3 rfl rfl)
theorem dX2_burn_97 : decode cX2_burn 97 = .ok (.iload 4, 2) := dk_21 4 (dk_at dksX2_burn_4 4 rfl rfl)
theorem dX2_burn_99 : decode cX2_burn 99 = .ok (.iastore, 1) := dk_79 (dk_at dksX2_burn_4 6 rfl rfl)
theorem dX2_burn_100 : decode cX2_burn 100 = .ok (.iinc 2 1, 3) := dk_132 2 1 (dk_at dksX2_burn_4 7 rfl rfl)
theorem dX2_burn_103 : decode cX2_burn 103 = .ok (.goto (-96), 3) := dk_167 255 160 (dk_at dksX2_burn_4 10 rfl rfl)
theorem dX2_burn_106 : decode cX2_burn 106 = .ok (.aload_n 0, 1) := dk_42 (dk_at dksX2_burn_4 13 rfl rfl)
theorem dX2_burn_107 : decode cX2_burn 107 = .ok (.dup, 1) := dk_89 (dk_at dksX2_burn_4 14 rfl rfl)
theorem dX2_burn_108 : decode cX2_burn 108 = .ok (.getfield 85, 3) := dk_180 0 85 (dk_at dksX2_burn_4 15 rfl rfl)
theorem dX2_burn_111 : decode cX2_burn 111 = .ok (.aload_n 0, 1) := dk_42 (dk_at dksX2_burn_4 18 rfl rfl)
theorem dX2_burn_112 : decode cX2_burn 112 = .ok (.getfield 9, 3) := dk_180 0 9 (dk_at dksX2_burn_4 19 rfl rfl)
theorem dX2_burn_115 : decode cX2_burn 115 = .ok (.iload_n 1, 1) := dk_27 (dk_at dksX2_burn_4 22 rfl rfl)
theorem dX2_burn_116 : decode cX2_burn 116 = .ok (.isub, 1) := dk_100 (dk_at dksX2_burn_4 23 rfl rfl)
theorem dX2_burn_117 : decode cX2_burn 117 = .ok (.iadd, 1) := dk_96 (dk_at dksX2_burn_5 0 rfl rfl)
theorem dX2_burn_118 : decode cX2_burn 118 = .ok (.putfield 85, 3) := dk_181 0 85 (dk_at dksX2_burn_5 1 rfl rfl)
theorem dX2_burn_121 : decode cX2_burn 121 = .ok (.return_, 1) := dk_177 (dk_at dksX2_burn_5 4 rfl rfl)
abbrev cX2_exchange : ByteArray := prog_17_method_26_code
def yX2_exchange : MethodName := ⟨RX2, "exchange", "()V"⟩
def dkwX2_exchange_2 : List UInt8 := [96, 92, 46, 29, 96, 79, 132, 2, 1, 167, 255, 212, 177]
abbrev dktX2_exchange_2 : List UInt8 := dkwX2_exchange_2 ++ []
def dkwX2_exchange_1 : List UInt8 := [4, 96, 46, 100, 16, 16, 108, 62, 42, 180, 0, 54, 28, 92, 46, 29, 100, 79, 42, 180, 0, 54, 28, 4]
abbrev dktX2_exchange_1 : List UInt8 := dkwX2_exchange_1 ++ dktX2_exchange_2
def dkwX2_exchange_0 : List UInt8 := [42, 180, 0, 54, 182, 0, 88, 192, 0, 89, 76, 3, 61, 28, 16, 7, 162, 0, 44, 43, 28, 46, 43, 28]
abbrev dktX2_exchange_0 : List UInt8 := dkwX2_exchange_0 ++ dktX2_exchange_1
theorem dksX2_exchange_0 : cX2_exchange.data.toList.drop 0 = dktX2_exchange_0 := by decide +kernel
theorem dksX2_exchange_1 : cX2_exchange.data.toList.drop 24 = dktX2_exchange_1 := dk_seg dksX2_exchange_0 24 rfl rfl
theorem dksX2_exchange_2 : cX2_exchange.data.toList.drop 48 = dktX2_exchange_2 := dk_seg dksX2_exchange_1 24 rfl rfl
theorem dX2_exchange_0 : decode cX2_exchange 0 = .ok (.aload_n 0, 1) := dk_42 (dk_at dksX2_exchange_0 0 rfl rfl)
theorem dX2_exchange_1 : decode cX2_exchange 1 = .ok (.getfield 54, 3) := dk_180 0 54 (dk_at dksX2_exchange_0 1 rfl rfl)
theorem dX2_exchange_4 : decode cX2_exchange 4 = .ok (.invokevirtual 88, 3) := dk_182 0 88 (dk_at dksX2_exchange_0 4 rfl rfl)
theorem dX2_exchange_7 : decode cX2_exchange 7 = .ok (.checkcast 89, 3) := dk_192 0 89 (dk_at dksX2_exchange_0 7 rfl rfl)
theorem dX2_exchange_10 : decode cX2_exchange 10 = .ok (.astore_n 1, 1) := dk_76 (dk_at dksX2_exchange_0 10 rfl rfl)
theorem dX2_exchange_11 : decode cX2_exchange 11 = .ok (.iconst 0, 1) := dk_3 (dk_at dksX2_exchange_0 11 rfl rfl)
theorem dX2_exchange_12 : decode cX2_exchange 12 = .ok (.istore_n 2, 1) := dk_61 (dk_at dksX2_exchange_0 12 rfl rfl)
theorem dX2_exchange_13 : decode cX2_exchange 13 = .ok (.iload_n 2, 1) := dk_28 (dk_at dksX2_exchange_0 13 rfl rfl)
theorem dX2_exchange_14 : decode cX2_exchange 14 = .ok (.bipush 7, 2) := dk_16 7 (dk_at dksX2_exchange_0 14 rfl rfl)
theorem dX2_exchange_16 : decode cX2_exchange 16 = .ok (.if_icmp .ge 44, 3) := dk_162 0 44 (dk_at dksX2_exchange_0 16 rfl rfl)
theorem dX2_exchange_19 : decode cX2_exchange 19 = .ok (.aload_n 1, 1) := dk_43 (dk_at dksX2_exchange_0 19 rfl rfl)
theorem dX2_exchange_20 : decode cX2_exchange 20 = .ok (.iload_n 2, 1) := dk_28 (dk_at dksX2_exchange_0 20 rfl rfl)
theorem dX2_exchange_21 : decode cX2_exchange 21 = .ok (.iaload, 1) := dk_46 (dk_at dksX2_exchange_0 21 rfl rfl)
theorem dX2_exchange_22 : decode cX2_exchange 22 = .ok (.aload_n 1, 1) := dk_43 (dk_at dksX2_exchange_0 22 rfl rfl)
theorem dX2_exchange_23 : decode cX2_exchange 23 = .ok (.iload_n 2, 1) := dk_28 (dk_at dksX2_exchange_0 23 rfl rfl)
theorem dX2_exchange_24 : decode cX2_exchange 24 = .ok (.iconst 1, 1) := dk_4 (dk_at dksX2_exchange_1 0 rfl rfl)
theorem dX2_exchange_25 : decode cX2_exchange 25 = .ok (.iadd, 1) := dk_96 (dk_at dksX2_exchange_1 1 rfl rfl)
theorem dX2_exchange_26 : decode cX2_exchange 26 = .ok (.iaload, 1) := dk_46 (dk_at dksX2_exchange_1 2 rfl rfl)
theorem dX2_exchange_27 : decode cX2_exchange 27 = .ok (.isub, 1) := dk_100 (dk_at dksX2_exchange_1 3 rfl rfl)
theorem dX2_exchange_28 : decode cX2_exchange 28 = .ok (.bipush 16, 2) := dk_16 16 (dk_at dksX2_exchange_1 4 rfl rfl)
theorem dX2_exchange_30 : decode cX2_exchange 30 = .ok (.idiv, 1) := dk_108 (dk_at dksX2_exchange_1 6 rfl rfl)
theorem dX2_exchange_31 : decode cX2_exchange 31 = .ok (.istore_n 3, 1) := dk_62 (dk_at dksX2_exchange_1 7 rfl rfl)
theorem dX2_exchange_32 : decode cX2_exchange 32 = .ok (.aload_n 0, 1) := dk_42 (dk_at dksX2_exchange_1 8 rfl rfl)
theorem dX2_exchange_33 : decode cX2_exchange 33 = .ok (.getfield 54, 3) := dk_180 0 54 (dk_at dksX2_exchange_1 9 rfl rfl)
theorem dX2_exchange_36 : decode cX2_exchange 36 = .ok (.iload_n 2, 1) := dk_28 (dk_at dksX2_exchange_1 12 rfl rfl)
theorem dX2_exchange_37 : decode cX2_exchange 37 = .ok (.dup2, 1) := dk_92 (dk_at dksX2_exchange_1 13 rfl rfl)
theorem dX2_exchange_38 : decode cX2_exchange 38 = .ok (.iaload, 1) := dk_46 (dk_at dksX2_exchange_1 14 rfl rfl)
theorem dX2_exchange_39 : decode cX2_exchange 39 = .ok (.iload_n 3, 1) := dk_29 (dk_at dksX2_exchange_1 15 rfl rfl)
theorem dX2_exchange_40 : decode cX2_exchange 40 = .ok (.isub, 1) := dk_100 (dk_at dksX2_exchange_1 16 rfl rfl)
theorem dX2_exchange_41 : decode cX2_exchange 41 = .ok (.iastore, 1) := dk_79 (dk_at dksX2_exchange_1 17 rfl rfl)
theorem dX2_exchange_42 : decode cX2_exchange 42 = .ok (.aload_n 0, 1) := dk_42 (dk_at dksX2_exchange_1 18 rfl rfl)
theorem dX2_exchange_43 : decode cX2_exchange 43 = .ok (.getfield 54, 3) := dk_180 0 54 (dk_at dksX2_exchange_1 19 rfl rfl)
theorem dX2_exchange_46 : decode cX2_exchange 46 = .ok (.iload_n 2, 1) := dk_28 (dk_at dksX2_exchange_1 22 rfl rfl)
theorem dX2_exchange_47 : decode cX2_exchange 47 = .ok (.iconst 1, 1) := dk_4 (dk_at dksX2_exchange_1 23 rfl rfl)
theorem dX2_exchange_48 : decode cX2_exchange 48 = .ok (.iadd, 1) := dk_96 (dk_at dksX2_exchange_2 0 rfl rfl)
theorem dX2_exchange_49 : decode cX2_exchange 49 = .ok (.dup2, 1) := dk_92 (dk_at dksX2_exchange_2 1 rfl rfl)
theorem dX2_exchange_50 : decode cX2_exchange 50 = .ok (.iaload, 1) := dk_46 (dk_at dksX2_exchange_2 2 rfl rfl)
theorem dX2_exchange_51 : decode cX2_exchange 51 = .ok (.iload_n 3, 1) := dk_29 (dk_at dksX2_exchange_2 3 rfl rfl)
theorem dX2_exchange_52 : decode cX2_exchange 52 = .ok (.iadd, 1) := dk_96 (dk_at dksX2_exchange_2 4 rfl rfl)
theorem dX2_exchange_53 : decode cX2_exchange 53 = .ok (.iastore, 1) := dk_79 (dk_at dksX2_exchange_2 5 rfl rfl)
theorem dX2_exchange_54 : decode cX2_exchange 54 = .ok (.iinc 2 1, 3) := dk_132 2 1 (dk_at dksX2_exchange_2 6 rfl rfl)
theorem dX2_exchange_57 : decode cX2_exchange 57 = .ok (.goto (-44), 3) := dk_167 255 212 (dk_at dksX2_exchange_2 9 rfl rfl)
theorem dX2_exchange_60 : decode cX2_exchange 60 = .ok (.return_, 1) := dk_177 (dk_at dksX2_exchange_2 12 rfl rfl)
abbrev cX2_zoneOf : ByteArray := prog_17_method_4_code
def yX2_zoneOf : MethodName := ⟨RX2, "zoneOf", "(I)I"⟩
def dkwX2_zoneOf_0 : List UInt8 := [26, 6, 108, 172]
abbrev dktX2_zoneOf_0 : List UInt8 := dkwX2_zoneOf_0 ++ []
theorem dksX2_zoneOf_0 : cX2_zoneOf.data.toList.drop 0 = dktX2_zoneOf_0 := by decide +kernel
theorem dX2_zoneOf_0 : decode cX2_zoneOf 0 = .ok (.iload_n 0, 1) := dk_26 (dk_at dksX2_zoneOf_0 0 rfl rfl)
theorem dX2_zoneOf_1 : decode cX2_zoneOf 1 = .ok (.iconst 3, 1) := dk_6 (dk_at dksX2_zoneOf_0 1 rfl rfl)
theorem dX2_zoneOf_2 : decode cX2_zoneOf 2 = .ok (.idiv, 1) := dk_108 (dk_at dksX2_zoneOf_0 2 rfl rfl)
theorem dX2_zoneOf_3 : decode cX2_zoneOf 3 = .ok (.ireturn, 1) := dk_172 (dk_at dksX2_zoneOf_0 3 rfl rfl)
abbrev cX2_giveHeat : ByteArray := prog_17_method_27_code
def yX2_giveHeat : MethodName := ⟨RX2, "giveHeat", "([I)V"⟩
def dkwX2_giveHeat_2 : List UInt8 := [132, 2, 1, 167, 255, 208, 177]
abbrev dktX2_giveHeat_2 : List UInt8 := dkwX2_giveHeat_2 ++ []
def dkwX2_giveHeat_1 : List UInt8 := [180, 0, 54, 29, 92, 46, 42, 180, 0, 17, 28, 50, 180, 1, 63, 43, 29, 46, 100, 184, 1, 66, 96, 79]
abbrev dktX2_giveHeat_1 : List UInt8 := dkwX2_giveHeat_1 ++ dktX2_giveHeat_2
def dkwX2_giveHeat_0 : List UInt8 := [3, 61, 28, 16, 24, 162, 0, 48, 42, 180, 0, 17, 28, 50, 198, 0, 33, 28, 184, 1, 20, 62, 42]
abbrev dktX2_giveHeat_0 : List UInt8 := dkwX2_giveHeat_0 ++ dktX2_giveHeat_1
theorem dksX2_giveHeat_0 : cX2_giveHeat.data.toList.drop 0 = dktX2_giveHeat_0 := by decide +kernel
theorem dksX2_giveHeat_1 : cX2_giveHeat.data.toList.drop 23 = dktX2_giveHeat_1 := dk_seg dksX2_giveHeat_0 23 rfl rfl
theorem dksX2_giveHeat_2 : cX2_giveHeat.data.toList.drop 47 = dktX2_giveHeat_2 := dk_seg dksX2_giveHeat_1 24 rfl rfl
theorem dX2_giveHeat_0 : decode cX2_giveHeat 0 = .ok (.iconst 0, 1) := dk_3 (dk_at dksX2_giveHeat_0 0 rfl rfl)
theorem dX2_giveHeat_1 : decode cX2_giveHeat 1 = .ok (.istore_n 2, 1) := dk_61 (dk_at dksX2_giveHeat_0 1 rfl rfl)
theorem dX2_giveHeat_2 : decode cX2_giveHeat 2 = .ok (.iload_n 2, 1) := dk_28 (dk_at dksX2_giveHeat_0 2 rfl rfl)
theorem dX2_giveHeat_3 : decode cX2_giveHeat 3 = .ok (.bipush 24, 2) := dk_16 24 (dk_at dksX2_giveHeat_0 3 rfl rfl)
theorem dX2_giveHeat_5 : decode cX2_giveHeat 5 = .ok (.if_icmp .ge 48, 3) := dk_162 0 48 (dk_at dksX2_giveHeat_0 5 rfl rfl)
theorem dX2_giveHeat_8 : decode cX2_giveHeat 8 = .ok (.aload_n 0, 1) := dk_42 (dk_at dksX2_giveHeat_0 8 rfl rfl)
theorem dX2_giveHeat_9 : decode cX2_giveHeat 9 = .ok (.getfield 17, 3) := dk_180 0 17 (dk_at dksX2_giveHeat_0 9 rfl rfl)
theorem dX2_giveHeat_12 : decode cX2_giveHeat 12 = .ok (.iload_n 2, 1) := dk_28 (dk_at dksX2_giveHeat_0 12 rfl rfl)
theorem dX2_giveHeat_13 : decode cX2_giveHeat 13 = .ok (.aaload, 1) := dk_50 (dk_at dksX2_giveHeat_0 13 rfl rfl)
theorem dX2_giveHeat_14 : decode cX2_giveHeat 14 = .ok (.ifnull 33, 3) := dk_198 0 33 (dk_at dksX2_giveHeat_0 14 rfl rfl)
theorem dX2_giveHeat_17 : decode cX2_giveHeat 17 = .ok (.iload_n 2, 1) := dk_28 (dk_at dksX2_giveHeat_0 17 rfl rfl)
theorem dX2_giveHeat_18 : decode cX2_giveHeat 18 = .ok (.invokestatic 276, 3) := dk_184 1 20 (dk_at dksX2_giveHeat_0 18 rfl rfl)
theorem dX2_giveHeat_21 : decode cX2_giveHeat 21 = .ok (.istore_n 3, 1) := dk_62 (dk_at dksX2_giveHeat_0 21 rfl rfl)
theorem dX2_giveHeat_22 : decode cX2_giveHeat 22 = .ok (.aload_n 0, 1) := dk_42 (dk_at dksX2_giveHeat_0 22 rfl rfl)
theorem dX2_giveHeat_23 : decode cX2_giveHeat 23 = .ok (.getfield 54, 3) := dk_180 0 54 (dk_at dksX2_giveHeat_1 0 rfl rfl)
theorem dX2_giveHeat_26 : decode cX2_giveHeat 26 = .ok (.iload_n 3, 1) := dk_29 (dk_at dksX2_giveHeat_1 3 rfl rfl)
theorem dX2_giveHeat_27 : decode cX2_giveHeat 27 = .ok (.dup2, 1) := dk_92 (dk_at dksX2_giveHeat_1 4 rfl rfl)
theorem dX2_giveHeat_28 : decode cX2_giveHeat 28 = .ok (.iaload, 1) := dk_46 (dk_at dksX2_giveHeat_1 5 rfl rfl)
theorem dX2_giveHeat_29 : decode cX2_giveHeat 29 = .ok (.aload_n 0, 1) := dk_42 (dk_at dksX2_giveHeat_1 6 rfl rfl)
theorem dX2_giveHeat_30 : decode cX2_giveHeat 30 = .ok (.getfield 17, 3) := dk_180 0 17 (dk_at dksX2_giveHeat_1 7 rfl rfl)
theorem dX2_giveHeat_33 : decode cX2_giveHeat 33 = .ok (.iload_n 2, 1) := dk_28 (dk_at dksX2_giveHeat_1 10 rfl rfl)
theorem dX2_giveHeat_34 : decode cX2_giveHeat 34 = .ok (.aaload, 1) := dk_50 (dk_at dksX2_giveHeat_1 11 rfl rfl)
theorem dX2_giveHeat_35 : decode cX2_giveHeat 35 = .ok (.getfield 319, 3) := dk_180 1 63 (dk_at dksX2_giveHeat_1 12 rfl rfl)
theorem dX2_giveHeat_38 : decode cX2_giveHeat 38 = .ok (.aload_n 1, 1) := dk_43 (dk_at dksX2_giveHeat_1 15 rfl rfl)
theorem dX2_giveHeat_39 : decode cX2_giveHeat 39 = .ok (.iload_n 3, 1) := dk_29 (dk_at dksX2_giveHeat_1 16 rfl rfl)
theorem dX2_giveHeat_40 : decode cX2_giveHeat 40 = .ok (.iaload, 1) := dk_46 (dk_at dksX2_giveHeat_1 17 rfl rfl)
theorem dX2_giveHeat_41 : decode cX2_giveHeat 41 = .ok (.isub, 1) := dk_100 (dk_at dksX2_giveHeat_1 18 rfl rfl)
theorem dX2_giveHeat_42 : decode cX2_giveHeat 42 = .ok (.invokestatic 322, 3) := dk_184 1 66 (dk_at dksX2_giveHeat_1 19 rfl rfl)
theorem dX2_giveHeat_45 : decode cX2_giveHeat 45 = .ok (.iadd, 1) := dk_96 (dk_at dksX2_giveHeat_1 22 rfl rfl)
theorem dX2_giveHeat_46 : decode cX2_giveHeat 46 = .ok (.iastore, 1) := dk_79 (dk_at dksX2_giveHeat_1 23 rfl rfl)
theorem dX2_giveHeat_47 : decode cX2_giveHeat 47 = .ok (.iinc 2 1, 3) := dk_132 2 1 (dk_at dksX2_giveHeat_2 0 rfl rfl)
theorem dX2_giveHeat_50 : decode cX2_giveHeat 50 = .ok (.goto (-48), 3) := dk_167 255 208 (dk_at dksX2_giveHeat_2 3 rfl rfl)
theorem dX2_giveHeat_53 : decode cX2_giveHeat 53 = .ok (.return_, 1) := dk_177 (dk_at dksX2_giveHeat_2 6 rfl rfl)
abbrev cX2_breakPieces : ByteArray := prog_17_method_28_code
def yX2_breakPieces : MethodName := ⟨RX2, "breakPieces", "()V"⟩
def dkwX2_breakPieces_2 : List UInt8 := [167, 255, 213, 177]
abbrev dktX2_breakPieces_2 : List UInt8 := dkwX2_breakPieces_2 ++ []
def dkwX2_breakPieces_1 : List UInt8 := [182, 1, 69, 153, 0, 16, 42, 180, 0, 60, 27, 4, 84, 42, 27, 7, 182, 1, 72, 132, 1, 1]
abbrev dktX2_breakPieces_1 : List UInt8 := dkwX2_breakPieces_1 ++ dktX2_breakPieces_2
def dkwX2_breakPieces_0 : List UInt8 := [3, 60, 27, 16, 24, 162, 0, 43, 42, 180, 0, 17, 27, 50, 198, 0, 28, 42, 180, 0, 17, 27, 50]
abbrev dktX2_breakPieces_0 : List UInt8 := dkwX2_breakPieces_0 ++ dktX2_breakPieces_1
theorem dksX2_breakPieces_0 : cX2_breakPieces.data.toList.drop 0 = dktX2_breakPieces_0 := by decide +kernel
theorem dksX2_breakPieces_1 : cX2_breakPieces.data.toList.drop 23 = dktX2_breakPieces_1 := dk_seg dksX2_breakPieces_0 23 rfl rfl
theorem dksX2_breakPieces_2 : cX2_breakPieces.data.toList.drop 45 = dktX2_breakPieces_2 := dk_seg dksX2_breakPieces_1 22 rfl rfl
theorem dX2_breakPieces_0 : decode cX2_breakPieces 0 = .ok (.iconst 0, 1) := dk_3 (dk_at dksX2_breakPieces_0 0 rfl rfl)
theorem dX2_breakPieces_1 : decode cX2_breakPieces 1 = .ok (.istore_n 1, 1) := dk_60 (dk_at dksX2_breakPieces_0 1 rfl rfl)
theorem dX2_breakPieces_2 : decode cX2_breakPieces 2 = .ok (.iload_n 1, 1) := dk_27 (dk_at dksX2_breakPieces_0 2 rfl rfl)
theorem dX2_breakPieces_3 : decode cX2_breakPieces 3 = .ok (.bipush 24, 2) := dk_16 24 (dk_at dksX2_breakPieces_0 3 rfl rfl)
theorem dX2_breakPieces_5 : decode cX2_breakPieces 5 = .ok (.if_icmp .ge 43, 3) := dk_162 0 43 (dk_at dksX2_breakPieces_0 5 rfl rfl)
theorem dX2_breakPieces_8 : decode cX2_breakPieces 8 = .ok (.aload_n 0, 1) := dk_42 (dk_at dksX2_breakPieces_0 8 rfl rfl)
theorem dX2_breakPieces_9 : decode cX2_breakPieces 9 = .ok (.getfield 17, 3) := dk_180 0 17 (dk_at dksX2_breakPieces_0 9 rfl rfl)
theorem dX2_breakPieces_12 : decode cX2_breakPieces 12 = .ok (.iload_n 1, 1) := dk_27 (dk_at dksX2_breakPieces_0 12 rfl rfl)
theorem dX2_breakPieces_13 : decode cX2_breakPieces 13 = .ok (.aaload, 1) := dk_50 (dk_at dksX2_breakPieces_0 13 rfl rfl)
theorem dX2_breakPieces_14 : decode cX2_breakPieces 14 = .ok (.ifnull 28, 3) := dk_198 0 28 (dk_at dksX2_breakPieces_0 14 rfl rfl)
theorem dX2_breakPieces_17 : decode cX2_breakPieces 17 = .ok (.aload_n 0, 1) := dk_42 (dk_at dksX2_breakPieces_0 17 rfl rfl)
theorem dX2_breakPieces_18 : decode cX2_breakPieces 18 = .ok (.getfield 17, 3) := dk_180 0 17 (dk_at dksX2_breakPieces_0 18 rfl rfl)
theorem dX2_breakPieces_21 : decode cX2_breakPieces 21 = .ok (.iload_n 1, 1) := dk_27 (dk_at dksX2_breakPieces_0 21 rfl rfl)
theorem dX2_breakPieces_22 : decode cX2_breakPieces 22 = .ok (.aaload, 1) := dk_50 (dk_at dksX2_breakPieces_0 22 rfl rfl)
theorem dX2_breakPieces_23 : decode cX2_breakPieces 23 = .ok (.invokevirtual 325, 3) := dk_182 1 69 (dk_at dksX2_breakPieces_1 0 rfl rfl)
theorem dX2_breakPieces_26 : decode cX2_breakPieces 26 = .ok (.ifCond .eq 16, 3) := dk_153 0 16 (dk_at dksX2_breakPieces_1 3 rfl rfl)
theorem dX2_breakPieces_29 : decode cX2_breakPieces 29 = .ok (.aload_n 0, 1) := dk_42 (dk_at dksX2_breakPieces_1 6 rfl rfl)
theorem dX2_breakPieces_30 : decode cX2_breakPieces 30 = .ok (.getfield 60, 3) := dk_180 0 60 (dk_at dksX2_breakPieces_1 7 rfl rfl)
theorem dX2_breakPieces_33 : decode cX2_breakPieces 33 = .ok (.iload_n 1, 1) := dk_27 (dk_at dksX2_breakPieces_1 10 rfl rfl)
theorem dX2_breakPieces_34 : decode cX2_breakPieces 34 = .ok (.iconst 1, 1) := dk_4 (dk_at dksX2_breakPieces_1 11 rfl rfl)
theorem dX2_breakPieces_35 : decode cX2_breakPieces 35 = .ok (.bastore, 1) := dk_84 (dk_at dksX2_breakPieces_1 12 rfl rfl)
theorem dX2_breakPieces_36 : decode cX2_breakPieces 36 = .ok (.aload_n 0, 1) := dk_42 (dk_at dksX2_breakPieces_1 13 rfl rfl)
theorem dX2_breakPieces_37 : decode cX2_breakPieces 37 = .ok (.iload_n 1, 1) := dk_27 (dk_at dksX2_breakPieces_1 14 rfl rfl)
theorem dX2_breakPieces_38 : decode cX2_breakPieces 38 = .ok (.iconst 4, 1) := dk_7 (dk_at dksX2_breakPieces_1 15 rfl rfl)
theorem dX2_breakPieces_39 : decode cX2_breakPieces 39 = .ok (.invokevirtual 328, 3) := dk_182 1 72 (dk_at dksX2_breakPieces_1 16 rfl rfl)
theorem dX2_breakPieces_42 : decode cX2_breakPieces 42 = .ok (.iinc 1 1, 3) := dk_132 1 1 (dk_at dksX2_breakPieces_1 19 rfl rfl)
theorem dX2_breakPieces_45 : decode cX2_breakPieces 45 = .ok (.goto (-43), 3) := dk_167 255 213 (dk_at dksX2_breakPieces_2 0 rfl rfl)
theorem dX2_breakPieces_48 : decode cX2_breakPieces 48 = .ok (.return_, 1) := dk_177 (dk_at dksX2_breakPieces_2 3 rfl rfl)
abbrev cX2_leave : ByteArray := prog_17_method_29_code
def yX2_leave : MethodName := ⟨RX2, "leave", "(II)V"⟩
def dkwX2_leave_3 : List UInt8 := [185, 0, 102, 2, 0, 192, 0, 106, 180, 1, 79, 28, 92, 46, 4, 96, 79, 177]
abbrev dktX2_leave_3 : List UInt8 := dkwX2_leave_3 ++ []
def dkwX2_leave_2 : List UInt8 := [180, 0, 141, 185, 1, 75, 2, 0, 87, 42, 180, 0, 24, 45, 180, 0, 141, 180, 1, 76]
abbrev dktX2_leave_2 : List UInt8 := dkwX2_leave_2 ++ dktX2_leave_3
def dkwX2_leave_1 : List UInt8 := [185, 0, 242, 2, 0, 87, 42, 180, 0, 38, 28, 4, 100, 185, 0, 102, 2, 0, 192, 1, 1, 45]
abbrev dktX2_leave_1 : List UInt8 := dkwX2_leave_1 ++ dktX2_leave_2
def dkwX2_leave_0 : List UInt8 := [42, 180, 0, 17, 27, 50, 78, 42, 180, 0, 17, 27, 1, 83, 42, 180, 0, 34, 45, 180, 0, 141]
abbrev dktX2_leave_0 : List UInt8 := dkwX2_leave_0 ++ dktX2_leave_1
theorem dksX2_leave_0 : cX2_leave.data.toList.drop 0 = dktX2_leave_0 := by decide +kernel
theorem dksX2_leave_1 : cX2_leave.data.toList.drop 22 = dktX2_leave_1 := dk_seg dksX2_leave_0 22 rfl rfl
theorem dksX2_leave_2 : cX2_leave.data.toList.drop 44 = dktX2_leave_2 := dk_seg dksX2_leave_1 22 rfl rfl
theorem dksX2_leave_3 : cX2_leave.data.toList.drop 64 = dktX2_leave_3 := dk_seg dksX2_leave_2 20 rfl rfl
theorem dX2_leave_0 : decode cX2_leave 0 = .ok (.aload_n 0, 1) := dk_42 (dk_at dksX2_leave_0 0 rfl rfl)
theorem dX2_leave_1 : decode cX2_leave 1 = .ok (.getfield 17, 3) := dk_180 0 17 (dk_at dksX2_leave_0 1 rfl rfl)
theorem dX2_leave_4 : decode cX2_leave 4 = .ok (.iload_n 1, 1) := dk_27 (dk_at dksX2_leave_0 4 rfl rfl)
theorem dX2_leave_5 : decode cX2_leave 5 = .ok (.aaload, 1) := dk_50 (dk_at dksX2_leave_0 5 rfl rfl)
theorem dX2_leave_6 : decode cX2_leave 6 = .ok (.astore_n 3, 1) := dk_78 (dk_at dksX2_leave_0 6 rfl rfl)
theorem dX2_leave_7 : decode cX2_leave 7 = .ok (.aload_n 0, 1) := dk_42 (dk_at dksX2_leave_0 7 rfl rfl)
theorem dX2_leave_8 : decode cX2_leave 8 = .ok (.getfield 17, 3) := dk_180 0 17 (dk_at dksX2_leave_0 8 rfl rfl)
theorem dX2_leave_11 : decode cX2_leave 11 = .ok (.iload_n 1, 1) := dk_27 (dk_at dksX2_leave_0 11 rfl rfl)
theorem dX2_leave_12 : decode cX2_leave 12 = .ok (.aconst_null, 1) := dk_1 (dk_at dksX2_leave_0 12 rfl rfl)
theorem dX2_leave_13 : decode cX2_leave 13 = .ok (.aastore, 1) := dk_83 (dk_at dksX2_leave_0 13 rfl rfl)
theorem dX2_leave_14 : decode cX2_leave 14 = .ok (.aload_n 0, 1) := dk_42 (dk_at dksX2_leave_0 14 rfl rfl)
theorem dX2_leave_15 : decode cX2_leave 15 = .ok (.getfield 34, 3) := dk_180 0 34 (dk_at dksX2_leave_0 15 rfl rfl)
theorem dX2_leave_18 : decode cX2_leave 18 = .ok (.aload_n 3, 1) := dk_45 (dk_at dksX2_leave_0 18 rfl rfl)
theorem dX2_leave_19 : decode cX2_leave 19 = .ok (.getfield 141, 3) := dk_180 0 141 (dk_at dksX2_leave_0 19 rfl rfl)
theorem dX2_leave_22 : decode cX2_leave 22 = .ok (.invokeinterface 242 2, 5) := by decide +kernel
theorem dX2_leave_27 : decode cX2_leave 27 = .ok (.pop, 1) := dk_87 (dk_at dksX2_leave_1 5 rfl rfl)
theorem dX2_leave_28 : decode cX2_leave 28 = .ok (.aload_n 0, 1) := dk_42 (dk_at dksX2_leave_1 6 rfl rfl)
theorem dX2_leave_29 : decode cX2_leave 29 = .ok (.getfield 38, 3) := dk_180 0 38 (dk_at dksX2_leave_1 7 rfl rfl)
theorem dX2_leave_32 : decode cX2_leave 32 = .ok (.iload_n 2, 1) := dk_28 (dk_at dksX2_leave_1 10 rfl rfl)
theorem dX2_leave_33 : decode cX2_leave 33 = .ok (.iconst 1, 1) := dk_4 (dk_at dksX2_leave_1 11 rfl rfl)
theorem dX2_leave_34 : decode cX2_leave 34 = .ok (.isub, 1) := dk_100 (dk_at dksX2_leave_1 12 rfl rfl)
theorem dX2_leave_35 : decode cX2_leave 35 = .ok (.invokeinterface 102 2, 5) := by decide +kernel
theorem dX2_leave_40 : decode cX2_leave 40 = .ok (.checkcast 257, 3) := dk_192 1 1 (dk_at dksX2_leave_1 18 rfl rfl)
theorem dX2_leave_43 : decode cX2_leave 43 = .ok (.aload_n 3, 1) := dk_45 (dk_at dksX2_leave_1 21 rfl rfl)
theorem dX2_leave_44 : decode cX2_leave 44 = .ok (.getfield 141, 3) := dk_180 0 141 (dk_at dksX2_leave_2 0 rfl rfl)
theorem dX2_leave_47 : decode cX2_leave 47 = .ok (.invokeinterface 331 2, 5) := by decide +kernel
theorem dX2_leave_52 : decode cX2_leave 52 = .ok (.pop, 1) := dk_87 (dk_at dksX2_leave_2 8 rfl rfl)
theorem dX2_leave_53 : decode cX2_leave 53 = .ok (.aload_n 0, 1) := dk_42 (dk_at dksX2_leave_2 9 rfl rfl)
theorem dX2_leave_54 : decode cX2_leave 54 = .ok (.getfield 24, 3) := dk_180 0 24 (dk_at dksX2_leave_2 10 rfl rfl)
theorem dX2_leave_57 : decode cX2_leave 57 = .ok (.aload_n 3, 1) := dk_45 (dk_at dksX2_leave_2 13 rfl rfl)
theorem dX2_leave_58 : decode cX2_leave 58 = .ok (.getfield 141, 3) := dk_180 0 141 (dk_at dksX2_leave_2 14 rfl rfl)
theorem dX2_leave_61 : decode cX2_leave 61 = .ok (.getfield 332, 3) := dk_180 1 76 (dk_at dksX2_leave_2 17 rfl rfl)
theorem dX2_leave_64 : decode cX2_leave 64 = .ok (.invokeinterface 102 2, 5) := by decide +kernel
theorem dX2_leave_69 : decode cX2_leave 69 = .ok (.checkcast 106, 3) := dk_192 0 106 (dk_at dksX2_leave_3 5 rfl rfl)
theorem dX2_leave_72 : decode cX2_leave 72 = .ok (.getfield 335, 3) := dk_180 1 79 (dk_at dksX2_leave_3 8 rfl rfl)
theorem dX2_leave_75 : decode cX2_leave 75 = .ok (.iload_n 2, 1) := dk_28 (dk_at dksX2_leave_3 11 rfl rfl)
theorem dX2_leave_76 : decode cX2_leave 76 = .ok (.dup2, 1) := dk_92 (dk_at dksX2_leave_3 12 rfl rfl)
theorem dX2_leave_77 : decode cX2_leave 77 = .ok (.iaload, 1) := dk_46 (dk_at dksX2_leave_3 13 rfl rfl)
theorem dX2_leave_78 : decode cX2_leave 78 = .ok (.iconst 1, 1) := dk_4 (dk_at dksX2_leave_3 14 rfl rfl)
theorem dX2_leave_79 : decode cX2_leave 79 = .ok (.iadd, 1) := dk_96 (dk_at dksX2_leave_3 15 rfl rfl)
theorem dX2_leave_80 : decode cX2_leave 80 = .ok (.iastore, 1) := dk_79 (dk_at dksX2_leave_3 16 rfl rfl)
theorem dX2_leave_81 : decode cX2_leave 81 = .ok (.return_, 1) := dk_177 (dk_at dksX2_leave_3 17 rfl rfl)
abbrev cX2_movePiece : ByteArray := prog_17_method_31_code
def yX2_movePiece : MethodName := ⟨RX2, "movePiece", "(I)V"⟩
def dkwX2_movePiece_4 : List UInt8 := [181, 1, 82, 177]
abbrev dktX2_movePiece_4 : List UInt8 := dkwX2_movePiece_4 ++ []
def dkwX2_movePiece_3 : List UInt8 := [180, 0, 17, 27, 1, 83, 42, 180, 0, 17, 27, 4, 96, 44, 83, 44, 27, 4, 96, 181, 0, 149, 44, 3]
abbrev dktX2_movePiece_3 : List UInt8 := dkwX2_movePiece_3 ++ dktX2_movePiece_4
def dkwX2_movePiece_2 : List UInt8 := [16, 23, 160, 0, 11, 42, 44, 182, 1, 85, 167, 0, 41, 42, 27, 4, 96, 182, 1, 89, 153, 0, 31, 42]
abbrev dktX2_movePiece_2 : List UInt8 := dkwX2_movePiece_2 ++ dktX2_movePiece_3
def dkwX2_movePiece_1 : List UInt8 := [180, 0, 51, 27, 184, 1, 20, 46, 62, 29, 153, 0, 11, 44, 180, 1, 82, 29, 162, 0, 4, 177, 27]
abbrev dktX2_movePiece_1 : List UInt8 := dkwX2_movePiece_1 ++ dktX2_movePiece_2
def dkwX2_movePiece_0 : List UInt8 := [42, 180, 0, 17, 27, 50, 77, 44, 199, 0, 4, 177, 44, 89, 180, 1, 82, 4, 96, 181, 1, 82, 42]
abbrev dktX2_movePiece_0 : List UInt8 := dkwX2_movePiece_0 ++ dktX2_movePiece_1
theorem dksX2_movePiece_0 : cX2_movePiece.data.toList.drop 0 = dktX2_movePiece_0 := by decide +kernel
theorem dksX2_movePiece_1 : cX2_movePiece.data.toList.drop 23 = dktX2_movePiece_1 := dk_seg dksX2_movePiece_0 23 rfl rfl
theorem dksX2_movePiece_2 : cX2_movePiece.data.toList.drop 46 = dktX2_movePiece_2 := dk_seg dksX2_movePiece_1 23 rfl rfl
theorem dksX2_movePiece_3 : cX2_movePiece.data.toList.drop 70 = dktX2_movePiece_3 := dk_seg dksX2_movePiece_2 24 rfl rfl
theorem dksX2_movePiece_4 : cX2_movePiece.data.toList.drop 94 = dktX2_movePiece_4 := dk_seg dksX2_movePiece_3 24 rfl rfl
theorem dX2_movePiece_0 : decode cX2_movePiece 0 = .ok (.aload_n 0, 1) := dk_42 (dk_at dksX2_movePiece_0 0 rfl rfl)
theorem dX2_movePiece_1 : decode cX2_movePiece 1 = .ok (.getfield 17, 3) := dk_180 0 17 (dk_at dksX2_movePiece_0 1 rfl rfl)
theorem dX2_movePiece_4 : decode cX2_movePiece 4 = .ok (.iload_n 1, 1) := dk_27 (dk_at dksX2_movePiece_0 4 rfl rfl)
theorem dX2_movePiece_5 : decode cX2_movePiece 5 = .ok (.aaload, 1) := dk_50 (dk_at dksX2_movePiece_0 5 rfl rfl)
theorem dX2_movePiece_6 : decode cX2_movePiece 6 = .ok (.astore_n 2, 1) := dk_77 (dk_at dksX2_movePiece_0 6 rfl rfl)
theorem dX2_movePiece_7 : decode cX2_movePiece 7 = .ok (.aload_n 2, 1) := dk_44 (dk_at dksX2_movePiece_0 7 rfl rfl)
theorem dX2_movePiece_8 : decode cX2_movePiece 8 = .ok (.ifnonnull 4, 3) := dk_199 0 4 (dk_at dksX2_movePiece_0 8 rfl rfl)
theorem dX2_movePiece_11 : decode cX2_movePiece 11 = .ok (.return_, 1) := dk_177 (dk_at dksX2_movePiece_0 11 rfl rfl)
theorem dX2_movePiece_12 : decode cX2_movePiece 12 = .ok (.aload_n 2, 1) := dk_44 (dk_at dksX2_movePiece_0 12 rfl rfl)
theorem dX2_movePiece_13 : decode cX2_movePiece 13 = .ok (.dup, 1) := dk_89 (dk_at dksX2_movePiece_0 13 rfl rfl)
theorem dX2_movePiece_14 : decode cX2_movePiece 14 = .ok (.getfield 338, 3) := dk_180 1 82 (dk_at dksX2_movePiece_0 14 rfl rfl)
theorem dX2_movePiece_17 : decode cX2_movePiece 17 = .ok (.iconst 1, 1) := dk_4 (dk_at dksX2_movePiece_0 17 rfl rfl)
theorem dX2_movePiece_18 : decode cX2_movePiece 18 = .ok (.iadd, 1) := dk_96 (dk_at dksX2_movePiece_0 18 rfl rfl)
theorem dX2_movePiece_19 : decode cX2_movePiece 19 = .ok (.putfield 338, 3) := dk_181 1 82 (dk_at dksX2_movePiece_0 19 rfl rfl)
theorem dX2_movePiece_22 : decode cX2_movePiece 22 = .ok (.aload_n 0, 1) := dk_42 (dk_at dksX2_movePiece_0 22 rfl rfl)
theorem dX2_movePiece_23 : decode cX2_movePiece 23 = .ok (.getfield 51, 3) := dk_180 0 51 (dk_at dksX2_movePiece_1 0 rfl rfl)
theorem dX2_movePiece_26 : decode cX2_movePiece 26 = .ok (.iload_n 1, 1) := dk_27 (dk_at dksX2_movePiece_1 3 rfl rfl)
theorem dX2_movePiece_27 : decode cX2_movePiece 27 = .ok (.invokestatic 276, 3) := dk_184 1 20 (dk_at dksX2_movePiece_1 4 rfl rfl)
theorem dX2_movePiece_30 : decode cX2_movePiece 30 = .ok (.iaload, 1) := dk_46 (dk_at dksX2_movePiece_1 7 rfl rfl)
theorem dX2_movePiece_31 : decode cX2_movePiece 31 = .ok (.istore_n 3, 1) := dk_62 (dk_at dksX2_movePiece_1 8 rfl rfl)
theorem dX2_movePiece_32 : decode cX2_movePiece 32 = .ok (.iload_n 3, 1) := dk_29 (dk_at dksX2_movePiece_1 9 rfl rfl)
theorem dX2_movePiece_33 : decode cX2_movePiece 33 = .ok (.ifCond .eq 11, 3) := dk_153 0 11 (dk_at dksX2_movePiece_1 10 rfl rfl)
theorem dX2_movePiece_36 : decode cX2_movePiece 36 = .ok (.aload_n 2, 1) := dk_44 (dk_at dksX2_movePiece_1 13 rfl rfl)
theorem dX2_movePiece_37 : decode cX2_movePiece 37 = .ok (.getfield 338, 3) := dk_180 1 82 (dk_at dksX2_movePiece_1 14 rfl rfl)
theorem dX2_movePiece_40 : decode cX2_movePiece 40 = .ok (.iload_n 3, 1) := dk_29 (dk_at dksX2_movePiece_1 17 rfl rfl)
theorem dX2_movePiece_41 : decode cX2_movePiece 41 = .ok (.if_icmp .ge 4, 3) := dk_162 0 4 (dk_at dksX2_movePiece_1 18 rfl rfl)
theorem dX2_movePiece_44 : decode cX2_movePiece 44 = .ok (.return_, 1) := dk_177 (dk_at dksX2_movePiece_1 21 rfl rfl)
theorem dX2_movePiece_45 : decode cX2_movePiece 45 = .ok (.iload_n 1, 1) := dk_27 (dk_at dksX2_movePiece_1 22 rfl rfl)
theorem dX2_movePiece_46 : decode cX2_movePiece 46 = .ok (.bipush 23, 2) := dk_16 23 (dk_at dksX2_movePiece_2 0 rfl rfl)
theorem dX2_movePiece_48 : decode cX2_movePiece 48 = .ok (.if_icmp .ne 11, 3) := dk_160 0 11 (dk_at dksX2_movePiece_2 2 rfl rfl)
theorem dX2_movePiece_51 : decode cX2_movePiece 51 = .ok (.aload_n 0, 1) := dk_42 (dk_at dksX2_movePiece_2 5 rfl rfl)
theorem dX2_movePiece_52 : decode cX2_movePiece 52 = .ok (.aload_n 2, 1) := dk_44 (dk_at dksX2_movePiece_2 6 rfl rfl)
theorem dX2_movePiece_53 : decode cX2_movePiece 53 = .ok (.invokevirtual 341, 3) := dk_182 1 85 (dk_at dksX2_movePiece_2 7 rfl rfl)
theorem dX2_movePiece_56 : decode cX2_movePiece 56 = .ok (.goto 41, 3) := dk_167 0 41 (dk_at dksX2_movePiece_2 10 rfl rfl)
theorem dX2_movePiece_59 : decode cX2_movePiece 59 = .ok (.aload_n 0, 1) := dk_42 (dk_at dksX2_movePiece_2 13 rfl rfl)
theorem dX2_movePiece_60 : decode cX2_movePiece 60 = .ok (.iload_n 1, 1) := dk_27 (dk_at dksX2_movePiece_2 14 rfl rfl)
theorem dX2_movePiece_61 : decode cX2_movePiece 61 = .ok (.iconst 1, 1) := dk_4 (dk_at dksX2_movePiece_2 15 rfl rfl)
theorem dX2_movePiece_62 : decode cX2_movePiece 62 = .ok (.iadd, 1) := dk_96 (dk_at dksX2_movePiece_2 16 rfl rfl)
theorem dX2_movePiece_63 : decode cX2_movePiece 63 = .ok (.invokevirtual 345, 3) := dk_182 1 89 (dk_at dksX2_movePiece_2 17 rfl rfl)
theorem dX2_movePiece_66 : decode cX2_movePiece 66 = .ok (.ifCond .eq 31, 3) := dk_153 0 31 (dk_at dksX2_movePiece_2 20 rfl rfl)
theorem dX2_movePiece_69 : decode cX2_movePiece 69 = .ok (.aload_n 0, 1) := dk_42 (dk_at dksX2_movePiece_2 23 rfl rfl)
theorem dX2_movePiece_70 : decode cX2_movePiece 70 = .ok (.getfield 17, 3) := dk_180 0 17 (dk_at dksX2_movePiece_3 0 rfl rfl)
theorem dX2_movePiece_73 : decode cX2_movePiece 73 = .ok (.iload_n 1, 1) := dk_27 (dk_at dksX2_movePiece_3 3 rfl rfl)
theorem dX2_movePiece_74 : decode cX2_movePiece 74 = .ok (.aconst_null, 1) := dk_1 (dk_at dksX2_movePiece_3 4 rfl rfl)
theorem dX2_movePiece_75 : decode cX2_movePiece 75 = .ok (.aastore, 1) := dk_83 (dk_at dksX2_movePiece_3 5 rfl rfl)
theorem dX2_movePiece_76 : decode cX2_movePiece 76 = .ok (.aload_n 0, 1) := dk_42 (dk_at dksX2_movePiece_3 6 rfl rfl)
theorem dX2_movePiece_77 : decode cX2_movePiece 77 = .ok (.getfield 17, 3) := dk_180 0 17 (dk_at dksX2_movePiece_3 7 rfl rfl)
theorem dX2_movePiece_80 : decode cX2_movePiece 80 = .ok (.iload_n 1, 1) := dk_27 (dk_at dksX2_movePiece_3 10 rfl rfl)
theorem dX2_movePiece_81 : decode cX2_movePiece 81 = .ok (.iconst 1, 1) := dk_4 (dk_at dksX2_movePiece_3 11 rfl rfl)
theorem dX2_movePiece_82 : decode cX2_movePiece 82 = .ok (.iadd, 1) := dk_96 (dk_at dksX2_movePiece_3 12 rfl rfl)
theorem dX2_movePiece_83 : decode cX2_movePiece 83 = .ok (.aload_n 2, 1) := dk_44 (dk_at dksX2_movePiece_3 13 rfl rfl)
theorem dX2_movePiece_84 : decode cX2_movePiece 84 = .ok (.aastore, 1) := dk_83 (dk_at dksX2_movePiece_3 14 rfl rfl)
theorem dX2_movePiece_85 : decode cX2_movePiece 85 = .ok (.aload_n 2, 1) := dk_44 (dk_at dksX2_movePiece_3 15 rfl rfl)
theorem dX2_movePiece_86 : decode cX2_movePiece 86 = .ok (.iload_n 1, 1) := dk_27 (dk_at dksX2_movePiece_3 16 rfl rfl)
theorem dX2_movePiece_87 : decode cX2_movePiece 87 = .ok (.iconst 1, 1) := dk_4 (dk_at dksX2_movePiece_3 17 rfl rfl)
theorem dX2_movePiece_88 : decode cX2_movePiece 88 = .ok (.iadd, 1) := dk_96 (dk_at dksX2_movePiece_3 18 rfl rfl)
theorem dX2_movePiece_89 : decode cX2_movePiece 89 = .ok (.putfield 149, 3) := dk_181 0 149 (dk_at dksX2_movePiece_3 19 rfl rfl)
theorem dX2_movePiece_92 : decode cX2_movePiece 92 = .ok (.aload_n 2, 1) := dk_44 (dk_at dksX2_movePiece_3 22 rfl rfl)
theorem dX2_movePiece_93 : decode cX2_movePiece 93 = .ok (.iconst 0, 1) := dk_3 (dk_at dksX2_movePiece_3 23 rfl rfl)
theorem dX2_movePiece_94 : decode cX2_movePiece 94 = .ok (.putfield 338, 3) := dk_181 1 82 (dk_at dksX2_movePiece_4 0 rfl rfl)
theorem dX2_movePiece_97 : decode cX2_movePiece 97 = .ok (.return_, 1) := dk_177 (dk_at dksX2_movePiece_4 3 rfl rfl)
abbrev cX2_comeOut : ByteArray := prog_17_method_32_code
def yX2_comeOut : MethodName := ⟨RX2, "comeOut", "(LAnnealingLehr$Piece;)V"⟩
def dkwX2_comeOut_1 : List UInt8 := [43, 180, 0, 141, 180, 1, 76, 185, 0, 102, 2, 0, 192, 0, 106, 182, 1, 95, 177]
abbrev dktX2_comeOut_1 : List UInt8 := dkwX2_comeOut_1 ++ []
def dkwX2_comeOut_0 : List UInt8 := [43, 182, 1, 92, 61, 42, 43, 180, 0, 149, 28, 182, 1, 72, 28, 4, 160, 0, 26, 42, 42, 180, 0, 24]
abbrev dktX2_comeOut_0 : List UInt8 := dkwX2_comeOut_0 ++ dktX2_comeOut_1
theorem dksX2_comeOut_0 : cX2_comeOut.data.toList.drop 0 = dktX2_comeOut_0 := by decide +kernel
theorem dksX2_comeOut_1 : cX2_comeOut.data.toList.drop 24 = dktX2_comeOut_1 := dk_seg dksX2_comeOut_0 24 rfl rfl
theorem dX2_comeOut_0 : decode cX2_comeOut 0 = .ok (.aload_n 1, 1) := dk_43 (dk_at dksX2_comeOut_0 0 rfl rfl)
theorem dX2_comeOut_1 : decode cX2_comeOut 1 = .ok (.invokevirtual 348, 3) := dk_182 1 92 (dk_at dksX2_comeOut_0 1 rfl rfl)
theorem dX2_comeOut_4 : decode cX2_comeOut 4 = .ok (.istore_n 2, 1) := dk_61 (dk_at dksX2_comeOut_0 4 rfl rfl)
theorem dX2_comeOut_5 : decode cX2_comeOut 5 = .ok (.aload_n 0, 1) := dk_42 (dk_at dksX2_comeOut_0 5 rfl rfl)
theorem dX2_comeOut_6 : decode cX2_comeOut 6 = .ok (.aload_n 1, 1) := dk_43 (dk_at dksX2_comeOut_0 6 rfl rfl)
theorem dX2_comeOut_7 : decode cX2_comeOut 7 = .ok (.getfield 149, 3) := dk_180 0 149 (dk_at dksX2_comeOut_0 7 rfl rfl)
theorem dX2_comeOut_10 : decode cX2_comeOut 10 = .ok (.iload_n 2, 1) := dk_28 (dk_at dksX2_comeOut_0 10 rfl rfl)
theorem dX2_comeOut_11 : decode cX2_comeOut 11 = .ok (.invokevirtual 328, 3) := dk_182 1 72 (dk_at dksX2_comeOut_0 11 rfl rfl)
theorem dX2_comeOut_14 : decode cX2_comeOut 14 = .ok (.iload_n 2, 1) := dk_28 (dk_at dksX2_comeOut_0 14 rfl rfl)
theorem dX2_comeOut_15 : decode cX2_comeOut 15 = .ok (.iconst 1, 1) := dk_4 (dk_at dksX2_comeOut_0 15 rfl rfl)
theorem dX2_comeOut_16 : decode cX2_comeOut 16 = .ok (.if_icmp .ne 26, 3) := dk_160 0 26 (dk_at dksX2_comeOut_0 16 rfl rfl)
theorem dX2_comeOut_19 : decode cX2_comeOut 19 = .ok (.aload_n 0, 1) := dk_42 (dk_at dksX2_comeOut_0 19 rfl rfl)
theorem dX2_comeOut_20 : decode cX2_comeOut 20 = .ok (.aload_n 0, 1) := dk_42 (dk_at dksX2_comeOut_0 20 rfl rfl)
theorem dX2_comeOut_21 : decode cX2_comeOut 21 = .ok (.getfield 24, 3) := dk_180 0 24 (dk_at dksX2_comeOut_0 21 rfl rfl)
theorem dX2_comeOut_24 : decode cX2_comeOut 24 = .ok (.aload_n 1, 1) := dk_43 (dk_at dksX2_comeOut_1 0 rfl rfl)
theorem dX2_comeOut_25 : decode cX2_comeOut 25 = .ok (.getfield 141, 3) := dk_180 0 141 (dk_at dksX2_comeOut_1 1 rfl rfl)
theorem dX2_comeOut_28 : decode cX2_comeOut 28 = .ok (.getfield 332, 3) := dk_180 1 76 (dk_at dksX2_comeOut_1 4 rfl rfl)
theorem dX2_comeOut_31 : decode cX2_comeOut 31 = .ok (.invokeinterface 102 2, 5) := by decide +kernel
theorem dX2_comeOut_36 : decode cX2_comeOut 36 = .ok (.checkcast 106, 3) := dk_192 0 106 (dk_at dksX2_comeOut_1 12 rfl rfl)
theorem dX2_comeOut_39 : decode cX2_comeOut 39 = .ok (.invokevirtual 351, 3) := dk_182 1 95 (dk_at dksX2_comeOut_1 15 rfl rfl)
theorem dX2_comeOut_42 : decode cX2_comeOut 42 = .ok (.return_, 1) := dk_177 (dk_at dksX2_comeOut_1 18 rfl rfl)
abbrev cX2_deliver : ByteArray := prog_17_method_33_code
def yX2_deliver : MethodName := ⟨RX2, "deliver", "(LAnnealingLehr$Lot;)V"⟩
def dkwX2_deliver_4 : List UInt8 := [180, 0, 82, 182, 0, 224, 96, 181, 0, 221, 177]
abbrev dktX2_deliver_4 : List UInt8 := dkwX2_deliver_4 ++ []
def dkwX2_deliver_3 : List UInt8 := [44, 199, 0, 16, 43, 89, 180, 0, 214, 4, 96, 181, 0, 214, 167, 0, 20, 43, 89, 180, 0, 221, 44, 42]
abbrev dktX2_deliver_3 : List UInt8 := dkwX2_deliver_3 ++ dktX2_deliver_4
def dkwX2_deliver_2 : List UInt8 := [198, 0, 15, 25, 4, 180, 1, 99, 44, 180, 1, 99, 162, 0, 6, 25, 4, 77, 132, 3, 1, 167, 255, 194]
abbrev dktX2_deliver_2 : List UInt8 := dkwX2_deliver_2 ++ dktX2_deliver_3
def dkwX2_deliver_1 : List UInt8 := [185, 0, 102, 2, 0, 192, 0, 112, 58, 4, 25, 4, 43, 180, 0, 196, 182, 0, 217, 153, 0, 22, 44]
abbrev dktX2_deliver_1 : List UInt8 := dkwX2_deliver_1 ++ dktX2_deliver_2
def dkwX2_deliver_0 : List UInt8 := [1, 77, 3, 62, 29, 42, 180, 0, 28, 185, 0, 98, 1, 0, 162, 0, 55, 42, 180, 0, 28, 29]
abbrev dktX2_deliver_0 : List UInt8 := dkwX2_deliver_0 ++ dktX2_deliver_1
theorem dksX2_deliver_0 : cX2_deliver.data.toList.drop 0 = dktX2_deliver_0 := by decide +kernel
theorem dksX2_deliver_1 : cX2_deliver.data.toList.drop 22 = dktX2_deliver_1 := dk_seg dksX2_deliver_0 22 rfl rfl
theorem dksX2_deliver_2 : cX2_deliver.data.toList.drop 45 = dktX2_deliver_2 := dk_seg dksX2_deliver_1 23 rfl rfl
theorem dksX2_deliver_3 : cX2_deliver.data.toList.drop 69 = dktX2_deliver_3 := dk_seg dksX2_deliver_2 24 rfl rfl
theorem dksX2_deliver_4 : cX2_deliver.data.toList.drop 93 = dktX2_deliver_4 := dk_seg dksX2_deliver_3 24 rfl rfl
theorem dX2_deliver_0 : decode cX2_deliver 0 = .ok (.aconst_null, 1) := dk_1 (dk_at dksX2_deliver_0 0 rfl rfl)
theorem dX2_deliver_1 : decode cX2_deliver 1 = .ok (.astore_n 2, 1) := dk_77 (dk_at dksX2_deliver_0 1 rfl rfl)
theorem dX2_deliver_2 : decode cX2_deliver 2 = .ok (.iconst 0, 1) := dk_3 (dk_at dksX2_deliver_0 2 rfl rfl)
theorem dX2_deliver_3 : decode cX2_deliver 3 = .ok (.istore_n 3, 1) := dk_62 (dk_at dksX2_deliver_0 3 rfl rfl)
theorem dX2_deliver_4 : decode cX2_deliver 4 = .ok (.iload_n 3, 1) := dk_29 (dk_at dksX2_deliver_0 4 rfl rfl)
theorem dX2_deliver_5 : decode cX2_deliver 5 = .ok (.aload_n 0, 1) := dk_42 (dk_at dksX2_deliver_0 5 rfl rfl)
theorem dX2_deliver_6 : decode cX2_deliver 6 = .ok (.getfield 28, 3) := dk_180 0 28 (dk_at dksX2_deliver_0 6 rfl rfl)
theorem dX2_deliver_9 : decode cX2_deliver 9 = .ok (.invokeinterface 98 1, 5) := by decide +kernel
theorem dX2_deliver_14 : decode cX2_deliver 14 = .ok (.if_icmp .ge 55, 3) := dk_162 0 55 (dk_at dksX2_deliver_0 14 rfl rfl)
theorem dX2_deliver_17 : decode cX2_deliver 17 = .ok (.aload_n 0, 1) := dk_42 (dk_at dksX2_deliver_0 17 rfl rfl)
theorem dX2_deliver_18 : decode cX2_deliver 18 = .ok (.getfield 28, 3) := dk_180 0 28 (dk_at dksX2_deliver_0 18 rfl rfl)
theorem dX2_deliver_21 : decode cX2_deliver 21 = .ok (.iload_n 3, 1) := dk_29 (dk_at dksX2_deliver_0 21 rfl rfl)
theorem dX2_deliver_22 : decode cX2_deliver 22 = .ok (.invokeinterface 102 2, 5) := by decide +kernel
theorem dX2_deliver_27 : decode cX2_deliver 27 = .ok (.checkcast 112, 3) := dk_192 0 112 (dk_at dksX2_deliver_1 5 rfl rfl)
theorem dX2_deliver_30 : decode cX2_deliver 30 = .ok (.astore 4, 2) := dk_58 4 (dk_at dksX2_deliver_1 8 rfl rfl)
theorem dX2_deliver_32 : decode cX2_deliver 32 = .ok (.aload 4, 2) := dk_25 4 (dk_at dksX2_deliver_1 10 rfl rfl)
theorem dX2_deliver_34 : decode cX2_deliver 34 = .ok (.aload_n 1, 1) := dk_43 (dk_at dksX2_deliver_1 12 rfl rfl)
theorem dX2_deliver_35 : decode cX2_deliver 35 = .ok (.getfield 196, 3) := dk_180 0 196 (dk_at dksX2_deliver_1 13 rfl rfl)
theorem dX2_deliver_38 : decode cX2_deliver 38 = .ok (.invokevirtual 217, 3) := dk_182 0 217 (dk_at dksX2_deliver_1 16 rfl rfl)
theorem dX2_deliver_41 : decode cX2_deliver 41 = .ok (.ifCond .eq 22, 3) := dk_153 0 22 (dk_at dksX2_deliver_1 19 rfl rfl)
theorem dX2_deliver_44 : decode cX2_deliver 44 = .ok (.aload_n 2, 1) := dk_44 (dk_at dksX2_deliver_1 22 rfl rfl)
theorem dX2_deliver_45 : decode cX2_deliver 45 = .ok (.ifnull 15, 3) := dk_198 0 15 (dk_at dksX2_deliver_2 0 rfl rfl)
theorem dX2_deliver_48 : decode cX2_deliver 48 = .ok (.aload 4, 2) := dk_25 4 (dk_at dksX2_deliver_2 3 rfl rfl)
theorem dX2_deliver_50 : decode cX2_deliver 50 = .ok (.getfield 355, 3) := dk_180 1 99 (dk_at dksX2_deliver_2 5 rfl rfl)
theorem dX2_deliver_53 : decode cX2_deliver 53 = .ok (.aload_n 2, 1) := dk_44 (dk_at dksX2_deliver_2 8 rfl rfl)
theorem dX2_deliver_54 : decode cX2_deliver 54 = .ok (.getfield 355, 3) := dk_180 1 99 (dk_at dksX2_deliver_2 9 rfl rfl)
theorem dX2_deliver_57 : decode cX2_deliver 57 = .ok (.if_icmp .ge 6, 3) := dk_162 0 6 (dk_at dksX2_deliver_2 12 rfl rfl)
theorem dX2_deliver_60 : decode cX2_deliver 60 = .ok (.aload 4, 2) := dk_25 4 (dk_at dksX2_deliver_2 15 rfl rfl)
theorem dX2_deliver_62 : decode cX2_deliver 62 = .ok (.astore_n 2, 1) := dk_77 (dk_at dksX2_deliver_2 17 rfl rfl)
theorem dX2_deliver_63 : decode cX2_deliver 63 = .ok (.iinc 3 1, 3) := dk_132 3 1 (dk_at dksX2_deliver_2 18 rfl rfl)
theorem dX2_deliver_66 : decode cX2_deliver 66 = .ok (.goto (-62), 3) := dk_167 255 194 (dk_at dksX2_deliver_2 21 rfl rfl)
theorem dX2_deliver_69 : decode cX2_deliver 69 = .ok (.aload_n 2, 1) := dk_44 (dk_at dksX2_deliver_3 0 rfl rfl)
theorem dX2_deliver_70 : decode cX2_deliver 70 = .ok (.ifnonnull 16, 3) := dk_199 0 16 (dk_at dksX2_deliver_3 1 rfl rfl)
theorem dX2_deliver_73 : decode cX2_deliver 73 = .ok (.aload_n 1, 1) := dk_43 (dk_at dksX2_deliver_3 4 rfl rfl)
theorem dX2_deliver_74 : decode cX2_deliver 74 = .ok (.dup, 1) := dk_89 (dk_at dksX2_deliver_3 5 rfl rfl)
theorem dX2_deliver_75 : decode cX2_deliver 75 = .ok (.getfield 214, 3) := dk_180 0 214 (dk_at dksX2_deliver_3 6 rfl rfl)
theorem dX2_deliver_78 : decode cX2_deliver 78 = .ok (.iconst 1, 1) := dk_4 (dk_at dksX2_deliver_3 9 rfl rfl)
theorem dX2_deliver_79 : decode cX2_deliver 79 = .ok (.iadd, 1) := dk_96 (dk_at dksX2_deliver_3 10 rfl rfl)
theorem dX2_deliver_80 : decode cX2_deliver 80 = .ok (.putfield 214, 3) := dk_181 0 214 (dk_at dksX2_deliver_3 11 rfl rfl)
theorem dX2_deliver_83 : decode cX2_deliver 83 = .ok (.goto 20, 3) := dk_167 0 20 (dk_at dksX2_deliver_3 14 rfl rfl)
theorem dX2_deliver_86 : decode cX2_deliver 86 = .ok (.aload_n 1, 1) := dk_43 (dk_at dksX2_deliver_3 17 rfl rfl)
theorem dX2_deliver_87 : decode cX2_deliver 87 = .ok (.dup, 1) := dk_89 (dk_at dksX2_deliver_3 18 rfl rfl)
theorem dX2_deliver_88 : decode cX2_deliver 88 = .ok (.getfield 221, 3) := dk_180 0 221 (dk_at dksX2_deliver_3 19 rfl rfl)
theorem dX2_deliver_91 : decode cX2_deliver 91 = .ok (.aload_n 2, 1) := dk_44 (dk_at dksX2_deliver_3 22 rfl rfl)
theorem dX2_deliver_92 : decode cX2_deliver 92 = .ok (.aload_n 0, 1) := dk_42 (dk_at dksX2_deliver_3 23 rfl rfl)
theorem dX2_deliver_93 : decode cX2_deliver 93 = .ok (.getfield 82, 3) := dk_180 0 82 (dk_at dksX2_deliver_4 0 rfl rfl)
theorem dX2_deliver_96 : decode cX2_deliver 96 = .ok (.invokevirtual 224, 3) := dk_182 0 224 (dk_at dksX2_deliver_4 3 rfl rfl)
theorem dX2_deliver_99 : decode cX2_deliver 99 = .ok (.iadd, 1) := dk_96 (dk_at dksX2_deliver_4 6 rfl rfl)
theorem dX2_deliver_100 : decode cX2_deliver 100 = .ok (.putfield 221, 3) := dk_181 0 221 (dk_at dksX2_deliver_4 7 rfl rfl)
theorem dX2_deliver_103 : decode cX2_deliver 103 = .ok (.return_, 1) := dk_177 (dk_at dksX2_deliver_4 10 rfl rfl)
abbrev cX2_isFree : ByteArray := prog_17_method_30_code
def yX2_isFree : MethodName := ⟨RX2, "isFree", "(I)Z"⟩
def dkwX2_isFree_0 : List UInt8 := [42, 180, 0, 17, 27, 50, 199, 0, 16, 42, 180, 0, 60, 27, 51, 154, 0, 7, 4, 167, 0, 4, 3, 172]
abbrev dktX2_isFree_0 : List UInt8 := dkwX2_isFree_0 ++ []
theorem dksX2_isFree_0 : cX2_isFree.data.toList.drop 0 = dktX2_isFree_0 := by decide +kernel
theorem dX2_isFree_0 : decode cX2_isFree 0 = .ok (.aload_n 0, 1) := dk_42 (dk_at dksX2_isFree_0 0 rfl rfl)
theorem dX2_isFree_1 : decode cX2_isFree 1 = .ok (.getfield 17, 3) := dk_180 0 17 (dk_at dksX2_isFree_0 1 rfl rfl)
theorem dX2_isFree_4 : decode cX2_isFree 4 = .ok (.iload_n 1, 1) := dk_27 (dk_at dksX2_isFree_0 4 rfl rfl)
theorem dX2_isFree_5 : decode cX2_isFree 5 = .ok (.aaload, 1) := dk_50 (dk_at dksX2_isFree_0 5 rfl rfl)
theorem dX2_isFree_6 : decode cX2_isFree 6 = .ok (.ifnonnull 16, 3) := dk_199 0 16 (dk_at dksX2_isFree_0 6 rfl rfl)
theorem dX2_isFree_9 : decode cX2_isFree 9 = .ok (.aload_n 0, 1) := dk_42 (dk_at dksX2_isFree_0 9 rfl rfl)
theorem dX2_isFree_10 : decode cX2_isFree 10 = .ok (.getfield 60, 3) := dk_180 0 60 (dk_at dksX2_isFree_0 10 rfl rfl)
theorem dX2_isFree_13 : decode cX2_isFree 13 = .ok (.iload_n 1, 1) := dk_27 (dk_at dksX2_isFree_0 13 rfl rfl)
theorem dX2_isFree_14 : decode cX2_isFree 14 = .ok (.baload, 1) := dk_51 (dk_at dksX2_isFree_0 14 rfl rfl)
theorem dX2_isFree_15 : decode cX2_isFree 15 = .ok (.ifCond .ne 7, 3) := dk_154 0 7 (dk_at dksX2_isFree_0 15 rfl rfl)
theorem dX2_isFree_18 : decode cX2_isFree 18 = .ok (.iconst 1, 1) := dk_4 (dk_at dksX2_isFree_0 18 rfl rfl)
theorem dX2_isFree_19 : decode cX2_isFree 19 = .ok (.goto 4, 3) := dk_167 0 4 (dk_at dksX2_isFree_0 19 rfl rfl)
theorem dX2_isFree_22 : decode cX2_isFree 22 = .ok (.iconst 0, 1) := dk_3 (dk_at dksX2_isFree_0 22 rfl rfl)
theorem dX2_isFree_23 : decode cX2_isFree 23 = .ok (.ireturn, 1) := dk_172 (dk_at dksX2_isFree_0 23 rfl rfl)
abbrev cX2_clean : ByteArray := prog_17_method_34_code
def yX2_clean : MethodName := ⟨RX2, "clean", "(I)V"⟩
def dkwX2_clean_1 : List UInt8 := [46, 154, 0, 15, 42, 180, 0, 60, 42, 180, 0, 64, 27, 46, 3, 84, 177]
abbrev dktX2_clean_1 : List UInt8 := dkwX2_clean_1 ++ []
def dkwX2_clean_0 : List UInt8 := [42, 180, 0, 67, 27, 46, 158, 0, 34, 42, 180, 0, 67, 27, 92, 46, 4, 100, 79, 42, 180, 0, 67, 27]
abbrev dktX2_clean_0 : List UInt8 := dkwX2_clean_0 ++ dktX2_clean_1
theorem dksX2_clean_0 : cX2_clean.data.toList.drop 0 = dktX2_clean_0 := by decide +kernel
theorem dksX2_clean_1 : cX2_clean.data.toList.drop 24 = dktX2_clean_1 := dk_seg dksX2_clean_0 24 rfl rfl
theorem dX2_clean_0 : decode cX2_clean 0 = .ok (.aload_n 0, 1) := dk_42 (dk_at dksX2_clean_0 0 rfl rfl)
theorem dX2_clean_1 : decode cX2_clean 1 = .ok (.getfield 67, 3) := dk_180 0 67 (dk_at dksX2_clean_0 1 rfl rfl)
theorem dX2_clean_4 : decode cX2_clean 4 = .ok (.iload_n 1, 1) := dk_27 (dk_at dksX2_clean_0 4 rfl rfl)
theorem dX2_clean_5 : decode cX2_clean 5 = .ok (.iaload, 1) := dk_46 (dk_at dksX2_clean_0 5 rfl rfl)
theorem dX2_clean_6 : decode cX2_clean 6 = .ok (.ifCond .le 34, 3) := dk_158 0 34 (dk_at dksX2_clean_0 6 rfl rfl)
theorem dX2_clean_9 : decode cX2_clean 9 = .ok (.aload_n 0, 1) := dk_42 (dk_at dksX2_clean_0 9 rfl rfl)
theorem dX2_clean_10 : decode cX2_clean 10 = .ok (.getfield 67, 3) := dk_180 0 67 (dk_at dksX2_clean_0 10 rfl rfl)
theorem dX2_clean_13 : decode cX2_clean 13 = .ok (.iload_n 1, 1) := dk_27 (dk_at dksX2_clean_0 13 rfl rfl)
theorem dX2_clean_14 : decode cX2_clean 14 = .ok (.dup2, 1) := dk_92 (dk_at dksX2_clean_0 14 rfl rfl)
theorem dX2_clean_15 : decode cX2_clean 15 = .ok (.iaload, 1) := dk_46 (dk_at dksX2_clean_0 15 rfl rfl)
theorem dX2_clean_16 : decode cX2_clean 16 = .ok (.iconst 1, 1) := dk_4 (dk_at dksX2_clean_0 16 rfl rfl)
theorem dX2_clean_17 : decode cX2_clean 17 = .ok (.isub, 1) := dk_100 (dk_at dksX2_clean_0 17 rfl rfl)
theorem dX2_clean_18 : decode cX2_clean 18 = .ok (.iastore, 1) := dk_79 (dk_at dksX2_clean_0 18 rfl rfl)
theorem dX2_clean_19 : decode cX2_clean 19 = .ok (.aload_n 0, 1) := dk_42 (dk_at dksX2_clean_0 19 rfl rfl)
theorem dX2_clean_20 : decode cX2_clean 20 = .ok (.getfield 67, 3) := dk_180 0 67 (dk_at dksX2_clean_0 20 rfl rfl)
theorem dX2_clean_23 : decode cX2_clean 23 = .ok (.iload_n 1, 1) := dk_27 (dk_at dksX2_clean_0 23 rfl rfl)
theorem dX2_clean_24 : decode cX2_clean 24 = .ok (.iaload, 1) := dk_46 (dk_at dksX2_clean_1 0 rfl rfl)
theorem dX2_clean_25 : decode cX2_clean 25 = .ok (.ifCond .ne 15, 3) := dk_154 0 15 (dk_at dksX2_clean_1 1 rfl rfl)
theorem dX2_clean_28 : decode cX2_clean 28 = .ok (.aload_n 0, 1) := dk_42 (dk_at dksX2_clean_1 4 rfl rfl)
theorem dX2_clean_29 : decode cX2_clean 29 = .ok (.getfield 60, 3) := dk_180 0 60 (dk_at dksX2_clean_1 5 rfl rfl)
theorem dX2_clean_32 : decode cX2_clean 32 = .ok (.aload_n 0, 1) := dk_42 (dk_at dksX2_clean_1 8 rfl rfl)
theorem dX2_clean_33 : decode cX2_clean 33 = .ok (.getfield 64, 3) := dk_180 0 64 (dk_at dksX2_clean_1 9 rfl rfl)
theorem dX2_clean_36 : decode cX2_clean 36 = .ok (.iload_n 1, 1) := dk_27 (dk_at dksX2_clean_1 12 rfl rfl)
theorem dX2_clean_37 : decode cX2_clean 37 = .ok (.iaload, 1) := dk_46 (dk_at dksX2_clean_1 13 rfl rfl)
theorem dX2_clean_38 : decode cX2_clean 38 = .ok (.iconst 0, 1) := dk_3 (dk_at dksX2_clean_1 14 rfl rfl)
theorem dX2_clean_39 : decode cX2_clean 39 = .ok (.bastore, 1) := dk_84 (dk_at dksX2_clean_1 15 rfl rfl)
theorem dX2_clean_40 : decode cX2_clean 40 = .ok (.return_, 1) := dk_177 (dk_at dksX2_clean_1 16 rfl rfl)
abbrev cX2_copy : ByteArray := prog_17_method_3_code
def yX2_copy : MethodName := ⟨RX2, "copy", "()LAnnealingLehr$State;"⟩
def dkwX2_copy_0 : List UInt8 := [187, 0, 10, 89, 42, 183, 0, 155, 176]
abbrev dktX2_copy_0 : List UInt8 := dkwX2_copy_0 ++ []
theorem dksX2_copy_0 : cX2_copy.data.toList.drop 0 = dktX2_copy_0 := by decide +kernel
theorem dX2_copy_0 : decode cX2_copy 0 = .ok (.new 10, 3) := dk_187 0 10 (dk_at dksX2_copy_0 0 rfl rfl)
theorem dX2_copy_3 : decode cX2_copy 3 = .ok (.dup, 1) := dk_89 (dk_at dksX2_copy_0 3 rfl rfl)
theorem dX2_copy_4 : decode cX2_copy 4 = .ok (.aload_n 0, 1) := dk_42 (dk_at dksX2_copy_0 4 rfl rfl)
theorem dX2_copy_5 : decode cX2_copy 5 = .ok (.invokespecial 155, 3) := dk_183 0 155 (dk_at dksX2_copy_0 5 rfl rfl)
theorem dX2_copy_8 : decode cX2_copy 8 = .ok (.areturn, 1) := dk_176 (dk_at dksX2_copy_0 8 rfl rfl)
abbrev cX2_init_2 : ByteArray := prog_17_method_2_code
def yX2_init_2 : MethodName := ⟨RX2, "<init>", "(LAnnealingLehr$State;)V"⟩
def dkwX2_init_2_19 : List UInt8 := [167, 255, 210, 177]
abbrev dktX2_init_2_19 : List UInt8 := dkwX2_init_2_19 ++ []
def dkwX2_init_2_18 : List UInt8 := [180, 0, 38, 28, 185, 0, 102, 2, 0, 192, 0, 124, 183, 0, 152, 185, 0, 76, 2, 0, 87, 132, 2, 1]
abbrev dktX2_init_2_18 : List UInt8 := dkwX2_init_2_18 ++ dktX2_init_2_19
def dkwX2_init_2_17 : List UInt8 := [61, 28, 43, 180, 0, 38, 185, 0, 98, 1, 0, 162, 0, 39, 42, 180, 0, 38, 187, 0, 73, 89, 43]
abbrev dktX2_init_2_17 : List UInt8 := dkwX2_init_2_17 ++ dktX2_init_2_18
def dkwX2_init_2_16 : List UInt8 := [25, 4, 185, 0, 145, 3, 0, 87, 42, 180, 0, 17, 25, 4, 180, 0, 149, 25, 4, 83, 167, 255, 202, 3]
abbrev dktX2_init_2_16 : List UInt8 := dkwX2_init_2_16 ++ dktX2_init_2_17
def dkwX2_init_2_15 : List UInt8 := [185, 0, 135, 1, 0, 192, 0, 15, 78, 45, 182, 0, 138, 58, 4, 42, 180, 0, 34, 25, 4, 180, 0, 141]
abbrev dktX2_init_2_15 : List UInt8 := dkwX2_init_2_15 ++ dktX2_init_2_16
def dkwX2_init_2_14 : List UInt8 := [180, 0, 34, 185, 0, 117, 1, 0, 185, 0, 123, 1, 0, 77, 44, 185, 0, 129, 1, 0, 153, 0, 51, 44]
abbrev dktX2_init_2_14 : List UInt8 := dkwX2_init_2_14 ++ dktX2_init_2_15
def dkwX2_init_2_13 : List UInt8 := [185, 0, 102, 2, 0, 192, 0, 112, 182, 0, 114, 185, 0, 76, 2, 0, 87, 132, 2, 1, 167, 255, 214, 43]
abbrev dktX2_init_2_13 : List UInt8 := dkwX2_init_2_13 ++ dktX2_init_2_14
def dkwX2_init_2_12 : List UInt8 := [180, 0, 28, 185, 0, 98, 1, 0, 162, 0, 35, 42, 180, 0, 28, 43, 180, 0, 28, 28]
abbrev dktX2_init_2_12 : List UInt8 := dkwX2_init_2_12 ++ dktX2_init_2_13
def dkwX2_init_2_11 : List UInt8 := [192, 0, 106, 182, 0, 108, 185, 0, 76, 2, 0, 87, 132, 2, 1, 167, 255, 214, 3, 61, 28, 43]
abbrev dktX2_init_2_11 : List UInt8 := dkwX2_init_2_11 ++ dktX2_init_2_12
def dkwX2_init_2_10 : List UInt8 := [185, 0, 98, 1, 0, 162, 0, 35, 42, 180, 0, 24, 43, 180, 0, 24, 28, 185, 0, 102, 2, 0]
abbrev dktX2_init_2_10 : List UInt8 := dkwX2_init_2_10 ++ dktX2_init_2_11
def dkwX2_init_2_9 : List UInt8 := [180, 0, 70, 183, 0, 95, 181, 0, 70, 42, 43, 180, 0, 41, 181, 0, 41, 3, 61, 28, 43, 180, 0, 24]
abbrev dktX2_init_2_9 : List UInt8 := dkwX2_init_2_9 ++ dktX2_init_2_10
def dkwX2_init_2_8 : List UInt8 := [181, 0, 64, 42, 43, 180, 0, 67, 182, 0, 88, 192, 0, 89, 181, 0, 67, 42, 187, 0, 31, 89, 43]
abbrev dktX2_init_2_8 : List UInt8 := dkwX2_init_2_8 ++ dktX2_init_2_9
def dkwX2_init_2_7 : List UInt8 := [43, 180, 0, 60, 182, 0, 93, 192, 0, 94, 181, 0, 60, 42, 43, 180, 0, 64, 182, 0, 88, 192, 0, 89]
abbrev dktX2_init_2_7 : List UInt8 := dkwX2_init_2_7 ++ dktX2_init_2_8
def dkwX2_init_2_6 : List UInt8 := [182, 0, 88, 192, 0, 89, 181, 0, 54, 42, 43, 180, 0, 57, 182, 0, 88, 192, 0, 89, 181, 0, 57, 42]
abbrev dktX2_init_2_6 : List UInt8 := dkwX2_init_2_6 ++ dktX2_init_2_7
def dkwX2_init_2_5 : List UInt8 := [181, 0, 48, 42, 43, 180, 0, 51, 182, 0, 88, 192, 0, 89, 181, 0, 51, 42, 43, 180, 0, 54]
abbrev dktX2_init_2_5 : List UInt8 := dkwX2_init_2_5 ++ dktX2_init_2_6
def dkwX2_init_2_4 : List UInt8 := [180, 0, 44, 182, 0, 88, 192, 0, 89, 181, 0, 44, 42, 43, 180, 0, 48, 182, 0, 88, 192, 0, 89]
abbrev dktX2_init_2_4 : List UInt8 := dkwX2_init_2_4 ++ dktX2_init_2_5
def dkwX2_init_2_3 : List UInt8 := [180, 0, 82, 181, 0, 82, 42, 43, 180, 0, 9, 181, 0, 9, 42, 43, 180, 0, 85, 181, 0, 85, 42, 43]
abbrev dktX2_init_2_3 : List UInt8 := dkwX2_init_2_3 ++ dktX2_init_2_4
def dkwX2_init_2_2 : List UInt8 := [183, 0, 33, 181, 0, 34, 42, 187, 0, 21, 89, 183, 0, 23, 181, 0, 38, 42, 2, 181, 0, 41, 42, 43]
abbrev dktX2_init_2_2 : List UInt8 := dkwX2_init_2_2 ++ dktX2_init_2_3
def dkwX2_init_2_1 : List UInt8 := [183, 0, 23, 181, 0, 24, 42, 187, 0, 21, 89, 183, 0, 23, 181, 0, 28, 42, 187, 0, 31, 89]
abbrev dktX2_init_2_1 : List UInt8 := dkwX2_init_2_1 ++ dktX2_init_2_2
def dkwX2_init_2_0 : List UInt8 := [42, 183, 0, 3, 42, 16, 60, 181, 0, 9, 42, 16, 24, 189, 0, 15, 181, 0, 17, 42, 187, 0, 21, 89]
abbrev dktX2_init_2_0 : List UInt8 := dkwX2_init_2_0 ++ dktX2_init_2_1
theorem dksX2_init_2_0 : cX2_init_2.data.toList.drop 0 = dktX2_init_2_0 := by decide +kernel
theorem dksX2_init_2_1 : cX2_init_2.data.toList.drop 24 = dktX2_init_2_1 := dk_seg dksX2_init_2_0 24 rfl rfl
theorem dksX2_init_2_2 : cX2_init_2.data.toList.drop 46 = dktX2_init_2_2 := dk_seg dksX2_init_2_1 22 rfl rfl
theorem dksX2_init_2_3 : cX2_init_2.data.toList.drop 70 = dktX2_init_2_3 := dk_seg dksX2_init_2_2 24 rfl rfl
theorem dksX2_init_2_4 : cX2_init_2.data.toList.drop 94 = dktX2_init_2_4 := dk_seg dksX2_init_2_3 24 rfl rfl
theorem dksX2_init_2_5 : cX2_init_2.data.toList.drop 117 = dktX2_init_2_5 := dk_seg dksX2_init_2_4 23 rfl rfl
theorem dksX2_init_2_6 : cX2_init_2.data.toList.drop 139 = dktX2_init_2_6 := dk_seg dksX2_init_2_5 22 rfl rfl
theorem dksX2_init_2_7 : cX2_init_2.data.toList.drop 163 = dktX2_init_2_7 := dk_seg dksX2_init_2_6 24 rfl rfl
theorem dksX2_init_2_8 : cX2_init_2.data.toList.drop 187 = dktX2_init_2_8 := dk_seg dksX2_init_2_7 24 rfl rfl
theorem dksX2_init_2_9 : cX2_init_2.data.toList.drop 210 = dktX2_init_2_9 := dk_seg dksX2_init_2_8 23 rfl rfl
theorem dksX2_init_2_10 : cX2_init_2.data.toList.drop 234 = dktX2_init_2_10 := dk_seg dksX2_init_2_9 24 rfl rfl
theorem dksX2_init_2_11 : cX2_init_2.data.toList.drop 256 = dktX2_init_2_11 := dk_seg dksX2_init_2_10 22 rfl rfl
theorem dksX2_init_2_12 : cX2_init_2.data.toList.drop 278 = dktX2_init_2_12 := dk_seg dksX2_init_2_11 22 rfl rfl
theorem dksX2_init_2_13 : cX2_init_2.data.toList.drop 298 = dktX2_init_2_13 := dk_seg dksX2_init_2_12 20 rfl rfl
theorem dksX2_init_2_14 : cX2_init_2.data.toList.drop 322 = dktX2_init_2_14 := dk_seg dksX2_init_2_13 24 rfl rfl
theorem dksX2_init_2_15 : cX2_init_2.data.toList.drop 346 = dktX2_init_2_15 := dk_seg dksX2_init_2_14 24 rfl rfl
theorem dksX2_init_2_16 : cX2_init_2.data.toList.drop 370 = dktX2_init_2_16 := dk_seg dksX2_init_2_15 24 rfl rfl
theorem dksX2_init_2_17 : cX2_init_2.data.toList.drop 394 = dktX2_init_2_17 := dk_seg dksX2_init_2_16 24 rfl rfl
theorem dksX2_init_2_18 : cX2_init_2.data.toList.drop 417 = dktX2_init_2_18 := dk_seg dksX2_init_2_17 23 rfl rfl
theorem dksX2_init_2_19 : cX2_init_2.data.toList.drop 441 = dktX2_init_2_19 := dk_seg dksX2_init_2_18 24 rfl rfl
theorem dX2_init_2_0 : decode cX2_init_2 0 = .ok (.aload_n 0, 1) := dk_42 (dk_at dksX2_init_2_0 0 rfl rfl)
theorem dX2_init_2_1 : decode cX2_init_2 1 = .ok (.invokespecial 3, 3) := dk_183 0 3 (dk_at dksX2_init_2_0 1 rfl rfl)
theorem dX2_init_2_4 : decode cX2_init_2 4 = .ok (.aload_n 0, 1) := dk_42 (dk_at dksX2_init_2_0 4 rfl rfl)
theorem dX2_init_2_5 : decode cX2_init_2 5 = .ok (.bipush 60, 2) := dk_16 60 (dk_at dksX2_init_2_0 5 rfl rfl)
theorem dX2_init_2_7 : decode cX2_init_2 7 = .ok (.putfield 9, 3) := dk_181 0 9 (dk_at dksX2_init_2_0 7 rfl rfl)
theorem dX2_init_2_10 : decode cX2_init_2 10 = .ok (.aload_n 0, 1) := dk_42 (dk_at dksX2_init_2_0 10 rfl rfl)
theorem dX2_init_2_11 : decode cX2_init_2 11 = .ok (.bipush 24, 2) := dk_16 24 (dk_at dksX2_init_2_0 11 rfl rfl)
theorem dX2_init_2_13 : decode cX2_init_2 13 = .ok (.anewarray 15, 3) := dk_189 0 15 (dk_at dksX2_init_2_0 13 rfl rfl)
theorem dX2_init_2_16 : decode cX2_init_2 16 = .ok (.putfield 17, 3) := dk_181 0 17 (dk_at dksX2_init_2_0 16 rfl rfl)
theorem dX2_init_2_19 : decode cX2_init_2 19 = .ok (.aload_n 0, 1) := dk_42 (dk_at dksX2_init_2_0 19 rfl rfl)
theorem dX2_init_2_20 : decode cX2_init_2 20 = .ok (.new 21, 3) := dk_187 0 21 (dk_at dksX2_init_2_0 20 rfl rfl)
theorem dX2_init_2_23 : decode cX2_init_2 23 = .ok (.dup, 1) := dk_89 (dk_at dksX2_init_2_0 23 rfl rfl)
theorem dX2_init_2_24 : decode cX2_init_2 24 = .ok (.invokespecial 23, 3) := dk_183 0 23 (dk_at dksX2_init_2_1 0 rfl rfl)
theorem dX2_init_2_27 : decode cX2_init_2 27 = .ok (.putfield 24, 3) := dk_181 0 24 (dk_at dksX2_init_2_1 3 rfl rfl)
theorem dX2_init_2_30 : decode cX2_init_2 30 = .ok (.aload_n 0, 1) := dk_42 (dk_at dksX2_init_2_1 6 rfl rfl)
theorem dX2_init_2_31 : decode cX2_init_2 31 = .ok (.new 21, 3) := dk_187 0 21 (dk_at dksX2_init_2_1 7 rfl rfl)
theorem dX2_init_2_34 : decode cX2_init_2 34 = .ok (.dup, 1) := dk_89 (dk_at dksX2_init_2_1 10 rfl rfl)
theorem dX2_init_2_35 : decode cX2_init_2 35 = .ok (.invokespecial 23, 3) := dk_183 0 23 (dk_at dksX2_init_2_1 11 rfl rfl)
theorem dX2_init_2_38 : decode cX2_init_2 38 = .ok (.putfield 28, 3) := dk_181 0 28 (dk_at dksX2_init_2_1 14 rfl rfl)
theorem dX2_init_2_41 : decode cX2_init_2 41 = .ok (.aload_n 0, 1) := dk_42 (dk_at dksX2_init_2_1 17 rfl rfl)
theorem dX2_init_2_42 : decode cX2_init_2 42 = .ok (.new 31, 3) := dk_187 0 31 (dk_at dksX2_init_2_1 18 rfl rfl)
theorem dX2_init_2_45 : decode cX2_init_2 45 = .ok (.dup, 1) := dk_89 (dk_at dksX2_init_2_1 21 rfl rfl)
theorem dX2_init_2_46 : decode cX2_init_2 46 = .ok (.invokespecial 33, 3) := dk_183 0 33 (dk_at dksX2_init_2_2 0 rfl rfl)
theorem dX2_init_2_49 : decode cX2_init_2 49 = .ok (.putfield 34, 3) := dk_181 0 34 (dk_at dksX2_init_2_2 3 rfl rfl)
theorem dX2_init_2_52 : decode cX2_init_2 52 = .ok (.aload_n 0, 1) := dk_42 (dk_at dksX2_init_2_2 6 rfl rfl)
theorem dX2_init_2_53 : decode cX2_init_2 53 = .ok (.new 21, 3) := dk_187 0 21 (dk_at dksX2_init_2_2 7 rfl rfl)
theorem dX2_init_2_56 : decode cX2_init_2 56 = .ok (.dup, 1) := dk_89 (dk_at dksX2_init_2_2 10 rfl rfl)
theorem dX2_init_2_57 : decode cX2_init_2 57 = .ok (.invokespecial 23, 3) := dk_183 0 23 (dk_at dksX2_init_2_2 11 rfl rfl)
theorem dX2_init_2_60 : decode cX2_init_2 60 = .ok (.putfield 38, 3) := dk_181 0 38 (dk_at dksX2_init_2_2 14 rfl rfl)
theorem dX2_init_2_63 : decode cX2_init_2 63 = .ok (.aload_n 0, 1) := dk_42 (dk_at dksX2_init_2_2 17 rfl rfl)
theorem dX2_init_2_64 : decode cX2_init_2 64 = .ok (.iconst (-1), 1) := dk_2 (dk_at dksX2_init_2_2 18 rfl rfl)
theorem dX2_init_2_65 : decode cX2_init_2 65 = .ok (.putfield 41, 3) := dk_181 0 41 (dk_at dksX2_init_2_2 19 rfl rfl)
theorem dX2_init_2_68 : decode cX2_init_2 68 = .ok (.aload_n 0, 1) := dk_42 (dk_at dksX2_init_2_2 22 rfl rfl)
theorem dX2_init_2_69 : decode cX2_init_2 69 = .ok (.aload_n 1, 1) := dk_43 (dk_at dksX2_init_2_2 23 rfl rfl)
theorem dX2_init_2_70 : decode cX2_init_2 70 = .ok (.getfield 82, 3) := dk_180 0 82 (dk_at dksX2_init_2_3 0 rfl rfl)
theorem dX2_init_2_73 : decode cX2_init_2 73 = .ok (.putfield 82, 3) := dk_181 0 82 (dk_at dksX2_init_2_3 3 rfl rfl)
theorem dX2_init_2_76 : decode cX2_init_2 76 = .ok (.aload_n 0, 1) := dk_42 (dk_at dksX2_init_2_3 6 rfl rfl)
theorem dX2_init_2_77 : decode cX2_init_2 77 = .ok (.aload_n 1, 1) := dk_43 (dk_at dksX2_init_2_3 7 rfl rfl)
theorem dX2_init_2_78 : decode cX2_init_2 78 = .ok (.getfield 9, 3) := dk_180 0 9 (dk_at dksX2_init_2_3 8 rfl rfl)
theorem dX2_init_2_81 : decode cX2_init_2 81 = .ok (.putfield 9, 3) := dk_181 0 9 (dk_at dksX2_init_2_3 11 rfl rfl)
theorem dX2_init_2_84 : decode cX2_init_2 84 = .ok (.aload_n 0, 1) := dk_42 (dk_at dksX2_init_2_3 14 rfl rfl)
theorem dX2_init_2_85 : decode cX2_init_2 85 = .ok (.aload_n 1, 1) := dk_43 (dk_at dksX2_init_2_3 15 rfl rfl)
theorem dX2_init_2_86 : decode cX2_init_2 86 = .ok (.getfield 85, 3) := dk_180 0 85 (dk_at dksX2_init_2_3 16 rfl rfl)
theorem dX2_init_2_89 : decode cX2_init_2 89 = .ok (.putfield 85, 3) := dk_181 0 85 (dk_at dksX2_init_2_3 19 rfl rfl)
theorem dX2_init_2_92 : decode cX2_init_2 92 = .ok (.aload_n 0, 1) := dk_42 (dk_at dksX2_init_2_3 22 rfl rfl)
theorem dX2_init_2_93 : decode cX2_init_2 93 = .ok (.aload_n 1, 1) := dk_43 (dk_at dksX2_init_2_3 23 rfl rfl)
theorem dX2_init_2_94 : decode cX2_init_2 94 = .ok (.getfield 44, 3) := dk_180 0 44 (dk_at dksX2_init_2_4 0 rfl rfl)
theorem dX2_init_2_97 : decode cX2_init_2 97 = .ok (.invokevirtual 88, 3) := dk_182 0 88 (dk_at dksX2_init_2_4 3 rfl rfl)
theorem dX2_init_2_100 : decode cX2_init_2 100 = .ok (.checkcast 89, 3) := dk_192 0 89 (dk_at dksX2_init_2_4 6 rfl rfl)
theorem dX2_init_2_103 : decode cX2_init_2 103 = .ok (.putfield 44, 3) := dk_181 0 44 (dk_at dksX2_init_2_4 9 rfl rfl)
theorem dX2_init_2_106 : decode cX2_init_2 106 = .ok (.aload_n 0, 1) := dk_42 (dk_at dksX2_init_2_4 12 rfl rfl)
theorem dX2_init_2_107 : decode cX2_init_2 107 = .ok (.aload_n 1, 1) := dk_43 (dk_at dksX2_init_2_4 13 rfl rfl)
theorem dX2_init_2_108 : decode cX2_init_2 108 = .ok (.getfield 48, 3) := dk_180 0 48 (dk_at dksX2_init_2_4 14 rfl rfl)
theorem dX2_init_2_111 : decode cX2_init_2 111 = .ok (.invokevirtual 88, 3) := dk_182 0 88 (dk_at dksX2_init_2_4 17 rfl rfl)
theorem dX2_init_2_114 : decode cX2_init_2 114 = .ok (.checkcast 89, 3) := dk_192 0 89 (dk_at dksX2_init_2_4 20 rfl rfl)
theorem dX2_init_2_117 : decode cX2_init_2 117 = .ok (.putfield 48, 3) := dk_181 0 48 (dk_at dksX2_init_2_5 0 rfl rfl)
theorem dX2_init_2_120 : decode cX2_init_2 120 = .ok (.aload_n 0, 1) := dk_42 (dk_at dksX2_init_2_5 3 rfl rfl)
theorem dX2_init_2_121 : decode cX2_init_2 121 = .ok (.aload_n 1, 1) := dk_43 (dk_at dksX2_init_2_5 4 rfl rfl)
theorem dX2_init_2_122 : decode cX2_init_2 122 = .ok (.getfield 51, 3) := dk_180 0 51 (dk_at dksX2_init_2_5 5 rfl rfl)
theorem dX2_init_2_125 : decode cX2_init_2 125 = .ok (.invokevirtual 88, 3) := dk_182 0 88 (dk_at dksX2_init_2_5 8 rfl rfl)
theorem dX2_init_2_128 : decode cX2_init_2 128 = .ok (.checkcast 89, 3) := dk_192 0 89 (dk_at dksX2_init_2_5 11 rfl rfl)
theorem dX2_init_2_131 : decode cX2_init_2 131 = .ok (.putfield 51, 3) := dk_181 0 51 (dk_at dksX2_init_2_5 14 rfl rfl)
theorem dX2_init_2_134 : decode cX2_init_2 134 = .ok (.aload_n 0, 1) := dk_42 (dk_at dksX2_init_2_5 17 rfl rfl)
theorem dX2_init_2_135 : decode cX2_init_2 135 = .ok (.aload_n 1, 1) := dk_43 (dk_at dksX2_init_2_5 18 rfl rfl)
theorem dX2_init_2_136 : decode cX2_init_2 136 = .ok (.getfield 54, 3) := dk_180 0 54 (dk_at dksX2_init_2_5 19 rfl rfl)
theorem dX2_init_2_139 : decode cX2_init_2 139 = .ok (.invokevirtual 88, 3) := dk_182 0 88 (dk_at dksX2_init_2_6 0 rfl rfl)
theorem dX2_init_2_142 : decode cX2_init_2 142 = .ok (.checkcast 89, 3) := dk_192 0 89 (dk_at dksX2_init_2_6 3 rfl rfl)
theorem dX2_init_2_145 : decode cX2_init_2 145 = .ok (.putfield 54, 3) := dk_181 0 54 (dk_at dksX2_init_2_6 6 rfl rfl)
theorem dX2_init_2_148 : decode cX2_init_2 148 = .ok (.aload_n 0, 1) := dk_42 (dk_at dksX2_init_2_6 9 rfl rfl)
theorem dX2_init_2_149 : decode cX2_init_2 149 = .ok (.aload_n 1, 1) := dk_43 (dk_at dksX2_init_2_6 10 rfl rfl)
theorem dX2_init_2_150 : decode cX2_init_2 150 = .ok (.getfield 57, 3) := dk_180 0 57 (dk_at dksX2_init_2_6 11 rfl rfl)
theorem dX2_init_2_153 : decode cX2_init_2 153 = .ok (.invokevirtual 88, 3) := dk_182 0 88 (dk_at dksX2_init_2_6 14 rfl rfl)
theorem dX2_init_2_156 : decode cX2_init_2 156 = .ok (.checkcast 89, 3) := dk_192 0 89 (dk_at dksX2_init_2_6 17 rfl rfl)
theorem dX2_init_2_159 : decode cX2_init_2 159 = .ok (.putfield 57, 3) := dk_181 0 57 (dk_at dksX2_init_2_6 20 rfl rfl)
theorem dX2_init_2_162 : decode cX2_init_2 162 = .ok (.aload_n 0, 1) := dk_42 (dk_at dksX2_init_2_6 23 rfl rfl)
theorem dX2_init_2_163 : decode cX2_init_2 163 = .ok (.aload_n 1, 1) := dk_43 (dk_at dksX2_init_2_7 0 rfl rfl)
theorem dX2_init_2_164 : decode cX2_init_2 164 = .ok (.getfield 60, 3) := dk_180 0 60 (dk_at dksX2_init_2_7 1 rfl rfl)
theorem dX2_init_2_167 : decode cX2_init_2 167 = .ok (.invokevirtual 93, 3) := dk_182 0 93 (dk_at dksX2_init_2_7 4 rfl rfl)
theorem dX2_init_2_170 : decode cX2_init_2 170 = .ok (.checkcast 94, 3) := dk_192 0 94 (dk_at dksX2_init_2_7 7 rfl rfl)
theorem dX2_init_2_173 : decode cX2_init_2 173 = .ok (.putfield 60, 3) := dk_181 0 60 (dk_at dksX2_init_2_7 10 rfl rfl)
theorem dX2_init_2_176 : decode cX2_init_2 176 = .ok (.aload_n 0, 1) := dk_42 (dk_at dksX2_init_2_7 13 rfl rfl)
theorem dX2_init_2_177 : decode cX2_init_2 177 = .ok (.aload_n 1, 1) := dk_43 (dk_at dksX2_init_2_7 14 rfl rfl)
theorem dX2_init_2_178 : decode cX2_init_2 178 = .ok (.getfield 64, 3) := dk_180 0 64 (dk_at dksX2_init_2_7 15 rfl rfl)
theorem dX2_init_2_181 : decode cX2_init_2 181 = .ok (.invokevirtual 88, 3) := dk_182 0 88 (dk_at dksX2_init_2_7 18 rfl rfl)
theorem dX2_init_2_184 : decode cX2_init_2 184 = .ok (.checkcast 89, 3) := dk_192 0 89 (dk_at dksX2_init_2_7 21 rfl rfl)
theorem dX2_init_2_187 : decode cX2_init_2 187 = .ok (.putfield 64, 3) := dk_181 0 64 (dk_at dksX2_init_2_8 0 rfl rfl)
theorem dX2_init_2_190 : decode cX2_init_2 190 = .ok (.aload_n 0, 1) := dk_42 (dk_at dksX2_init_2_8 3 rfl rfl)
theorem dX2_init_2_191 : decode cX2_init_2 191 = .ok (.aload_n 1, 1) := dk_43 (dk_at dksX2_init_2_8 4 rfl rfl)
theorem dX2_init_2_192 : decode cX2_init_2 192 = .ok (.getfield 67, 3) := dk_180 0 67 (dk_at dksX2_init_2_8 5 rfl rfl)
theorem dX2_init_2_195 : decode cX2_init_2 195 = .ok (.invokevirtual 88, 3) := dk_182 0 88 (dk_at dksX2_init_2_8 8 rfl rfl)
theorem dX2_init_2_198 : decode cX2_init_2 198 = .ok (.checkcast 89, 3) := dk_192 0 89 (dk_at dksX2_init_2_8 11 rfl rfl)
theorem dX2_init_2_201 : decode cX2_init_2 201 = .ok (.putfield 67, 3) := dk_181 0 67 (dk_at dksX2_init_2_8 14 rfl rfl)
theorem dX2_init_2_204 : decode cX2_init_2 204 = .ok (.aload_n 0, 1) := dk_42 (dk_at dksX2_init_2_8 17 rfl rfl)
theorem dX2_init_2_205 : decode cX2_init_2 205 = .ok (.new 31, 3) := dk_187 0 31 (dk_at dksX2_init_2_8 18 rfl rfl)
theorem dX2_init_2_208 : decode cX2_init_2 208 = .ok (.dup, 1) := dk_89 (dk_at dksX2_init_2_8 21 rfl rfl)
theorem dX2_init_2_209 : decode cX2_init_2 209 = .ok (.aload_n 1, 1) := dk_43 (dk_at dksX2_init_2_8 22 rfl rfl)
theorem dX2_init_2_210 : decode cX2_init_2 210 = .ok (.getfield 70, 3) := dk_180 0 70 (dk_at dksX2_init_2_9 0 rfl rfl)
theorem dX2_init_2_213 : decode cX2_init_2 213 = .ok (.invokespecial 95, 3) := dk_183 0 95 (dk_at dksX2_init_2_9 3 rfl rfl)
theorem dX2_init_2_216 : decode cX2_init_2 216 = .ok (.putfield 70, 3) := dk_181 0 70 (dk_at dksX2_init_2_9 6 rfl rfl)
theorem dX2_init_2_219 : decode cX2_init_2 219 = .ok (.aload_n 0, 1) := dk_42 (dk_at dksX2_init_2_9 9 rfl rfl)
theorem dX2_init_2_220 : decode cX2_init_2 220 = .ok (.aload_n 1, 1) := dk_43 (dk_at dksX2_init_2_9 10 rfl rfl)
theorem dX2_init_2_221 : decode cX2_init_2 221 = .ok (.getfield 41, 3) := dk_180 0 41 (dk_at dksX2_init_2_9 11 rfl rfl)
theorem dX2_init_2_224 : decode cX2_init_2 224 = .ok (.putfield 41, 3) := dk_181 0 41 (dk_at dksX2_init_2_9 14 rfl rfl)
theorem dX2_init_2_227 : decode cX2_init_2 227 = .ok (.iconst 0, 1) := dk_3 (dk_at dksX2_init_2_9 17 rfl rfl)
theorem dX2_init_2_228 : decode cX2_init_2 228 = .ok (.istore_n 2, 1) := dk_61 (dk_at dksX2_init_2_9 18 rfl rfl)
theorem dX2_init_2_229 : decode cX2_init_2 229 = .ok (.iload_n 2, 1) := dk_28 (dk_at dksX2_init_2_9 19 rfl rfl)
theorem dX2_init_2_230 : decode cX2_init_2 230 = .ok (.aload_n 1, 1) := dk_43 (dk_at dksX2_init_2_9 20 rfl rfl)
theorem dX2_init_2_231 : decode cX2_init_2 231 = .ok (.getfield 24, 3) := dk_180 0 24 (dk_at dksX2_init_2_9 21 rfl rfl)
theorem dX2_init_2_234 : decode cX2_init_2 234 = .ok (.invokeinterface 98 1, 5) := by decide +kernel
theorem dX2_init_2_239 : decode cX2_init_2 239 = .ok (.if_icmp .ge 35, 3) := dk_162 0 35 (dk_at dksX2_init_2_10 5 rfl rfl)
theorem dX2_init_2_242 : decode cX2_init_2 242 = .ok (.aload_n 0, 1) := dk_42 (dk_at dksX2_init_2_10 8 rfl rfl)
theorem dX2_init_2_243 : decode cX2_init_2 243 = .ok (.getfield 24, 3) := dk_180 0 24 (dk_at dksX2_init_2_10 9 rfl rfl)
theorem dX2_init_2_246 : decode cX2_init_2 246 = .ok (.aload_n 1, 1) := dk_43 (dk_at dksX2_init_2_10 12 rfl rfl)
theorem dX2_init_2_247 : decode cX2_init_2 247 = .ok (.getfield 24, 3) := dk_180 0 24 (dk_at dksX2_init_2_10 13 rfl rfl)
theorem dX2_init_2_250 : decode cX2_init_2 250 = .ok (.iload_n 2, 1) := dk_28 (dk_at dksX2_init_2_10 16 rfl rfl)
theorem dX2_init_2_251 : decode cX2_init_2 251 = .ok (.invokeinterface 102 2, 5) := by decide +kernel
theorem dX2_init_2_256 : decode cX2_init_2 256 = .ok (.checkcast 106, 3) := dk_192 0 106 (dk_at dksX2_init_2_11 0 rfl rfl)
theorem dX2_init_2_259 : decode cX2_init_2 259 = .ok (.invokevirtual 108, 3) := dk_182 0 108 (dk_at dksX2_init_2_11 3 rfl rfl)
theorem dX2_init_2_262 : decode cX2_init_2 262 = .ok (.invokeinterface 76 2, 5) := by decide +kernel
theorem dX2_init_2_267 : decode cX2_init_2 267 = .ok (.pop, 1) := dk_87 (dk_at dksX2_init_2_11 11 rfl rfl)
theorem dX2_init_2_268 : decode cX2_init_2 268 = .ok (.iinc 2 1, 3) := dk_132 2 1 (dk_at dksX2_init_2_11 12 rfl rfl)
theorem dX2_init_2_271 : decode cX2_init_2 271 = .ok (.goto (-42), 3) := dk_167 255 214 (dk_at dksX2_init_2_11 15 rfl rfl)
theorem dX2_init_2_274 : decode cX2_init_2 274 = .ok (.iconst 0, 1) := dk_3 (dk_at dksX2_init_2_11 18 rfl rfl)
theorem dX2_init_2_275 : decode cX2_init_2 275 = .ok (.istore_n 2, 1) := dk_61 (dk_at dksX2_init_2_11 19 rfl rfl)
theorem dX2_init_2_276 : decode cX2_init_2 276 = .ok (.iload_n 2, 1) := dk_28 (dk_at dksX2_init_2_11 20 rfl rfl)
theorem dX2_init_2_277 : decode cX2_init_2 277 = .ok (.aload_n 1, 1) := dk_43 (dk_at dksX2_init_2_11 21 rfl rfl)
theorem dX2_init_2_278 : decode cX2_init_2 278 = .ok (.getfield 28, 3) := dk_180 0 28 (dk_at dksX2_init_2_12 0 rfl rfl)
theorem dX2_init_2_281 : decode cX2_init_2 281 = .ok (.invokeinterface 98 1, 5) := by decide +kernel
theorem dX2_init_2_286 : decode cX2_init_2 286 = .ok (.if_icmp .ge 35, 3) := dk_162 0 35 (dk_at dksX2_init_2_12 8 rfl rfl)
theorem dX2_init_2_289 : decode cX2_init_2 289 = .ok (.aload_n 0, 1) := dk_42 (dk_at dksX2_init_2_12 11 rfl rfl)
theorem dX2_init_2_290 : decode cX2_init_2 290 = .ok (.getfield 28, 3) := dk_180 0 28 (dk_at dksX2_init_2_12 12 rfl rfl)
theorem dX2_init_2_293 : decode cX2_init_2 293 = .ok (.aload_n 1, 1) := dk_43 (dk_at dksX2_init_2_12 15 rfl rfl)
theorem dX2_init_2_294 : decode cX2_init_2 294 = .ok (.getfield 28, 3) := dk_180 0 28 (dk_at dksX2_init_2_12 16 rfl rfl)
theorem dX2_init_2_297 : decode cX2_init_2 297 = .ok (.iload_n 2, 1) := dk_28 (dk_at dksX2_init_2_12 19 rfl rfl)
theorem dX2_init_2_298 : decode cX2_init_2 298 = .ok (.invokeinterface 102 2, 5) := by decide +kernel
theorem dX2_init_2_303 : decode cX2_init_2 303 = .ok (.checkcast 112, 3) := dk_192 0 112 (dk_at dksX2_init_2_13 5 rfl rfl)
theorem dX2_init_2_306 : decode cX2_init_2 306 = .ok (.invokevirtual 114, 3) := dk_182 0 114 (dk_at dksX2_init_2_13 8 rfl rfl)
theorem dX2_init_2_309 : decode cX2_init_2 309 = .ok (.invokeinterface 76 2, 5) := by decide +kernel
theorem dX2_init_2_314 : decode cX2_init_2 314 = .ok (.pop, 1) := dk_87 (dk_at dksX2_init_2_13 16 rfl rfl)
theorem dX2_init_2_315 : decode cX2_init_2 315 = .ok (.iinc 2 1, 3) := dk_132 2 1 (dk_at dksX2_init_2_13 17 rfl rfl)
theorem dX2_init_2_318 : decode cX2_init_2 318 = .ok (.goto (-42), 3) := dk_167 255 214 (dk_at dksX2_init_2_13 20 rfl rfl)
theorem dX2_init_2_321 : decode cX2_init_2 321 = .ok (.aload_n 1, 1) := dk_43 (dk_at dksX2_init_2_13 23 rfl rfl)
theorem dX2_init_2_322 : decode cX2_init_2 322 = .ok (.getfield 34, 3) := dk_180 0 34 (dk_at dksX2_init_2_14 0 rfl rfl)
theorem dX2_init_2_325 : decode cX2_init_2 325 = .ok (.invokeinterface 117 1, 5) := by decide +kernel
theorem dX2_init_2_330 : decode cX2_init_2 330 = .ok (.invokeinterface 123 1, 5) := by decide +kernel
theorem dX2_init_2_335 : decode cX2_init_2 335 = .ok (.astore_n 2, 1) := dk_77 (dk_at dksX2_init_2_14 13 rfl rfl)
theorem dX2_init_2_336 : decode cX2_init_2 336 = .ok (.aload_n 2, 1) := dk_44 (dk_at dksX2_init_2_14 14 rfl rfl)
theorem dX2_init_2_337 : decode cX2_init_2 337 = .ok (.invokeinterface 129 1, 5) := by decide +kernel
theorem dX2_init_2_342 : decode cX2_init_2 342 = .ok (.ifCond .eq 51, 3) := dk_153 0 51 (dk_at dksX2_init_2_14 20 rfl rfl)
theorem dX2_init_2_345 : decode cX2_init_2 345 = .ok (.aload_n 2, 1) := dk_44 (dk_at dksX2_init_2_14 23 rfl rfl)
theorem dX2_init_2_346 : decode cX2_init_2 346 = .ok (.invokeinterface 135 1, 5) := by decide +kernel
theorem dX2_init_2_351 : decode cX2_init_2 351 = .ok (.checkcast 15, 3) := dk_192 0 15 (dk_at dksX2_init_2_15 5 rfl rfl)
theorem dX2_init_2_354 : decode cX2_init_2 354 = .ok (.astore_n 3, 1) := dk_78 (dk_at dksX2_init_2_15 8 rfl rfl)
theorem dX2_init_2_355 : decode cX2_init_2 355 = .ok (.aload_n 3, 1) := dk_45 (dk_at dksX2_init_2_15 9 rfl rfl)
theorem dX2_init_2_356 : decode cX2_init_2 356 = .ok (.invokevirtual 138, 3) := dk_182 0 138 (dk_at dksX2_init_2_15 10 rfl rfl)
theorem dX2_init_2_359 : decode cX2_init_2 359 = .ok (.astore 4, 2) := dk_58 4 (dk_at dksX2_init_2_15 13 rfl rfl)
theorem dX2_init_2_361 : decode cX2_init_2 361 = .ok (.aload_n 0, 1) := dk_42 (dk_at dksX2_init_2_15 15 rfl rfl)
theorem dX2_init_2_362 : decode cX2_init_2 362 = .ok (.getfield 34, 3) := dk_180 0 34 (dk_at dksX2_init_2_15 16 rfl rfl)
theorem dX2_init_2_365 : decode cX2_init_2 365 = .ok (.aload 4, 2) := dk_25 4 (dk_at dksX2_init_2_15 19 rfl rfl)
theorem dX2_init_2_367 : decode cX2_init_2 367 = .ok (.getfield 141, 3) := dk_180 0 141 (dk_at dksX2_init_2_15 21 rfl rfl)
theorem dX2_init_2_370 : decode cX2_init_2 370 = .ok (.aload 4, 2) := dk_25 4 (dk_at dksX2_init_2_16 0 rfl rfl)
theorem dX2_init_2_372 : decode cX2_init_2 372 = .ok (.invokeinterface 145 3, 5) := by decide +kernel
theorem dX2_init_2_377 : decode cX2_init_2 377 = .ok (.pop, 1) := dk_87 (dk_at dksX2_init_2_16 7 rfl rfl)
theorem dX2_init_2_378 : decode cX2_init_2 378 = .ok (.aload_n 0, 1) := dk_42 (dk_at dksX2_init_2_16 8 rfl rfl)
theorem dX2_init_2_379 : decode cX2_init_2 379 = .ok (.getfield 17, 3) := dk_180 0 17 (dk_at dksX2_init_2_16 9 rfl rfl)
theorem dX2_init_2_382 : decode cX2_init_2 382 = .ok (.aload 4, 2) := dk_25 4 (dk_at dksX2_init_2_16 12 rfl rfl)
theorem dX2_init_2_384 : decode cX2_init_2 384 = .ok (.getfield 149, 3) := dk_180 0 149 (dk_at dksX2_init_2_16 14 rfl rfl)
theorem dX2_init_2_387 : decode cX2_init_2 387 = .ok (.aload 4, 2) := dk_25 4 (dk_at dksX2_init_2_16 17 rfl rfl)
theorem dX2_init_2_389 : decode cX2_init_2 389 = .ok (.aastore, 1) := dk_83 (dk_at dksX2_init_2_16 19 rfl rfl)
theorem dX2_init_2_390 : decode cX2_init_2 390 = .ok (.goto (-54), 3) := dk_167 255 202 (dk_at dksX2_init_2_16 20 rfl rfl)
theorem dX2_init_2_393 : decode cX2_init_2 393 = .ok (.iconst 0, 1) := dk_3 (dk_at dksX2_init_2_16 23 rfl rfl)
theorem dX2_init_2_394 : decode cX2_init_2 394 = .ok (.istore_n 2, 1) := dk_61 (dk_at dksX2_init_2_17 0 rfl rfl)
theorem dX2_init_2_395 : decode cX2_init_2 395 = .ok (.iload_n 2, 1) := dk_28 (dk_at dksX2_init_2_17 1 rfl rfl)
theorem dX2_init_2_396 : decode cX2_init_2 396 = .ok (.aload_n 1, 1) := dk_43 (dk_at dksX2_init_2_17 2 rfl rfl)
theorem dX2_init_2_397 : decode cX2_init_2 397 = .ok (.getfield 38, 3) := dk_180 0 38 (dk_at dksX2_init_2_17 3 rfl rfl)
theorem dX2_init_2_400 : decode cX2_init_2 400 = .ok (.invokeinterface 98 1, 5) := by decide +kernel
theorem dX2_init_2_405 : decode cX2_init_2 405 = .ok (.if_icmp .ge 39, 3) := dk_162 0 39 (dk_at dksX2_init_2_17 11 rfl rfl)
theorem dX2_init_2_408 : decode cX2_init_2 408 = .ok (.aload_n 0, 1) := dk_42 (dk_at dksX2_init_2_17 14 rfl rfl)
theorem dX2_init_2_409 : decode cX2_init_2 409 = .ok (.getfield 38, 3) := dk_180 0 38 (dk_at dksX2_init_2_17 15 rfl rfl)
theorem dX2_init_2_412 : decode cX2_init_2 412 = .ok (.new 73, 3) := dk_187 0 73 (dk_at dksX2_init_2_17 18 rfl rfl)
theorem dX2_init_2_415 : decode cX2_init_2 415 = .ok (.dup, 1) := dk_89 (dk_at dksX2_init_2_17 21 rfl rfl)
theorem dX2_init_2_416 : decode cX2_init_2 416 = .ok (.aload_n 1, 1) := dk_43 (dk_at dksX2_init_2_17 22 rfl rfl)
theorem dX2_init_2_417 : decode cX2_init_2 417 = .ok (.getfield 38, 3) := dk_180 0 38 (dk_at dksX2_init_2_18 0 rfl rfl)
theorem dX2_init_2_420 : decode cX2_init_2 420 = .ok (.iload_n 2, 1) := dk_28 (dk_at dksX2_init_2_18 3 rfl rfl)
theorem dX2_init_2_421 : decode cX2_init_2 421 = .ok (.invokeinterface 102 2, 5) := by decide +kernel
theorem dX2_init_2_426 : decode cX2_init_2 426 = .ok (.checkcast 124, 3) := dk_192 0 124 (dk_at dksX2_init_2_18 9 rfl rfl)
theorem dX2_init_2_429 : decode cX2_init_2 429 = .ok (.invokespecial 152, 3) := dk_183 0 152 (dk_at dksX2_init_2_18 12 rfl rfl)
theorem dX2_init_2_432 : decode cX2_init_2 432 = .ok (.invokeinterface 76 2, 5) := by decide +kernel
theorem dX2_init_2_437 : decode cX2_init_2 437 = .ok (.pop, 1) := dk_87 (dk_at dksX2_init_2_18 20 rfl rfl)
theorem dX2_init_2_438 : decode cX2_init_2 438 = .ok (.iinc 2 1, 3) := dk_132 2 1 (dk_at dksX2_init_2_18 21 rfl rfl)
theorem dX2_init_2_441 : decode cX2_init_2 441 = .ok (.goto (-46), 3) := dk_167 255 210 (dk_at dksX2_init_2_19 0 rfl rfl)
theorem dX2_init_2_444 : decode cX2_init_2 444 = .ok (.return_, 1) := dk_177 (dk_at dksX2_init_2_19 3 rfl rfl)
abbrev cX2_canTakeOrder : ByteArray := prog_17_method_14_code
def yX2_canTakeOrder : MethodName := ⟨RX2, "canTakeOrder", "()Z"⟩
def dkwX2_canTakeOrder_0 : List UInt8 := [42, 180, 0, 28, 185, 0, 98, 1, 0, 16, 10, 162, 0, 7, 4, 167, 0, 4, 3, 172]
abbrev dktX2_canTakeOrder_0 : List UInt8 := dkwX2_canTakeOrder_0 ++ []
theorem dksX2_canTakeOrder_0 : cX2_canTakeOrder.data.toList.drop 0 = dktX2_canTakeOrder_0 := by decide +kernel
theorem dX2_canTakeOrder_0 : decode cX2_canTakeOrder 0 = .ok (.aload_n 0, 1) := dk_42 (dk_at dksX2_canTakeOrder_0 0 rfl rfl)
theorem dX2_canTakeOrder_1 : decode cX2_canTakeOrder 1 = .ok (.getfield 28, 3) := dk_180 0 28 (dk_at dksX2_canTakeOrder_0 1 rfl rfl)
theorem dX2_canTakeOrder_4 : decode cX2_canTakeOrder 4 = .ok (.invokeinterface 98 1, 5) := by decide +kernel
theorem dX2_canTakeOrder_9 : decode cX2_canTakeOrder 9 = .ok (.bipush 10, 2) := dk_16 10 (dk_at dksX2_canTakeOrder_0 9 rfl rfl)
theorem dX2_canTakeOrder_11 : decode cX2_canTakeOrder 11 = .ok (.if_icmp .ge 7, 3) := dk_162 0 7 (dk_at dksX2_canTakeOrder_0 11 rfl rfl)
theorem dX2_canTakeOrder_14 : decode cX2_canTakeOrder 14 = .ok (.iconst 1, 1) := dk_4 (dk_at dksX2_canTakeOrder_0 14 rfl rfl)
theorem dX2_canTakeOrder_15 : decode cX2_canTakeOrder 15 = .ok (.goto 4, 3) := dk_167 0 4 (dk_at dksX2_canTakeOrder_0 15 rfl rfl)
theorem dX2_canTakeOrder_18 : decode cX2_canTakeOrder 18 = .ok (.iconst 0, 1) := dk_3 (dk_at dksX2_canTakeOrder_0 18 rfl rfl)
theorem dX2_canTakeOrder_19 : decode cX2_canTakeOrder 19 = .ok (.ireturn, 1) := dk_172 (dk_at dksX2_canTakeOrder_0 19 rfl rfl)
abbrev cX2_takeOrder : ByteArray := prog_17_method_15_code
def yX2_takeOrder : MethodName := ⟨RX2, "takeOrder", "(LAnnealingLehr$Demand;)V"⟩
def dkwX2_takeOrder_4 : List UInt8 := [177]
abbrev dktX2_takeOrder_4 : List UInt8 := dkwX2_takeOrder_4 ++ []
def dkwX2_takeOrder_3 : List UInt8 := [180, 0, 221, 43, 42, 180, 0, 82, 182, 0, 224, 96, 181, 0, 221, 167, 255, 211, 132, 2, 1, 167, 255, 178]
abbrev dktX2_takeOrder_3 : List UInt8 := dkwX2_takeOrder_3 ++ dktX2_takeOrder_4
def dkwX2_takeOrder_2 : List UInt8 := [43, 45, 180, 0, 196, 182, 0, 217, 153, 0, 33, 45, 89, 180, 0, 214, 4, 100, 181, 0, 214, 45, 89]
abbrev dktX2_takeOrder_2 : List UInt8 := dkwX2_takeOrder_2 ++ dktX2_takeOrder_3
def dkwX2_takeOrder_1 : List UInt8 := [162, 0, 71, 42, 180, 0, 24, 28, 185, 0, 102, 2, 0, 192, 0, 106, 78, 45, 180, 0, 214, 158, 0, 44]
abbrev dktX2_takeOrder_1 : List UInt8 := dkwX2_takeOrder_1 ++ dktX2_takeOrder_2
def dkwX2_takeOrder_0 : List UInt8 := [42, 180, 0, 28, 43, 185, 0, 76, 2, 0, 87, 3, 61, 28, 42, 180, 0, 24, 185, 0, 98, 1, 0]
abbrev dktX2_takeOrder_0 : List UInt8 := dkwX2_takeOrder_0 ++ dktX2_takeOrder_1
theorem dksX2_takeOrder_0 : cX2_takeOrder.data.toList.drop 0 = dktX2_takeOrder_0 := by decide +kernel
theorem dksX2_takeOrder_1 : cX2_takeOrder.data.toList.drop 23 = dktX2_takeOrder_1 := dk_seg dksX2_takeOrder_0 23 rfl rfl
theorem dksX2_takeOrder_2 : cX2_takeOrder.data.toList.drop 47 = dktX2_takeOrder_2 := dk_seg dksX2_takeOrder_1 24 rfl rfl
theorem dksX2_takeOrder_3 : cX2_takeOrder.data.toList.drop 70 = dktX2_takeOrder_3 := dk_seg dksX2_takeOrder_2 23 rfl rfl
theorem dksX2_takeOrder_4 : cX2_takeOrder.data.toList.drop 94 = dktX2_takeOrder_4 := dk_seg dksX2_takeOrder_3 24 rfl rfl
theorem dX2_takeOrder_0 : decode cX2_takeOrder 0 = .ok (.aload_n 0, 1) := dk_42 (dk_at dksX2_takeOrder_0 0 rfl rfl)
theorem dX2_takeOrder_1 : decode cX2_takeOrder 1 = .ok (.getfield 28, 3) := dk_180 0 28 (dk_at dksX2_takeOrder_0 1 rfl rfl)
theorem dX2_takeOrder_4 : decode cX2_takeOrder 4 = .ok (.aload_n 1, 1) := dk_43 (dk_at dksX2_takeOrder_0 4 rfl rfl)
theorem dX2_takeOrder_5 : decode cX2_takeOrder 5 = .ok (.invokeinterface 76 2, 5) := by decide +kernel
theorem dX2_takeOrder_10 : decode cX2_takeOrder 10 = .ok (.pop, 1) := dk_87 (dk_at dksX2_takeOrder_0 10 rfl rfl)
theorem dX2_takeOrder_11 : decode cX2_takeOrder 11 = .ok (.iconst 0, 1) := dk_3 (dk_at dksX2_takeOrder_0 11 rfl rfl)
theorem dX2_takeOrder_12 : decode cX2_takeOrder 12 = .ok (.istore_n 2, 1) := dk_61 (dk_at dksX2_takeOrder_0 12 rfl rfl)
theorem dX2_takeOrder_13 : decode cX2_takeOrder 13 = .ok (.iload_n 2, 1) := dk_28 (dk_at dksX2_takeOrder_0 13 rfl rfl)
theorem dX2_takeOrder_14 : decode cX2_takeOrder 14 = .ok (.aload_n 0, 1) := dk_42 (dk_at dksX2_takeOrder_0 14 rfl rfl)
theorem dX2_takeOrder_15 : decode cX2_takeOrder 15 = .ok (.getfield 24, 3) := dk_180 0 24 (dk_at dksX2_takeOrder_0 15 rfl rfl)
theorem dX2_takeOrder_18 : decode cX2_takeOrder 18 = .ok (.invokeinterface 98 1, 5) := by decide +kernel
theorem dX2_takeOrder_23 : decode cX2_takeOrder 23 = .ok (.if_icmp .ge 71, 3) := dk_162 0 71 (dk_at dksX2_takeOrder_1 0 rfl rfl)
theorem dX2_takeOrder_26 : decode cX2_takeOrder 26 = .ok (.aload_n 0, 1) := dk_42 (dk_at dksX2_takeOrder_1 3 rfl rfl)
theorem dX2_takeOrder_27 : decode cX2_takeOrder 27 = .ok (.getfield 24, 3) := dk_180 0 24 (dk_at dksX2_takeOrder_1 4 rfl rfl)
theorem dX2_takeOrder_30 : decode cX2_takeOrder 30 = .ok (.iload_n 2, 1) := dk_28 (dk_at dksX2_takeOrder_1 7 rfl rfl)
theorem dX2_takeOrder_31 : decode cX2_takeOrder 31 = .ok (.invokeinterface 102 2, 5) := by decide +kernel
theorem dX2_takeOrder_36 : decode cX2_takeOrder 36 = .ok (.checkcast 106, 3) := dk_192 0 106 (dk_at dksX2_takeOrder_1 13 rfl rfl)
theorem dX2_takeOrder_39 : decode cX2_takeOrder 39 = .ok (.astore_n 3, 1) := dk_78 (dk_at dksX2_takeOrder_1 16 rfl rfl)
theorem dX2_takeOrder_40 : decode cX2_takeOrder 40 = .ok (.aload_n 3, 1) := dk_45 (dk_at dksX2_takeOrder_1 17 rfl rfl)
theorem dX2_takeOrder_41 : decode cX2_takeOrder 41 = .ok (.getfield 214, 3) := dk_180 0 214 (dk_at dksX2_takeOrder_1 18 rfl rfl)
theorem dX2_takeOrder_44 : decode cX2_takeOrder 44 = .ok (.ifCond .le 44, 3) := dk_158 0 44 (dk_at dksX2_takeOrder_1 21 rfl rfl)
theorem dX2_takeOrder_47 : decode cX2_takeOrder 47 = .ok (.aload_n 1, 1) := dk_43 (dk_at dksX2_takeOrder_2 0 rfl rfl)
theorem dX2_takeOrder_48 : decode cX2_takeOrder 48 = .ok (.aload_n 3, 1) := dk_45 (dk_at dksX2_takeOrder_2 1 rfl rfl)
theorem dX2_takeOrder_49 : decode cX2_takeOrder 49 = .ok (.getfield 196, 3) := dk_180 0 196 (dk_at dksX2_takeOrder_2 2 rfl rfl)
theorem dX2_takeOrder_52 : decode cX2_takeOrder 52 = .ok (.invokevirtual 217, 3) := dk_182 0 217 (dk_at dksX2_takeOrder_2 5 rfl rfl)
theorem dX2_takeOrder_55 : decode cX2_takeOrder 55 = .ok (.ifCond .eq 33, 3) := dk_153 0 33 (dk_at dksX2_takeOrder_2 8 rfl rfl)
theorem dX2_takeOrder_58 : decode cX2_takeOrder 58 = .ok (.aload_n 3, 1) := dk_45 (dk_at dksX2_takeOrder_2 11 rfl rfl)
theorem dX2_takeOrder_59 : decode cX2_takeOrder 59 = .ok (.dup, 1) := dk_89 (dk_at dksX2_takeOrder_2 12 rfl rfl)
theorem dX2_takeOrder_60 : decode cX2_takeOrder 60 = .ok (.getfield 214, 3) := dk_180 0 214 (dk_at dksX2_takeOrder_2 13 rfl rfl)
theorem dX2_takeOrder_63 : decode cX2_takeOrder 63 = .ok (.iconst 1, 1) := dk_4 (dk_at dksX2_takeOrder_2 16 rfl rfl)
theorem dX2_takeOrder_64 : decode cX2_takeOrder 64 = .ok (.isub, 1) := dk_100 (dk_at dksX2_takeOrder_2 17 rfl rfl)
theorem dX2_takeOrder_65 : decode cX2_takeOrder 65 = .ok (.putfield 214, 3) := dk_181 0 214 (dk_at dksX2_takeOrder_2 18 rfl rfl)
theorem dX2_takeOrder_68 : decode cX2_takeOrder 68 = .ok (.aload_n 3, 1) := dk_45 (dk_at dksX2_takeOrder_2 21 rfl rfl)
theorem dX2_takeOrder_69 : decode cX2_takeOrder 69 = .ok (.dup, 1) := dk_89 (dk_at dksX2_takeOrder_2 22 rfl rfl)
theorem dX2_takeOrder_70 : decode cX2_takeOrder 70 = .ok (.getfield 221, 3) := dk_180 0 221 (dk_at dksX2_takeOrder_3 0 rfl rfl)
theorem dX2_takeOrder_73 : decode cX2_takeOrder 73 = .ok (.aload_n 1, 1) := dk_43 (dk_at dksX2_takeOrder_3 3 rfl rfl)
theorem dX2_takeOrder_74 : decode cX2_takeOrder 74 = .ok (.aload_n 0, 1) := dk_42 (dk_at dksX2_takeOrder_3 4 rfl rfl)
theorem dX2_takeOrder_75 : decode cX2_takeOrder 75 = .ok (.getfield 82, 3) := dk_180 0 82 (dk_at dksX2_takeOrder_3 5 rfl rfl)
theorem dX2_takeOrder_78 : decode cX2_takeOrder 78 = .ok (.invokevirtual 224, 3) := dk_182 0 224 (dk_at dksX2_takeOrder_3 8 rfl rfl)
theorem dX2_takeOrder_81 : decode cX2_takeOrder 81 = .ok (.iadd, 1) := dk_96 (dk_at dksX2_takeOrder_3 11 rfl rfl)
theorem dX2_takeOrder_82 : decode cX2_takeOrder 82 = .ok (.putfield 221, 3) := dk_181 0 221 (dk_at dksX2_takeOrder_3 12 rfl rfl)
theorem dX2_takeOrder_85 : decode cX2_takeOrder 85 = .ok (.goto (-45), 3) := dk_167 255 211 (dk_at dksX2_takeOrder_3 15 rfl rfl)
theorem dX2_takeOrder_88 : decode cX2_takeOrder 88 = .ok (.iinc 2 1, 3) := dk_132 2 1 (dk_at dksX2_takeOrder_3 18 rfl rfl)
theorem dX2_takeOrder_91 : decode cX2_takeOrder 91 = .ok (.goto (-78), 3) := dk_167 255 178 (dk_at dksX2_takeOrder_3 21 rfl rfl)
theorem dX2_takeOrder_94 : decode cX2_takeOrder 94 = .ok (.return_, 1) := dk_177 (dk_at dksX2_takeOrder_4 0 rfl rfl)
abbrev cX2_canPlan : ByteArray := prog_17_method_16_code
def yX2_canPlan : MethodName := ⟨RX2, "canPlan", "(III)Z"⟩
def dkwX2_canPlan_2 : List UInt8 := [162, 0, 7, 4, 167, 0, 4, 3, 172]
abbrev dktX2_canPlan_2 : List UInt8 := dkwX2_canPlan_2 ++ []
def dkwX2_canPlan_1 : List UInt8 := [183, 0, 229, 185, 0, 230, 2, 0, 154, 0, 17, 42, 180, 0, 70, 185, 0, 233, 1, 0, 16, 16]
abbrev dktX2_canPlan_1 : List UInt8 := dkwX2_canPlan_1 ++ dktX2_canPlan_2
def dkwX2_canPlan_0 : List UInt8 := [27, 42, 180, 0, 82, 164, 0, 47, 29, 2, 159, 0, 38, 42, 180, 0, 70, 187, 0, 227, 89, 27, 28]
abbrev dktX2_canPlan_0 : List UInt8 := dkwX2_canPlan_0 ++ dktX2_canPlan_1
theorem dksX2_canPlan_0 : cX2_canPlan.data.toList.drop 0 = dktX2_canPlan_0 := by decide +kernel
theorem dksX2_canPlan_1 : cX2_canPlan.data.toList.drop 23 = dktX2_canPlan_1 := dk_seg dksX2_canPlan_0 23 rfl rfl
theorem dksX2_canPlan_2 : cX2_canPlan.data.toList.drop 45 = dktX2_canPlan_2 := dk_seg dksX2_canPlan_1 22 rfl rfl
theorem dX2_canPlan_0 : decode cX2_canPlan 0 = .ok (.iload_n 1, 1) := dk_27 (dk_at dksX2_canPlan_0 0 rfl rfl)
theorem dX2_canPlan_1 : decode cX2_canPlan 1 = .ok (.aload_n 0, 1) := dk_42 (dk_at dksX2_canPlan_0 1 rfl rfl)
theorem dX2_canPlan_2 : decode cX2_canPlan 2 = .ok (.getfield 82, 3) := dk_180 0 82 (dk_at dksX2_canPlan_0 2 rfl rfl)
theorem dX2_canPlan_5 : decode cX2_canPlan 5 = .ok (.if_icmp .le 47, 3) := dk_164 0 47 (dk_at dksX2_canPlan_0 5 rfl rfl)
theorem dX2_canPlan_8 : decode cX2_canPlan 8 = .ok (.iload_n 3, 1) := dk_29 (dk_at dksX2_canPlan_0 8 rfl rfl)
theorem dX2_canPlan_9 : decode cX2_canPlan 9 = .ok (.iconst (-1), 1) := dk_2 (dk_at dksX2_canPlan_0 9 rfl rfl)
theorem dX2_canPlan_10 : decode cX2_canPlan 10 = .ok (.if_icmp .eq 38, 3) := dk_159 0 38 (dk_at dksX2_canPlan_0 10 rfl rfl)
theorem dX2_canPlan_13 : decode cX2_canPlan 13 = .ok (.aload_n 0, 1) := dk_42 (dk_at dksX2_canPlan_0 13 rfl rfl)
theorem dX2_canPlan_14 : decode cX2_canPlan 14 = .ok (.getfield 70, 3) := dk_180 0 70 (dk_at dksX2_canPlan_0 14 rfl rfl)
theorem dX2_canPlan_17 : decode cX2_canPlan 17 = .ok (.new 227, 3) := dk_187 0 227 (dk_at dksX2_canPlan_0 17 rfl rfl)
theorem dX2_canPlan_20 : decode cX2_canPlan 20 = .ok (.dup, 1) := dk_89 (dk_at dksX2_canPlan_0 20 rfl rfl)
theorem dX2_canPlan_21 : decode cX2_canPlan 21 = .ok (.iload_n 1, 1) := dk_27 (dk_at dksX2_canPlan_0 21 rfl rfl)
theorem dX2_canPlan_22 : decode cX2_canPlan 22 = .ok (.iload_n 2, 1) := dk_28 (dk_at dksX2_canPlan_0 22 rfl rfl)
theorem dX2_canPlan_23 : decode cX2_canPlan 23 = .ok (.invokespecial 229, 3) := dk_183 0 229 (dk_at dksX2_canPlan_1 0 rfl rfl)
theorem dX2_canPlan_26 : decode cX2_canPlan 26 = .ok (.invokeinterface 230 2, 5) := by decide +kernel
theorem dX2_canPlan_31 : decode cX2_canPlan 31 = .ok (.ifCond .ne 17, 3) := dk_154 0 17 (dk_at dksX2_canPlan_1 8 rfl rfl)
theorem dX2_canPlan_34 : decode cX2_canPlan 34 = .ok (.aload_n 0, 1) := dk_42 (dk_at dksX2_canPlan_1 11 rfl rfl)
theorem dX2_canPlan_35 : decode cX2_canPlan 35 = .ok (.getfield 70, 3) := dk_180 0 70 (dk_at dksX2_canPlan_1 12 rfl rfl)
theorem dX2_canPlan_38 : decode cX2_canPlan 38 = .ok (.invokeinterface 233 1, 5) := by decide +kernel
theorem dX2_canPlan_43 : decode cX2_canPlan 43 = .ok (.bipush 16, 2) := dk_16 16 (dk_at dksX2_canPlan_1 20 rfl rfl)
theorem dX2_canPlan_45 : decode cX2_canPlan 45 = .ok (.if_icmp .ge 7, 3) := dk_162 0 7 (dk_at dksX2_canPlan_2 0 rfl rfl)
theorem dX2_canPlan_48 : decode cX2_canPlan 48 = .ok (.iconst 1, 1) := dk_4 (dk_at dksX2_canPlan_2 3 rfl rfl)
theorem dX2_canPlan_49 : decode cX2_canPlan 49 = .ok (.goto 4, 3) := dk_167 0 4 (dk_at dksX2_canPlan_2 4 rfl rfl)
theorem dX2_canPlan_52 : decode cX2_canPlan 52 = .ok (.iconst 0, 1) := dk_3 (dk_at dksX2_canPlan_2 7 rfl rfl)
theorem dX2_canPlan_53 : decode cX2_canPlan 53 = .ok (.ireturn, 1) := dk_172 (dk_at dksX2_canPlan_2 8 rfl rfl)
abbrev cX2_plannedFor : ByteArray := prog_17_method_17_code
def yX2_plannedFor : MethodName := ⟨RX2, "plannedFor", "(II)I"⟩
def dkwX2_plannedFor_1 : List UInt8 := [199, 0, 7, 2, 167, 0, 7, 45, 182, 0, 239, 172]
abbrev dktX2_plannedFor_1 : List UInt8 := dkwX2_plannedFor_1 ++ []
def dkwX2_plannedFor_0 : List UInt8 := [42, 180, 0, 70, 187, 0, 227, 89, 27, 28, 183, 0, 229, 185, 0, 234, 2, 0, 192, 0, 237, 78, 45]
abbrev dktX2_plannedFor_0 : List UInt8 := dkwX2_plannedFor_0 ++ dktX2_plannedFor_1
theorem dksX2_plannedFor_0 : cX2_plannedFor.data.toList.drop 0 = dktX2_plannedFor_0 := by decide +kernel
theorem dksX2_plannedFor_1 : cX2_plannedFor.data.toList.drop 23 = dktX2_plannedFor_1 := dk_seg dksX2_plannedFor_0 23 rfl rfl
theorem dX2_plannedFor_0 : decode cX2_plannedFor 0 = .ok (.aload_n 0, 1) := dk_42 (dk_at dksX2_plannedFor_0 0 rfl rfl)
theorem dX2_plannedFor_1 : decode cX2_plannedFor 1 = .ok (.getfield 70, 3) := dk_180 0 70 (dk_at dksX2_plannedFor_0 1 rfl rfl)
theorem dX2_plannedFor_4 : decode cX2_plannedFor 4 = .ok (.new 227, 3) := dk_187 0 227 (dk_at dksX2_plannedFor_0 4 rfl rfl)
theorem dX2_plannedFor_7 : decode cX2_plannedFor 7 = .ok (.dup, 1) := dk_89 (dk_at dksX2_plannedFor_0 7 rfl rfl)
theorem dX2_plannedFor_8 : decode cX2_plannedFor 8 = .ok (.iload_n 1, 1) := dk_27 (dk_at dksX2_plannedFor_0 8 rfl rfl)
theorem dX2_plannedFor_9 : decode cX2_plannedFor 9 = .ok (.iload_n 2, 1) := dk_28 (dk_at dksX2_plannedFor_0 9 rfl rfl)
theorem dX2_plannedFor_10 : decode cX2_plannedFor 10 = .ok (.invokespecial 229, 3) := dk_183 0 229 (dk_at dksX2_plannedFor_0 10 rfl rfl)
theorem dX2_plannedFor_13 : decode cX2_plannedFor 13 = .ok (.invokeinterface 234 2, 5) := by decide +kernel
theorem dX2_plannedFor_18 : decode cX2_plannedFor 18 = .ok (.checkcast 237, 3) := dk_192 0 237 (dk_at dksX2_plannedFor_0 18 rfl rfl)
theorem dX2_plannedFor_21 : decode cX2_plannedFor 21 = .ok (.astore_n 3, 1) := dk_78 (dk_at dksX2_plannedFor_0 21 rfl rfl)
theorem dX2_plannedFor_22 : decode cX2_plannedFor 22 = .ok (.aload_n 3, 1) := dk_45 (dk_at dksX2_plannedFor_0 22 rfl rfl)
theorem dX2_plannedFor_23 : decode cX2_plannedFor 23 = .ok (.ifnonnull 7, 3) := dk_199 0 7 (dk_at dksX2_plannedFor_1 0 rfl rfl)
theorem dX2_plannedFor_26 : decode cX2_plannedFor 26 = .ok (.iconst (-1), 1) := dk_2 (dk_at dksX2_plannedFor_1 3 rfl rfl)
theorem dX2_plannedFor_27 : decode cX2_plannedFor 27 = .ok (.goto 7, 3) := dk_167 0 7 (dk_at dksX2_plannedFor_1 4 rfl rfl)
theorem dX2_plannedFor_30 : decode cX2_plannedFor 30 = .ok (.aload_n 3, 1) := dk_45 (dk_at dksX2_plannedFor_1 7 rfl rfl)
theorem dX2_plannedFor_31 : decode cX2_plannedFor 31 = .ok (.invokevirtual 239, 3) := dk_182 0 239 (dk_at dksX2_plannedFor_1 8 rfl rfl)
theorem dX2_plannedFor_34 : decode cX2_plannedFor 34 = .ok (.ireturn, 1) := dk_172 (dk_at dksX2_plannedFor_1 11 rfl rfl)
abbrev cX2_plan : ByteArray := prog_17_method_18_code
def yX2_plan : MethodName := ⟨RX2, "plan", "(III)V"⟩
def dkwX2_plan_2 : List UInt8 := [87, 42, 182, 0, 249, 177]
abbrev dktX2_plan_2 : List UInt8 := dkwX2_plan_2 ++ []
def dkwX2_plan_1 : List UInt8 := [185, 0, 242, 2, 0, 87, 167, 0, 19, 42, 180, 0, 70, 25, 4, 29, 184, 0, 245, 185, 0, 145, 3, 0]
abbrev dktX2_plan_1 : List UInt8 := dkwX2_plan_1 ++ dktX2_plan_2
def dkwX2_plan_0 : List UInt8 := [187, 0, 227, 89, 27, 28, 183, 0, 229, 58, 4, 29, 2, 160, 0, 18, 42, 180, 0, 70, 25, 4]
abbrev dktX2_plan_0 : List UInt8 := dkwX2_plan_0 ++ dktX2_plan_1
theorem dksX2_plan_0 : cX2_plan.data.toList.drop 0 = dktX2_plan_0 := by decide +kernel
theorem dksX2_plan_1 : cX2_plan.data.toList.drop 22 = dktX2_plan_1 := dk_seg dksX2_plan_0 22 rfl rfl
theorem dksX2_plan_2 : cX2_plan.data.toList.drop 46 = dktX2_plan_2 := dk_seg dksX2_plan_1 24 rfl rfl
theorem dX2_plan_0 : decode cX2_plan 0 = .ok (.new 227, 3) := dk_187 0 227 (dk_at dksX2_plan_0 0 rfl rfl)
theorem dX2_plan_3 : decode cX2_plan 3 = .ok (.dup, 1) := dk_89 (dk_at dksX2_plan_0 3 rfl rfl)
theorem dX2_plan_4 : decode cX2_plan 4 = .ok (.iload_n 1, 1) := dk_27 (dk_at dksX2_plan_0 4 rfl rfl)
theorem dX2_plan_5 : decode cX2_plan 5 = .ok (.iload_n 2, 1) := dk_28 (dk_at dksX2_plan_0 5 rfl rfl)
theorem dX2_plan_6 : decode cX2_plan 6 = .ok (.invokespecial 229, 3) := dk_183 0 229 (dk_at dksX2_plan_0 6 rfl rfl)
theorem dX2_plan_9 : decode cX2_plan 9 = .ok (.astore 4, 2) := dk_58 4 (dk_at dksX2_plan_0 9 rfl rfl)
theorem dX2_plan_11 : decode cX2_plan 11 = .ok (.iload_n 3, 1) := dk_29 (dk_at dksX2_plan_0 11 rfl rfl)
theorem dX2_plan_12 : decode cX2_plan 12 = .ok (.iconst (-1), 1) := dk_2 (dk_at dksX2_plan_0 12 rfl rfl)
theorem dX2_plan_13 : decode cX2_plan 13 = .ok (.if_icmp .ne 18, 3) := dk_160 0 18 (dk_at dksX2_plan_0 13 rfl rfl)
theorem dX2_plan_16 : decode cX2_plan 16 = .ok (.aload_n 0, 1) := dk_42 (dk_at dksX2_plan_0 16 rfl rfl)
theorem dX2_plan_17 : decode cX2_plan 17 = .ok (.getfield 70, 3) := dk_180 0 70 (dk_at dksX2_plan_0 17 rfl rfl)
theorem dX2_plan_20 : decode cX2_plan 20 = .ok (.aload 4, 2) := dk_25 4 (dk_at dksX2_plan_0 20 rfl rfl)
theorem dX2_plan_22 : decode cX2_plan 22 = .ok (.invokeinterface 242 2, 5) := by decide +kernel
theorem dX2_plan_27 : decode cX2_plan 27 = .ok (.pop, 1) := dk_87 (dk_at dksX2_plan_1 5 rfl rfl)
theorem dX2_plan_28 : decode cX2_plan 28 = .ok (.goto 19, 3) := dk_167 0 19 (dk_at dksX2_plan_1 6 rfl rfl)
theorem dX2_plan_31 : decode cX2_plan 31 = .ok (.aload_n 0, 1) := dk_42 (dk_at dksX2_plan_1 9 rfl rfl)
theorem dX2_plan_32 : decode cX2_plan 32 = .ok (.getfield 70, 3) := dk_180 0 70 (dk_at dksX2_plan_1 10 rfl rfl)
theorem dX2_plan_35 : decode cX2_plan 35 = .ok (.aload 4, 2) := dk_25 4 (dk_at dksX2_plan_1 13 rfl rfl)
theorem dX2_plan_37 : decode cX2_plan 37 = .ok (.iload_n 3, 1) := dk_29 (dk_at dksX2_plan_1 15 rfl rfl)
theorem dX2_plan_38 : decode cX2_plan 38 = .ok (.invokestatic 245, 3) := dk_184 0 245 (dk_at dksX2_plan_1 16 rfl rfl)
theorem dX2_plan_41 : decode cX2_plan 41 = .ok (.invokeinterface 145 3, 5) := by decide +kernel
theorem dX2_plan_46 : decode cX2_plan 46 = .ok (.pop, 1) := dk_87 (dk_at dksX2_plan_2 0 rfl rfl)
theorem dX2_plan_47 : decode cX2_plan 47 = .ok (.aload_n 0, 1) := dk_42 (dk_at dksX2_plan_2 1 rfl rfl)
theorem dX2_plan_48 : decode cX2_plan 48 = .ok (.invokevirtual 249, 3) := dk_182 0 249 (dk_at dksX2_plan_2 2 rfl rfl)
theorem dX2_plan_51 : decode cX2_plan 51 = .ok (.return_, 1) := dk_177 (dk_at dksX2_plan_2 5 rfl rfl)
abbrev cX2_burning : ByteArray := prog_17_method_25_code
def yX2_burning : MethodName := ⟨RX2, "burning", "(I)I"⟩
def dkwX2_burning_2 : List UInt8 := [182, 1, 60, 172]
abbrev dktX2_burning_2 : List UInt8 := dkwX2_burning_2 ++ []
def dkwX2_burning_1 : List UInt8 := [46, 184, 1, 40, 28, 182, 1, 45, 78, 28, 45, 182, 1, 48, 100, 61, 132, 4, 1, 167, 255, 225, 45]
abbrev dktX2_burning_1 : List UInt8 := dkwX2_burning_1 ++ dktX2_burning_2
def dkwX2_burning_0 : List UInt8 := [42, 180, 0, 9, 61, 178, 1, 56, 78, 3, 54, 4, 21, 4, 27, 163, 0, 31, 42, 180, 0, 44, 21, 4]
abbrev dktX2_burning_0 : List UInt8 := dkwX2_burning_0 ++ dktX2_burning_1
theorem dksX2_burning_0 : cX2_burning.data.toList.drop 0 = dktX2_burning_0 := by decide +kernel
theorem dksX2_burning_1 : cX2_burning.data.toList.drop 24 = dktX2_burning_1 := dk_seg dksX2_burning_0 24 rfl rfl
theorem dksX2_burning_2 : cX2_burning.data.toList.drop 47 = dktX2_burning_2 := dk_seg dksX2_burning_1 23 rfl rfl
theorem dX2_burning_0 : decode cX2_burning 0 = .ok (.aload_n 0, 1) := dk_42 (dk_at dksX2_burning_0 0 rfl rfl)
theorem dX2_burning_1 : decode cX2_burning 1 = .ok (.getfield 9, 3) := dk_180 0 9 (dk_at dksX2_burning_0 1 rfl rfl)
theorem dX2_burning_4 : decode cX2_burning 4 = .ok (.istore_n 2, 1) := dk_61 (dk_at dksX2_burning_0 4 rfl rfl)
theorem dX2_burning_5 : decode cX2_burning 5 = .ok (.getstatic 312, 3) := dk_178 1 56 (dk_at dksX2_burning_0 5 rfl rfl)
theorem dX2_burning_8 : decode cX2_burning 8 = .ok (.astore_n 3, 1) := dk_78 (dk_at dksX2_burning_0 8 rfl rfl)
theorem dX2_burning_9 : decode cX2_burning 9 = .ok (.iconst 0, 1) := dk_3 (dk_at dksX2_burning_0 9 rfl rfl)
theorem dX2_burning_10 : decode cX2_burning 10 = .ok (.istore 4, 2) := dk_54 4 (dk_at dksX2_burning_0 10 rfl rfl)
theorem dX2_burning_12 : decode cX2_burning 12 = .ok (.iload 4, 2) := dk_21 4 (dk_at dksX2_burning_0 12 rfl rfl)
theorem dX2_burning_14 : decode cX2_burning 14 = .ok (.iload_n 1, 1) := dk_27 (dk_at dksX2_burning_0 14 rfl rfl)
theorem dX2_burning_15 : decode cX2_burning 15 = .ok (.if_icmp .gt 31, 3) := dk_163 0 31 (dk_at dksX2_burning_0 15 rfl rfl)
theorem dX2_burning_18 : decode cX2_burning 18 = .ok (.aload_n 0, 1) := dk_42 (dk_at dksX2_burning_0 18 rfl rfl)
theorem dX2_burning_19 : decode cX2_burning 19 = .ok (.getfield 44, 3) := dk_180 0 44 (dk_at dksX2_burning_0 19 rfl rfl)
theorem dX2_burning_22 : decode cX2_burning 22 = .ok (.iload 4, 2) := dk_21 4 (dk_at dksX2_burning_0 22 rfl rfl)
theorem dX2_burning_24 : decode cX2_burning 24 = .ok (.iaload, 1) := dk_46 (dk_at dksX2_burning_1 0 rfl rfl)
theorem dX2_burning_25 : decode cX2_burning 25 = .ok (.invokestatic 296, 3) := dk_184 1 40 (dk_at dksX2_burning_1 1 rfl rfl)
theorem dX2_burning_28 : decode cX2_burning 28 = .ok (.iload_n 2, 1) := dk_28 (dk_at dksX2_burning_1 4 rfl rfl)
theorem dX2_burning_29 : decode cX2_burning 29 = .ok (.invokevirtual 301, 3) := dk_182 1 45 (dk_at dksX2_burning_1 5 rfl rfl)
theorem dX2_burning_32 : decode cX2_burning 32 = .ok (.astore_n 3, 1) := dk_78 (dk_at dksX2_burning_1 8 rfl rfl)
theorem dX2_burning_33 : decode cX2_burning 33 = .ok (.iload_n 2, 1) := dk_28 (dk_at dksX2_burning_1 9 rfl rfl)
theorem dX2_burning_34 : decode cX2_burning 34 = .ok (.aload_n 3, 1) := dk_45 (dk_at dksX2_burning_1 10 rfl rfl)
theorem dX2_burning_35 : decode cX2_burning 35 = .ok (.invokevirtual 304, 3) := dk_182 1 48 (dk_at dksX2_burning_1 11 rfl rfl)
theorem dX2_burning_38 : decode cX2_burning 38 = .ok (.isub, 1) := dk_100 (dk_at dksX2_burning_1 14 rfl rfl)
theorem dX2_burning_39 : decode cX2_burning 39 = .ok (.istore_n 2, 1) := dk_61 (dk_at dksX2_burning_1 15 rfl rfl)
theorem dX2_burning_40 : decode cX2_burning 40 = .ok (.iinc 4 1, 3) := dk_132 4 1 (dk_at dksX2_burning_1 16 rfl rfl)
theorem dX2_burning_43 : decode cX2_burning 43 = .ok (.goto (-31), 3) := dk_167 255 225 (dk_at dksX2_burning_1 19 rfl rfl)
theorem dX2_burning_46 : decode cX2_burning 46 = .ok (.aload_n 3, 1) := dk_45 (dk_at dksX2_burning_1 22 rfl rfl)
theorem dX2_burning_47 : decode cX2_burning 47 = .ok (.invokevirtual 316, 3) := dk_182 1 60 (dk_at dksX2_burning_2 0 rfl rfl)
theorem dX2_burning_50 : decode cX2_burning 50 = .ok (.ireturn, 1) := dk_172 (dk_at dksX2_burning_2 3 rfl rfl)
abbrev cX2_whyNotMoving : ByteArray := prog_17_method_35_code
def yX2_whyNotMoving : MethodName := ⟨RX2, "whyNotMoving", "()[I"⟩
def dkwX2_whyNotMoving_5 : List UInt8 := [43, 176]
abbrev dktX2_whyNotMoving_5 : List UInt8 := dkwX2_whyNotMoving_5 ++ []
def dkwX2_whyNotMoving_4 : List UInt8 := [162, 0, 18, 42, 180, 0, 60, 28, 4, 96, 51, 153, 0, 7, 43, 28, 8, 79, 132, 2, 255, 167, 255, 147]
abbrev dktX2_whyNotMoving_4 : List UInt8 := dkwX2_whyNotMoving_4 ++ dktX2_whyNotMoving_5
def dkwX2_whyNotMoving_3 : List UInt8 := [16, 23, 162, 0, 19, 43, 28, 4, 96, 46, 4, 164, 0, 10, 43, 28, 7, 79, 167, 0, 24, 28, 16, 23]
abbrev dktX2_whyNotMoving_3 : List UInt8 := dkwX2_whyNotMoving_3 ++ dktX2_whyNotMoving_4
def dkwX2_whyNotMoving_2 : List UInt8 := [5, 79, 167, 0, 64, 45, 180, 1, 82, 4, 96, 21, 4, 162, 0, 10, 43, 28, 6, 79, 167, 0, 46, 28]
abbrev dktX2_whyNotMoving_2 : List UInt8 := dkwX2_whyNotMoving_2 ++ dktX2_whyNotMoving_3
def dkwX2_whyNotMoving_1 : List UInt8 := [184, 1, 20, 46, 54, 4, 45, 199, 0, 10, 43, 28, 4, 79, 167, 0, 76, 21, 4, 154, 0, 10, 43, 28]
abbrev dktX2_whyNotMoving_1 : List UInt8 := dkwX2_whyNotMoving_1 ++ dktX2_whyNotMoving_2
def dkwX2_whyNotMoving_0 : List UInt8 := [16, 24, 188, 10, 76, 16, 23, 61, 28, 155, 0, 111, 42, 180, 0, 17, 28, 50, 78, 42, 180, 0, 51, 28]
abbrev dktX2_whyNotMoving_0 : List UInt8 := dkwX2_whyNotMoving_0 ++ dktX2_whyNotMoving_1
theorem dksX2_whyNotMoving_0 : cX2_whyNotMoving.data.toList.drop 0 = dktX2_whyNotMoving_0 := by decide +kernel
theorem dksX2_whyNotMoving_1 : cX2_whyNotMoving.data.toList.drop 24 = dktX2_whyNotMoving_1 := dk_seg dksX2_whyNotMoving_0 24 rfl rfl
theorem dksX2_whyNotMoving_2 : cX2_whyNotMoving.data.toList.drop 48 = dktX2_whyNotMoving_2 := dk_seg dksX2_whyNotMoving_1 24 rfl rfl
theorem dksX2_whyNotMoving_3 : cX2_whyNotMoving.data.toList.drop 72 = dktX2_whyNotMoving_3 := dk_seg dksX2_whyNotMoving_2 24 rfl rfl
theorem dksX2_whyNotMoving_4 : cX2_whyNotMoving.data.toList.drop 96 = dktX2_whyNotMoving_4 := dk_seg dksX2_whyNotMoving_3 24 rfl rfl
theorem dksX2_whyNotMoving_5 : cX2_whyNotMoving.data.toList.drop 120 = dktX2_whyNotMoving_5 := dk_seg dksX2_whyNotMoving_4 24 rfl rfl
theorem dX2_whyNotMoving_0 : decode cX2_whyNotMoving 0 = .ok (.bipush 24, 2) := dk_16 24 (dk_at dksX2_whyNotMoving_0 0 rfl rfl)
theorem dX2_whyNotMoving_2 : decode cX2_whyNotMoving 2 = .ok (.newarray .int, 2) := dk_188_10 (dk_at dksX2_whyNotMoving_0 2 rfl rfl)
theorem dX2_whyNotMoving_4 : decode cX2_whyNotMoving 4 = .ok (.astore_n 1, 1) := dk_76 (dk_at dksX2_whyNotMoving_0 4 rfl rfl)
theorem dX2_whyNotMoving_5 : decode cX2_whyNotMoving 5 = .ok (.bipush 23, 2) := dk_16 23 (dk_at dksX2_whyNotMoving_0 5 rfl rfl)
theorem dX2_whyNotMoving_7 : decode cX2_whyNotMoving 7 = .ok (.istore_n 2, 1) := dk_61 (dk_at dksX2_whyNotMoving_0 7 rfl rfl)
theorem dX2_whyNotMoving_8 : decode cX2_whyNotMoving 8 = .ok (.iload_n 2, 1) := dk_28 (dk_at dksX2_whyNotMoving_0 8 rfl rfl)
theorem dX2_whyNotMoving_9 : decode cX2_whyNotMoving 9 = .ok (.ifCond .lt 111, 3) := dk_155 0 111 (dk_at dksX2_whyNotMoving_0 9 rfl rfl)
theorem dX2_whyNotMoving_12 : decode cX2_whyNotMoving 12 = .ok (.aload_n 0, 1) := dk_42 (dk_at dksX2_whyNotMoving_0 12 rfl rfl)
theorem dX2_whyNotMoving_13 : decode cX2_whyNotMoving 13 = .ok (.getfield 17, 3) := dk_180 0 17 (dk_at dksX2_whyNotMoving_0 13 rfl rfl)
theorem dX2_whyNotMoving_16 : decode cX2_whyNotMoving 16 = .ok (.iload_n 2, 1) := dk_28 (dk_at dksX2_whyNotMoving_0 16 rfl rfl)
theorem dX2_whyNotMoving_17 : decode cX2_whyNotMoving 17 = .ok (.aaload, 1) := dk_50 (dk_at dksX2_whyNotMoving_0 17 rfl rfl)
theorem dX2_whyNotMoving_18 : decode cX2_whyNotMoving 18 = .ok (.astore_n 3, 1) := dk_78 (dk_at dksX2_whyNotMoving_0 18 rfl rfl)
theorem dX2_whyNotMoving_19 : decode cX2_whyNotMoving 19 = .ok (.aload_n 0, 1) := dk_42 (dk_at dksX2_whyNotMoving_0 19 rfl rfl)
theorem dX2_whyNotMoving_20 : decode cX2_whyNotMoving 20 = .ok (.getfield 51, 3) := dk_180 0 51 (dk_at dksX2_whyNotMoving_0 20 rfl rfl)
theorem dX2_whyNotMoving_23 : decode cX2_whyNotMoving 23 = .ok (.iload_n 2, 1) := dk_28 (dk_at dksX2_whyNotMoving_0 23 rfl rfl)
theorem dX2_whyNotMoving_24 : decode cX2_whyNotMoving 24 = .ok (.invokestatic 276, 3) := dk_184 1 20 (dk_at dksX2_whyNotMoving_1 0 rfl rfl)
theorem dX2_whyNotMoving_27 : decode cX2_whyNotMoving 27 = .ok (.iaload, 1) := dk_46 (dk_at dksX2_whyNotMoving_1 3 rfl rfl)
theorem dX2_whyNotMoving_28 : decode cX2_whyNotMoving 28 = .ok (.istore 4, 2) := dk_54 4 (dk_at dksX2_whyNotMoving_1 4 rfl rfl)
theorem dX2_whyNotMoving_30 : decode cX2_whyNotMoving 30 = .ok (.aload_n 3, 1) := dk_45 (dk_at dksX2_whyNotMoving_1 6 rfl rfl)
theorem dX2_whyNotMoving_31 : decode cX2_whyNotMoving 31 = .ok (.ifnonnull 10, 3) := dk_199 0 10 (dk_at dksX2_whyNotMoving_1 7 rfl rfl)
theorem dX2_whyNotMoving_34 : decode cX2_whyNotMoving 34 = .ok (.aload_n 1, 1) := dk_43 (dk_at dksX2_whyNotMoving_1 10 rfl rfl)
theorem dX2_whyNotMoving_35 : decode cX2_whyNotMoving 35 = .ok (.iload_n 2, 1) := dk_28 (dk_at dksX2_whyNotMoving_1 11 rfl rfl)
theorem dX2_whyNotMoving_36 : decode cX2_whyNotMoving 36 = .ok (.iconst 1, 1) := dk_4 (dk_at dksX2_whyNotMoving_1 12 rfl rfl)
theorem dX2_whyNotMoving_37 : decode cX2_whyNotMoving 37 = .ok (.iastore, 1) := dk_79 (dk_at dksX2_whyNotMoving_1 13 rfl rfl)
theorem dX2_whyNotMoving_38 : decode cX2_whyNotMoving 38 = .ok (.goto 76, 3) := dk_167 0 76 (dk_at dksX2_whyNotMoving_1 14 rfl rfl)
theorem dX2_whyNotMoving_41 : decode cX2_whyNotMoving 41 = .ok (.iload 4, 2) := dk_21 4 (dk_at dksX2_whyNotMoving_1 17 rfl rfl)
theorem dX2_whyNotMoving_43 : decode cX2_whyNotMoving 43 = .ok (.ifCond .ne 10, 3) := dk_154 0 10 (dk_at dksX2_whyNotMoving_1 19 rfl rfl)
theorem dX2_whyNotMoving_46 : decode cX2_whyNotMoving 46 = .ok (.aload_n 1, 1) := dk_43 (dk_at dksX2_whyNotMoving_1 22 rfl rfl)
theorem dX2_whyNotMoving_47 : decode cX2_whyNotMoving 47 = .ok (.iload_n 2, 1) := dk_28 (dk_at dksX2_whyNotMoving_1 23 rfl rfl)
theorem dX2_whyNotMoving_48 : decode cX2_whyNotMoving 48 = .ok (.iconst 2, 1) := dk_5 (dk_at dksX2_whyNotMoving_2 0 rfl rfl)
theorem dX2_whyNotMoving_49 : decode cX2_whyNotMoving 49 = .ok (.iastore, 1) := dk_79 (dk_at dksX2_whyNotMoving_2 1 rfl rfl)
theorem dX2_whyNotMoving_50 : decode cX2_whyNotMoving 50 = .ok (.goto 64, 3) := dk_167 0 64 (dk_at dksX2_whyNotMoving_2 2 rfl rfl)
theorem dX2_whyNotMoving_53 : decode cX2_whyNotMoving 53 = .ok (.aload_n 3, 1) := dk_45 (dk_at dksX2_whyNotMoving_2 5 rfl rfl)
theorem dX2_whyNotMoving_54 : decode cX2_whyNotMoving 54 = .ok (.getfield 338, 3) := dk_180 1 82 (dk_at dksX2_whyNotMoving_2 6 rfl rfl)
theorem dX2_whyNotMoving_57 : decode cX2_whyNotMoving 57 = .ok (.iconst 1, 1) := dk_4 (dk_at dksX2_whyNotMoving_2 9 rfl rfl)
theorem dX2_whyNotMoving_58 : decode cX2_whyNotMoving 58 = .ok (.iadd, 1) := dk_96 (dk_at dksX2_whyNotMoving_2 10 rfl rfl)
theorem dX2_whyNotMoving_59 : decode cX2_whyNotMoving 59 = .ok (.iload 4, 2) := dk_21 4 (dk_at dksX2_whyNotMoving_2 11 rfl rfl)
theorem dX2_whyNotMoving_61 : decode cX2_whyNotMoving 61 = .ok (.if_icmp .ge 10, 3) := dk_162 0 10 (dk_at dksX2_whyNotMoving_2 13 rfl rfl)
theorem dX2_whyNotMoving_64 : decode cX2_whyNotMoving 64 = .ok (.aload_n 1, 1) := dk_43 (dk_at dksX2_whyNotMoving_2 16 rfl rfl)
theorem dX2_whyNotMoving_65 : decode cX2_whyNotMoving 65 = .ok (.iload_n 2, 1) := dk_28 (dk_at dksX2_whyNotMoving_2 17 rfl rfl)
theorem dX2_whyNotMoving_66 : decode cX2_whyNotMoving 66 = .ok (.iconst 3, 1) := dk_6 (dk_at dksX2_whyNotMoving_2 18 rfl rfl)
theorem dX2_whyNotMoving_67 : decode cX2_whyNotMoving 67 = .ok (.iastore, 1) := dk_79 (dk_at dksX2_whyNotMoving_2 19 rfl rfl)
theorem dX2_whyNotMoving_68 : decode cX2_whyNotMoving 68 = .ok (.goto 46, 3) := dk_167 0 46 (dk_at dksX2_whyNotMoving_2 20 rfl rfl)
theorem dX2_whyNotMoving_71 : decode cX2_whyNotMoving 71 = .ok (.iload_n 2, 1) := dk_28 (dk_at dksX2_whyNotMoving_2 23 rfl rfl)
theorem dX2_whyNotMoving_72 : decode cX2_whyNotMoving 72 = .ok (.bipush 23, 2) := dk_16 23 (dk_at dksX2_whyNotMoving_3 0 rfl rfl)
theorem dX2_whyNotMoving_74 : decode cX2_whyNotMoving 74 = .ok (.if_icmp .ge 19, 3) := dk_162 0 19 (dk_at dksX2_whyNotMoving_3 2 rfl rfl)
theorem dX2_whyNotMoving_77 : decode cX2_whyNotMoving 77 = .ok (.aload_n 1, 1) := dk_43 (dk_at dksX2_whyNotMoving_3 5 rfl rfl)
theorem dX2_whyNotMoving_78 : decode cX2_whyNotMoving 78 = .ok (.iload_n 2, 1) := dk_28 (dk_at dksX2_whyNotMoving_3 6 rfl rfl)
theorem dX2_whyNotMoving_79 : decode cX2_whyNotMoving 79 = .ok (.iconst 1, 1) := dk_4 (dk_at dksX2_whyNotMoving_3 7 rfl rfl)
theorem dX2_whyNotMoving_80 : decode cX2_whyNotMoving 80 = .ok (.iadd, 1) := dk_96 (dk_at dksX2_whyNotMoving_3 8 rfl rfl)
theorem dX2_whyNotMoving_81 : decode cX2_whyNotMoving 81 = .ok (.iaload, 1) := dk_46 (dk_at dksX2_whyNotMoving_3 9 rfl rfl)
theorem dX2_whyNotMoving_82 : decode cX2_whyNotMoving 82 = .ok (.iconst 1, 1) := dk_4 (dk_at dksX2_whyNotMoving_3 10 rfl rfl)
theorem dX2_whyNotMoving_83 : decode cX2_whyNotMoving 83 = .ok (.if_icmp .le 10, 3) := dk_164 0 10 (dk_at dksX2_whyNotMoving_3 11 rfl rfl)
theorem dX2_whyNotMoving_86 : decode cX2_whyNotMoving 86 = .ok (.aload_n 1, 1) := dk_43 (dk_at dksX2_whyNotMoving_3 14 rfl rfl)
theorem dX2_whyNotMoving_87 : decode cX2_whyNotMoving 87 = .ok (.iload_n 2, 1) := dk_28 (dk_at dksX2_whyNotMoving_3 15 rfl rfl)
theorem dX2_whyNotMoving_88 : decode cX2_whyNotMoving 88 = .ok (.iconst 4, 1) := dk_7 (dk_at dksX2_whyNotMoving_3 16 rfl rfl)
theorem dX2_whyNotMoving_89 : decode cX2_whyNotMoving 89 = .ok (.iastore, 1) := dk_79 (dk_at dksX2_whyNotMoving_3 17 rfl rfl)
theorem dX2_whyNotMoving_90 : decode cX2_whyNotMoving 90 = .ok (.goto 24, 3) := dk_167 0 24 (dk_at dksX2_whyNotMoving_3 18 rfl rfl)
theorem dX2_whyNotMoving_93 : decode cX2_whyNotMoving 93 = .ok (.iload_n 2, 1) := dk_28 (dk_at dksX2_whyNotMoving_3 21 rfl rfl)
theorem dX2_whyNotMoving_94 : decode cX2_whyNotMoving 94 = .ok (.bipush 23, 2) := dk_16 23 (dk_at dksX2_whyNotMoving_3 22 rfl rfl)
theorem dX2_whyNotMoving_96 : decode cX2_whyNotMoving 96 = .ok (.if_icmp .ge 18, 3) := dk_162 0 18 (dk_at dksX2_whyNotMoving_4 0 rfl rfl)
theorem dX2_whyNotMoving_99 : decode cX2_whyNotMoving 99 = .ok (.aload_n 0, 1) := dk_42 (dk_at dksX2_whyNotMoving_4 3 rfl rfl)
theorem dX2_whyNotMoving_100 : decode cX2_whyNotMoving 100 = .ok (.getfield 60, 3) := dk_180 0 60 (dk_at dksX2_whyNotMoving_4 4 rfl rfl)
theorem dX2_whyNotMoving_103 : decode cX2_whyNotMoving 103 = .ok (.iload_n 2, 1) := dk_28 (dk_at dksX2_whyNotMoving_4 7 rfl rfl)
theorem dX2_whyNotMoving_104 : decode cX2_whyNotMoving 104 = .ok (.iconst 1, 1) := dk_4 (dk_at dksX2_whyNotMoving_4 8 rfl rfl)
theorem dX2_whyNotMoving_105 : decode cX2_whyNotMoving 105 = .ok (.iadd, 1) := dk_96 (dk_at dksX2_whyNotMoving_4 9 rfl rfl)
theorem dX2_whyNotMoving_106 : decode cX2_whyNotMoving 106 = .ok (.baload, 1) := dk_51 (dk_at dksX2_whyNotMoving_4 10 rfl rfl)
theorem dX2_whyNotMoving_107 : decode cX2_whyNotMoving 107 = .ok (.ifCond .eq 7, 3) := dk_153 0 7 (dk_at dksX2_whyNotMoving_4 11 rfl rfl)
theorem dX2_whyNotMoving_110 : decode cX2_whyNotMoving 110 = .ok (.aload_n 1, 1) := dk_43 (dk_at dksX2_whyNotMoving_4 14 rfl rfl)
theorem dX2_whyNotMoving_111 : decode cX2_whyNotMoving 111 = .ok (.iload_n 2, 1) := dk_28 (dk_at dksX2_whyNotMoving_4 15 rfl rfl)
theorem dX2_whyNotMoving_112 : decode cX2_whyNotMoving 112 = .ok (.iconst 5, 1) := dk_8 (dk_at dksX2_whyNotMoving_4 16 rfl rfl)
theorem dX2_whyNotMoving_113 : decode cX2_whyNotMoving 113 = .ok (.iastore, 1) := dk_79 (dk_at dksX2_whyNotMoving_4 17 rfl rfl)
theorem dX2_whyNotMoving_114 : decode cX2_whyNotMoving 114 = .ok (.iinc 2 (-1), 3) := dk_132 2 255 (dk_at dksX2_whyNotMoving_4 18 rfl rfl)
theorem dX2_whyNotMoving_117 : decode cX2_whyNotMoving 117 = .ok (.goto (-109), 3) := dk_167 255 147 (dk_at dksX2_whyNotMoving_4 21 rfl rfl)
theorem dX2_whyNotMoving_120 : decode cX2_whyNotMoving 120 = .ok (.aload_n 1, 1) := dk_43 (dk_at dksX2_whyNotMoving_5 0 rfl rfl)
theorem dX2_whyNotMoving_121 : decode cX2_whyNotMoving 121 = .ok (.areturn, 1) := dk_176 (dk_at dksX2_whyNotMoving_5 1 rfl rfl)
abbrev cX2_heldUpBy : ByteArray := prog_17_method_36_code
def yX2_heldUpBy : MethodName := ⟨RX2, "heldUpBy", "(I)I"⟩
def dkwX2_heldUpBy_1 : List UInt8 := [132, 3, 1, 167, 255, 246, 44, 29, 46, 8, 160, 0, 9, 29, 4, 96, 167, 0, 4, 29, 172]
abbrev dktX2_heldUpBy_1 : List UInt8 := dkwX2_heldUpBy_1 ++ []
def dkwX2_heldUpBy_0 : List UInt8 := [42, 182, 1, 102, 77, 44, 27, 46, 5, 162, 0, 5, 2, 172, 27, 62, 44, 29, 46, 7, 160, 0, 9]
abbrev dktX2_heldUpBy_0 : List UInt8 := dkwX2_heldUpBy_0 ++ dktX2_heldUpBy_1
theorem dksX2_heldUpBy_0 : cX2_heldUpBy.data.toList.drop 0 = dktX2_heldUpBy_0 := by decide +kernel
theorem dksX2_heldUpBy_1 : cX2_heldUpBy.data.toList.drop 23 = dktX2_heldUpBy_1 := dk_seg dksX2_heldUpBy_0 23 rfl rfl
theorem dX2_heldUpBy_0 : decode cX2_heldUpBy 0 = .ok (.aload_n 0, 1) := dk_42 (dk_at dksX2_heldUpBy_0 0 rfl rfl)
theorem dX2_heldUpBy_1 : decode cX2_heldUpBy 1 = .ok (.invokevirtual 358, 3) := dk_182 1 102 (dk_at dksX2_heldUpBy_0 1 rfl rfl)
theorem dX2_heldUpBy_4 : decode cX2_heldUpBy 4 = .ok (.astore_n 2, 1) := dk_77 (dk_at dksX2_heldUpBy_0 4 rfl rfl)
theorem dX2_heldUpBy_5 : decode cX2_heldUpBy 5 = .ok (.aload_n 2, 1) := dk_44 (dk_at dksX2_heldUpBy_0 5 rfl rfl)
theorem dX2_heldUpBy_6 : decode cX2_heldUpBy 6 = .ok (.iload_n 1, 1) := dk_27 (dk_at dksX2_heldUpBy_0 6 rfl rfl)
theorem dX2_heldUpBy_7 : decode cX2_heldUpBy 7 = .ok (.iaload, 1) := dk_46 (dk_at dksX2_heldUpBy_0 7 rfl rfl)
theorem dX2_heldUpBy_8 : decode cX2_heldUpBy 8 = .ok (.iconst 2, 1) := dk_5 (dk_at dksX2_heldUpBy_0 8 rfl rfl)
theorem dX2_heldUpBy_9 : decode cX2_heldUpBy 9 = .ok (.if_icmp .ge 5, 3) := dk_162 0 5 (dk_at dksX2_heldUpBy_0 9 rfl rfl)
theorem dX2_heldUpBy_12 : decode cX2_heldUpBy 12 = .ok (.iconst (-1), 1) := dk_2 (dk_at dksX2_heldUpBy_0 12 rfl rfl)
theorem dX2_heldUpBy_13 : decode cX2_heldUpBy 13 = .ok (.ireturn, 1) := dk_172 (dk_at dksX2_heldUpBy_0 13 rfl rfl)
theorem dX2_heldUpBy_14 : decode cX2_heldUpBy 14 = .ok (.iload_n 1, 1) := dk_27 (dk_at dksX2_heldUpBy_0 14 rfl rfl)
theorem dX2_heldUpBy_15 : decode cX2_heldUpBy 15 = .ok (.istore_n 3, 1) := dk_62 (dk_at dksX2_heldUpBy_0 15 rfl rfl)
theorem dX2_heldUpBy_16 : decode cX2_heldUpBy 16 = .ok (.aload_n 2, 1) := dk_44 (dk_at dksX2_heldUpBy_0 16 rfl rfl)
theorem dX2_heldUpBy_17 : decode cX2_heldUpBy 17 = .ok (.iload_n 3, 1) := dk_29 (dk_at dksX2_heldUpBy_0 17 rfl rfl)
theorem dX2_heldUpBy_18 : decode cX2_heldUpBy 18 = .ok (.iaload, 1) := dk_46 (dk_at dksX2_heldUpBy_0 18 rfl rfl)
theorem dX2_heldUpBy_19 : decode cX2_heldUpBy 19 = .ok (.iconst 4, 1) := dk_7 (dk_at dksX2_heldUpBy_0 19 rfl rfl)
theorem dX2_heldUpBy_20 : decode cX2_heldUpBy 20 = .ok (.if_icmp .ne 9, 3) := dk_160 0 9 (dk_at dksX2_heldUpBy_0 20 rfl rfl)
theorem dX2_heldUpBy_23 : decode cX2_heldUpBy 23 = .ok (.iinc 3 1, 3) := dk_132 3 1 (dk_at dksX2_heldUpBy_1 0 rfl rfl)
theorem dX2_heldUpBy_26 : decode cX2_heldUpBy 26 = .ok (.goto (-10), 3) := dk_167 255 246 (dk_at dksX2_heldUpBy_1 3 rfl rfl)
theorem dX2_heldUpBy_29 : decode cX2_heldUpBy 29 = .ok (.aload_n 2, 1) := dk_44 (dk_at dksX2_heldUpBy_1 6 rfl rfl)
theorem dX2_heldUpBy_30 : decode cX2_heldUpBy 30 = .ok (.iload_n 3, 1) := dk_29 (dk_at dksX2_heldUpBy_1 7 rfl rfl)
theorem dX2_heldUpBy_31 : decode cX2_heldUpBy 31 = .ok (.iaload, 1) := dk_46 (dk_at dksX2_heldUpBy_1 8 rfl rfl)
theorem dX2_heldUpBy_32 : decode cX2_heldUpBy 32 = .ok (.iconst 5, 1) := dk_8 (dk_at dksX2_heldUpBy_1 9 rfl rfl)
theorem dX2_heldUpBy_33 : decode cX2_heldUpBy 33 = .ok (.if_icmp .ne 9, 3) := dk_160 0 9 (dk_at dksX2_heldUpBy_1 10 rfl rfl)
theorem dX2_heldUpBy_36 : decode cX2_heldUpBy 36 = .ok (.iload_n 3, 1) := dk_29 (dk_at dksX2_heldUpBy_1 13 rfl rfl)
theorem dX2_heldUpBy_37 : decode cX2_heldUpBy 37 = .ok (.iconst 1, 1) := dk_4 (dk_at dksX2_heldUpBy_1 14 rfl rfl)
theorem dX2_heldUpBy_38 : decode cX2_heldUpBy 38 = .ok (.iadd, 1) := dk_96 (dk_at dksX2_heldUpBy_1 15 rfl rfl)
theorem dX2_heldUpBy_39 : decode cX2_heldUpBy 39 = .ok (.goto 4, 3) := dk_167 0 4 (dk_at dksX2_heldUpBy_1 16 rfl rfl)
theorem dX2_heldUpBy_42 : decode cX2_heldUpBy 42 = .ok (.iload_n 3, 1) := dk_29 (dk_at dksX2_heldUpBy_1 19 rfl rfl)
theorem dX2_heldUpBy_43 : decode cX2_heldUpBy 43 = .ok (.ireturn, 1) := dk_172 (dk_at dksX2_heldUpBy_1 20 rfl rfl)
abbrev cX2_fateOf : ByteArray := prog_17_method_40_code
def yX2_fateOf : MethodName := ⟨RX2, "fateOf", "(LAnnealingLehr$PieceKey;)I"⟩
def dkwX2_fateOf_1 : List UInt8 := [185, 1, 108, 2, 0, 153, 0, 5, 28, 172, 132, 2, 1, 167, 255, 222, 3, 172]
abbrev dktX2_fateOf_1 : List UInt8 := dkwX2_fateOf_1 ++ []
def dkwX2_fateOf_0 : List UInt8 := [4, 61, 28, 7, 163, 0, 35, 42, 180, 0, 38, 28, 4, 100, 185, 0, 102, 2, 0, 192, 1, 1, 43]
abbrev dktX2_fateOf_0 : List UInt8 := dkwX2_fateOf_0 ++ dktX2_fateOf_1
theorem dksX2_fateOf_0 : cX2_fateOf.data.toList.drop 0 = dktX2_fateOf_0 := by decide +kernel
theorem dksX2_fateOf_1 : cX2_fateOf.data.toList.drop 23 = dktX2_fateOf_1 := dk_seg dksX2_fateOf_0 23 rfl rfl
theorem dX2_fateOf_0 : decode cX2_fateOf 0 = .ok (.iconst 1, 1) := dk_4 (dk_at dksX2_fateOf_0 0 rfl rfl)
theorem dX2_fateOf_1 : decode cX2_fateOf 1 = .ok (.istore_n 2, 1) := dk_61 (dk_at dksX2_fateOf_0 1 rfl rfl)
theorem dX2_fateOf_2 : decode cX2_fateOf 2 = .ok (.iload_n 2, 1) := dk_28 (dk_at dksX2_fateOf_0 2 rfl rfl)
theorem dX2_fateOf_3 : decode cX2_fateOf 3 = .ok (.iconst 4, 1) := dk_7 (dk_at dksX2_fateOf_0 3 rfl rfl)
theorem dX2_fateOf_4 : decode cX2_fateOf 4 = .ok (.if_icmp .gt 35, 3) := dk_163 0 35 (dk_at dksX2_fateOf_0 4 rfl rfl)
theorem dX2_fateOf_7 : decode cX2_fateOf 7 = .ok (.aload_n 0, 1) := dk_42 (dk_at dksX2_fateOf_0 7 rfl rfl)
theorem dX2_fateOf_8 : decode cX2_fateOf 8 = .ok (.getfield 38, 3) := dk_180 0 38 (dk_at dksX2_fateOf_0 8 rfl rfl)
theorem dX2_fateOf_11 : decode cX2_fateOf 11 = .ok (.iload_n 2, 1) := dk_28 (dk_at dksX2_fateOf_0 11 rfl rfl)
theorem dX2_fateOf_12 : decode cX2_fateOf 12 = .ok (.iconst 1, 1) := dk_4 (dk_at dksX2_fateOf_0 12 rfl rfl)
theorem dX2_fateOf_13 : decode cX2_fateOf 13 = .ok (.isub, 1) := dk_100 (dk_at dksX2_fateOf_0 13 rfl rfl)
theorem dX2_fateOf_14 : decode cX2_fateOf 14 = .ok (.invokeinterface 102 2, 5) := by decide +kernel
theorem dX2_fateOf_19 : decode cX2_fateOf 19 = .ok (.checkcast 257, 3) := dk_192 1 1 (dk_at dksX2_fateOf_0 19 rfl rfl)
theorem dX2_fateOf_22 : decode cX2_fateOf 22 = .ok (.aload_n 1, 1) := dk_43 (dk_at dksX2_fateOf_0 22 rfl rfl)
theorem dX2_fateOf_23 : decode cX2_fateOf 23 = .ok (.invokeinterface 364 2, 5) := by decide +kernel
theorem dX2_fateOf_28 : decode cX2_fateOf 28 = .ok (.ifCond .eq 5, 3) := dk_153 0 5 (dk_at dksX2_fateOf_1 5 rfl rfl)
theorem dX2_fateOf_31 : decode cX2_fateOf 31 = .ok (.iload_n 2, 1) := dk_28 (dk_at dksX2_fateOf_1 8 rfl rfl)
theorem dX2_fateOf_32 : decode cX2_fateOf 32 = .ok (.ireturn, 1) := dk_172 (dk_at dksX2_fateOf_1 9 rfl rfl)
theorem dX2_fateOf_33 : decode cX2_fateOf 33 = .ok (.iinc 2 1, 3) := dk_132 2 1 (dk_at dksX2_fateOf_1 10 rfl rfl)
theorem dX2_fateOf_36 : decode cX2_fateOf 36 = .ok (.goto (-34), 3) := dk_167 255 222 (dk_at dksX2_fateOf_1 13 rfl rfl)
theorem dX2_fateOf_39 : decode cX2_fateOf 39 = .ok (.iconst 0, 1) := dk_3 (dk_at dksX2_fateOf_1 16 rfl rfl)
theorem dX2_fateOf_40 : decode cX2_fateOf 40 = .ok (.ireturn, 1) := dk_172 (dk_at dksX2_fateOf_1 17 rfl rfl)
abbrev cX2_broken : ByteArray := prog_17_method_37_code
def yX2_broken : MethodName := ⟨RX2, "broken", "()I"⟩
def dkwX2_broken_1 : List UInt8 := [185, 0, 102, 2, 0, 192, 0, 106, 180, 1, 79, 7, 46, 96, 60, 132, 2, 1, 167, 255, 219, 27, 172]
abbrev dktX2_broken_1 : List UInt8 := dkwX2_broken_1 ++ []
def dkwX2_broken_0 : List UInt8 := [3, 60, 3, 61, 28, 42, 180, 0, 24, 185, 0, 98, 1, 0, 162, 0, 30, 27, 42, 180, 0, 24, 28]
abbrev dktX2_broken_0 : List UInt8 := dkwX2_broken_0 ++ dktX2_broken_1
theorem dksX2_broken_0 : cX2_broken.data.toList.drop 0 = dktX2_broken_0 := by decide +kernel
theorem dksX2_broken_1 : cX2_broken.data.toList.drop 23 = dktX2_broken_1 := dk_seg dksX2_broken_0 23 rfl rfl
theorem dX2_broken_0 : decode cX2_broken 0 = .ok (.iconst 0, 1) := dk_3 (dk_at dksX2_broken_0 0 rfl rfl)
theorem dX2_broken_1 : decode cX2_broken 1 = .ok (.istore_n 1, 1) := dk_60 (dk_at dksX2_broken_0 1 rfl rfl)
theorem dX2_broken_2 : decode cX2_broken 2 = .ok (.iconst 0, 1) := dk_3 (dk_at dksX2_broken_0 2 rfl rfl)
theorem dX2_broken_3 : decode cX2_broken 3 = .ok (.istore_n 2, 1) := dk_61 (dk_at dksX2_broken_0 3 rfl rfl)
theorem dX2_broken_4 : decode cX2_broken 4 = .ok (.iload_n 2, 1) := dk_28 (dk_at dksX2_broken_0 4 rfl rfl)
theorem dX2_broken_5 : decode cX2_broken 5 = .ok (.aload_n 0, 1) := dk_42 (dk_at dksX2_broken_0 5 rfl rfl)
theorem dX2_broken_6 : decode cX2_broken 6 = .ok (.getfield 24, 3) := dk_180 0 24 (dk_at dksX2_broken_0 6 rfl rfl)
theorem dX2_broken_9 : decode cX2_broken 9 = .ok (.invokeinterface 98 1, 5) := by decide +kernel
theorem dX2_broken_14 : decode cX2_broken 14 = .ok (.if_icmp .ge 30, 3) := dk_162 0 30 (dk_at dksX2_broken_0 14 rfl rfl)
theorem dX2_broken_17 : decode cX2_broken 17 = .ok (.iload_n 1, 1) := dk_27 (dk_at dksX2_broken_0 17 rfl rfl)
theorem dX2_broken_18 : decode cX2_broken 18 = .ok (.aload_n 0, 1) := dk_42 (dk_at dksX2_broken_0 18 rfl rfl)
theorem dX2_broken_19 : decode cX2_broken 19 = .ok (.getfield 24, 3) := dk_180 0 24 (dk_at dksX2_broken_0 19 rfl rfl)
theorem dX2_broken_22 : decode cX2_broken 22 = .ok (.iload_n 2, 1) := dk_28 (dk_at dksX2_broken_0 22 rfl rfl)
theorem dX2_broken_23 : decode cX2_broken 23 = .ok (.invokeinterface 102 2, 5) := by decide +kernel
theorem dX2_broken_28 : decode cX2_broken 28 = .ok (.checkcast 106, 3) := dk_192 0 106 (dk_at dksX2_broken_1 5 rfl rfl)
theorem dX2_broken_31 : decode cX2_broken 31 = .ok (.getfield 335, 3) := dk_180 1 79 (dk_at dksX2_broken_1 8 rfl rfl)
theorem dX2_broken_34 : decode cX2_broken 34 = .ok (.iconst 4, 1) := dk_7 (dk_at dksX2_broken_1 11 rfl rfl)
theorem dX2_broken_35 : decode cX2_broken 35 = .ok (.iaload, 1) := dk_46 (dk_at dksX2_broken_1 12 rfl rfl)
theorem dX2_broken_36 : decode cX2_broken 36 = .ok (.iadd, 1) := dk_96 (dk_at dksX2_broken_1 13 rfl rfl)
theorem dX2_broken_37 : decode cX2_broken 37 = .ok (.istore_n 1, 1) := dk_60 (dk_at dksX2_broken_1 14 rfl rfl)
theorem dX2_broken_38 : decode cX2_broken 38 = .ok (.iinc 2 1, 3) := dk_132 2 1 (dk_at dksX2_broken_1 15 rfl rfl)
theorem dX2_broken_41 : decode cX2_broken 41 = .ok (.goto (-37), 3) := dk_167 255 219 (dk_at dksX2_broken_1 18 rfl rfl)
theorem dX2_broken_44 : decode cX2_broken 44 = .ok (.iload_n 1, 1) := dk_27 (dk_at dksX2_broken_1 21 rfl rfl)
theorem dX2_broken_45 : decode cX2_broken 45 = .ok (.ireturn, 1) := dk_172 (dk_at dksX2_broken_1 22 rfl rfl)
abbrev cX2_minutesToGo : ByteArray := prog_17_method_41_code
def yX2_minutesToGo : MethodName := ⟨RX2, "minutesToGo", "(LAnnealingLehr$Piece;)I"⟩
def dkwX2_minutesToGo_3 : List UInt8 := [132, 3, 1, 167, 255, 192, 28, 172]
abbrev dktX2_minutesToGo_3 : List UInt8 := dkwX2_minutesToGo_3 ++ []
def dkwX2_minutesToGo_2 : List UInt8 := [167, 0, 5, 21, 4, 54, 5, 28, 21, 5, 4, 162, 0, 7, 4, 167, 0, 5, 21, 5, 96, 61]
abbrev dktX2_minutesToGo_2 : List UInt8 := dkwX2_minutesToGo_2 ++ dktX2_minutesToGo_3
def dkwX2_minutesToGo_1 : List UInt8 := [21, 4, 154, 0, 5, 2, 172, 29, 43, 180, 0, 149, 160, 0, 13, 21, 4, 43, 180, 1, 82, 100]
abbrev dktX2_minutesToGo_1 : List UInt8 := dkwX2_minutesToGo_1 ++ dktX2_minutesToGo_2
def dkwX2_minutesToGo_0 : List UInt8 := [3, 61, 43, 180, 0, 149, 62, 29, 16, 24, 162, 0, 64, 42, 180, 0, 51, 29, 184, 1, 20, 46, 54, 4]
abbrev dktX2_minutesToGo_0 : List UInt8 := dkwX2_minutesToGo_0 ++ dktX2_minutesToGo_1
theorem dksX2_minutesToGo_0 : cX2_minutesToGo.data.toList.drop 0 = dktX2_minutesToGo_0 := by decide +kernel
theorem dksX2_minutesToGo_1 : cX2_minutesToGo.data.toList.drop 24 = dktX2_minutesToGo_1 := dk_seg dksX2_minutesToGo_0 24 rfl rfl
theorem dksX2_minutesToGo_2 : cX2_minutesToGo.data.toList.drop 46 = dktX2_minutesToGo_2 := dk_seg dksX2_minutesToGo_1 22 rfl rfl
theorem dksX2_minutesToGo_3 : cX2_minutesToGo.data.toList.drop 68 = dktX2_minutesToGo_3 := dk_seg dksX2_minutesToGo_2 22 rfl rfl
theorem dX2_minutesToGo_0 : decode cX2_minutesToGo 0 = .ok (.iconst 0, 1) := dk_3 (dk_at dksX2_minutesToGo_0 0 rfl rfl)
theorem dX2_minutesToGo_1 : decode cX2_minutesToGo 1 = .ok (.istore_n 2, 1) := dk_61 (dk_at dksX2_minutesToGo_0 1 rfl rfl)
theorem dX2_minutesToGo_2 : decode cX2_minutesToGo 2 = .ok (.aload_n 1, 1) := dk_43 (dk_at dksX2_minutesToGo_0 2 rfl rfl)
theorem dX2_minutesToGo_3 : decode cX2_minutesToGo 3 = .ok (.getfield 149, 3) := dk_180 0 149 (dk_at dksX2_minutesToGo_0 3 rfl rfl)
theorem dX2_minutesToGo_6 : decode cX2_minutesToGo 6 = .ok (.istore_n 3, 1) := dk_62 (dk_at dksX2_minutesToGo_0 6 rfl rfl)
theorem dX2_minutesToGo_7 : decode cX2_minutesToGo 7 = .ok (.iload_n 3, 1) := dk_29 (dk_at dksX2_minutesToGo_0 7 rfl rfl)
theorem dX2_minutesToGo_8 : decode cX2_minutesToGo 8 = .ok (.bipush 24, 2) := dk_16 24 (dk_at dksX2_minutesToGo_0 8 rfl rfl)
theorem dX2_minutesToGo_10 : decode cX2_minutesToGo 10 = .ok (.if_icmp .ge 64, 3) := dk_162 0 64 (dk_at dksX2_minutesToGo_0 10 rfl rfl)
theorem dX2_minutesToGo_13 : decode cX2_minutesToGo 13 = .ok (.aload_n 0, 1) := dk_42 (dk_at dksX2_minutesToGo_0 13 rfl rfl)
theorem dX2_minutesToGo_14 : decode cX2_minutesToGo 14 = .ok (.getfield 51, 3) := dk_180 0 51 (dk_at dksX2_minutesToGo_0 14 rfl rfl)
theorem dX2_minutesToGo_17 : decode cX2_minutesToGo 17 = .ok (.iload_n 3, 1) := dk_29 (dk_at dksX2_minutesToGo_0 17 rfl rfl)
theorem dX2_minutesToGo_18 : decode cX2_minutesToGo 18 = .ok (.invokestatic 276, 3) := dk_184 1 20 (dk_at dksX2_minutesToGo_0 18 rfl rfl)
theorem dX2_minutesToGo_21 : decode cX2_minutesToGo 21 = .ok (.iaload, 1) := dk_46 (dk_at dksX2_minutesToGo_0 21 rfl rfl)
theorem dX2_minutesToGo_22 : decode cX2_minutesToGo 22 = .ok (.istore 4, 2) := dk_54 4 (dk_at dksX2_minutesToGo_0 22 rfl rfl)
theorem dX2_minutesToGo_24 : decode cX2_minutesToGo 24 = .ok (.iload 4, 2) := dk_21 4 (dk_at dksX2_minutesToGo_1 0 rfl rfl)
theorem dX2_minutesToGo_26 : decode cX2_minutesToGo 26 = .ok (.ifCond .ne 5, 3) := dk_154 0 5 (dk_at dksX2_minutesToGo_1 2 rfl rfl)
theorem dX2_minutesToGo_29 : decode cX2_minutesToGo 29 = .ok (.iconst (-1), 1) := dk_2 (dk_at dksX2_minutesToGo_1 5 rfl rfl)
theorem dX2_minutesToGo_30 : decode cX2_minutesToGo 30 = .ok (.ireturn, 1) := dk_172 (dk_at dksX2_minutesToGo_1 6 rfl rfl)
theorem dX2_minutesToGo_31 : decode cX2_minutesToGo 31 = .ok (.iload_n 3, 1) := dk_29 (dk_at dksX2_minutesToGo_1 7 rfl rfl)
theorem dX2_minutesToGo_32 : decode cX2_minutesToGo 32 = .ok (.aload_n 1, 1) := dk_43 (dk_at dksX2_minutesToGo_1 8 rfl rfl)
theorem dX2_minutesToGo_33 : decode cX2_minutesToGo 33 = .ok (.getfield 149, 3) := dk_180 0 149 (dk_at dksX2_minutesToGo_1 9 rfl rfl)
theorem dX2_minutesToGo_36 : decode cX2_minutesToGo 36 = .ok (.if_icmp .ne 13, 3) := dk_160 0 13 (dk_at dksX2_minutesToGo_1 12 rfl rfl)
theorem dX2_minutesToGo_39 : decode cX2_minutesToGo 39 = .ok (.iload 4, 2) := dk_21 4 (dk_at dksX2_minutesToGo_1 15 rfl rfl)
theorem dX2_minutesToGo_41 : decode cX2_minutesToGo 41 = .ok (.aload_n 1, 1) := dk_43 (dk_at dksX2_minutesToGo_1 17 rfl rfl)
theorem dX2_minutesToGo_42 : decode cX2_minutesToGo 42 = .ok (.getfield 338, 3) := dk_180 1 82 (dk_at dksX2_minutesToGo_1 18 rfl rfl)
theorem dX2_minutesToGo_45 : decode cX2_minutesToGo 45 = .ok (.isub, 1) := dk_100 (dk_at dksX2_minutesToGo_1 21 rfl rfl)
theorem dX2_minutesToGo_46 : decode cX2_minutesToGo 46 = .ok (.goto 5, 3) := dk_167 0 5 (dk_at dksX2_minutesToGo_2 0 rfl rfl)
theorem dX2_minutesToGo_49 : decode cX2_minutesToGo 49 = .ok (.iload 4, 2) := dk_21 4 (dk_at dksX2_minutesToGo_2 3 rfl rfl)
theorem dX2_minutesToGo_51 : decode cX2_minutesToGo 51 = .ok (.istore 5, 2) := dk_54 5 (dk_at dksX2_minutesToGo_2 5 rfl rfl)
theorem dX2_minutesToGo_53 : decode cX2_minutesToGo 53 = .ok (.iload_n 2, 1) := dk_28 (dk_at dksX2_minutesToGo_2 7 rfl rfl)
theorem dX2_minutesToGo_54 : decode cX2_minutesToGo 54 = .ok (.iload 5, 2) := dk_21 5 (dk_at dksX2_minutesToGo_2 8 rfl rfl)
theorem dX2_minutesToGo_56 : decode cX2_minutesToGo 56 = .ok (.iconst 1, 1) := dk_4 (dk_at dksX2_minutesToGo_2 10 rfl rfl)
theorem dX2_minutesToGo_57 : decode cX2_minutesToGo 57 = .ok (.if_icmp .ge 7, 3) := dk_162 0 7 (dk_at dksX2_minutesToGo_2 11 rfl rfl)
theorem dX2_minutesToGo_60 : decode cX2_minutesToGo 60 = .ok (.iconst 1, 1) := dk_4 (dk_at dksX2_minutesToGo_2 14 rfl rfl)
theorem dX2_minutesToGo_61 : decode cX2_minutesToGo 61 = .ok (.goto 5, 3) := dk_167 0 5 (dk_at dksX2_minutesToGo_2 15 rfl rfl)
theorem dX2_minutesToGo_64 : decode cX2_minutesToGo 64 = .ok (.iload 5, 2) := dk_21 5 (dk_at dksX2_minutesToGo_2 18 rfl rfl)
theorem dX2_minutesToGo_66 : decode cX2_minutesToGo 66 = .ok (.iadd, 1) := dk_96 (dk_at dksX2_minutesToGo_2 20 rfl rfl)
theorem dX2_minutesToGo_67 : decode cX2_minutesToGo 67 = .ok (.istore_n 2, 1) := dk_61 (dk_at dksX2_minutesToGo_2 21 rfl rfl)
theorem dX2_minutesToGo_68 : decode cX2_minutesToGo 68 = .ok (.iinc 3 1, 3) := dk_132 3 1 (dk_at dksX2_minutesToGo_3 0 rfl rfl)
theorem dX2_minutesToGo_71 : decode cX2_minutesToGo 71 = .ok (.goto (-64), 3) := dk_167 255 192 (dk_at dksX2_minutesToGo_3 3 rfl rfl)
theorem dX2_minutesToGo_74 : decode cX2_minutesToGo 74 = .ok (.iload_n 2, 1) := dk_28 (dk_at dksX2_minutesToGo_3 6 rfl rfl)
theorem dX2_minutesToGo_75 : decode cX2_minutesToGo 75 = .ok (.ireturn, 1) := dk_172 (dk_at dksX2_minutesToGo_3 7 rfl rfl)
theorem q104 : (Jvm.Cond.initialized "AnnealingLehr$State") ∈ lw_all := lw_g (lw_at lw_m1 2 rfl) rfl
theorem q188 : (Jvm.Cond.instantiable "AnnealingLehr$State" (18 : Nat)) ∈ lw_all := lw_g (lw_at lw_m1 86 rfl) rfl
theorem q190 : (Jvm.Cond.instanceMethod ({ cls := "AnnealingLehr$State", name := "<init>", desc := "()V" } : Jvm.MethodName)) ∈ lw_all := lw_g (lw_at lw_m1 88 rfl) rfl
theorem q191 : (Jvm.Cond.code ({ cls := "AnnealingLehr$State", name := "<init>", desc := "()V" } : Jvm.MethodName) prog_17_method_1_code (2 : Nat) (Option.none : Option Jvm.ClassFile.FieldType)) ∈ lw_all := lw_g (lw_at lw_m1 89 rfl) rfl
theorem q192 : (Jvm.Cond.methodLink "AnnealingLehr$State" (3 : Nat) ({ cls := "java/lang/Object", name := "<init>", desc := "()V" } : Jvm.MethodName)) ∈ lw_all := lw_g (lw_at lw_m1 90 rfl) rfl
theorem q193 : (Jvm.Cond.classLink "AnnealingLehr$State" (15 : Nat) "AnnealingLehr$Piece") ∈ lw_all := lw_g (lw_at lw_m1 91 rfl) rfl
theorem q195 : (Jvm.Cond.classLink "AnnealingLehr$State" (21 : Nat) "java/util/ArrayList") ∈ lw_all := lw_g (lw_at lw_m1 93 rfl) rfl
theorem q197 : (Jvm.Cond.methodLink "AnnealingLehr$State" (23 : Nat) ({ cls := "java/util/ArrayList", name := "<init>", desc := "()V" } : Jvm.MethodName)) ∈ lw_all := lw_g (lw_at lw_m1 95 rfl) rfl
theorem q224 : (Jvm.Cond.classLink "AnnealingLehr$State" (31 : Nat) "java/util/LinkedHashMap") ∈ lw_all := lw_g (lw_at lw_m1 122 rfl) rfl
theorem q226 : (Jvm.Cond.methodLink "AnnealingLehr$State" (33 : Nat) ({ cls := "java/util/LinkedHashMap", name := "<init>", desc := "()V" } : Jvm.MethodName)) ∈ lw_all := lw_g (lw_at lw_m1 124 rfl) rfl
theorem q292 : (Jvm.Cond.classLink "AnnealingLehr$State" (73 : Nat) "java/util/LinkedHashSet") ∈ lw_all := lw_g (lw_at lw_m1 190 rfl) rfl
theorem q294 : (Jvm.Cond.methodLink "AnnealingLehr$State" (75 : Nat) ({ cls := "java/util/LinkedHashSet", name := "<init>", desc := "()V" } : Jvm.MethodName)) ∈ lw_all := lw_g (lw_at lw_m1 192 rfl) rfl
theorem q978 : (Jvm.Cond.selects "AnnealingLehr$State" ({ cls := "java/lang/Object", name := "toString", desc := "()Ljava/lang/String;" } : Jvm.MethodName) ({ cls := "java/lang/Object", name := "toString", desc := "()Ljava/lang/String;" } : Jvm.MethodName)) ∈ lw_all := lw_g (lw_at lw_m4 156 rfl) rfl
theorem q1000 : (Jvm.Cond.selects "AnnealingLehr$State" ({ cls := "java/lang/Object", name := "getClass", desc := "()Ljava/lang/Class;" } : Jvm.MethodName) ({ cls := "java/lang/Object", name := "getClass", desc := "()Ljava/lang/Class;" } : Jvm.MethodName)) ∈ lw_all := lw_g (lw_at lw_m4 178 rfl) rfl
theorem q1144 : (Jvm.Cond.interfaceEntry "AnnealingLehr$State" (76 : Nat)) ∈ lw_tbl := lw_at lw_m5 82 rfl
theorem q1145 : (Jvm.Cond.methodLink "AnnealingLehr$State" (76 : Nat) ({ cls := "java/util/List", name := "add", desc := "(Ljava/lang/Object;)Z" } : Jvm.MethodName)) ∈ lw_all := lw_g (lw_at lw_m5 83 rfl) rfl
theorem q1179 : (Jvm.Cond.fieldLink "AnnealingLehr$State" (82 : Nat) "AnnealingLehr$State" "time" "I") ∈ lw_all := lw_g (lw_at lw_m5 117 rfl) rfl
theorem q1181 : (Jvm.Cond.fieldLink "AnnealingLehr$State" (9 : Nat) "AnnealingLehr$State" "supply" "I") ∈ lw_all := lw_g (lw_at lw_m5 119 rfl) rfl
theorem q1183 : (Jvm.Cond.fieldLink "AnnealingLehr$State" (85 : Nat) "AnnealingLehr$State" "used" "I") ∈ lw_all := lw_g (lw_at lw_m5 121 rfl) rfl
theorem q1185 : (Jvm.Cond.fieldLink "AnnealingLehr$State" (44 : Nat) "AnnealingLehr$State" "burners" "[I") ∈ lw_all := lw_g (lw_at lw_m5 123 rfl) rfl
theorem q1187 : (Jvm.Cond.fieldLink "AnnealingLehr$State" (48 : Nat) "AnnealingLehr$State" "fans" "[I") ∈ lw_all := lw_g (lw_at lw_m5 125 rfl) rfl
theorem q1189 : (Jvm.Cond.fieldLink "AnnealingLehr$State" (51 : Nat) "AnnealingLehr$State" "rollers" "[I") ∈ lw_all := lw_g (lw_at lw_m5 127 rfl) rfl
theorem q1191 : (Jvm.Cond.fieldLink "AnnealingLehr$State" (54 : Nat) "AnnealingLehr$State" "temperatures" "[I") ∈ lw_all := lw_g (lw_at lw_m5 129 rfl) rfl
theorem q1193 : (Jvm.Cond.fieldLink "AnnealingLehr$State" (57 : Nat) "AnnealingLehr$State" "gas" "[I") ∈ lw_all := lw_g (lw_at lw_m5 131 rfl) rfl
theorem q1195 : (Jvm.Cond.fieldLink "AnnealingLehr$State" (17 : Nat) "AnnealingLehr$State" "places" "[LAnnealingLehr$Piece;") ∈ lw_all := lw_g (lw_at lw_m5 133 rfl) rfl
theorem q1197 : (Jvm.Cond.fieldLink "AnnealingLehr$State" (60 : Nat) "AnnealingLehr$State" "shards" "[Z") ∈ lw_all := lw_g (lw_at lw_m5 135 rfl) rfl
theorem q1199 : (Jvm.Cond.fieldLink "AnnealingLehr$State" (64 : Nat) "AnnealingLehr$State" "cleanerPlaces" "[I") ∈ lw_all := lw_g (lw_at lw_m5 137 rfl) rfl
theorem q1201 : (Jvm.Cond.fieldLink "AnnealingLehr$State" (67 : Nat) "AnnealingLehr$State" "cleanerMinutes" "[I") ∈ lw_all := lw_g (lw_at lw_m5 139 rfl) rfl
theorem q1203 : (Jvm.Cond.fieldLink "AnnealingLehr$State" (24 : Nat) "AnnealingLehr$State" "lots" "Ljava/util/List;") ∈ lw_all := lw_g (lw_at lw_m5 141 rfl) rfl
theorem q1205 : (Jvm.Cond.fieldLink "AnnealingLehr$State" (28 : Nat) "AnnealingLehr$State" "demands" "Ljava/util/List;") ∈ lw_all := lw_g (lw_at lw_m5 143 rfl) rfl
theorem q1207 : (Jvm.Cond.fieldLink "AnnealingLehr$State" (34 : Nat) "AnnealingLehr$State" "onTheWay" "Ljava/util/Map;") ∈ lw_all := lw_g (lw_at lw_m5 145 rfl) rfl
theorem q1209 : (Jvm.Cond.fieldLink "AnnealingLehr$State" (38 : Nat) "AnnealingLehr$State" "gone" "Ljava/util/List;") ∈ lw_all := lw_g (lw_at lw_m5 147 rfl) rfl
theorem q1210 : (Jvm.Cond.fieldLink "AnnealingLehr$State" (70 : Nat) "AnnealingLehr$State" "plans" "Ljava/util/Map;") ∈ lw_all := lw_g (lw_at lw_m5 148 rfl) rfl
theorem q1212 : (Jvm.Cond.fieldLink "AnnealingLehr$State" (41 : Nat) "AnnealingLehr$State" "nextPlan" "I") ∈ lw_all := lw_g (lw_at lw_m5 150 rfl) rfl
theorem q1213 : (Jvm.Cond.lays "AnnealingLehr$State" "AnnealingLehr$State" "time" "I") ∈ lw_all := lw_g (lw_at lw_m5 151 rfl) rfl
theorem q1214 : (Jvm.Cond.soleField "AnnealingLehr$State" "time") ∈ lw_all := lw_g (lw_at lw_m5 152 rfl) rfl
theorem q1215 : (Jvm.Cond.lays "AnnealingLehr$State" "AnnealingLehr$State" "supply" "I") ∈ lw_all := lw_g (lw_at lw_m5 153 rfl) rfl
theorem q1216 : (Jvm.Cond.soleField "AnnealingLehr$State" "supply") ∈ lw_all := lw_g (lw_at lw_m5 154 rfl) rfl
theorem q1217 : (Jvm.Cond.lays "AnnealingLehr$State" "AnnealingLehr$State" "used" "I") ∈ lw_all := lw_g (lw_at lw_m5 155 rfl) rfl
theorem q1218 : (Jvm.Cond.soleField "AnnealingLehr$State" "used") ∈ lw_all := lw_g (lw_at lw_m5 156 rfl) rfl
theorem q1219 : (Jvm.Cond.laysFinal "AnnealingLehr$State" "AnnealingLehr$State" "burners" "[I") ∈ lw_all := lw_g (lw_at lw_m5 157 rfl) rfl
theorem q1220 : (Jvm.Cond.soleField "AnnealingLehr$State" "burners") ∈ lw_all := lw_g (lw_at lw_m5 158 rfl) rfl
theorem q1221 : (Jvm.Cond.laysFinal "AnnealingLehr$State" "AnnealingLehr$State" "fans" "[I") ∈ lw_all := lw_g (lw_at lw_m5 159 rfl) rfl
theorem q1222 : (Jvm.Cond.soleField "AnnealingLehr$State" "fans") ∈ lw_all := lw_g (lw_at lw_m5 160 rfl) rfl
theorem q1223 : (Jvm.Cond.laysFinal "AnnealingLehr$State" "AnnealingLehr$State" "rollers" "[I") ∈ lw_all := lw_g (lw_at lw_m5 161 rfl) rfl
theorem q1224 : (Jvm.Cond.soleField "AnnealingLehr$State" "rollers") ∈ lw_all := lw_g (lw_at lw_m5 162 rfl) rfl
theorem q1225 : (Jvm.Cond.laysFinal "AnnealingLehr$State" "AnnealingLehr$State" "temperatures" "[I") ∈ lw_all := lw_g (lw_at lw_m5 163 rfl) rfl
theorem q1226 : (Jvm.Cond.soleField "AnnealingLehr$State" "temperatures") ∈ lw_all := lw_g (lw_at lw_m5 164 rfl) rfl
theorem q1227 : (Jvm.Cond.laysFinal "AnnealingLehr$State" "AnnealingLehr$State" "gas" "[I") ∈ lw_all := lw_g (lw_at lw_m5 165 rfl) rfl
theorem q1228 : (Jvm.Cond.soleField "AnnealingLehr$State" "gas") ∈ lw_all := lw_g (lw_at lw_m5 166 rfl) rfl
theorem q1229 : (Jvm.Cond.laysFinal "AnnealingLehr$State" "AnnealingLehr$State" "places" "[LAnnealingLehr$Piece;") ∈ lw_all := lw_g (lw_at lw_m5 167 rfl) rfl
theorem q1230 : (Jvm.Cond.soleField "AnnealingLehr$State" "places") ∈ lw_all := lw_g (lw_at lw_m5 168 rfl) rfl
theorem q1231 : (Jvm.Cond.laysFinal "AnnealingLehr$State" "AnnealingLehr$State" "shards" "[Z") ∈ lw_all := lw_g (lw_at lw_m5 169 rfl) rfl
theorem q1232 : (Jvm.Cond.soleField "AnnealingLehr$State" "shards") ∈ lw_all := lw_g (lw_at lw_m5 170 rfl) rfl
theorem q1233 : (Jvm.Cond.laysFinal "AnnealingLehr$State" "AnnealingLehr$State" "cleanerPlaces" "[I") ∈ lw_all := lw_g (lw_at lw_m5 171 rfl) rfl
theorem q1234 : (Jvm.Cond.soleField "AnnealingLehr$State" "cleanerPlaces") ∈ lw_all := lw_g (lw_at lw_m5 172 rfl) rfl
theorem q1235 : (Jvm.Cond.laysFinal "AnnealingLehr$State" "AnnealingLehr$State" "cleanerMinutes" "[I") ∈ lw_all := lw_g (lw_at lw_m5 173 rfl) rfl
theorem q1236 : (Jvm.Cond.soleField "AnnealingLehr$State" "cleanerMinutes") ∈ lw_all := lw_g (lw_at lw_m5 174 rfl) rfl
theorem q1237 : (Jvm.Cond.laysFinal "AnnealingLehr$State" "AnnealingLehr$State" "lots" "Ljava/util/List;") ∈ lw_all := lw_g (lw_at lw_m5 175 rfl) rfl
theorem q1238 : (Jvm.Cond.soleField "AnnealingLehr$State" "lots") ∈ lw_all := lw_g (lw_at lw_m5 176 rfl) rfl
theorem q1239 : (Jvm.Cond.laysFinal "AnnealingLehr$State" "AnnealingLehr$State" "demands" "Ljava/util/List;") ∈ lw_all := lw_g (lw_at lw_m5 177 rfl) rfl
theorem q1240 : (Jvm.Cond.soleField "AnnealingLehr$State" "demands") ∈ lw_all := lw_g (lw_at lw_m5 178 rfl) rfl
theorem q1241 : (Jvm.Cond.laysFinal "AnnealingLehr$State" "AnnealingLehr$State" "onTheWay" "Ljava/util/Map;") ∈ lw_all := lw_g (lw_at lw_m5 179 rfl) rfl
theorem q1242 : (Jvm.Cond.soleField "AnnealingLehr$State" "onTheWay") ∈ lw_all := lw_g (lw_at lw_m5 180 rfl) rfl
theorem q1243 : (Jvm.Cond.laysFinal "AnnealingLehr$State" "AnnealingLehr$State" "gone" "Ljava/util/List;") ∈ lw_all := lw_g (lw_at lw_m5 181 rfl) rfl
theorem q1244 : (Jvm.Cond.soleField "AnnealingLehr$State" "gone") ∈ lw_all := lw_g (lw_at lw_m5 182 rfl) rfl
theorem q1245 : (Jvm.Cond.laysFinal "AnnealingLehr$State" "AnnealingLehr$State" "plans" "Ljava/util/Map;") ∈ lw_all := lw_g (lw_at lw_m5 183 rfl) rfl
theorem q1246 : (Jvm.Cond.soleField "AnnealingLehr$State" "plans") ∈ lw_all := lw_g (lw_at lw_m5 184 rfl) rfl
theorem q1247 : (Jvm.Cond.lays "AnnealingLehr$State" "AnnealingLehr$State" "nextPlan" "I") ∈ lw_all := lw_g (lw_at lw_m5 185 rfl) rfl
theorem q1248 : (Jvm.Cond.soleField "AnnealingLehr$State" "nextPlan") ∈ lw_all := lw_g (lw_at lw_m5 186 rfl) rfl
theorem q1249 : (Jvm.Cond.superclass "AnnealingLehr$State" "java/lang/Object") ∈ lw_all := lw_g (lw_at lw_m5 187 rfl) rfl
theorem q1355 : (Jvm.Cond.instanceMethod ({ cls := "AnnealingLehr$State", name := "income", desc := "()I" } : Jvm.MethodName)) ∈ lw_all := lw_g (lw_at lw_m6 53 rfl) rfl
theorem q1356 : (Jvm.Cond.selects "AnnealingLehr$State" ({ cls := "AnnealingLehr$State", name := "income", desc := "()I" } : Jvm.MethodName) ({ cls := "AnnealingLehr$State", name := "income", desc := "()I" } : Jvm.MethodName)) ∈ lw_all := lw_g (lw_at lw_m6 54 rfl) rfl
theorem q1357 : (Jvm.Cond.code ({ cls := "AnnealingLehr$State", name := "income", desc := "()I" } : Jvm.MethodName) prog_17_method_38_code (3 : Nat) (Option.some Jvm.ClassFile.FieldType.int)) ∈ lw_all := lw_g (lw_at lw_m6 55 rfl) rfl
theorem q1358 : (Jvm.Cond.interfaceEntry "AnnealingLehr$State" (98 : Nat)) ∈ lw_tbl := lw_at lw_m6 56 rfl
theorem q1359 : (Jvm.Cond.methodLink "AnnealingLehr$State" (98 : Nat) ({ cls := "java/util/List", name := "size", desc := "()I" } : Jvm.MethodName)) ∈ lw_all := lw_g (lw_at lw_m6 57 rfl) rfl
theorem q1360 : (Jvm.Cond.interfaceEntry "AnnealingLehr$State" (102 : Nat)) ∈ lw_tbl := lw_at lw_m6 58 rfl
theorem q1361 : (Jvm.Cond.methodLink "AnnealingLehr$State" (102 : Nat) ({ cls := "java/util/List", name := "get", desc := "(I)Ljava/lang/Object;" } : Jvm.MethodName)) ∈ lw_all := lw_g (lw_at lw_m6 59 rfl) rfl
theorem q1362 : (Jvm.Cond.classLink "AnnealingLehr$State" (106 : Nat) "AnnealingLehr$Lot") ∈ lw_all := lw_g (lw_at lw_m6 60 rfl) rfl
theorem q1372 : (Jvm.Cond.instanceMethod ({ cls := "AnnealingLehr$State", name := "piecesOnTheWay", desc := "()I" } : Jvm.MethodName)) ∈ lw_all := lw_g (lw_at lw_m6 70 rfl) rfl
theorem q1373 : (Jvm.Cond.selects "AnnealingLehr$State" ({ cls := "AnnealingLehr$State", name := "piecesOnTheWay", desc := "()I" } : Jvm.MethodName) ({ cls := "AnnealingLehr$State", name := "piecesOnTheWay", desc := "()I" } : Jvm.MethodName)) ∈ lw_all := lw_g (lw_at lw_m6 71 rfl) rfl
theorem q1374 : (Jvm.Cond.code ({ cls := "AnnealingLehr$State", name := "piecesOnTheWay", desc := "()I" } : Jvm.MethodName) prog_17_method_39_code (3 : Nat) (Option.some Jvm.ClassFile.FieldType.int)) ∈ lw_all := lw_g (lw_at lw_m6 72 rfl) rfl
theorem q1375 : (Jvm.Cond.methodLink "AnnealingLehr$State" (362 : Nat) ({ cls := "AnnealingLehr$Lot", name := "onTheWay", desc := "()I" } : Jvm.MethodName)) ∈ lw_all := lw_g (lw_at lw_m6 73 rfl) rfl
theorem q1518 : (Jvm.Cond.instanceMethod ({ cls := "AnnealingLehr$State", name := "setBurner", desc := "(II)Z" } : Jvm.MethodName)) ∈ lw_all := lw_g (lw_at lw_m6 216 rfl) rfl
theorem q1519 : (Jvm.Cond.selects "AnnealingLehr$State" ({ cls := "AnnealingLehr$State", name := "setBurner", desc := "(II)Z" } : Jvm.MethodName) ({ cls := "AnnealingLehr$State", name := "setBurner", desc := "(II)Z" } : Jvm.MethodName)) ∈ lw_all := lw_g (lw_at lw_m6 217 rfl) rfl
theorem q1520 : (Jvm.Cond.code ({ cls := "AnnealingLehr$State", name := "setBurner", desc := "(II)Z" } : Jvm.MethodName) prog_17_method_5_code (3 : Nat) (Option.some Jvm.ClassFile.FieldType.boolean)) ∈ lw_all := lw_g (lw_at lw_m6 218 rfl) rfl
theorem q1524 : (Jvm.Cond.instanceMethod ({ cls := "AnnealingLehr$State", name := "setFan", desc := "(II)Z" } : Jvm.MethodName)) ∈ lw_all := lw_g (lw_at lw_m6 222 rfl) rfl
theorem q1525 : (Jvm.Cond.selects "AnnealingLehr$State" ({ cls := "AnnealingLehr$State", name := "setFan", desc := "(II)Z" } : Jvm.MethodName) ({ cls := "AnnealingLehr$State", name := "setFan", desc := "(II)Z" } : Jvm.MethodName)) ∈ lw_all := lw_g (lw_at lw_m6 223 rfl) rfl
theorem q1526 : (Jvm.Cond.code ({ cls := "AnnealingLehr$State", name := "setFan", desc := "(II)Z" } : Jvm.MethodName) prog_17_method_6_code (3 : Nat) (Option.some Jvm.ClassFile.FieldType.boolean)) ∈ lw_all := lw_g (lw_at lw_m6 224 rfl) rfl
theorem q1530 : (Jvm.Cond.instanceMethod ({ cls := "AnnealingLehr$State", name := "setRollers", desc := "(II)Z" } : Jvm.MethodName)) ∈ lw_all := lw_g (lw_at lw_m6 228 rfl) rfl
theorem q1531 : (Jvm.Cond.selects "AnnealingLehr$State" ({ cls := "AnnealingLehr$State", name := "setRollers", desc := "(II)Z" } : Jvm.MethodName) ({ cls := "AnnealingLehr$State", name := "setRollers", desc := "(II)Z" } : Jvm.MethodName)) ∈ lw_all := lw_g (lw_at lw_m6 229 rfl) rfl
theorem q1532 : (Jvm.Cond.code ({ cls := "AnnealingLehr$State", name := "setRollers", desc := "(II)Z" } : Jvm.MethodName) prog_17_method_7_code (3 : Nat) (Option.some Jvm.ClassFile.FieldType.boolean)) ∈ lw_all := lw_g (lw_at lw_m6 230 rfl) rfl
theorem q1540 : (Jvm.Cond.instanceMethod ({ cls := "AnnealingLehr$State", name := "openLot", desc := "(II)Z" } : Jvm.MethodName)) ∈ lw_all := lw_g (lw_at lw_m6 238 rfl) rfl
theorem q1541 : (Jvm.Cond.selects "AnnealingLehr$State" ({ cls := "AnnealingLehr$State", name := "openLot", desc := "(II)Z" } : Jvm.MethodName) ({ cls := "AnnealingLehr$State", name := "openLot", desc := "(II)Z" } : Jvm.MethodName)) ∈ lw_all := lw_g (lw_at lw_m6 239 rfl) rfl
theorem q1542 : (Jvm.Cond.code ({ cls := "AnnealingLehr$State", name := "openLot", desc := "(II)Z" } : Jvm.MethodName) prog_17_method_9_code (4 : Nat) (Option.some Jvm.ClassFile.FieldType.boolean)) ∈ lw_all := lw_g (lw_at lw_m7 0 rfl) rfl
theorem q1543 : (Jvm.Cond.methodLink "AnnealingLehr$State" (158 : Nat) ({ cls := "AnnealingLehr$State", name := "canOpenLot", desc := "()Z" } : Jvm.MethodName)) ∈ lw_all := lw_g (lw_at lw_m7 1 rfl) rfl
theorem q1544 : (Jvm.Cond.instanceMethod ({ cls := "AnnealingLehr$State", name := "canOpenLot", desc := "()Z" } : Jvm.MethodName)) ∈ lw_all := lw_g (lw_at lw_m7 2 rfl) rfl
theorem q1545 : (Jvm.Cond.selects "AnnealingLehr$State" ({ cls := "AnnealingLehr$State", name := "canOpenLot", desc := "()Z" } : Jvm.MethodName) ({ cls := "AnnealingLehr$State", name := "canOpenLot", desc := "()Z" } : Jvm.MethodName)) ∈ lw_all := lw_g (lw_at lw_m7 3 rfl) rfl
theorem q1546 : (Jvm.Cond.code ({ cls := "AnnealingLehr$State", name := "canOpenLot", desc := "()Z" } : Jvm.MethodName) prog_17_method_8_code (1 : Nat) (Option.some Jvm.ClassFile.FieldType.boolean)) ∈ lw_all := lw_g (lw_at lw_m7 4 rfl) rfl
theorem q1548 : (Jvm.Cond.methodLink "AnnealingLehr$State" (161 : Nat) ({ cls := "AnnealingLehr$Glass", name := "of", desc := "(II)LAnnealingLehr$Ware;" } : Jvm.MethodName)) ∈ lw_all := lw_g (lw_at lw_m7 6 rfl) rfl
theorem q1581 : (Jvm.Cond.methodLink "AnnealingLehr$State" (167 : Nat) ({ cls := "AnnealingLehr$Lot", name := "<init>", desc := "(LAnnealingLehr$Ware;[I)V" } : Jvm.MethodName)) ∈ lw_all := lw_g (lw_at lw_m7 39 rfl) rfl
theorem q1586 : (Jvm.Cond.fieldLink "AnnealingLehr$State" (196 : Nat) "AnnealingLehr$Lot" "ware" "LAnnealingLehr$Ware;") ∈ lw_all := lw_g (lw_at lw_m7 44 rfl) rfl
theorem q1589 : (Jvm.Cond.fieldLink "AnnealingLehr$State" (335 : Nat) "AnnealingLehr$Lot" "pieces" "[I") ∈ lw_all := lw_g (lw_at lw_m7 47 rfl) rfl
theorem q1592 : (Jvm.Cond.fieldLink "AnnealingLehr$State" (190 : Nat) "AnnealingLehr$Lot" "loaded" "I") ∈ lw_all := lw_g (lw_at lw_m7 50 rfl) rfl
theorem q1594 : (Jvm.Cond.fieldLink "AnnealingLehr$State" (214 : Nat) "AnnealingLehr$Lot" "stock" "I") ∈ lw_all := lw_g (lw_at lw_m7 52 rfl) rfl
theorem q1597 : (Jvm.Cond.fieldLink "AnnealingLehr$State" (221 : Nat) "AnnealingLehr$Lot" "income" "I") ∈ lw_all := lw_g (lw_at lw_m7 55 rfl) rfl
theorem q1621 : (Jvm.Cond.instanceMethod ({ cls := "AnnealingLehr$State", name := "load", desc := "(I)Z" } : Jvm.MethodName)) ∈ lw_all := lw_g (lw_at lw_m7 79 rfl) rfl
theorem q1622 : (Jvm.Cond.selects "AnnealingLehr$State" ({ cls := "AnnealingLehr$State", name := "load", desc := "(I)Z" } : Jvm.MethodName) ({ cls := "AnnealingLehr$State", name := "load", desc := "(I)Z" } : Jvm.MethodName)) ∈ lw_all := lw_g (lw_at lw_m7 80 rfl) rfl
theorem q1623 : (Jvm.Cond.code ({ cls := "AnnealingLehr$State", name := "load", desc := "(I)Z" } : Jvm.MethodName) prog_17_method_11_code (5 : Nat) (Option.some Jvm.ClassFile.FieldType.boolean)) ∈ lw_all := lw_g (lw_at lw_m7 81 rfl) rfl
theorem q1624 : (Jvm.Cond.methodLink "AnnealingLehr$State" (184 : Nat) ({ cls := "AnnealingLehr$State", name := "whyNotLoading", desc := "(I)I" } : Jvm.MethodName)) ∈ lw_all := lw_g (lw_at lw_m7 82 rfl) rfl
theorem q1625 : (Jvm.Cond.instanceMethod ({ cls := "AnnealingLehr$State", name := "whyNotLoading", desc := "(I)I" } : Jvm.MethodName)) ∈ lw_all := lw_g (lw_at lw_m7 83 rfl) rfl
theorem q1626 : (Jvm.Cond.selects "AnnealingLehr$State" ({ cls := "AnnealingLehr$State", name := "whyNotLoading", desc := "(I)I" } : Jvm.MethodName) ({ cls := "AnnealingLehr$State", name := "whyNotLoading", desc := "(I)I" } : Jvm.MethodName)) ∈ lw_all := lw_g (lw_at lw_m7 84 rfl) rfl
theorem q1627 : (Jvm.Cond.code ({ cls := "AnnealingLehr$State", name := "whyNotLoading", desc := "(I)I" } : Jvm.MethodName) prog_17_method_10_code (4 : Nat) (Option.some Jvm.ClassFile.FieldType.int)) ∈ lw_all := lw_g (lw_at lw_m7 85 rfl) rfl
theorem q1628 : (Jvm.Cond.classLink "AnnealingLehr$State" (170 : Nat) "AnnealingLehr$Reason") ∈ lw_all := lw_g (lw_at lw_m7 86 rfl) rfl
theorem q1630 : (Jvm.Cond.static ({ cls := "AnnealingLehr$State", name := "lambda$whyNotLoading$0", desc := "(LAnnealingLehr$Lot;)Z" } : Jvm.MethodName)) ∈ lw_all := lw_g (lw_at lw_m7 88 rfl) rfl
theorem q1631 : (Jvm.Cond.code ({ cls := "AnnealingLehr$State", name := "lambda$whyNotLoading$0", desc := "(LAnnealingLehr$Lot;)Z" } : Jvm.MethodName) prog_17_method_47_code (1 : Nat) (Option.some Jvm.ClassFile.FieldType.boolean)) ∈ lw_all := lw_g (lw_at lw_m7 89 rfl) rfl
theorem q1632 : (Jvm.Cond.privateMethod ({ cls := "AnnealingLehr$State", name := "lambda$whyNotLoading$1", desc := "()Z" } : Jvm.MethodName)) ∈ lw_tbl := lw_at lw_m7 90 rfl
theorem q1633 : (Jvm.Cond.instanceMethod ({ cls := "AnnealingLehr$State", name := "lambda$whyNotLoading$1", desc := "()Z" } : Jvm.MethodName)) ∈ lw_all := lw_g (lw_at lw_m7 91 rfl) rfl
theorem q1634 : (Jvm.Cond.code ({ cls := "AnnealingLehr$State", name := "lambda$whyNotLoading$1", desc := "()Z" } : Jvm.MethodName) prog_17_method_46_code (1 : Nat) (Option.some Jvm.ClassFile.FieldType.boolean)) ∈ lw_all := lw_g (lw_at lw_m7 92 rfl) rfl
theorem q1635 : (Jvm.Cond.privateMethod ({ cls := "AnnealingLehr$State", name := "lambda$whyNotLoading$2", desc := "()Z" } : Jvm.MethodName)) ∈ lw_tbl := lw_at lw_m7 93 rfl
theorem q1636 : (Jvm.Cond.instanceMethod ({ cls := "AnnealingLehr$State", name := "lambda$whyNotLoading$2", desc := "()Z" } : Jvm.MethodName)) ∈ lw_all := lw_g (lw_at lw_m7 94 rfl) rfl
theorem q1637 : (Jvm.Cond.code ({ cls := "AnnealingLehr$State", name := "lambda$whyNotLoading$2", desc := "()Z" } : Jvm.MethodName) prog_17_method_45_code (1 : Nat) (Option.some Jvm.ClassFile.FieldType.boolean)) ∈ lw_all := lw_g (lw_at lw_m7 95 rfl) rfl
theorem q1638 : (Jvm.Cond.methodLinkNest "AnnealingLehr$State" (180 : Nat) ({ cls := "AnnealingLehr", name := "first", desc := "([LAnnealingLehr$Reason;)I" } : Jvm.MethodName) "AnnealingLehr") ∈ lw_tbl := lw_at lw_m7 96 rfl
theorem q1646 : (Jvm.Cond.classLink "AnnealingLehr$State" (188 : Nat) "AnnealingLehr$PieceKey") ∈ lw_all := lw_g (lw_at lw_m7 104 rfl) rfl
theorem q1648 : (Jvm.Cond.methodLink "AnnealingLehr$State" (193 : Nat) ({ cls := "AnnealingLehr$PieceKey", name := "<init>", desc := "(II)V" } : Jvm.MethodName)) ∈ lw_all := lw_g (lw_at lw_m7 106 rfl) rfl
theorem q1653 : (Jvm.Cond.fieldLink "AnnealingLehr$State" (332 : Nat) "AnnealingLehr$PieceKey" "lot" "I") ∈ lw_all := lw_g (lw_at lw_m7 111 rfl) rfl
theorem q1662 : (Jvm.Cond.methodLink "AnnealingLehr$State" (200 : Nat) ({ cls := "AnnealingLehr$Piece", name := "<init>", desc := "(LAnnealingLehr$PieceKey;LAnnealingLehr$Ware;)V" } : Jvm.MethodName)) ∈ lw_all := lw_g (lw_at lw_m7 120 rfl) rfl
theorem q1667 : (Jvm.Cond.fieldLink "AnnealingLehr$State" (141 : Nat) "AnnealingLehr$Piece" "key" "LAnnealingLehr$PieceKey;") ∈ lw_all := lw_g (lw_at lw_m7 125 rfl) rfl
theorem q1671 : (Jvm.Cond.fieldLink "AnnealingLehr$State" (149 : Nat) "AnnealingLehr$Piece" "place" "I") ∈ lw_all := lw_g (lw_at lw_m7 129 rfl) rfl
theorem q1674 : (Jvm.Cond.fieldLink "AnnealingLehr$State" (338 : Nat) "AnnealingLehr$Piece" "minutes" "I") ∈ lw_all := lw_g (lw_at lw_m7 132 rfl) rfl
theorem q1677 : (Jvm.Cond.fieldLink "AnnealingLehr$State" (319 : Nat) "AnnealingLehr$Piece" "warmth" "I") ∈ lw_all := lw_g (lw_at lw_m7 135 rfl) rfl
theorem q1694 : (Jvm.Cond.interfaceEntry "AnnealingLehr$State" (145 : Nat)) ∈ lw_tbl := lw_at lw_m7 152 rfl
theorem q1695 : (Jvm.Cond.methodLink "AnnealingLehr$State" (145 : Nat) ({ cls := "java/util/Map", name := "put", desc := "(Ljava/lang/Object;Ljava/lang/Object;)Ljava/lang/Object;" } : Jvm.MethodName)) ∈ lw_all := lw_g (lw_at lw_m7 153 rfl) rfl
theorem q1732 : (Jvm.Cond.selects "AnnealingLehr$State" ({ cls := "java/lang/Object", name := "hashCode", desc := "()I" } : Jvm.MethodName) ({ cls := "java/lang/Object", name := "hashCode", desc := "()I" } : Jvm.MethodName)) ∈ lw_all := lw_g (lw_at lw_m7 190 rfl) rfl
theorem q2185 : (Jvm.Cond.selects "AnnealingLehr$State" ({ cls := "java/lang/Object", name := "equals", desc := "(Ljava/lang/Object;)Z" } : Jvm.MethodName) ({ cls := "java/lang/Object", name := "equals", desc := "(Ljava/lang/Object;)Z" } : Jvm.MethodName)) ∈ lw_all := lw_g (lw_at lw_m9 163 rfl) rfl
theorem q2299 : (Jvm.Cond.instanceMethod ({ cls := "AnnealingLehr$State", name := "sendCleaner", desc := "(II)Z" } : Jvm.MethodName)) ∈ lw_all := lw_g (lw_at lw_m10 37 rfl) rfl
theorem q2300 : (Jvm.Cond.selects "AnnealingLehr$State" ({ cls := "AnnealingLehr$State", name := "sendCleaner", desc := "(II)Z" } : Jvm.MethodName) ({ cls := "AnnealingLehr$State", name := "sendCleaner", desc := "(II)Z" } : Jvm.MethodName)) ∈ lw_all := lw_g (lw_at lw_m10 38 rfl) rfl
theorem q2301 : (Jvm.Cond.code ({ cls := "AnnealingLehr$State", name := "sendCleaner", desc := "(II)Z" } : Jvm.MethodName) prog_17_method_13_code (5 : Nat) (Option.some Jvm.ClassFile.FieldType.boolean)) ∈ lw_all := lw_g (lw_at lw_m10 39 rfl) rfl
theorem q2302 : (Jvm.Cond.methodLink "AnnealingLehr$State" (210 : Nat) ({ cls := "AnnealingLehr$State", name := "whyNotCleaning", desc := "(II)I" } : Jvm.MethodName)) ∈ lw_all := lw_g (lw_at lw_m10 40 rfl) rfl
theorem q2303 : (Jvm.Cond.instanceMethod ({ cls := "AnnealingLehr$State", name := "whyNotCleaning", desc := "(II)I" } : Jvm.MethodName)) ∈ lw_all := lw_g (lw_at lw_m10 41 rfl) rfl
theorem q2304 : (Jvm.Cond.selects "AnnealingLehr$State" ({ cls := "AnnealingLehr$State", name := "whyNotCleaning", desc := "(II)I" } : Jvm.MethodName) ({ cls := "AnnealingLehr$State", name := "whyNotCleaning", desc := "(II)I" } : Jvm.MethodName)) ∈ lw_all := lw_g (lw_at lw_m10 42 rfl) rfl
theorem q2305 : (Jvm.Cond.code ({ cls := "AnnealingLehr$State", name := "whyNotCleaning", desc := "(II)I" } : Jvm.MethodName) prog_17_method_12_code (5 : Nat) (Option.some Jvm.ClassFile.FieldType.int)) ∈ lw_all := lw_g (lw_at lw_m10 43 rfl) rfl
theorem q2306 : (Jvm.Cond.privateMethod ({ cls := "AnnealingLehr$State", name := "lambda$whyNotCleaning$3", desc := "(I)Z" } : Jvm.MethodName)) ∈ lw_tbl := lw_at lw_m10 44 rfl
theorem q2307 : (Jvm.Cond.instanceMethod ({ cls := "AnnealingLehr$State", name := "lambda$whyNotCleaning$3", desc := "(I)Z" } : Jvm.MethodName)) ∈ lw_all := lw_g (lw_at lw_m10 45 rfl) rfl
theorem q2308 : (Jvm.Cond.code ({ cls := "AnnealingLehr$State", name := "lambda$whyNotCleaning$3", desc := "(I)Z" } : Jvm.MethodName) prog_17_method_44_code (2 : Nat) (Option.some Jvm.ClassFile.FieldType.boolean)) ∈ lw_all := lw_g (lw_at lw_m10 46 rfl) rfl
theorem q2309 : (Jvm.Cond.privateMethod ({ cls := "AnnealingLehr$State", name := "lambda$whyNotCleaning$4", desc := "(I)Z" } : Jvm.MethodName)) ∈ lw_tbl := lw_at lw_m10 47 rfl
theorem q2310 : (Jvm.Cond.instanceMethod ({ cls := "AnnealingLehr$State", name := "lambda$whyNotCleaning$4", desc := "(I)Z" } : Jvm.MethodName)) ∈ lw_all := lw_g (lw_at lw_m10 48 rfl) rfl
theorem q2311 : (Jvm.Cond.code ({ cls := "AnnealingLehr$State", name := "lambda$whyNotCleaning$4", desc := "(I)Z" } : Jvm.MethodName) prog_17_method_43_code (2 : Nat) (Option.some Jvm.ClassFile.FieldType.boolean)) ∈ lw_all := lw_g (lw_at lw_m10 49 rfl) rfl
theorem q2312 : (Jvm.Cond.privateMethod ({ cls := "AnnealingLehr$State", name := "lambda$whyNotCleaning$5", desc := "(II)Z" } : Jvm.MethodName)) ∈ lw_tbl := lw_at lw_m10 50 rfl
theorem q2313 : (Jvm.Cond.instanceMethod ({ cls := "AnnealingLehr$State", name := "lambda$whyNotCleaning$5", desc := "(II)Z" } : Jvm.MethodName)) ∈ lw_all := lw_g (lw_at lw_m10 51 rfl) rfl
theorem q2314 : (Jvm.Cond.code ({ cls := "AnnealingLehr$State", name := "lambda$whyNotCleaning$5", desc := "(II)Z" } : Jvm.MethodName) prog_17_method_42_code (3 : Nat) (Option.some Jvm.ClassFile.FieldType.boolean)) ∈ lw_all := lw_g (lw_at lw_m10 52 rfl) rfl
theorem q2322 : (Jvm.Cond.instanceMethod ({ cls := "AnnealingLehr$State", name := "pass", desc := "(I)Z" } : Jvm.MethodName)) ∈ lw_all := lw_g (lw_at lw_m10 60 rfl) rfl
theorem q2323 : (Jvm.Cond.selects "AnnealingLehr$State" ({ cls := "AnnealingLehr$State", name := "pass", desc := "(I)Z" } : Jvm.MethodName) ({ cls := "AnnealingLehr$State", name := "pass", desc := "(I)Z" } : Jvm.MethodName)) ∈ lw_all := lw_g (lw_at lw_m10 61 rfl) rfl
theorem q2324 : (Jvm.Cond.code ({ cls := "AnnealingLehr$State", name := "pass", desc := "(I)Z" } : Jvm.MethodName) prog_17_method_21_code (4 : Nat) (Option.some Jvm.ClassFile.FieldType.boolean)) ∈ lw_all := lw_g (lw_at lw_m10 62 rfl) rfl
theorem q2325 : (Jvm.Cond.methodLink "AnnealingLehr$State" (260 : Nat) ({ cls := "AnnealingLehr$State", name := "canPass", desc := "(I)Z" } : Jvm.MethodName)) ∈ lw_all := lw_g (lw_at lw_m10 63 rfl) rfl
theorem q2326 : (Jvm.Cond.instanceMethod ({ cls := "AnnealingLehr$State", name := "canPass", desc := "(I)Z" } : Jvm.MethodName)) ∈ lw_all := lw_g (lw_at lw_m10 64 rfl) rfl
theorem q2327 : (Jvm.Cond.selects "AnnealingLehr$State" ({ cls := "AnnealingLehr$State", name := "canPass", desc := "(I)Z" } : Jvm.MethodName) ({ cls := "AnnealingLehr$State", name := "canPass", desc := "(I)Z" } : Jvm.MethodName)) ∈ lw_all := lw_g (lw_at lw_m10 65 rfl) rfl
theorem q2328 : (Jvm.Cond.code ({ cls := "AnnealingLehr$State", name := "canPass", desc := "(I)Z" } : Jvm.MethodName) prog_17_method_20_code (2 : Nat) (Option.some Jvm.ClassFile.FieldType.boolean)) ∈ lw_all := lw_g (lw_at lw_m10 66 rfl) rfl
theorem q2329 : (Jvm.Cond.methodLink "AnnealingLehr$State" (264 : Nat) ({ cls := "AnnealingLehr$State", name := "minute", desc := "()V" } : Jvm.MethodName)) ∈ lw_all := lw_g (lw_at lw_m10 67 rfl) rfl
theorem q2330 : (Jvm.Cond.instanceMethod ({ cls := "AnnealingLehr$State", name := "minute", desc := "()V" } : Jvm.MethodName)) ∈ lw_all := lw_g (lw_at lw_m10 68 rfl) rfl
theorem q2331 : (Jvm.Cond.selects "AnnealingLehr$State" ({ cls := "AnnealingLehr$State", name := "minute", desc := "()V" } : Jvm.MethodName) ({ cls := "AnnealingLehr$State", name := "minute", desc := "()V" } : Jvm.MethodName)) ∈ lw_all := lw_g (lw_at lw_m10 69 rfl) rfl
theorem q2332 : (Jvm.Cond.code ({ cls := "AnnealingLehr$State", name := "minute", desc := "()V" } : Jvm.MethodName) prog_17_method_22_code (3 : Nat) (Option.none : Option Jvm.ClassFile.FieldType)) ∈ lw_all := lw_g (lw_at lw_m10 70 rfl) rfl
theorem q2333 : (Jvm.Cond.methodLink "AnnealingLehr$State" (267 : Nat) ({ cls := "AnnealingLehr$State", name := "carryOutPlans", desc := "()V" } : Jvm.MethodName)) ∈ lw_all := lw_g (lw_at lw_m10 71 rfl) rfl
theorem q2334 : (Jvm.Cond.privateMethod ({ cls := "AnnealingLehr$State", name := "carryOutPlans", desc := "()V" } : Jvm.MethodName)) ∈ lw_tbl := lw_at lw_m10 72 rfl
theorem q2335 : (Jvm.Cond.instanceMethod ({ cls := "AnnealingLehr$State", name := "carryOutPlans", desc := "()V" } : Jvm.MethodName)) ∈ lw_all := lw_g (lw_at lw_m10 73 rfl) rfl
theorem q2336 : (Jvm.Cond.code ({ cls := "AnnealingLehr$State", name := "carryOutPlans", desc := "()V" } : Jvm.MethodName) prog_17_method_23_code (3 : Nat) (Option.none : Option Jvm.ClassFile.FieldType)) ∈ lw_all := lw_g (lw_at lw_m10 74 rfl) rfl
theorem q2337 : (Jvm.Cond.classLink "AnnealingLehr$State" (227 : Nat) "AnnealingLehr$PlanKey") ∈ lw_all := lw_g (lw_at lw_m10 75 rfl) rfl
theorem q2339 : (Jvm.Cond.methodLink "AnnealingLehr$State" (229 : Nat) ({ cls := "AnnealingLehr$PlanKey", name := "<init>", desc := "(II)V" } : Jvm.MethodName)) ∈ lw_all := lw_g (lw_at lw_m10 77 rfl) rfl
theorem q2344 : (Jvm.Cond.fieldLink "AnnealingLehr$State" (259 : Nat) "AnnealingLehr$PlanKey" "time" "I") ∈ lw_all := lw_g (lw_at lw_m10 82 rfl) rfl
theorem q2351 : (Jvm.Cond.interfaceEntry "AnnealingLehr$State" (242 : Nat)) ∈ lw_tbl := lw_at lw_m10 89 rfl
theorem q2352 : (Jvm.Cond.methodLink "AnnealingLehr$State" (242 : Nat) ({ cls := "java/util/Map", name := "remove", desc := "(Ljava/lang/Object;)Ljava/lang/Object;" } : Jvm.MethodName)) ∈ lw_all := lw_g (lw_at lw_m10 90 rfl) rfl
theorem q2383 : (Jvm.Cond.classLink "AnnealingLehr$State" (237 : Nat) "java/lang/Integer") ∈ lw_all := lw_g (lw_at lw_m10 121 rfl) rfl
theorem q2384 : (Jvm.Cond.methodLink "AnnealingLehr$State" (239 : Nat) ({ cls := "java/lang/Integer", name := "intValue", desc := "()I" } : Jvm.MethodName)) ∈ lw_all := lw_g (lw_at lw_m10 122 rfl) rfl
theorem q2385 : (Jvm.Cond.methodLink "AnnealingLehr$State" (249 : Nat) ({ cls := "AnnealingLehr$State", name := "findNextPlan", desc := "()V" } : Jvm.MethodName)) ∈ lw_all := lw_g (lw_at lw_m10 123 rfl) rfl
theorem q2386 : (Jvm.Cond.privateMethod ({ cls := "AnnealingLehr$State", name := "findNextPlan", desc := "()V" } : Jvm.MethodName)) ∈ lw_tbl := lw_at lw_m10 124 rfl
theorem q2387 : (Jvm.Cond.instanceMethod ({ cls := "AnnealingLehr$State", name := "findNextPlan", desc := "()V" } : Jvm.MethodName)) ∈ lw_all := lw_g (lw_at lw_m10 125 rfl) rfl
theorem q2388 : (Jvm.Cond.code ({ cls := "AnnealingLehr$State", name := "findNextPlan", desc := "()V" } : Jvm.MethodName) prog_17_method_19_code (3 : Nat) (Option.none : Option Jvm.ClassFile.FieldType)) ∈ lw_all := lw_g (lw_at lw_m10 126 rfl) rfl
theorem q2389 : (Jvm.Cond.interfaceEntry "AnnealingLehr$State" (252 : Nat)) ∈ lw_tbl := lw_at lw_m10 127 rfl
theorem q2390 : (Jvm.Cond.methodLink "AnnealingLehr$State" (252 : Nat) ({ cls := "java/util/Map", name := "keySet", desc := "()Ljava/util/Set;" } : Jvm.MethodName)) ∈ lw_all := lw_g (lw_at lw_m10 128 rfl) rfl
theorem q2416 : (Jvm.Cond.interfaceEntry "AnnealingLehr$State" (256 : Nat)) ∈ lw_tbl := lw_at lw_m10 154 rfl
theorem q2417 : (Jvm.Cond.methodLink "AnnealingLehr$State" (256 : Nat) ({ cls := "java/util/Set", name := "iterator", desc := "()Ljava/util/Iterator;" } : Jvm.MethodName)) ∈ lw_all := lw_g (lw_at lw_m10 155 rfl) rfl
theorem q2513 : (Jvm.Cond.interfaceEntry "AnnealingLehr$State" (129 : Nat)) ∈ lw_tbl := lw_at lw_m11 11 rfl
theorem q2514 : (Jvm.Cond.methodLink "AnnealingLehr$State" (129 : Nat) ({ cls := "java/util/Iterator", name := "hasNext", desc := "()Z" } : Jvm.MethodName)) ∈ lw_all := lw_g (lw_at lw_m11 12 rfl) rfl
theorem q2547 : (Jvm.Cond.interfaceEntry "AnnealingLehr$State" (135 : Nat)) ∈ lw_tbl := lw_at lw_m11 45 rfl
theorem q2548 : (Jvm.Cond.methodLink "AnnealingLehr$State" (135 : Nat) ({ cls := "java/util/Iterator", name := "next", desc := "()Ljava/lang/Object;" } : Jvm.MethodName)) ∈ lw_all := lw_g (lw_at lw_m11 46 rfl) rfl
theorem q2620 : (Jvm.Cond.methodLink "AnnealingLehr$State" (270 : Nat) ({ cls := "AnnealingLehr$State", name := "burn", desc := "()V" } : Jvm.MethodName)) ∈ lw_all := lw_g (lw_at lw_m11 118 rfl) rfl
theorem q2621 : (Jvm.Cond.privateMethod ({ cls := "AnnealingLehr$State", name := "burn", desc := "()V" } : Jvm.MethodName)) ∈ lw_tbl := lw_at lw_m11 119 rfl
theorem q2622 : (Jvm.Cond.instanceMethod ({ cls := "AnnealingLehr$State", name := "burn", desc := "()V" } : Jvm.MethodName)) ∈ lw_all := lw_g (lw_at lw_m11 120 rfl) rfl
theorem q2623 : (Jvm.Cond.code ({ cls := "AnnealingLehr$State", name := "burn", desc := "()V" } : Jvm.MethodName) prog_17_method_24_code (5 : Nat) (Option.none : Option Jvm.ClassFile.FieldType)) ∈ lw_all := lw_g (lw_at lw_m11 121 rfl) rfl
theorem q2624 : (Jvm.Cond.methodLink "AnnealingLehr$State" (296 : Nat) ({ cls := "AnnealingLehr$Burner", name := "of", desc := "(I)LAnnealingLehr$Burner;" } : Jvm.MethodName)) ∈ lw_all := lw_g (lw_at lw_m11 122 rfl) rfl
theorem q2635 : (Jvm.Cond.methodLink "AnnealingLehr$State" (301 : Nat) ({ cls := "AnnealingLehr$Burner", name := "with", desc := "(I)LAnnealingLehr$Burner;" } : Jvm.MethodName)) ∈ lw_all := lw_g (lw_at lw_m11 133 rfl) rfl
theorem q2681 : (Jvm.Cond.methodLink "AnnealingLehr$State" (304 : Nat) ({ cls := "AnnealingLehr$Burner", name := "gas", desc := "()I" } : Jvm.MethodName)) ∈ lw_all := lw_g (lw_at lw_m11 179 rfl) rfl
theorem q2682 : (Jvm.Cond.methodLink "AnnealingLehr$State" (306 : Nat) ({ cls := "AnnealingLehr$Burner", name := "target", desc := "()I" } : Jvm.MethodName)) ∈ lw_all := lw_g (lw_at lw_m11 180 rfl) rfl
theorem q2697 : (Jvm.Cond.methodLinkNest "AnnealingLehr$State" (309 : Nat) ({ cls := "AnnealingLehr", name := "step", desc := "(II)I" } : Jvm.MethodName) "AnnealingLehr") ∈ lw_tbl := lw_at lw_m11 195 rfl
theorem q2703 : (Jvm.Cond.methodLink "AnnealingLehr$State" (273 : Nat) ({ cls := "AnnealingLehr$State", name := "exchange", desc := "()V" } : Jvm.MethodName)) ∈ lw_all := lw_g (lw_at lw_m11 201 rfl) rfl
theorem q2704 : (Jvm.Cond.privateMethod ({ cls := "AnnealingLehr$State", name := "exchange", desc := "()V" } : Jvm.MethodName)) ∈ lw_tbl := lw_at lw_m11 202 rfl
theorem q2705 : (Jvm.Cond.instanceMethod ({ cls := "AnnealingLehr$State", name := "exchange", desc := "()V" } : Jvm.MethodName)) ∈ lw_all := lw_g (lw_at lw_m11 203 rfl) rfl
theorem q2706 : (Jvm.Cond.code ({ cls := "AnnealingLehr$State", name := "exchange", desc := "()V" } : Jvm.MethodName) prog_17_method_26_code (4 : Nat) (Option.none : Option Jvm.ClassFile.FieldType)) ∈ lw_all := lw_g (lw_at lw_m11 204 rfl) rfl
theorem q2707 : (Jvm.Cond.methodLink "AnnealingLehr$State" (88 : Nat) ({ cls := "[I", name := "clone", desc := "()Ljava/lang/Object;" } : Jvm.MethodName)) ∈ lw_all := lw_g (lw_at lw_m11 205 rfl) rfl
theorem q2711 : (Jvm.Cond.classLink "AnnealingLehr$State" (89 : Nat) "[I") ∈ lw_all := lw_g (lw_at lw_m11 209 rfl) rfl
theorem q2712 : (Jvm.Cond.methodLink "AnnealingLehr$State" (276 : Nat) ({ cls := "AnnealingLehr$State", name := "zoneOf", desc := "(I)I" } : Jvm.MethodName)) ∈ lw_all := lw_g (lw_at lw_m11 210 rfl) rfl
theorem q2713 : (Jvm.Cond.static ({ cls := "AnnealingLehr$State", name := "zoneOf", desc := "(I)I" } : Jvm.MethodName)) ∈ lw_all := lw_g (lw_at lw_m11 211 rfl) rfl
theorem q2714 : (Jvm.Cond.code ({ cls := "AnnealingLehr$State", name := "zoneOf", desc := "(I)I" } : Jvm.MethodName) prog_17_method_4_code (1 : Nat) (Option.some Jvm.ClassFile.FieldType.int)) ∈ lw_all := lw_g (lw_at lw_m11 212 rfl) rfl
theorem q2715 : (Jvm.Cond.methodLink "AnnealingLehr$State" (279 : Nat) ({ cls := "AnnealingLehr$Piece", name := "goTowards", desc := "(I)V" } : Jvm.MethodName)) ∈ lw_all := lw_g (lw_at lw_m11 213 rfl) rfl
theorem q2754 : (Jvm.Cond.methodLink "AnnealingLehr$State" (283 : Nat) ({ cls := "AnnealingLehr$State", name := "giveHeat", desc := "([I)V" } : Jvm.MethodName)) ∈ lw_all := lw_g (lw_at lw_m12 12 rfl) rfl
theorem q2755 : (Jvm.Cond.privateMethod ({ cls := "AnnealingLehr$State", name := "giveHeat", desc := "([I)V" } : Jvm.MethodName)) ∈ lw_tbl := lw_at lw_m12 13 rfl
theorem q2756 : (Jvm.Cond.instanceMethod ({ cls := "AnnealingLehr$State", name := "giveHeat", desc := "([I)V" } : Jvm.MethodName)) ∈ lw_all := lw_g (lw_at lw_m12 14 rfl) rfl
theorem q2757 : (Jvm.Cond.code ({ cls := "AnnealingLehr$State", name := "giveHeat", desc := "([I)V" } : Jvm.MethodName) prog_17_method_27_code (4 : Nat) (Option.none : Option Jvm.ClassFile.FieldType)) ∈ lw_all := lw_g (lw_at lw_m12 15 rfl) rfl
theorem q2758 : (Jvm.Cond.methodLink "AnnealingLehr$State" (322 : Nat) ({ cls := "java/lang/Integer", name := "signum", desc := "(I)I" } : Jvm.MethodName)) ∈ lw_all := lw_g (lw_at lw_m12 16 rfl) rfl
theorem q2759 : (Jvm.Cond.methodLink "AnnealingLehr$State" (287 : Nat) ({ cls := "AnnealingLehr$State", name := "breakPieces", desc := "()V" } : Jvm.MethodName)) ∈ lw_all := lw_g (lw_at lw_m12 17 rfl) rfl
theorem q2760 : (Jvm.Cond.privateMethod ({ cls := "AnnealingLehr$State", name := "breakPieces", desc := "()V" } : Jvm.MethodName)) ∈ lw_tbl := lw_at lw_m12 18 rfl
theorem q2761 : (Jvm.Cond.instanceMethod ({ cls := "AnnealingLehr$State", name := "breakPieces", desc := "()V" } : Jvm.MethodName)) ∈ lw_all := lw_g (lw_at lw_m12 19 rfl) rfl
theorem q2762 : (Jvm.Cond.code ({ cls := "AnnealingLehr$State", name := "breakPieces", desc := "()V" } : Jvm.MethodName) prog_17_method_28_code (2 : Nat) (Option.none : Option Jvm.ClassFile.FieldType)) ∈ lw_all := lw_g (lw_at lw_m12 20 rfl) rfl
theorem q2763 : (Jvm.Cond.methodLink "AnnealingLehr$State" (325 : Nat) ({ cls := "AnnealingLehr$Piece", name := "isTooStressed", desc := "()Z" } : Jvm.MethodName)) ∈ lw_all := lw_g (lw_at lw_m12 21 rfl) rfl
theorem q2773 : (Jvm.Cond.methodLink "AnnealingLehr$State" (328 : Nat) ({ cls := "AnnealingLehr$State", name := "leave", desc := "(II)V" } : Jvm.MethodName)) ∈ lw_all := lw_g (lw_at lw_m12 31 rfl) rfl
theorem q2774 : (Jvm.Cond.privateMethod ({ cls := "AnnealingLehr$State", name := "leave", desc := "(II)V" } : Jvm.MethodName)) ∈ lw_tbl := lw_at lw_m12 32 rfl
theorem q2775 : (Jvm.Cond.instanceMethod ({ cls := "AnnealingLehr$State", name := "leave", desc := "(II)V" } : Jvm.MethodName)) ∈ lw_all := lw_g (lw_at lw_m12 33 rfl) rfl
theorem q2776 : (Jvm.Cond.code ({ cls := "AnnealingLehr$State", name := "leave", desc := "(II)V" } : Jvm.MethodName) prog_17_method_29_code (4 : Nat) (Option.none : Option Jvm.ClassFile.FieldType)) ∈ lw_all := lw_g (lw_at lw_m12 34 rfl) rfl
theorem q2777 : (Jvm.Cond.classLink "AnnealingLehr$State" (257 : Nat) "java/util/Set") ∈ lw_all := lw_g (lw_at lw_m12 35 rfl) rfl
theorem q2778 : (Jvm.Cond.interfaceEntry "AnnealingLehr$State" (331 : Nat)) ∈ lw_tbl := lw_at lw_m12 36 rfl
theorem q2779 : (Jvm.Cond.methodLink "AnnealingLehr$State" (331 : Nat) ({ cls := "java/util/Set", name := "add", desc := "(Ljava/lang/Object;)Z" } : Jvm.MethodName)) ∈ lw_all := lw_g (lw_at lw_m12 37 rfl) rfl
theorem q2799 : (Jvm.Cond.methodLink "AnnealingLehr$State" (290 : Nat) ({ cls := "AnnealingLehr$State", name := "movePiece", desc := "(I)V" } : Jvm.MethodName)) ∈ lw_all := lw_g (lw_at lw_m12 57 rfl) rfl
theorem q2800 : (Jvm.Cond.privateMethod ({ cls := "AnnealingLehr$State", name := "movePiece", desc := "(I)V" } : Jvm.MethodName)) ∈ lw_tbl := lw_at lw_m12 58 rfl
theorem q2801 : (Jvm.Cond.instanceMethod ({ cls := "AnnealingLehr$State", name := "movePiece", desc := "(I)V" } : Jvm.MethodName)) ∈ lw_all := lw_g (lw_at lw_m12 59 rfl) rfl
theorem q2802 : (Jvm.Cond.code ({ cls := "AnnealingLehr$State", name := "movePiece", desc := "(I)V" } : Jvm.MethodName) prog_17_method_31_code (4 : Nat) (Option.none : Option Jvm.ClassFile.FieldType)) ∈ lw_all := lw_g (lw_at lw_m12 60 rfl) rfl
theorem q2803 : (Jvm.Cond.methodLink "AnnealingLehr$State" (341 : Nat) ({ cls := "AnnealingLehr$State", name := "comeOut", desc := "(LAnnealingLehr$Piece;)V" } : Jvm.MethodName)) ∈ lw_all := lw_g (lw_at lw_m12 61 rfl) rfl
theorem q2804 : (Jvm.Cond.privateMethod ({ cls := "AnnealingLehr$State", name := "comeOut", desc := "(LAnnealingLehr$Piece;)V" } : Jvm.MethodName)) ∈ lw_tbl := lw_at lw_m12 62 rfl
theorem q2805 : (Jvm.Cond.instanceMethod ({ cls := "AnnealingLehr$State", name := "comeOut", desc := "(LAnnealingLehr$Piece;)V" } : Jvm.MethodName)) ∈ lw_all := lw_g (lw_at lw_m12 63 rfl) rfl
theorem q2806 : (Jvm.Cond.code ({ cls := "AnnealingLehr$State", name := "comeOut", desc := "(LAnnealingLehr$Piece;)V" } : Jvm.MethodName) prog_17_method_32_code (3 : Nat) (Option.none : Option Jvm.ClassFile.FieldType)) ∈ lw_all := lw_g (lw_at lw_m12 64 rfl) rfl
theorem q2807 : (Jvm.Cond.methodLink "AnnealingLehr$State" (348 : Nat) ({ cls := "AnnealingLehr$Piece", name := "fate", desc := "()I" } : Jvm.MethodName)) ∈ lw_all := lw_g (lw_at lw_m12 65 rfl) rfl
theorem q2811 : (Jvm.Cond.methodLink "AnnealingLehr$State" (351 : Nat) ({ cls := "AnnealingLehr$State", name := "deliver", desc := "(LAnnealingLehr$Lot;)V" } : Jvm.MethodName)) ∈ lw_all := lw_g (lw_at lw_m12 69 rfl) rfl
theorem q2812 : (Jvm.Cond.privateMethod ({ cls := "AnnealingLehr$State", name := "deliver", desc := "(LAnnealingLehr$Lot;)V" } : Jvm.MethodName)) ∈ lw_tbl := lw_at lw_m12 70 rfl
theorem q2813 : (Jvm.Cond.instanceMethod ({ cls := "AnnealingLehr$State", name := "deliver", desc := "(LAnnealingLehr$Lot;)V" } : Jvm.MethodName)) ∈ lw_all := lw_g (lw_at lw_m12 71 rfl) rfl
theorem q2814 : (Jvm.Cond.code ({ cls := "AnnealingLehr$State", name := "deliver", desc := "(LAnnealingLehr$Lot;)V" } : Jvm.MethodName) prog_17_method_33_code (5 : Nat) (Option.none : Option Jvm.ClassFile.FieldType)) ∈ lw_all := lw_g (lw_at lw_m12 72 rfl) rfl
theorem q2815 : (Jvm.Cond.classLink "AnnealingLehr$State" (112 : Nat) "AnnealingLehr$Demand") ∈ lw_all := lw_g (lw_at lw_m12 73 rfl) rfl
theorem q2816 : (Jvm.Cond.methodLink "AnnealingLehr$State" (217 : Nat) ({ cls := "AnnealingLehr$Demand", name := "wants", desc := "(LAnnealingLehr$Ware;)Z" } : Jvm.MethodName)) ∈ lw_all := lw_g (lw_at lw_m12 74 rfl) rfl
theorem q2825 : (Jvm.Cond.methodLink "AnnealingLehr$State" (224 : Nat) ({ cls := "AnnealingLehr$Demand", name := "take", desc := "(I)I" } : Jvm.MethodName)) ∈ lw_all := lw_g (lw_at lw_m12 83 rfl) rfl
theorem q2829 : (Jvm.Cond.methodLink "AnnealingLehr$State" (345 : Nat) ({ cls := "AnnealingLehr$State", name := "isFree", desc := "(I)Z" } : Jvm.MethodName)) ∈ lw_all := lw_g (lw_at lw_m12 87 rfl) rfl
theorem q2830 : (Jvm.Cond.privateMethod ({ cls := "AnnealingLehr$State", name := "isFree", desc := "(I)Z" } : Jvm.MethodName)) ∈ lw_tbl := lw_at lw_m12 88 rfl
theorem q2831 : (Jvm.Cond.instanceMethod ({ cls := "AnnealingLehr$State", name := "isFree", desc := "(I)Z" } : Jvm.MethodName)) ∈ lw_all := lw_g (lw_at lw_m12 89 rfl) rfl
theorem q2832 : (Jvm.Cond.code ({ cls := "AnnealingLehr$State", name := "isFree", desc := "(I)Z" } : Jvm.MethodName) prog_17_method_30_code (2 : Nat) (Option.some Jvm.ClassFile.FieldType.boolean)) ∈ lw_all := lw_g (lw_at lw_m12 90 rfl) rfl
theorem q2833 : (Jvm.Cond.methodLink "AnnealingLehr$State" (293 : Nat) ({ cls := "AnnealingLehr$State", name := "clean", desc := "(I)V" } : Jvm.MethodName)) ∈ lw_all := lw_g (lw_at lw_m12 91 rfl) rfl
theorem q2834 : (Jvm.Cond.privateMethod ({ cls := "AnnealingLehr$State", name := "clean", desc := "(I)V" } : Jvm.MethodName)) ∈ lw_tbl := lw_at lw_m12 92 rfl
theorem q2835 : (Jvm.Cond.instanceMethod ({ cls := "AnnealingLehr$State", name := "clean", desc := "(I)V" } : Jvm.MethodName)) ∈ lw_all := lw_g (lw_at lw_m12 93 rfl) rfl
theorem q2836 : (Jvm.Cond.code ({ cls := "AnnealingLehr$State", name := "clean", desc := "(I)V" } : Jvm.MethodName) prog_17_method_34_code (2 : Nat) (Option.none : Option Jvm.ClassFile.FieldType)) ∈ lw_all := lw_g (lw_at lw_m12 94 rfl) rfl
theorem q2853 : (Jvm.Cond.instanceMethod ({ cls := "AnnealingLehr$State", name := "copy", desc := "()LAnnealingLehr$State;" } : Jvm.MethodName)) ∈ lw_all := lw_g (lw_at lw_m12 111 rfl) rfl
theorem q2854 : (Jvm.Cond.selects "AnnealingLehr$State" ({ cls := "AnnealingLehr$State", name := "copy", desc := "()LAnnealingLehr$State;" } : Jvm.MethodName) ({ cls := "AnnealingLehr$State", name := "copy", desc := "()LAnnealingLehr$State;" } : Jvm.MethodName)) ∈ lw_all := lw_g (lw_at lw_m12 112 rfl) rfl
theorem q2855 : (Jvm.Cond.code ({ cls := "AnnealingLehr$State", name := "copy", desc := "()LAnnealingLehr$State;" } : Jvm.MethodName) prog_17_method_3_code (1 : Nat) (Option.some (Jvm.ClassFile.FieldType.object "AnnealingLehr$State"))) ∈ lw_all := lw_g (lw_at lw_m12 113 rfl) rfl
theorem q2856 : (Jvm.Cond.classLink "AnnealingLehr$State" (10 : Nat) "AnnealingLehr$State") ∈ lw_all := lw_g (lw_at lw_m12 114 rfl) rfl
theorem q2857 : (Jvm.Cond.methodLink "AnnealingLehr$State" (155 : Nat) ({ cls := "AnnealingLehr$State", name := "<init>", desc := "(LAnnealingLehr$State;)V" } : Jvm.MethodName)) ∈ lw_all := lw_g (lw_at lw_m12 115 rfl) rfl
theorem q2858 : (Jvm.Cond.instanceMethod ({ cls := "AnnealingLehr$State", name := "<init>", desc := "(LAnnealingLehr$State;)V" } : Jvm.MethodName)) ∈ lw_all := lw_g (lw_at lw_m12 116 rfl) rfl
theorem q2859 : (Jvm.Cond.code ({ cls := "AnnealingLehr$State", name := "<init>", desc := "(LAnnealingLehr$State;)V" } : Jvm.MethodName) prog_17_method_2_code (5 : Nat) (Option.none : Option Jvm.ClassFile.FieldType)) ∈ lw_all := lw_g (lw_at lw_m12 117 rfl) rfl
theorem q2860 : (Jvm.Cond.methodLink "AnnealingLehr$State" (93 : Nat) ({ cls := "[Z", name := "clone", desc := "()Ljava/lang/Object;" } : Jvm.MethodName)) ∈ lw_all := lw_g (lw_at lw_m12 118 rfl) rfl
theorem q2864 : (Jvm.Cond.classLink "AnnealingLehr$State" (94 : Nat) "[Z") ∈ lw_all := lw_g (lw_at lw_m12 122 rfl) rfl
theorem q2865 : (Jvm.Cond.methodLink "AnnealingLehr$State" (95 : Nat) ({ cls := "java/util/LinkedHashMap", name := "<init>", desc := "(Ljava/util/Map;)V" } : Jvm.MethodName)) ∈ lw_all := lw_g (lw_at lw_m12 123 rfl) rfl
theorem q2963 : (Jvm.Cond.methodLink "AnnealingLehr$State" (108 : Nat) ({ cls := "AnnealingLehr$Lot", name := "copy", desc := "()LAnnealingLehr$Lot;" } : Jvm.MethodName)) ∈ lw_all := lw_g (lw_at lw_m12 221 rfl) rfl
theorem q2971 : (Jvm.Cond.methodLink "AnnealingLehr$State" (114 : Nat) ({ cls := "AnnealingLehr$Demand", name := "copy", desc := "()LAnnealingLehr$Demand;" } : Jvm.MethodName)) ∈ lw_all := lw_g (lw_at lw_m12 229 rfl) rfl
theorem q2984 : (Jvm.Cond.fieldLink "AnnealingLehr$State" (355 : Nat) "AnnealingLehr$Demand" "due" "I") ∈ lw_all := lw_g (lw_at lw_m13 2 rfl) rfl
theorem q3003 : (Jvm.Cond.interfaceEntry "AnnealingLehr$State" (117 : Nat)) ∈ lw_tbl := lw_at lw_m13 21 rfl
theorem q3004 : (Jvm.Cond.methodLink "AnnealingLehr$State" (117 : Nat) ({ cls := "java/util/Map", name := "values", desc := "()Ljava/util/Collection;" } : Jvm.MethodName)) ∈ lw_all := lw_g (lw_at lw_m13 22 rfl) rfl
theorem q3030 : (Jvm.Cond.interfaceEntry "AnnealingLehr$State" (123 : Nat)) ∈ lw_tbl := lw_at lw_m13 48 rfl
theorem q3031 : (Jvm.Cond.methodLink "AnnealingLehr$State" (123 : Nat) ({ cls := "java/util/Collection", name := "iterator", desc := "()Ljava/util/Iterator;" } : Jvm.MethodName)) ∈ lw_all := lw_g (lw_at lw_m13 49 rfl) rfl
theorem q3111 : (Jvm.Cond.methodLink "AnnealingLehr$State" (138 : Nat) ({ cls := "AnnealingLehr$Piece", name := "copy", desc := "()LAnnealingLehr$Piece;" } : Jvm.MethodName)) ∈ lw_all := lw_g (lw_at lw_m13 129 rfl) rfl
theorem q3117 : (Jvm.Cond.classLink "AnnealingLehr$State" (124 : Nat) "java/util/Collection") ∈ lw_all := lw_g (lw_at lw_m13 135 rfl) rfl
theorem q3118 : (Jvm.Cond.methodLink "AnnealingLehr$State" (152 : Nat) ({ cls := "java/util/LinkedHashSet", name := "<init>", desc := "(Ljava/util/Collection;)V" } : Jvm.MethodName)) ∈ lw_all := lw_g (lw_at lw_m13 136 rfl) rfl
theorem q3326 : (Jvm.Cond.instanceMethod ({ cls := "AnnealingLehr$State", name := "canTakeOrder", desc := "()Z" } : Jvm.MethodName)) ∈ lw_all := lw_g (lw_at lw_m14 104 rfl) rfl
theorem q3327 : (Jvm.Cond.selects "AnnealingLehr$State" ({ cls := "AnnealingLehr$State", name := "canTakeOrder", desc := "()Z" } : Jvm.MethodName) ({ cls := "AnnealingLehr$State", name := "canTakeOrder", desc := "()Z" } : Jvm.MethodName)) ∈ lw_all := lw_g (lw_at lw_m14 105 rfl) rfl
theorem q3328 : (Jvm.Cond.code ({ cls := "AnnealingLehr$State", name := "canTakeOrder", desc := "()Z" } : Jvm.MethodName) prog_17_method_14_code (1 : Nat) (Option.some Jvm.ClassFile.FieldType.boolean)) ∈ lw_all := lw_g (lw_at lw_m14 106 rfl) rfl
theorem q3331 : (Jvm.Cond.instanceMethod ({ cls := "AnnealingLehr$State", name := "takeOrder", desc := "(LAnnealingLehr$Demand;)V" } : Jvm.MethodName)) ∈ lw_all := lw_g (lw_at lw_m14 109 rfl) rfl
theorem q3332 : (Jvm.Cond.selects "AnnealingLehr$State" ({ cls := "AnnealingLehr$State", name := "takeOrder", desc := "(LAnnealingLehr$Demand;)V" } : Jvm.MethodName) ({ cls := "AnnealingLehr$State", name := "takeOrder", desc := "(LAnnealingLehr$Demand;)V" } : Jvm.MethodName)) ∈ lw_all := lw_g (lw_at lw_m14 110 rfl) rfl
theorem q3333 : (Jvm.Cond.code ({ cls := "AnnealingLehr$State", name := "takeOrder", desc := "(LAnnealingLehr$Demand;)V" } : Jvm.MethodName) prog_17_method_15_code (4 : Nat) (Option.none : Option Jvm.ClassFile.FieldType)) ∈ lw_all := lw_g (lw_at lw_m14 111 rfl) rfl
theorem q3342 : (Jvm.Cond.instanceMethod ({ cls := "AnnealingLehr$State", name := "canPlan", desc := "(III)Z" } : Jvm.MethodName)) ∈ lw_all := lw_g (lw_at lw_m14 120 rfl) rfl
theorem q3343 : (Jvm.Cond.selects "AnnealingLehr$State" ({ cls := "AnnealingLehr$State", name := "canPlan", desc := "(III)Z" } : Jvm.MethodName) ({ cls := "AnnealingLehr$State", name := "canPlan", desc := "(III)Z" } : Jvm.MethodName)) ∈ lw_all := lw_g (lw_at lw_m14 121 rfl) rfl
theorem q3344 : (Jvm.Cond.code ({ cls := "AnnealingLehr$State", name := "canPlan", desc := "(III)Z" } : Jvm.MethodName) prog_17_method_16_code (4 : Nat) (Option.some Jvm.ClassFile.FieldType.boolean)) ∈ lw_all := lw_g (lw_at lw_m14 122 rfl) rfl
theorem q3345 : (Jvm.Cond.interfaceEntry "AnnealingLehr$State" (230 : Nat)) ∈ lw_tbl := lw_at lw_m14 123 rfl
theorem q3346 : (Jvm.Cond.methodLink "AnnealingLehr$State" (230 : Nat) ({ cls := "java/util/Map", name := "containsKey", desc := "(Ljava/lang/Object;)Z" } : Jvm.MethodName)) ∈ lw_all := lw_g (lw_at lw_m14 124 rfl) rfl
theorem q3359 : (Jvm.Cond.interfaceEntry "AnnealingLehr$State" (233 : Nat)) ∈ lw_tbl := lw_at lw_m14 137 rfl
theorem q3360 : (Jvm.Cond.methodLink "AnnealingLehr$State" (233 : Nat) ({ cls := "java/util/Map", name := "size", desc := "()I" } : Jvm.MethodName)) ∈ lw_all := lw_g (lw_at lw_m14 138 rfl) rfl
theorem q3362 : (Jvm.Cond.instanceMethod ({ cls := "AnnealingLehr$State", name := "plannedFor", desc := "(II)I" } : Jvm.MethodName)) ∈ lw_all := lw_g (lw_at lw_m14 140 rfl) rfl
theorem q3363 : (Jvm.Cond.selects "AnnealingLehr$State" ({ cls := "AnnealingLehr$State", name := "plannedFor", desc := "(II)I" } : Jvm.MethodName) ({ cls := "AnnealingLehr$State", name := "plannedFor", desc := "(II)I" } : Jvm.MethodName)) ∈ lw_all := lw_g (lw_at lw_m14 141 rfl) rfl
theorem q3364 : (Jvm.Cond.code ({ cls := "AnnealingLehr$State", name := "plannedFor", desc := "(II)I" } : Jvm.MethodName) prog_17_method_17_code (4 : Nat) (Option.some Jvm.ClassFile.FieldType.int)) ∈ lw_all := lw_g (lw_at lw_m14 142 rfl) rfl
theorem q3365 : (Jvm.Cond.interfaceEntry "AnnealingLehr$State" (234 : Nat)) ∈ lw_tbl := lw_at lw_m14 143 rfl
theorem q3366 : (Jvm.Cond.methodLink "AnnealingLehr$State" (234 : Nat) ({ cls := "java/util/Map", name := "get", desc := "(Ljava/lang/Object;)Ljava/lang/Object;" } : Jvm.MethodName)) ∈ lw_all := lw_g (lw_at lw_m14 144 rfl) rfl
theorem q3380 : (Jvm.Cond.instanceMethod ({ cls := "AnnealingLehr$State", name := "plan", desc := "(III)V" } : Jvm.MethodName)) ∈ lw_all := lw_g (lw_at lw_m14 158 rfl) rfl
theorem q3381 : (Jvm.Cond.selects "AnnealingLehr$State" ({ cls := "AnnealingLehr$State", name := "plan", desc := "(III)V" } : Jvm.MethodName) ({ cls := "AnnealingLehr$State", name := "plan", desc := "(III)V" } : Jvm.MethodName)) ∈ lw_all := lw_g (lw_at lw_m14 159 rfl) rfl
theorem q3382 : (Jvm.Cond.code ({ cls := "AnnealingLehr$State", name := "plan", desc := "(III)V" } : Jvm.MethodName) prog_17_method_18_code (5 : Nat) (Option.none : Option Jvm.ClassFile.FieldType)) ∈ lw_all := lw_g (lw_at lw_m14 160 rfl) rfl
theorem q3383 : (Jvm.Cond.methodLink "AnnealingLehr$State" (245 : Nat) ({ cls := "java/lang/Integer", name := "valueOf", desc := "(I)Ljava/lang/Integer;" } : Jvm.MethodName)) ∈ lw_all := lw_g (lw_at lw_m14 161 rfl) rfl
theorem q3426 : (Jvm.Cond.instanceMethod ({ cls := "AnnealingLehr$State", name := "burning", desc := "(I)I" } : Jvm.MethodName)) ∈ lw_all := lw_g (lw_at lw_m14 204 rfl) rfl
theorem q3427 : (Jvm.Cond.selects "AnnealingLehr$State" ({ cls := "AnnealingLehr$State", name := "burning", desc := "(I)I" } : Jvm.MethodName) ({ cls := "AnnealingLehr$State", name := "burning", desc := "(I)I" } : Jvm.MethodName)) ∈ lw_all := lw_g (lw_at lw_m14 205 rfl) rfl
theorem q3428 : (Jvm.Cond.code ({ cls := "AnnealingLehr$State", name := "burning", desc := "(I)I" } : Jvm.MethodName) prog_17_method_25_code (5 : Nat) (Option.some Jvm.ClassFile.FieldType.int)) ∈ lw_all := lw_g (lw_at lw_m14 206 rfl) rfl
theorem q3429 : (Jvm.Cond.fieldLink "AnnealingLehr$State" (312 : Nat) "AnnealingLehr$Burner" "OFF" "LAnnealingLehr$Burner;") ∈ lw_all := lw_g (lw_at lw_m14 207 rfl) rfl
theorem q3430 : (Jvm.Cond.methodLink "AnnealingLehr$State" (316 : Nat) ({ cls := "AnnealingLehr$Burner", name := "ordinal", desc := "()I" } : Jvm.MethodName)) ∈ lw_all := lw_g (lw_at lw_m14 208 rfl) rfl
theorem q3534 : (Jvm.Cond.instanceMethod ({ cls := "AnnealingLehr$State", name := "whyNotMoving", desc := "()[I" } : Jvm.MethodName)) ∈ lw_all := lw_g (lw_at lw_m15 72 rfl) rfl
theorem q3535 : (Jvm.Cond.selects "AnnealingLehr$State" ({ cls := "AnnealingLehr$State", name := "whyNotMoving", desc := "()[I" } : Jvm.MethodName) ({ cls := "AnnealingLehr$State", name := "whyNotMoving", desc := "()[I" } : Jvm.MethodName)) ∈ lw_all := lw_g (lw_at lw_m15 73 rfl) rfl
theorem q3536 : (Jvm.Cond.code ({ cls := "AnnealingLehr$State", name := "whyNotMoving", desc := "()[I" } : Jvm.MethodName) prog_17_method_35_code (5 : Nat) (Option.some (Jvm.ClassFile.FieldType.array Jvm.ClassFile.FieldType.int))) ∈ lw_all := lw_g (lw_at lw_m15 74 rfl) rfl
theorem q3545 : (Jvm.Cond.instanceMethod ({ cls := "AnnealingLehr$State", name := "heldUpBy", desc := "(I)I" } : Jvm.MethodName)) ∈ lw_all := lw_g (lw_at lw_m15 83 rfl) rfl
theorem q3546 : (Jvm.Cond.selects "AnnealingLehr$State" ({ cls := "AnnealingLehr$State", name := "heldUpBy", desc := "(I)I" } : Jvm.MethodName) ({ cls := "AnnealingLehr$State", name := "heldUpBy", desc := "(I)I" } : Jvm.MethodName)) ∈ lw_all := lw_g (lw_at lw_m15 84 rfl) rfl
theorem q3547 : (Jvm.Cond.code ({ cls := "AnnealingLehr$State", name := "heldUpBy", desc := "(I)I" } : Jvm.MethodName) prog_17_method_36_code (4 : Nat) (Option.some Jvm.ClassFile.FieldType.int)) ∈ lw_all := lw_g (lw_at lw_m15 85 rfl) rfl
theorem q3548 : (Jvm.Cond.methodLink "AnnealingLehr$State" (358 : Nat) ({ cls := "AnnealingLehr$State", name := "whyNotMoving", desc := "()[I" } : Jvm.MethodName)) ∈ lw_all := lw_g (lw_at lw_m15 86 rfl) rfl
theorem q3617 : (Jvm.Cond.instanceMethod ({ cls := "AnnealingLehr$State", name := "fateOf", desc := "(LAnnealingLehr$PieceKey;)I" } : Jvm.MethodName)) ∈ lw_all := lw_g (lw_at lw_m15 155 rfl) rfl
theorem q3618 : (Jvm.Cond.selects "AnnealingLehr$State" ({ cls := "AnnealingLehr$State", name := "fateOf", desc := "(LAnnealingLehr$PieceKey;)I" } : Jvm.MethodName) ({ cls := "AnnealingLehr$State", name := "fateOf", desc := "(LAnnealingLehr$PieceKey;)I" } : Jvm.MethodName)) ∈ lw_all := lw_g (lw_at lw_m15 156 rfl) rfl
theorem q3619 : (Jvm.Cond.code ({ cls := "AnnealingLehr$State", name := "fateOf", desc := "(LAnnealingLehr$PieceKey;)I" } : Jvm.MethodName) prog_17_method_40_code (3 : Nat) (Option.some Jvm.ClassFile.FieldType.int)) ∈ lw_all := lw_g (lw_at lw_m15 157 rfl) rfl
theorem q3620 : (Jvm.Cond.interfaceEntry "AnnealingLehr$State" (364 : Nat)) ∈ lw_tbl := lw_at lw_m15 158 rfl
theorem q3621 : (Jvm.Cond.methodLink "AnnealingLehr$State" (364 : Nat) ({ cls := "java/util/Set", name := "contains", desc := "(Ljava/lang/Object;)Z" } : Jvm.MethodName)) ∈ lw_all := lw_g (lw_at lw_m15 159 rfl) rfl
theorem q3727 : (Jvm.Cond.instanceMethod ({ cls := "AnnealingLehr$State", name := "broken", desc := "()I" } : Jvm.MethodName)) ∈ lw_all := lw_g (lw_at lw_m16 25 rfl) rfl
theorem q3728 : (Jvm.Cond.selects "AnnealingLehr$State" ({ cls := "AnnealingLehr$State", name := "broken", desc := "()I" } : Jvm.MethodName) ({ cls := "AnnealingLehr$State", name := "broken", desc := "()I" } : Jvm.MethodName)) ∈ lw_all := lw_g (lw_at lw_m16 26 rfl) rfl
theorem q3729 : (Jvm.Cond.code ({ cls := "AnnealingLehr$State", name := "broken", desc := "()I" } : Jvm.MethodName) prog_17_method_37_code (3 : Nat) (Option.some Jvm.ClassFile.FieldType.int)) ∈ lw_all := lw_g (lw_at lw_m16 27 rfl) rfl
theorem q3754 : (Jvm.Cond.instanceMethod ({ cls := "AnnealingLehr$State", name := "minutesToGo", desc := "(LAnnealingLehr$Piece;)I" } : Jvm.MethodName)) ∈ lw_all := lw_g (lw_at lw_m16 52 rfl) rfl
theorem q3755 : (Jvm.Cond.selects "AnnealingLehr$State" ({ cls := "AnnealingLehr$State", name := "minutesToGo", desc := "(LAnnealingLehr$Piece;)I" } : Jvm.MethodName) ({ cls := "AnnealingLehr$State", name := "minutesToGo", desc := "(LAnnealingLehr$Piece;)I" } : Jvm.MethodName)) ∈ lw_all := lw_g (lw_at lw_m16 53 rfl) rfl
theorem q3756 : (Jvm.Cond.code ({ cls := "AnnealingLehr$State", name := "minutesToGo", desc := "(LAnnealingLehr$Piece;)I" } : Jvm.MethodName) prog_17_method_41_code (6 : Nat) (Option.some Jvm.ClassFile.FieldType.int)) ∈ lw_all := lw_g (lw_at lw_m16 54 rfl) rfl
theorem q4430 : (Jvm.Cond.castable "AnnealingLehr$State" "java/lang/Object") ∈ lw_tbl := lw_at lw_m19 8 rfl

set_option maxRecDepth 100000
abbrev cX4_onTheWay : ByteArray := prog_11_method_3_code
def yX4_onTheWay : MethodName := ⟨RX4, "onTheWay", "()I"⟩
def dkwX4_onTheWay_1 : List UInt8 := [100, 42, 180, 0, 15, 7, 46, 100, 172]
abbrev dktX4_onTheWay_1 : List UInt8 := dkwX4_onTheWay_1 ++ []
def dkwX4_onTheWay_0 : List UInt8 := [42, 180, 0, 27, 42, 180, 0, 15, 4, 46, 100, 42, 180, 0, 15, 5, 46, 100, 42, 180, 0, 15, 6, 46]
abbrev dktX4_onTheWay_0 : List UInt8 := dkwX4_onTheWay_0 ++ dktX4_onTheWay_1
theorem dksX4_onTheWay_0 : cX4_onTheWay.data.toList.drop 0 = dktX4_onTheWay_0 := by decide +kernel
theorem dksX4_onTheWay_1 : cX4_onTheWay.data.toList.drop 24 = dktX4_onTheWay_1 := dk_seg dksX4_onTheWay_0 24 rfl rfl
theorem dX4_onTheWay_0 : decode cX4_onTheWay 0 = .ok (.aload_n 0, 1) := dk_42 (dk_at dksX4_onTheWay_0 0 rfl rfl)
theorem dX4_onTheWay_1 : decode cX4_onTheWay 1 = .ok (.getfield 27, 3) := dk_180 0 27 (dk_at dksX4_onTheWay_0 1 rfl rfl)
theorem dX4_onTheWay_4 : decode cX4_onTheWay 4 = .ok (.aload_n 0, 1) := dk_42 (dk_at dksX4_onTheWay_0 4 rfl rfl)
theorem dX4_onTheWay_5 : decode cX4_onTheWay 5 = .ok (.getfield 15, 3) := dk_180 0 15 (dk_at dksX4_onTheWay_0 5 rfl rfl)
theorem dX4_onTheWay_8 : decode cX4_onTheWay 8 = .ok (.iconst 1, 1) := dk_4 (dk_at dksX4_onTheWay_0 8 rfl rfl)
theorem dX4_onTheWay_9 : decode cX4_onTheWay 9 = .ok (.iaload, 1) := dk_46 (dk_at dksX4_onTheWay_0 9 rfl rfl)
theorem dX4_onTheWay_10 : decode cX4_onTheWay 10 = .ok (.isub, 1) := dk_100 (dk_at dksX4_onTheWay_0 10 rfl rfl)
theorem dX4_onTheWay_11 : decode cX4_onTheWay 11 = .ok (.aload_n 0, 1) := dk_42 (dk_at dksX4_onTheWay_0 11 rfl rfl)
theorem dX4_onTheWay_12 : decode cX4_onTheWay 12 = .ok (.getfield 15, 3) := dk_180 0 15 (dk_at dksX4_onTheWay_0 12 rfl rfl)
theorem dX4_onTheWay_15 : decode cX4_onTheWay 15 = .ok (.iconst 2, 1) := dk_5 (dk_at dksX4_onTheWay_0 15 rfl rfl)
theorem dX4_onTheWay_16 : decode cX4_onTheWay 16 = .ok (.iaload, 1) := dk_46 (dk_at dksX4_onTheWay_0 16 rfl rfl)
theorem dX4_onTheWay_17 : decode cX4_onTheWay 17 = .ok (.isub, 1) := dk_100 (dk_at dksX4_onTheWay_0 17 rfl rfl)
theorem dX4_onTheWay_18 : decode cX4_onTheWay 18 = .ok (.aload_n 0, 1) := dk_42 (dk_at dksX4_onTheWay_0 18 rfl rfl)
theorem dX4_onTheWay_19 : decode cX4_onTheWay 19 = .ok (.getfield 15, 3) := dk_180 0 15 (dk_at dksX4_onTheWay_0 19 rfl rfl)
theorem dX4_onTheWay_22 : decode cX4_onTheWay 22 = .ok (.iconst 3, 1) := dk_6 (dk_at dksX4_onTheWay_0 22 rfl rfl)
theorem dX4_onTheWay_23 : decode cX4_onTheWay 23 = .ok (.iaload, 1) := dk_46 (dk_at dksX4_onTheWay_0 23 rfl rfl)
theorem dX4_onTheWay_24 : decode cX4_onTheWay 24 = .ok (.isub, 1) := dk_100 (dk_at dksX4_onTheWay_1 0 rfl rfl)
theorem dX4_onTheWay_25 : decode cX4_onTheWay 25 = .ok (.aload_n 0, 1) := dk_42 (dk_at dksX4_onTheWay_1 1 rfl rfl)
theorem dX4_onTheWay_26 : decode cX4_onTheWay 26 = .ok (.getfield 15, 3) := dk_180 0 15 (dk_at dksX4_onTheWay_1 2 rfl rfl)
theorem dX4_onTheWay_29 : decode cX4_onTheWay 29 = .ok (.iconst 4, 1) := dk_7 (dk_at dksX4_onTheWay_1 5 rfl rfl)
theorem dX4_onTheWay_30 : decode cX4_onTheWay 30 = .ok (.iaload, 1) := dk_46 (dk_at dksX4_onTheWay_1 6 rfl rfl)
theorem dX4_onTheWay_31 : decode cX4_onTheWay 31 = .ok (.isub, 1) := dk_100 (dk_at dksX4_onTheWay_1 7 rfl rfl)
theorem dX4_onTheWay_32 : decode cX4_onTheWay 32 = .ok (.ireturn, 1) := dk_172 (dk_at dksX4_onTheWay_1 8 rfl rfl)
abbrev cX4_init : ByteArray := prog_11_method_1_code
def yX4_init : MethodName := ⟨RX4, "<init>", "(LAnnealingLehr$Ware;[I)V"⟩
def dkwX4_init_0 : List UInt8 := [42, 183, 0, 3, 42, 43, 181, 0, 9, 42, 44, 181, 0, 15, 177]
abbrev dktX4_init_0 : List UInt8 := dkwX4_init_0 ++ []
theorem dksX4_init_0 : cX4_init.data.toList.drop 0 = dktX4_init_0 := by decide +kernel
theorem dX4_init_0 : decode cX4_init 0 = .ok (.aload_n 0, 1) := dk_42 (dk_at dksX4_init_0 0 rfl rfl)
theorem dX4_init_1 : decode cX4_init 1 = .ok (.invokespecial 3, 3) := dk_183 0 3 (dk_at dksX4_init_0 1 rfl rfl)
theorem dX4_init_4 : decode cX4_init 4 = .ok (.aload_n 0, 1) := dk_42 (dk_at dksX4_init_0 4 rfl rfl)
theorem dX4_init_5 : decode cX4_init 5 = .ok (.aload_n 1, 1) := dk_43 (dk_at dksX4_init_0 5 rfl rfl)
theorem dX4_init_6 : decode cX4_init 6 = .ok (.putfield 9, 3) := dk_181 0 9 (dk_at dksX4_init_0 6 rfl rfl)
theorem dX4_init_9 : decode cX4_init 9 = .ok (.aload_n 0, 1) := dk_42 (dk_at dksX4_init_0 9 rfl rfl)
theorem dX4_init_10 : decode cX4_init 10 = .ok (.aload_n 2, 1) := dk_44 (dk_at dksX4_init_0 10 rfl rfl)
theorem dX4_init_11 : decode cX4_init 11 = .ok (.putfield 15, 3) := dk_181 0 15 (dk_at dksX4_init_0 11 rfl rfl)
theorem dX4_init_14 : decode cX4_init 14 = .ok (.return_, 1) := dk_177 (dk_at dksX4_init_0 14 rfl rfl)
abbrev cX4_copy : ByteArray := prog_11_method_2_code
def yX4_copy : MethodName := ⟨RX4, "copy", "()LAnnealingLehr$Lot;"⟩
def dkwX4_copy_1 : List UInt8 := [180, 0, 27, 181, 0, 27, 43, 42, 180, 0, 31, 181, 0, 31, 43, 42, 180, 0, 34, 181, 0, 34, 43, 176]
abbrev dktX4_copy_1 : List UInt8 := dkwX4_copy_1 ++ []
def dkwX4_copy_0 : List UInt8 := [187, 0, 10, 89, 42, 180, 0, 9, 42, 180, 0, 15, 182, 0, 19, 192, 0, 20, 183, 0, 24, 76, 43, 42]
abbrev dktX4_copy_0 : List UInt8 := dkwX4_copy_0 ++ dktX4_copy_1
theorem dksX4_copy_0 : cX4_copy.data.toList.drop 0 = dktX4_copy_0 := by decide +kernel
theorem dksX4_copy_1 : cX4_copy.data.toList.drop 24 = dktX4_copy_1 := dk_seg dksX4_copy_0 24 rfl rfl
theorem dX4_copy_0 : decode cX4_copy 0 = .ok (.new 10, 3) := dk_187 0 10 (dk_at dksX4_copy_0 0 rfl rfl)
theorem dX4_copy_3 : decode cX4_copy 3 = .ok (.dup, 1) := dk_89 (dk_at dksX4_copy_0 3 rfl rfl)
theorem dX4_copy_4 : decode cX4_copy 4 = .ok (.aload_n 0, 1) := dk_42 (dk_at dksX4_copy_0 4 rfl rfl)
theorem dX4_copy_5 : decode cX4_copy 5 = .ok (.getfield 9, 3) := dk_180 0 9 (dk_at dksX4_copy_0 5 rfl rfl)
theorem dX4_copy_8 : decode cX4_copy 8 = .ok (.aload_n 0, 1) := dk_42 (dk_at dksX4_copy_0 8 rfl rfl)
theorem dX4_copy_9 : decode cX4_copy 9 = .ok (.getfield 15, 3) := dk_180 0 15 (dk_at dksX4_copy_0 9 rfl rfl)
theorem dX4_copy_12 : decode cX4_copy 12 = .ok (.invokevirtual 19, 3) := dk_182 0 19 (dk_at dksX4_copy_0 12 rfl rfl)
theorem dX4_copy_15 : decode cX4_copy 15 = .ok (.checkcast 20, 3) := dk_192 0 20 (dk_at dksX4_copy_0 15 rfl rfl)
theorem dX4_copy_18 : decode cX4_copy 18 = .ok (.invokespecial 24, 3) := dk_183 0 24 (dk_at dksX4_copy_0 18 rfl rfl)
theorem dX4_copy_21 : decode cX4_copy 21 = .ok (.astore_n 1, 1) := dk_76 (dk_at dksX4_copy_0 21 rfl rfl)
theorem dX4_copy_22 : decode cX4_copy 22 = .ok (.aload_n 1, 1) := dk_43 (dk_at dksX4_copy_0 22 rfl rfl)
theorem dX4_copy_23 : decode cX4_copy 23 = .ok (.aload_n 0, 1) := dk_42 (dk_at dksX4_copy_0 23 rfl rfl)
theorem dX4_copy_24 : decode cX4_copy 24 = .ok (.getfield 27, 3) := dk_180 0 27 (dk_at dksX4_copy_1 0 rfl rfl)
theorem dX4_copy_27 : decode cX4_copy 27 = .ok (.putfield 27, 3) := dk_181 0 27 (dk_at dksX4_copy_1 3 rfl rfl)
theorem dX4_copy_30 : decode cX4_copy 30 = .ok (.aload_n 1, 1) := dk_43 (dk_at dksX4_copy_1 6 rfl rfl)
theorem dX4_copy_31 : decode cX4_copy 31 = .ok (.aload_n 0, 1) := dk_42 (dk_at dksX4_copy_1 7 rfl rfl)
theorem dX4_copy_32 : decode cX4_copy 32 = .ok (.getfield 31, 3) := dk_180 0 31 (dk_at dksX4_copy_1 8 rfl rfl)
theorem dX4_copy_35 : decode cX4_copy 35 = .ok (.putfield 31, 3) := dk_181 0 31 (dk_at dksX4_copy_1 11 rfl rfl)
theorem dX4_copy_38 : decode cX4_copy 38 = .ok (.aload_n 1, 1) := dk_43 (dk_at dksX4_copy_1 14 rfl rfl)
theorem dX4_copy_39 : decode cX4_copy 39 = .ok (.aload_n 0, 1) := dk_42 (dk_at dksX4_copy_1 15 rfl rfl)
theorem dX4_copy_40 : decode cX4_copy 40 = .ok (.getfield 34, 3) := dk_180 0 34 (dk_at dksX4_copy_1 16 rfl rfl)
theorem dX4_copy_43 : decode cX4_copy 43 = .ok (.putfield 34, 3) := dk_181 0 34 (dk_at dksX4_copy_1 19 rfl rfl)
theorem dX4_copy_46 : decode cX4_copy 46 = .ok (.aload_n 1, 1) := dk_43 (dk_at dksX4_copy_1 22 rfl rfl)
theorem dX4_copy_47 : decode cX4_copy 47 = .ok (.areturn, 1) := dk_176 (dk_at dksX4_copy_1 23 rfl rfl)
abbrev cX4_piecesWith : ByteArray := prog_11_method_4_code
def yX4_piecesWith : MethodName := ⟨RX4, "piecesWith", "(I)I"⟩
def dkwX4_piecesWith_0 : List UInt8 := [27, 154, 0, 10, 42, 182, 0, 37, 167, 0, 9, 42, 180, 0, 15, 27, 46, 172]
abbrev dktX4_piecesWith_0 : List UInt8 := dkwX4_piecesWith_0 ++ []
theorem dksX4_piecesWith_0 : cX4_piecesWith.data.toList.drop 0 = dktX4_piecesWith_0 := by decide +kernel
theorem dX4_piecesWith_0 : decode cX4_piecesWith 0 = .ok (.iload_n 1, 1) := dk_27 (dk_at dksX4_piecesWith_0 0 rfl rfl)
theorem dX4_piecesWith_1 : decode cX4_piecesWith 1 = .ok (.ifCond .ne 10, 3) := dk_154 0 10 (dk_at dksX4_piecesWith_0 1 rfl rfl)
theorem dX4_piecesWith_4 : decode cX4_piecesWith 4 = .ok (.aload_n 0, 1) := dk_42 (dk_at dksX4_piecesWith_0 4 rfl rfl)
theorem dX4_piecesWith_5 : decode cX4_piecesWith 5 = .ok (.invokevirtual 37, 3) := dk_182 0 37 (dk_at dksX4_piecesWith_0 5 rfl rfl)
theorem dX4_piecesWith_8 : decode cX4_piecesWith 8 = .ok (.goto 9, 3) := dk_167 0 9 (dk_at dksX4_piecesWith_0 8 rfl rfl)
theorem dX4_piecesWith_11 : decode cX4_piecesWith 11 = .ok (.aload_n 0, 1) := dk_42 (dk_at dksX4_piecesWith_0 11 rfl rfl)
theorem dX4_piecesWith_12 : decode cX4_piecesWith 12 = .ok (.getfield 15, 3) := dk_180 0 15 (dk_at dksX4_piecesWith_0 12 rfl rfl)
theorem dX4_piecesWith_15 : decode cX4_piecesWith 15 = .ok (.iload_n 1, 1) := dk_27 (dk_at dksX4_piecesWith_0 15 rfl rfl)
theorem dX4_piecesWith_16 : decode cX4_piecesWith 16 = .ok (.iaload, 1) := dk_46 (dk_at dksX4_piecesWith_0 16 rfl rfl)
theorem dX4_piecesWith_17 : decode cX4_piecesWith 17 = .ok (.ireturn, 1) := dk_172 (dk_at dksX4_piecesWith_0 17 rfl rfl)
theorem q157 : (Jvm.Cond.initialized "AnnealingLehr$Lot") ∈ lw_all := lw_g (lw_at lw_m1 55 rfl) rfl
theorem q973 : (Jvm.Cond.selects "AnnealingLehr$Lot" ({ cls := "java/lang/Object", name := "toString", desc := "()Ljava/lang/String;" } : Jvm.MethodName) ({ cls := "java/lang/Object", name := "toString", desc := "()Ljava/lang/String;" } : Jvm.MethodName)) ∈ lw_all := lw_g (lw_at lw_m4 151 rfl) rfl
theorem q995 : (Jvm.Cond.selects "AnnealingLehr$Lot" ({ cls := "java/lang/Object", name := "getClass", desc := "()Ljava/lang/Class;" } : Jvm.MethodName) ({ cls := "java/lang/Object", name := "getClass", desc := "()Ljava/lang/Class;" } : Jvm.MethodName)) ∈ lw_all := lw_g (lw_at lw_m4 173 rfl) rfl
theorem q1376 : (Jvm.Cond.instanceMethod ({ cls := "AnnealingLehr$Lot", name := "onTheWay", desc := "()I" } : Jvm.MethodName)) ∈ lw_all := lw_g (lw_at lw_m6 74 rfl) rfl
theorem q1377 : (Jvm.Cond.selects "AnnealingLehr$Lot" ({ cls := "AnnealingLehr$Lot", name := "onTheWay", desc := "()I" } : Jvm.MethodName) ({ cls := "AnnealingLehr$Lot", name := "onTheWay", desc := "()I" } : Jvm.MethodName)) ∈ lw_all := lw_g (lw_at lw_m6 75 rfl) rfl
theorem q1378 : (Jvm.Cond.code ({ cls := "AnnealingLehr$Lot", name := "onTheWay", desc := "()I" } : Jvm.MethodName) prog_11_method_3_code (1 : Nat) (Option.some Jvm.ClassFile.FieldType.int)) ∈ lw_all := lw_g (lw_at lw_m6 76 rfl) rfl
theorem q1547 : (Jvm.Cond.instantiable "AnnealingLehr$Lot" (5 : Nat)) ∈ lw_all := lw_g (lw_at lw_m7 5 rfl) rfl
theorem q1582 : (Jvm.Cond.instanceMethod ({ cls := "AnnealingLehr$Lot", name := "<init>", desc := "(LAnnealingLehr$Ware;[I)V" } : Jvm.MethodName)) ∈ lw_all := lw_g (lw_at lw_m7 40 rfl) rfl
theorem q1583 : (Jvm.Cond.code ({ cls := "AnnealingLehr$Lot", name := "<init>", desc := "(LAnnealingLehr$Ware;[I)V" } : Jvm.MethodName) prog_11_method_1_code (3 : Nat) (Option.none : Option Jvm.ClassFile.FieldType)) ∈ lw_all := lw_g (lw_at lw_m7 41 rfl) rfl
theorem q1584 : (Jvm.Cond.methodLink "AnnealingLehr$Lot" (3 : Nat) ({ cls := "java/lang/Object", name := "<init>", desc := "()V" } : Jvm.MethodName)) ∈ lw_all := lw_g (lw_at lw_m7 42 rfl) rfl
theorem q1585 : (Jvm.Cond.fieldLink "AnnealingLehr$Lot" (9 : Nat) "AnnealingLehr$Lot" "ware" "LAnnealingLehr$Ware;") ∈ lw_all := lw_g (lw_at lw_m7 43 rfl) rfl
theorem q1588 : (Jvm.Cond.fieldLink "AnnealingLehr$Lot" (15 : Nat) "AnnealingLehr$Lot" "pieces" "[I") ∈ lw_all := lw_g (lw_at lw_m7 46 rfl) rfl
theorem q1590 : (Jvm.Cond.fieldLink "AnnealingLehr$Lot" (27 : Nat) "AnnealingLehr$Lot" "loaded" "I") ∈ lw_all := lw_g (lw_at lw_m7 48 rfl) rfl
theorem q1593 : (Jvm.Cond.fieldLink "AnnealingLehr$Lot" (31 : Nat) "AnnealingLehr$Lot" "stock" "I") ∈ lw_all := lw_g (lw_at lw_m7 51 rfl) rfl
theorem q1596 : (Jvm.Cond.fieldLink "AnnealingLehr$Lot" (34 : Nat) "AnnealingLehr$Lot" "income" "I") ∈ lw_all := lw_g (lw_at lw_m7 54 rfl) rfl
theorem q1599 : (Jvm.Cond.laysFinal "AnnealingLehr$Lot" "AnnealingLehr$Lot" "ware" "LAnnealingLehr$Ware;") ∈ lw_all := lw_g (lw_at lw_m7 57 rfl) rfl
theorem q1600 : (Jvm.Cond.soleField "AnnealingLehr$Lot" "ware") ∈ lw_all := lw_g (lw_at lw_m7 58 rfl) rfl
theorem q1601 : (Jvm.Cond.laysFinal "AnnealingLehr$Lot" "AnnealingLehr$Lot" "pieces" "[I") ∈ lw_all := lw_g (lw_at lw_m7 59 rfl) rfl
theorem q1602 : (Jvm.Cond.soleField "AnnealingLehr$Lot" "pieces") ∈ lw_all := lw_g (lw_at lw_m7 60 rfl) rfl
theorem q1603 : (Jvm.Cond.lays "AnnealingLehr$Lot" "AnnealingLehr$Lot" "loaded" "I") ∈ lw_all := lw_g (lw_at lw_m7 61 rfl) rfl
theorem q1604 : (Jvm.Cond.soleField "AnnealingLehr$Lot" "loaded") ∈ lw_all := lw_g (lw_at lw_m7 62 rfl) rfl
theorem q1605 : (Jvm.Cond.lays "AnnealingLehr$Lot" "AnnealingLehr$Lot" "stock" "I") ∈ lw_all := lw_g (lw_at lw_m7 63 rfl) rfl
theorem q1606 : (Jvm.Cond.soleField "AnnealingLehr$Lot" "stock") ∈ lw_all := lw_g (lw_at lw_m7 64 rfl) rfl
theorem q1607 : (Jvm.Cond.lays "AnnealingLehr$Lot" "AnnealingLehr$Lot" "income" "I") ∈ lw_all := lw_g (lw_at lw_m7 65 rfl) rfl
theorem q1608 : (Jvm.Cond.soleField "AnnealingLehr$Lot" "income") ∈ lw_all := lw_g (lw_at lw_m7 66 rfl) rfl
theorem q1609 : (Jvm.Cond.superclass "AnnealingLehr$Lot" "java/lang/Object") ∈ lw_all := lw_g (lw_at lw_m7 67 rfl) rfl
theorem q1723 : (Jvm.Cond.selects "AnnealingLehr$Lot" ({ cls := "java/lang/Object", name := "hashCode", desc := "()I" } : Jvm.MethodName) ({ cls := "java/lang/Object", name := "hashCode", desc := "()I" } : Jvm.MethodName)) ∈ lw_all := lw_g (lw_at lw_m7 181 rfl) rfl
theorem q2174 : (Jvm.Cond.selects "AnnealingLehr$Lot" ({ cls := "java/lang/Object", name := "equals", desc := "(Ljava/lang/Object;)Z" } : Jvm.MethodName) ({ cls := "java/lang/Object", name := "equals", desc := "(Ljava/lang/Object;)Z" } : Jvm.MethodName)) ∈ lw_all := lw_g (lw_at lw_m9 152 rfl) rfl
theorem q2964 : (Jvm.Cond.instanceMethod ({ cls := "AnnealingLehr$Lot", name := "copy", desc := "()LAnnealingLehr$Lot;" } : Jvm.MethodName)) ∈ lw_all := lw_g (lw_at lw_m12 222 rfl) rfl
theorem q2965 : (Jvm.Cond.selects "AnnealingLehr$Lot" ({ cls := "AnnealingLehr$Lot", name := "copy", desc := "()LAnnealingLehr$Lot;" } : Jvm.MethodName) ({ cls := "AnnealingLehr$Lot", name := "copy", desc := "()LAnnealingLehr$Lot;" } : Jvm.MethodName)) ∈ lw_all := lw_g (lw_at lw_m12 223 rfl) rfl
theorem q2966 : (Jvm.Cond.code ({ cls := "AnnealingLehr$Lot", name := "copy", desc := "()LAnnealingLehr$Lot;" } : Jvm.MethodName) prog_11_method_2_code (2 : Nat) (Option.some (Jvm.ClassFile.FieldType.object "AnnealingLehr$Lot"))) ∈ lw_all := lw_g (lw_at lw_m12 224 rfl) rfl
theorem q2967 : (Jvm.Cond.classLink "AnnealingLehr$Lot" (10 : Nat) "AnnealingLehr$Lot") ∈ lw_all := lw_g (lw_at lw_m12 225 rfl) rfl
theorem q2968 : (Jvm.Cond.methodLink "AnnealingLehr$Lot" (19 : Nat) ({ cls := "[I", name := "clone", desc := "()Ljava/lang/Object;" } : Jvm.MethodName)) ∈ lw_all := lw_g (lw_at lw_m12 226 rfl) rfl
theorem q2969 : (Jvm.Cond.classLink "AnnealingLehr$Lot" (20 : Nat) "[I") ∈ lw_all := lw_g (lw_at lw_m12 227 rfl) rfl
theorem q2970 : (Jvm.Cond.methodLink "AnnealingLehr$Lot" (24 : Nat) ({ cls := "AnnealingLehr$Lot", name := "<init>", desc := "(LAnnealingLehr$Ware;[I)V" } : Jvm.MethodName)) ∈ lw_all := lw_g (lw_at lw_m12 228 rfl) rfl
theorem q3599 : (Jvm.Cond.instanceMethod ({ cls := "AnnealingLehr$Lot", name := "piecesWith", desc := "(I)I" } : Jvm.MethodName)) ∈ lw_all := lw_g (lw_at lw_m15 137 rfl) rfl
theorem q3600 : (Jvm.Cond.selects "AnnealingLehr$Lot" ({ cls := "AnnealingLehr$Lot", name := "piecesWith", desc := "(I)I" } : Jvm.MethodName) ({ cls := "AnnealingLehr$Lot", name := "piecesWith", desc := "(I)I" } : Jvm.MethodName)) ∈ lw_all := lw_g (lw_at lw_m15 138 rfl) rfl
theorem q3601 : (Jvm.Cond.code ({ cls := "AnnealingLehr$Lot", name := "piecesWith", desc := "(I)I" } : Jvm.MethodName) prog_11_method_4_code (2 : Nat) (Option.some Jvm.ClassFile.FieldType.int)) ∈ lw_all := lw_g (lw_at lw_m15 139 rfl) rfl
theorem q3602 : (Jvm.Cond.methodLink "AnnealingLehr$Lot" (37 : Nat) ({ cls := "AnnealingLehr$Lot", name := "onTheWay", desc := "()I" } : Jvm.MethodName)) ∈ lw_all := lw_g (lw_at lw_m15 140 rfl) rfl
theorem q4454 : (Jvm.Cond.castable "AnnealingLehr$Lot" "java/lang/Object") ∈ lw_tbl := lw_at lw_m19 32 rfl

set_option maxRecDepth 100000
abbrev cX5_wants : ByteArray := prog_9_method_3_code
def yX5_wants : MethodName := ⟨RX5, "wants", "(LAnnealingLehr$Ware;)Z"⟩
def dkwX5_wants_1 : List UInt8 := [185, 0, 36, 1, 0, 160, 0, 7, 4, 167, 0, 4, 3, 172]
abbrev dktX5_wants_1 : List UInt8 := dkwX5_wants_1 ++ []
def dkwX5_wants_0 : List UInt8 := [42, 180, 0, 16, 158, 0, 31, 42, 180, 0, 7, 43, 184, 0, 31, 160, 0, 20, 42, 180, 0, 13, 43]
abbrev dktX5_wants_0 : List UInt8 := dkwX5_wants_0 ++ dktX5_wants_1
theorem dksX5_wants_0 : cX5_wants.data.toList.drop 0 = dktX5_wants_0 := by decide +kernel
theorem dksX5_wants_1 : cX5_wants.data.toList.drop 23 = dktX5_wants_1 := dk_seg dksX5_wants_0 23 rfl rfl
theorem dX5_wants_0 : decode cX5_wants 0 = .ok (.aload_n 0, 1) := dk_42 (dk_at dksX5_wants_0 0 rfl rfl)
theorem dX5_wants_1 : decode cX5_wants 1 = .ok (.getfield 16, 3) := dk_180 0 16 (dk_at dksX5_wants_0 1 rfl rfl)
theorem dX5_wants_4 : decode cX5_wants 4 = .ok (.ifCond .le 31, 3) := dk_158 0 31 (dk_at dksX5_wants_0 4 rfl rfl)
theorem dX5_wants_7 : decode cX5_wants 7 = .ok (.aload_n 0, 1) := dk_42 (dk_at dksX5_wants_0 7 rfl rfl)
theorem dX5_wants_8 : decode cX5_wants 8 = .ok (.getfield 7, 3) := dk_180 0 7 (dk_at dksX5_wants_0 8 rfl rfl)
theorem dX5_wants_11 : decode cX5_wants 11 = .ok (.aload_n 1, 1) := dk_43 (dk_at dksX5_wants_0 11 rfl rfl)
theorem dX5_wants_12 : decode cX5_wants 12 = .ok (.invokestatic 31, 3) := dk_184 0 31 (dk_at dksX5_wants_0 12 rfl rfl)
theorem dX5_wants_15 : decode cX5_wants 15 = .ok (.if_icmp .ne 20, 3) := dk_160 0 20 (dk_at dksX5_wants_0 15 rfl rfl)
theorem dX5_wants_18 : decode cX5_wants 18 = .ok (.aload_n 0, 1) := dk_42 (dk_at dksX5_wants_0 18 rfl rfl)
theorem dX5_wants_19 : decode cX5_wants 19 = .ok (.getfield 13, 3) := dk_180 0 13 (dk_at dksX5_wants_0 19 rfl rfl)
theorem dX5_wants_22 : decode cX5_wants 22 = .ok (.aload_n 1, 1) := dk_43 (dk_at dksX5_wants_0 22 rfl rfl)
theorem dX5_wants_23 : decode cX5_wants 23 = .ok (.invokeinterface 36 1, 5) := by decide +kernel
theorem dX5_wants_28 : decode cX5_wants 28 = .ok (.if_icmp .ne 7, 3) := dk_160 0 7 (dk_at dksX5_wants_1 5 rfl rfl)
theorem dX5_wants_31 : decode cX5_wants 31 = .ok (.iconst 1, 1) := dk_4 (dk_at dksX5_wants_1 8 rfl rfl)
theorem dX5_wants_32 : decode cX5_wants 32 = .ok (.goto 4, 3) := dk_167 0 4 (dk_at dksX5_wants_1 9 rfl rfl)
theorem dX5_wants_35 : decode cX5_wants 35 = .ok (.iconst 0, 1) := dk_3 (dk_at dksX5_wants_1 12 rfl rfl)
theorem dX5_wants_36 : decode cX5_wants 36 = .ok (.ireturn, 1) := dk_172 (dk_at dksX5_wants_1 13 rfl rfl)
abbrev cX5_take : ByteArray := prog_9_method_4_code
def yX5_take : MethodName := ⟨RX5, "take", "(I)I"⟩
def dkwX5_take_1 : List UInt8 := [180, 0, 16, 4, 100, 181, 0, 16, 42, 89, 180, 0, 28, 28, 96, 181, 0, 28, 28, 172]
abbrev dktX5_take_1 : List UInt8 := dkwX5_take_1 ++ []
def dkwX5_take_0 : List UInt8 := [27, 42, 180, 0, 19, 164, 0, 12, 42, 180, 0, 22, 5, 108, 167, 0, 7, 42, 180, 0, 22, 61, 42, 89]
abbrev dktX5_take_0 : List UInt8 := dkwX5_take_0 ++ dktX5_take_1
theorem dksX5_take_0 : cX5_take.data.toList.drop 0 = dktX5_take_0 := by decide +kernel
theorem dksX5_take_1 : cX5_take.data.toList.drop 24 = dktX5_take_1 := dk_seg dksX5_take_0 24 rfl rfl
theorem dX5_take_0 : decode cX5_take 0 = .ok (.iload_n 1, 1) := dk_27 (dk_at dksX5_take_0 0 rfl rfl)
theorem dX5_take_1 : decode cX5_take 1 = .ok (.aload_n 0, 1) := dk_42 (dk_at dksX5_take_0 1 rfl rfl)
theorem dX5_take_2 : decode cX5_take 2 = .ok (.getfield 19, 3) := dk_180 0 19 (dk_at dksX5_take_0 2 rfl rfl)
theorem dX5_take_5 : decode cX5_take 5 = .ok (.if_icmp .le 12, 3) := dk_164 0 12 (dk_at dksX5_take_0 5 rfl rfl)
theorem dX5_take_8 : decode cX5_take 8 = .ok (.aload_n 0, 1) := dk_42 (dk_at dksX5_take_0 8 rfl rfl)
theorem dX5_take_9 : decode cX5_take 9 = .ok (.getfield 22, 3) := dk_180 0 22 (dk_at dksX5_take_0 9 rfl rfl)
theorem dX5_take_12 : decode cX5_take 12 = .ok (.iconst 2, 1) := dk_5 (dk_at dksX5_take_0 12 rfl rfl)
theorem dX5_take_13 : decode cX5_take 13 = .ok (.idiv, 1) := dk_108 (dk_at dksX5_take_0 13 rfl rfl)
theorem dX5_take_14 : decode cX5_take 14 = .ok (.goto 7, 3) := dk_167 0 7 (dk_at dksX5_take_0 14 rfl rfl)
theorem dX5_take_17 : decode cX5_take 17 = .ok (.aload_n 0, 1) := dk_42 (dk_at dksX5_take_0 17 rfl rfl)
theorem dX5_take_18 : decode cX5_take 18 = .ok (.getfield 22, 3) := dk_180 0 22 (dk_at dksX5_take_0 18 rfl rfl)
theorem dX5_take_21 : decode cX5_take 21 = .ok (.istore_n 2, 1) := dk_61 (dk_at dksX5_take_0 21 rfl rfl)
theorem dX5_take_22 : decode cX5_take 22 = .ok (.aload_n 0, 1) := dk_42 (dk_at dksX5_take_0 22 rfl rfl)
theorem dX5_take_23 : decode cX5_take 23 = .ok (.dup, 1) := dk_89 (dk_at dksX5_take_0 23 rfl rfl)
theorem dX5_take_24 : decode cX5_take 24 = .ok (.getfield 16, 3) := dk_180 0 16 (dk_at dksX5_take_1 0 rfl rfl)
theorem dX5_take_27 : decode cX5_take 27 = .ok (.iconst 1, 1) := dk_4 (dk_at dksX5_take_1 3 rfl rfl)
theorem dX5_take_28 : decode cX5_take 28 = .ok (.isub, 1) := dk_100 (dk_at dksX5_take_1 4 rfl rfl)
theorem dX5_take_29 : decode cX5_take 29 = .ok (.putfield 16, 3) := dk_181 0 16 (dk_at dksX5_take_1 5 rfl rfl)
theorem dX5_take_32 : decode cX5_take 32 = .ok (.aload_n 0, 1) := dk_42 (dk_at dksX5_take_1 8 rfl rfl)
theorem dX5_take_33 : decode cX5_take 33 = .ok (.dup, 1) := dk_89 (dk_at dksX5_take_1 9 rfl rfl)
theorem dX5_take_34 : decode cX5_take 34 = .ok (.getfield 28, 3) := dk_180 0 28 (dk_at dksX5_take_1 10 rfl rfl)
theorem dX5_take_37 : decode cX5_take 37 = .ok (.iload_n 2, 1) := dk_28 (dk_at dksX5_take_1 13 rfl rfl)
theorem dX5_take_38 : decode cX5_take 38 = .ok (.iadd, 1) := dk_96 (dk_at dksX5_take_1 14 rfl rfl)
theorem dX5_take_39 : decode cX5_take 39 = .ok (.putfield 28, 3) := dk_181 0 28 (dk_at dksX5_take_1 15 rfl rfl)
theorem dX5_take_42 : decode cX5_take 42 = .ok (.iload_n 2, 1) := dk_28 (dk_at dksX5_take_1 18 rfl rfl)
theorem dX5_take_43 : decode cX5_take 43 = .ok (.ireturn, 1) := dk_172 (dk_at dksX5_take_1 19 rfl rfl)
abbrev cX5_copy : ByteArray := prog_9_method_2_code
def yX5_copy : MethodName := ⟨RX5, "copy", "()LAnnealingLehr$Demand;"⟩
def dkwX5_copy_1 : List UInt8 := [183, 0, 25, 76, 43, 42, 180, 0, 28, 181, 0, 28, 43, 176]
abbrev dktX5_copy_1 : List UInt8 := dkwX5_copy_1 ++ []
def dkwX5_copy_0 : List UInt8 := [187, 0, 8, 89, 42, 180, 0, 7, 42, 180, 0, 13, 42, 180, 0, 16, 42, 180, 0, 19, 42, 180, 0, 22]
abbrev dktX5_copy_0 : List UInt8 := dkwX5_copy_0 ++ dktX5_copy_1
theorem dksX5_copy_0 : cX5_copy.data.toList.drop 0 = dktX5_copy_0 := by decide +kernel
theorem dksX5_copy_1 : cX5_copy.data.toList.drop 24 = dktX5_copy_1 := dk_seg dksX5_copy_0 24 rfl rfl
theorem dX5_copy_0 : decode cX5_copy 0 = .ok (.new 8, 3) := dk_187 0 8 (dk_at dksX5_copy_0 0 rfl rfl)
theorem dX5_copy_3 : decode cX5_copy 3 = .ok (.dup, 1) := dk_89 (dk_at dksX5_copy_0 3 rfl rfl)
theorem dX5_copy_4 : decode cX5_copy 4 = .ok (.aload_n 0, 1) := dk_42 (dk_at dksX5_copy_0 4 rfl rfl)
theorem dX5_copy_5 : decode cX5_copy 5 = .ok (.getfield 7, 3) := dk_180 0 7 (dk_at dksX5_copy_0 5 rfl rfl)
theorem dX5_copy_8 : decode cX5_copy 8 = .ok (.aload_n 0, 1) := dk_42 (dk_at dksX5_copy_0 8 rfl rfl)
theorem dX5_copy_9 : decode cX5_copy 9 = .ok (.getfield 13, 3) := dk_180 0 13 (dk_at dksX5_copy_0 9 rfl rfl)
theorem dX5_copy_12 : decode cX5_copy 12 = .ok (.aload_n 0, 1) := dk_42 (dk_at dksX5_copy_0 12 rfl rfl)
theorem dX5_copy_13 : decode cX5_copy 13 = .ok (.getfield 16, 3) := dk_180 0 16 (dk_at dksX5_copy_0 13 rfl rfl)
theorem dX5_copy_16 : decode cX5_copy 16 = .ok (.aload_n 0, 1) := dk_42 (dk_at dksX5_copy_0 16 rfl rfl)
theorem dX5_copy_17 : decode cX5_copy 17 = .ok (.getfield 19, 3) := dk_180 0 19 (dk_at dksX5_copy_0 17 rfl rfl)
theorem dX5_copy_20 : decode cX5_copy 20 = .ok (.aload_n 0, 1) := dk_42 (dk_at dksX5_copy_0 20 rfl rfl)
theorem dX5_copy_21 : decode cX5_copy 21 = .ok (.getfield 22, 3) := dk_180 0 22 (dk_at dksX5_copy_0 21 rfl rfl)
theorem dX5_copy_24 : decode cX5_copy 24 = .ok (.invokespecial 25, 3) := dk_183 0 25 (dk_at dksX5_copy_1 0 rfl rfl)
theorem dX5_copy_27 : decode cX5_copy 27 = .ok (.astore_n 1, 1) := dk_76 (dk_at dksX5_copy_1 3 rfl rfl)
theorem dX5_copy_28 : decode cX5_copy 28 = .ok (.aload_n 1, 1) := dk_43 (dk_at dksX5_copy_1 4 rfl rfl)
theorem dX5_copy_29 : decode cX5_copy 29 = .ok (.aload_n 0, 1) := dk_42 (dk_at dksX5_copy_1 5 rfl rfl)
theorem dX5_copy_30 : decode cX5_copy 30 = .ok (.getfield 28, 3) := dk_180 0 28 (dk_at dksX5_copy_1 6 rfl rfl)
theorem dX5_copy_33 : decode cX5_copy 33 = .ok (.putfield 28, 3) := dk_181 0 28 (dk_at dksX5_copy_1 9 rfl rfl)
theorem dX5_copy_36 : decode cX5_copy 36 = .ok (.aload_n 1, 1) := dk_43 (dk_at dksX5_copy_1 12 rfl rfl)
theorem dX5_copy_37 : decode cX5_copy 37 = .ok (.areturn, 1) := dk_176 (dk_at dksX5_copy_1 13 rfl rfl)
abbrev cX5_init : ByteArray := prog_9_method_1_code
def yX5_init : MethodName := ⟨RX5, "<init>", "(IIIII)V"⟩
def dkwX5_init_1 : List UInt8 := [181, 0, 19, 42, 21, 5, 181, 0, 22, 177]
abbrev dktX5_init_1 : List UInt8 := dkwX5_init_1 ++ []
def dkwX5_init_0 : List UInt8 := [42, 183, 0, 1, 42, 27, 181, 0, 7, 42, 28, 181, 0, 13, 42, 29, 181, 0, 16, 42, 21, 4]
abbrev dktX5_init_0 : List UInt8 := dkwX5_init_0 ++ dktX5_init_1
theorem dksX5_init_0 : cX5_init.data.toList.drop 0 = dktX5_init_0 := by decide +kernel
theorem dksX5_init_1 : cX5_init.data.toList.drop 22 = dktX5_init_1 := dk_seg dksX5_init_0 22 rfl rfl
theorem dX5_init_0 : decode cX5_init 0 = .ok (.aload_n 0, 1) := dk_42 (dk_at dksX5_init_0 0 rfl rfl)
theorem dX5_init_1 : decode cX5_init 1 = .ok (.invokespecial 1, 3) := dk_183 0 1 (dk_at dksX5_init_0 1 rfl rfl)
theorem dX5_init_4 : decode cX5_init 4 = .ok (.aload_n 0, 1) := dk_42 (dk_at dksX5_init_0 4 rfl rfl)
theorem dX5_init_5 : decode cX5_init 5 = .ok (.iload_n 1, 1) := dk_27 (dk_at dksX5_init_0 5 rfl rfl)
theorem dX5_init_6 : decode cX5_init 6 = .ok (.putfield 7, 3) := dk_181 0 7 (dk_at dksX5_init_0 6 rfl rfl)
theorem dX5_init_9 : decode cX5_init 9 = .ok (.aload_n 0, 1) := dk_42 (dk_at dksX5_init_0 9 rfl rfl)
theorem dX5_init_10 : decode cX5_init 10 = .ok (.iload_n 2, 1) := dk_28 (dk_at dksX5_init_0 10 rfl rfl)
theorem dX5_init_11 : decode cX5_init 11 = .ok (.putfield 13, 3) := dk_181 0 13 (dk_at dksX5_init_0 11 rfl rfl)
theorem dX5_init_14 : decode cX5_init 14 = .ok (.aload_n 0, 1) := dk_42 (dk_at dksX5_init_0 14 rfl rfl)
theorem dX5_init_15 : decode cX5_init 15 = .ok (.iload_n 3, 1) := dk_29 (dk_at dksX5_init_0 15 rfl rfl)
theorem dX5_init_16 : decode cX5_init 16 = .ok (.putfield 16, 3) := dk_181 0 16 (dk_at dksX5_init_0 16 rfl rfl)
theorem dX5_init_19 : decode cX5_init 19 = .ok (.aload_n 0, 1) := dk_42 (dk_at dksX5_init_0 19 rfl rfl)
theorem dX5_init_20 : decode cX5_init 20 = .ok (.iload 4, 2) := dk_21 4 (dk_at dksX5_init_0 20 rfl rfl)
theorem dX5_init_22 : decode cX5_init 22 = .ok (.putfield 19, 3) := dk_181 0 19 (dk_at dksX5_init_1 0 rfl rfl)
theorem dX5_init_25 : decode cX5_init 25 = .ok (.aload_n 0, 1) := dk_42 (dk_at dksX5_init_1 3 rfl rfl)
theorem dX5_init_26 : decode cX5_init 26 = .ok (.iload 5, 2) := dk_21 5 (dk_at dksX5_init_1 4 rfl rfl)
theorem dX5_init_28 : decode cX5_init 28 = .ok (.putfield 22, 3) := dk_181 0 22 (dk_at dksX5_init_1 6 rfl rfl)
theorem dX5_init_31 : decode cX5_init 31 = .ok (.return_, 1) := dk_177 (dk_at dksX5_init_1 9 rfl rfl)
theorem q158 : (Jvm.Cond.initialized "AnnealingLehr$Demand") ∈ lw_all := lw_g (lw_at lw_m1 56 rfl) rfl
theorem q972 : (Jvm.Cond.selects "AnnealingLehr$Demand" ({ cls := "java/lang/Object", name := "toString", desc := "()Ljava/lang/String;" } : Jvm.MethodName) ({ cls := "java/lang/Object", name := "toString", desc := "()Ljava/lang/String;" } : Jvm.MethodName)) ∈ lw_all := lw_g (lw_at lw_m4 150 rfl) rfl
theorem q994 : (Jvm.Cond.selects "AnnealingLehr$Demand" ({ cls := "java/lang/Object", name := "getClass", desc := "()Ljava/lang/Class;" } : Jvm.MethodName) ({ cls := "java/lang/Object", name := "getClass", desc := "()Ljava/lang/Class;" } : Jvm.MethodName)) ∈ lw_all := lw_g (lw_at lw_m4 172 rfl) rfl
theorem q1722 : (Jvm.Cond.selects "AnnealingLehr$Demand" ({ cls := "java/lang/Object", name := "hashCode", desc := "()I" } : Jvm.MethodName) ({ cls := "java/lang/Object", name := "hashCode", desc := "()I" } : Jvm.MethodName)) ∈ lw_all := lw_g (lw_at lw_m7 180 rfl) rfl
theorem q2173 : (Jvm.Cond.selects "AnnealingLehr$Demand" ({ cls := "java/lang/Object", name := "equals", desc := "(Ljava/lang/Object;)Z" } : Jvm.MethodName) ({ cls := "java/lang/Object", name := "equals", desc := "(Ljava/lang/Object;)Z" } : Jvm.MethodName)) ∈ lw_all := lw_g (lw_at lw_m9 151 rfl) rfl
theorem q2817 : (Jvm.Cond.instanceMethod ({ cls := "AnnealingLehr$Demand", name := "wants", desc := "(LAnnealingLehr$Ware;)Z" } : Jvm.MethodName)) ∈ lw_all := lw_g (lw_at lw_m12 75 rfl) rfl
theorem q2818 : (Jvm.Cond.selects "AnnealingLehr$Demand" ({ cls := "AnnealingLehr$Demand", name := "wants", desc := "(LAnnealingLehr$Ware;)Z" } : Jvm.MethodName) ({ cls := "AnnealingLehr$Demand", name := "wants", desc := "(LAnnealingLehr$Ware;)Z" } : Jvm.MethodName)) ∈ lw_all := lw_g (lw_at lw_m12 76 rfl) rfl
theorem q2819 : (Jvm.Cond.code ({ cls := "AnnealingLehr$Demand", name := "wants", desc := "(LAnnealingLehr$Ware;)Z" } : Jvm.MethodName) prog_9_method_3_code (2 : Nat) (Option.some Jvm.ClassFile.FieldType.boolean)) ∈ lw_all := lw_g (lw_at lw_m12 77 rfl) rfl
theorem q2820 : (Jvm.Cond.methodLink "AnnealingLehr$Demand" (31 : Nat) ({ cls := "AnnealingLehr$Glass", name := "kind", desc := "(LAnnealingLehr$Ware;)I" } : Jvm.MethodName)) ∈ lw_all := lw_g (lw_at lw_m12 78 rfl) rfl
theorem q2823 : (Jvm.Cond.interfaceEntry "AnnealingLehr$Demand" (36 : Nat)) ∈ lw_tbl := lw_at lw_m12 81 rfl
theorem q2824 : (Jvm.Cond.methodLink "AnnealingLehr$Demand" (36 : Nat) ({ cls := "AnnealingLehr$Ware", name := "wall", desc := "()I" } : Jvm.MethodName)) ∈ lw_all := lw_g (lw_at lw_m12 82 rfl) rfl
theorem q2826 : (Jvm.Cond.instanceMethod ({ cls := "AnnealingLehr$Demand", name := "take", desc := "(I)I" } : Jvm.MethodName)) ∈ lw_all := lw_g (lw_at lw_m12 84 rfl) rfl
theorem q2827 : (Jvm.Cond.selects "AnnealingLehr$Demand" ({ cls := "AnnealingLehr$Demand", name := "take", desc := "(I)I" } : Jvm.MethodName) ({ cls := "AnnealingLehr$Demand", name := "take", desc := "(I)I" } : Jvm.MethodName)) ∈ lw_all := lw_g (lw_at lw_m12 85 rfl) rfl
theorem q2828 : (Jvm.Cond.code ({ cls := "AnnealingLehr$Demand", name := "take", desc := "(I)I" } : Jvm.MethodName) prog_9_method_4_code (3 : Nat) (Option.some Jvm.ClassFile.FieldType.int)) ∈ lw_all := lw_g (lw_at lw_m12 86 rfl) rfl
theorem q2972 : (Jvm.Cond.instanceMethod ({ cls := "AnnealingLehr$Demand", name := "copy", desc := "()LAnnealingLehr$Demand;" } : Jvm.MethodName)) ∈ lw_all := lw_g (lw_at lw_m12 230 rfl) rfl
theorem q2973 : (Jvm.Cond.selects "AnnealingLehr$Demand" ({ cls := "AnnealingLehr$Demand", name := "copy", desc := "()LAnnealingLehr$Demand;" } : Jvm.MethodName) ({ cls := "AnnealingLehr$Demand", name := "copy", desc := "()LAnnealingLehr$Demand;" } : Jvm.MethodName)) ∈ lw_all := lw_g (lw_at lw_m12 231 rfl) rfl
theorem q2974 : (Jvm.Cond.code ({ cls := "AnnealingLehr$Demand", name := "copy", desc := "()LAnnealingLehr$Demand;" } : Jvm.MethodName) prog_9_method_2_code (2 : Nat) (Option.some (Jvm.ClassFile.FieldType.object "AnnealingLehr$Demand"))) ∈ lw_all := lw_g (lw_at lw_m12 232 rfl) rfl
theorem q2975 : (Jvm.Cond.classLink "AnnealingLehr$Demand" (8 : Nat) "AnnealingLehr$Demand") ∈ lw_all := lw_g (lw_at lw_m12 233 rfl) rfl
theorem q2976 : (Jvm.Cond.instantiable "AnnealingLehr$Demand" (6 : Nat)) ∈ lw_all := lw_g (lw_at lw_m12 234 rfl) rfl
theorem q2977 : (Jvm.Cond.methodLink "AnnealingLehr$Demand" (25 : Nat) ({ cls := "AnnealingLehr$Demand", name := "<init>", desc := "(IIIII)V" } : Jvm.MethodName)) ∈ lw_all := lw_g (lw_at lw_m12 235 rfl) rfl
theorem q2978 : (Jvm.Cond.instanceMethod ({ cls := "AnnealingLehr$Demand", name := "<init>", desc := "(IIIII)V" } : Jvm.MethodName)) ∈ lw_all := lw_g (lw_at lw_m12 236 rfl) rfl
theorem q2979 : (Jvm.Cond.code ({ cls := "AnnealingLehr$Demand", name := "<init>", desc := "(IIIII)V" } : Jvm.MethodName) prog_9_method_1_code (6 : Nat) (Option.none : Option Jvm.ClassFile.FieldType)) ∈ lw_all := lw_g (lw_at lw_m12 237 rfl) rfl
theorem q2980 : (Jvm.Cond.methodLink "AnnealingLehr$Demand" (1 : Nat) ({ cls := "java/lang/Object", name := "<init>", desc := "()V" } : Jvm.MethodName)) ∈ lw_all := lw_g (lw_at lw_m12 238 rfl) rfl
theorem q2981 : (Jvm.Cond.fieldLink "AnnealingLehr$Demand" (7 : Nat) "AnnealingLehr$Demand" "kind" "I") ∈ lw_all := lw_g (lw_at lw_m12 239 rfl) rfl
theorem q2982 : (Jvm.Cond.fieldLink "AnnealingLehr$Demand" (13 : Nat) "AnnealingLehr$Demand" "wall" "I") ∈ lw_all := lw_g (lw_at lw_m13 0 rfl) rfl
theorem q2983 : (Jvm.Cond.fieldLink "AnnealingLehr$Demand" (19 : Nat) "AnnealingLehr$Demand" "due" "I") ∈ lw_all := lw_g (lw_at lw_m13 1 rfl) rfl
theorem q2985 : (Jvm.Cond.fieldLink "AnnealingLehr$Demand" (22 : Nat) "AnnealingLehr$Demand" "price" "I") ∈ lw_all := lw_g (lw_at lw_m13 3 rfl) rfl
theorem q2986 : (Jvm.Cond.fieldLink "AnnealingLehr$Demand" (16 : Nat) "AnnealingLehr$Demand" "wanted" "I") ∈ lw_all := lw_g (lw_at lw_m13 4 rfl) rfl
theorem q2988 : (Jvm.Cond.fieldLink "AnnealingLehr$Demand" (28 : Nat) "AnnealingLehr$Demand" "paid" "I") ∈ lw_all := lw_g (lw_at lw_m13 6 rfl) rfl
theorem q2990 : (Jvm.Cond.laysFinal "AnnealingLehr$Demand" "AnnealingLehr$Demand" "kind" "I") ∈ lw_all := lw_g (lw_at lw_m13 8 rfl) rfl
theorem q2991 : (Jvm.Cond.soleField "AnnealingLehr$Demand" "kind") ∈ lw_all := lw_g (lw_at lw_m13 9 rfl) rfl
theorem q2992 : (Jvm.Cond.laysFinal "AnnealingLehr$Demand" "AnnealingLehr$Demand" "wall" "I") ∈ lw_all := lw_g (lw_at lw_m13 10 rfl) rfl
theorem q2993 : (Jvm.Cond.soleField "AnnealingLehr$Demand" "wall") ∈ lw_all := lw_g (lw_at lw_m13 11 rfl) rfl
theorem q2994 : (Jvm.Cond.laysFinal "AnnealingLehr$Demand" "AnnealingLehr$Demand" "due" "I") ∈ lw_all := lw_g (lw_at lw_m13 12 rfl) rfl
theorem q2995 : (Jvm.Cond.soleField "AnnealingLehr$Demand" "due") ∈ lw_all := lw_g (lw_at lw_m13 13 rfl) rfl
theorem q2996 : (Jvm.Cond.laysFinal "AnnealingLehr$Demand" "AnnealingLehr$Demand" "price" "I") ∈ lw_all := lw_g (lw_at lw_m13 14 rfl) rfl
theorem q2997 : (Jvm.Cond.soleField "AnnealingLehr$Demand" "price") ∈ lw_all := lw_g (lw_at lw_m13 15 rfl) rfl
theorem q2998 : (Jvm.Cond.lays "AnnealingLehr$Demand" "AnnealingLehr$Demand" "wanted" "I") ∈ lw_all := lw_g (lw_at lw_m13 16 rfl) rfl
theorem q2999 : (Jvm.Cond.soleField "AnnealingLehr$Demand" "wanted") ∈ lw_all := lw_g (lw_at lw_m13 17 rfl) rfl
theorem q3000 : (Jvm.Cond.lays "AnnealingLehr$Demand" "AnnealingLehr$Demand" "paid" "I") ∈ lw_all := lw_g (lw_at lw_m13 18 rfl) rfl
theorem q3001 : (Jvm.Cond.soleField "AnnealingLehr$Demand" "paid") ∈ lw_all := lw_g (lw_at lw_m13 19 rfl) rfl
theorem q3002 : (Jvm.Cond.superclass "AnnealingLehr$Demand" "java/lang/Object") ∈ lw_all := lw_g (lw_at lw_m13 20 rfl) rfl
theorem q4455 : (Jvm.Cond.castable "AnnealingLehr$Demand" "java/lang/Object") ∈ lw_tbl := lw_at lw_m19 33 rfl

set_option maxRecDepth 100000
abbrev cX6_init : ByteArray := prog_13_method_1_code
def yX6_init : MethodName := ⟨RX6, "<init>", "(LAnnealingLehr$PieceKey;LAnnealingLehr$Ware;)V"⟩
def dkwX6_init_0 : List UInt8 := [42, 183, 0, 3, 42, 17, 2, 88, 181, 0, 9, 42, 43, 181, 0, 15, 42, 44, 181, 0, 19, 177]
abbrev dktX6_init_0 : List UInt8 := dkwX6_init_0 ++ []
theorem dksX6_init_0 : cX6_init.data.toList.drop 0 = dktX6_init_0 := by decide +kernel
theorem dX6_init_0 : decode cX6_init 0 = .ok (.aload_n 0, 1) := dk_42 (dk_at dksX6_init_0 0 rfl rfl)
theorem dX6_init_1 : decode cX6_init 1 = .ok (.invokespecial 3, 3) := dk_183 0 3 (dk_at dksX6_init_0 1 rfl rfl)
theorem dX6_init_4 : decode cX6_init 4 = .ok (.aload_n 0, 1) := dk_42 (dk_at dksX6_init_0 4 rfl rfl)
theorem dX6_init_5 : decode cX6_init 5 = .ok (.sipush 600, 3) := dk_17 2 88 (dk_at dksX6_init_0 5 rfl rfl)
theorem dX6_init_8 : decode cX6_init 8 = .ok (.putfield 9, 3) := dk_181 0 9 (dk_at dksX6_init_0 8 rfl rfl)
theorem dX6_init_11 : decode cX6_init 11 = .ok (.aload_n 0, 1) := dk_42 (dk_at dksX6_init_0 11 rfl rfl)
theorem dX6_init_12 : decode cX6_init 12 = .ok (.aload_n 1, 1) := dk_43 (dk_at dksX6_init_0 12 rfl rfl)
theorem dX6_init_13 : decode cX6_init 13 = .ok (.putfield 15, 3) := dk_181 0 15 (dk_at dksX6_init_0 13 rfl rfl)
theorem dX6_init_16 : decode cX6_init 16 = .ok (.aload_n 0, 1) := dk_42 (dk_at dksX6_init_0 16 rfl rfl)
theorem dX6_init_17 : decode cX6_init 17 = .ok (.aload_n 2, 1) := dk_44 (dk_at dksX6_init_0 17 rfl rfl)
theorem dX6_init_18 : decode cX6_init 18 = .ok (.putfield 19, 3) := dk_181 0 19 (dk_at dksX6_init_0 18 rfl rfl)
theorem dX6_init_21 : decode cX6_init 21 = .ok (.return_, 1) := dk_177 (dk_at dksX6_init_0 21 rfl rfl)
abbrev cX6_goTowards : ByteArray := prog_13_method_3_code
def yX6_goTowards : MethodName := ⟨RX6, "goTowards", "(I)V"⟩
def dkwX6_goTowards_5 : List UInt8 := [184, 0, 55, 110, 98, 181, 0, 32, 167, 0, 13, 42, 89, 180, 0, 32, 13, 110, 181, 0, 32, 177]
abbrev dktX6_goTowards_5 : List UInt8 := dkwX6_goTowards_5 ++ []
def dkwX6_goTowards_4 : List UInt8 := [185, 0, 36, 1, 0, 104, 29, 104, 54, 4, 42, 89, 180, 0, 32, 21, 4, 134, 42, 180, 0, 19]
abbrev dktX6_goTowards_4 : List UInt8 := dkwX6_goTowards_4 ++ dktX6_goTowards_5
def dkwX6_goTowards_3 : List UInt8 := [180, 0, 9, 100, 62, 29, 158, 0, 49, 42, 180, 0, 19, 185, 0, 36, 1, 0, 42, 180, 0, 19]
abbrev dktX6_goTowards_3 : List UInt8 := dkwX6_goTowards_3 ++ dktX6_goTowards_4
def dkwX6_goTowards_2 : List UInt8 := [164, 0, 11, 42, 11, 181, 0, 32, 167, 0, 81, 28, 42, 180, 0, 19, 184, 0, 52, 161, 0, 70, 28, 42]
abbrev dktX6_goTowards_2 : List UInt8 := dkwX6_goTowards_2 ++ dktX6_goTowards_3
def dkwX6_goTowards_1 : List UInt8 := [185, 0, 36, 1, 0, 5, 96, 184, 0, 42, 96, 181, 0, 9, 28, 42, 180, 0, 19, 184, 0, 46]
abbrev dktX6_goTowards_1 : List UInt8 := dkwX6_goTowards_1 ++ dktX6_goTowards_2
def dkwX6_goTowards_0 : List UInt8 := [42, 180, 0, 9, 61, 42, 89, 180, 0, 9, 27, 42, 180, 0, 9, 100, 42, 180, 0, 19]
abbrev dktX6_goTowards_0 : List UInt8 := dkwX6_goTowards_0 ++ dktX6_goTowards_1
theorem dksX6_goTowards_0 : cX6_goTowards.data.toList.drop 0 = dktX6_goTowards_0 := by decide +kernel
theorem dksX6_goTowards_1 : cX6_goTowards.data.toList.drop 20 = dktX6_goTowards_1 := dk_seg dksX6_goTowards_0 20 rfl rfl
theorem dksX6_goTowards_2 : cX6_goTowards.data.toList.drop 42 = dktX6_goTowards_2 := dk_seg dksX6_goTowards_1 22 rfl rfl
theorem dksX6_goTowards_3 : cX6_goTowards.data.toList.drop 66 = dktX6_goTowards_3 := dk_seg dksX6_goTowards_2 24 rfl rfl
theorem dksX6_goTowards_4 : cX6_goTowards.data.toList.drop 88 = dktX6_goTowards_4 := dk_seg dksX6_goTowards_3 22 rfl rfl
theorem dksX6_goTowards_5 : cX6_goTowards.data.toList.drop 110 = dktX6_goTowards_5 := dk_seg dksX6_goTowards_4 22 rfl rfl
theorem dX6_goTowards_0 : decode cX6_goTowards 0 = .ok (.aload_n 0, 1) := dk_42 (dk_at dksX6_goTowards_0 0 rfl rfl)
theorem dX6_goTowards_1 : decode cX6_goTowards 1 = .ok (.getfield 9, 3) := dk_180 0 9 (dk_at dksX6_goTowards_0 1 rfl rfl)
theorem dX6_goTowards_4 : decode cX6_goTowards 4 = .ok (.istore_n 2, 1) := dk_61 (dk_at dksX6_goTowards_0 4 rfl rfl)
theorem dX6_goTowards_5 : decode cX6_goTowards 5 = .ok (.aload_n 0, 1) := dk_42 (dk_at dksX6_goTowards_0 5 rfl rfl)
theorem dX6_goTowards_6 : decode cX6_goTowards 6 = .ok (.dup, 1) := dk_89 (dk_at dksX6_goTowards_0 6 rfl rfl)
theorem dX6_goTowards_7 : decode cX6_goTowards 7 = .ok (.getfield 9, 3) := dk_180 0 9 (dk_at dksX6_goTowards_0 7 rfl rfl)
theorem dX6_goTowards_10 : decode cX6_goTowards 10 = .ok (.iload_n 1, 1) := dk_27 (dk_at dksX6_goTowards_0 10 rfl rfl)
theorem dX6_goTowards_11 : decode cX6_goTowards 11 = .ok (.aload_n 0, 1) := dk_42 (dk_at dksX6_goTowards_0 11 rfl rfl)
theorem dX6_goTowards_12 : decode cX6_goTowards 12 = .ok (.getfield 9, 3) := dk_180 0 9 (dk_at dksX6_goTowards_0 12 rfl rfl)
theorem dX6_goTowards_15 : decode cX6_goTowards 15 = .ok (.isub, 1) := dk_100 (dk_at dksX6_goTowards_0 15 rfl rfl)
theorem dX6_goTowards_16 : decode cX6_goTowards 16 = .ok (.aload_n 0, 1) := dk_42 (dk_at dksX6_goTowards_0 16 rfl rfl)
theorem dX6_goTowards_17 : decode cX6_goTowards 17 = .ok (.getfield 19, 3) := dk_180 0 19 (dk_at dksX6_goTowards_0 17 rfl rfl)
theorem dX6_goTowards_20 : decode cX6_goTowards 20 = .ok (.invokeinterface 36 1, 5) := by decide +kernel
theorem dX6_goTowards_25 : decode cX6_goTowards 25 = .ok (.iconst 2, 1) := dk_5 (dk_at dksX6_goTowards_1 5 rfl rfl)
theorem dX6_goTowards_26 : decode cX6_goTowards 26 = .ok (.iadd, 1) := dk_96 (dk_at dksX6_goTowards_1 6 rfl rfl)
theorem dX6_goTowards_27 : decode cX6_goTowards 27 = .ok (.invokestatic 42, 3) := dk_184 0 42 (dk_at dksX6_goTowards_1 7 rfl rfl)
theorem dX6_goTowards_30 : decode cX6_goTowards 30 = .ok (.iadd, 1) := dk_96 (dk_at dksX6_goTowards_1 10 rfl rfl)
theorem dX6_goTowards_31 : decode cX6_goTowards 31 = .ok (.putfield 9, 3) := dk_181 0 9 (dk_at dksX6_goTowards_1 11 rfl rfl)
theorem dX6_goTowards_34 : decode cX6_goTowards 34 = .ok (.iload_n 2, 1) := dk_28 (dk_at dksX6_goTowards_1 14 rfl rfl)
theorem dX6_goTowards_35 : decode cX6_goTowards 35 = .ok (.aload_n 0, 1) := dk_42 (dk_at dksX6_goTowards_1 15 rfl rfl)
theorem dX6_goTowards_36 : decode cX6_goTowards 36 = .ok (.getfield 19, 3) := dk_180 0 19 (dk_at dksX6_goTowards_1 16 rfl rfl)
theorem dX6_goTowards_39 : decode cX6_goTowards 39 = .ok (.invokestatic 46, 3) := dk_184 0 46 (dk_at dksX6_goTowards_1 19 rfl rfl)
theorem dX6_goTowards_42 : decode cX6_goTowards 42 = .ok (.if_icmp .le 11, 3) := dk_164 0 11 (dk_at dksX6_goTowards_2 0 rfl rfl)
theorem dX6_goTowards_45 : decode cX6_goTowards 45 = .ok (.aload_n 0, 1) := dk_42 (dk_at dksX6_goTowards_2 3 rfl rfl)
theorem dX6_goTowards_46 : decode cX6_goTowards 46 = .ok (.fconst 0, 1) := dk_11 (dk_at dksX6_goTowards_2 4 rfl rfl)
theorem dX6_goTowards_47 : decode cX6_goTowards 47 = .ok (.putfield 32, 3) := dk_181 0 32 (dk_at dksX6_goTowards_2 5 rfl rfl)
theorem dX6_goTowards_50 : decode cX6_goTowards 50 = .ok (.goto 81, 3) := dk_167 0 81 (dk_at dksX6_goTowards_2 8 rfl rfl)
theorem dX6_goTowards_53 : decode cX6_goTowards 53 = .ok (.iload_n 2, 1) := dk_28 (dk_at dksX6_goTowards_2 11 rfl rfl)
theorem dX6_goTowards_54 : decode cX6_goTowards 54 = .ok (.aload_n 0, 1) := dk_42 (dk_at dksX6_goTowards_2 12 rfl rfl)
theorem dX6_goTowards_55 : decode cX6_goTowards 55 = .ok (.getfield 19, 3) := dk_180 0 19 (dk_at dksX6_goTowards_2 13 rfl rfl)
theorem dX6_goTowards_58 : decode cX6_goTowards 58 = .ok (.invokestatic 52, 3) := dk_184 0 52 (dk_at dksX6_goTowards_2 16 rfl rfl)
theorem dX6_goTowards_61 : decode cX6_goTowards 61 = .ok (.if_icmp .lt 70, 3) := dk_161 0 70 (dk_at dksX6_goTowards_2 19 rfl rfl)
theorem dX6_goTowards_64 : decode cX6_goTowards 64 = .ok (.iload_n 2, 1) := dk_28 (dk_at dksX6_goTowards_2 22 rfl rfl)
theorem dX6_goTowards_65 : decode cX6_goTowards 65 = .ok (.aload_n 0, 1) := dk_42 (dk_at dksX6_goTowards_2 23 rfl rfl)
theorem dX6_goTowards_66 : decode cX6_goTowards 66 = .ok (.getfield 9, 3) := dk_180 0 9 (dk_at dksX6_goTowards_3 0 rfl rfl)
theorem dX6_goTowards_69 : decode cX6_goTowards 69 = .ok (.isub, 1) := dk_100 (dk_at dksX6_goTowards_3 3 rfl rfl)
theorem dX6_goTowards_70 : decode cX6_goTowards 70 = .ok (.istore_n 3, 1) := dk_62 (dk_at dksX6_goTowards_3 4 rfl rfl)
theorem dX6_goTowards_71 : decode cX6_goTowards 71 = .ok (.iload_n 3, 1) := dk_29 (dk_at dksX6_goTowards_3 5 rfl rfl)
theorem dX6_goTowards_72 : decode cX6_goTowards 72 = .ok (.ifCond .le 49, 3) := dk_158 0 49 (dk_at dksX6_goTowards_3 6 rfl rfl)
theorem dX6_goTowards_75 : decode cX6_goTowards 75 = .ok (.aload_n 0, 1) := dk_42 (dk_at dksX6_goTowards_3 9 rfl rfl)
theorem dX6_goTowards_76 : decode cX6_goTowards 76 = .ok (.getfield 19, 3) := dk_180 0 19 (dk_at dksX6_goTowards_3 10 rfl rfl)
theorem dX6_goTowards_79 : decode cX6_goTowards 79 = .ok (.invokeinterface 36 1, 5) := by decide +kernel
theorem dX6_goTowards_84 : decode cX6_goTowards 84 = .ok (.aload_n 0, 1) := dk_42 (dk_at dksX6_goTowards_3 18 rfl rfl)
theorem dX6_goTowards_85 : decode cX6_goTowards 85 = .ok (.getfield 19, 3) := dk_180 0 19 (dk_at dksX6_goTowards_3 19 rfl rfl)
theorem dX6_goTowards_88 : decode cX6_goTowards 88 = .ok (.invokeinterface 36 1, 5) := by decide +kernel
theorem dX6_goTowards_93 : decode cX6_goTowards 93 = .ok (.imul, 1) := dk_104 (dk_at dksX6_goTowards_4 5 rfl rfl)
theorem dX6_goTowards_94 : decode cX6_goTowards 94 = .ok (.iload_n 3, 1) := dk_29 (dk_at dksX6_goTowards_4 6 rfl rfl)
theorem dX6_goTowards_95 : decode cX6_goTowards 95 = .ok (.imul, 1) := dk_104 (dk_at dksX6_goTowards_4 7 rfl rfl)
theorem dX6_goTowards_96 : decode cX6_goTowards 96 = .ok (.istore 4, 2) := dk_54 4 (dk_at dksX6_goTowards_4 8 rfl rfl)
theorem dX6_goTowards_98 : decode cX6_goTowards 98 = .ok (.aload_n 0, 1) := dk_42 (dk_at dksX6_goTowards_4 10 rfl rfl)
theorem dX6_goTowards_99 : decode cX6_goTowards 99 = .ok (.dup, 1) := dk_89 (dk_at dksX6_goTowards_4 11 rfl rfl)
theorem dX6_goTowards_100 : decode cX6_goTowards 100 = .ok (.getfield 32, 3) := dk_180 0 32 (dk_at dksX6_goTowards_4 12 rfl rfl)
theorem dX6_goTowards_103 : decode cX6_goTowards 103 = .ok (.iload 4, 2) := dk_21 4 (dk_at dksX6_goTowards_4 15 rfl rfl)
theorem dX6_goTowards_105 : decode cX6_goTowards 105 = .ok (.i2f, 1) := dk_134 (dk_at dksX6_goTowards_4 17 rfl rfl)
theorem dX6_goTowards_106 : decode cX6_goTowards 106 = .ok (.aload_n 0, 1) := dk_42 (dk_at dksX6_goTowards_4 18 rfl rfl)
theorem dX6_goTowards_107 : decode cX6_goTowards 107 = .ok (.getfield 19, 3) := dk_180 0 19 (dk_at dksX6_goTowards_4 19 rfl rfl)
theorem dX6_goTowards_110 : decode cX6_goTowards 110 = .ok (.invokestatic 55, 3) := dk_184 0 55 (dk_at dksX6_goTowards_5 0 rfl rfl)
theorem dX6_goTowards_113 : decode cX6_goTowards 113 = .ok (.fdiv, 1) := dk_110 (dk_at dksX6_goTowards_5 3 rfl rfl)
theorem dX6_goTowards_114 : decode cX6_goTowards 114 = .ok (.fadd, 1) := dk_98 (dk_at dksX6_goTowards_5 4 rfl rfl)
theorem dX6_goTowards_115 : decode cX6_goTowards 115 = .ok (.putfield 32, 3) := dk_181 0 32 (dk_at dksX6_goTowards_5 5 rfl rfl)
theorem dX6_goTowards_118 : decode cX6_goTowards 118 = .ok (.goto 13, 3) := dk_167 0 13 (dk_at dksX6_goTowards_5 8 rfl rfl)
theorem dX6_goTowards_121 : decode cX6_goTowards 121 = .ok (.aload_n 0, 1) := dk_42 (dk_at dksX6_goTowards_5 11 rfl rfl)
theorem dX6_goTowards_122 : decode cX6_goTowards 122 = .ok (.dup, 1) := dk_89 (dk_at dksX6_goTowards_5 12 rfl rfl)
theorem dX6_goTowards_123 : decode cX6_goTowards 123 = .ok (.getfield 32, 3) := dk_180 0 32 (dk_at dksX6_goTowards_5 13 rfl rfl)
theorem dX6_goTowards_126 : decode cX6_goTowards 126 = .ok (.fconst 2, 1) := dk_13 (dk_at dksX6_goTowards_5 16 rfl rfl)
theorem dX6_goTowards_127 : decode cX6_goTowards 127 = .ok (.fdiv, 1) := dk_110 (dk_at dksX6_goTowards_5 17 rfl rfl)
theorem dX6_goTowards_128 : decode cX6_goTowards 128 = .ok (.putfield 32, 3) := dk_181 0 32 (dk_at dksX6_goTowards_5 18 rfl rfl)
theorem dX6_goTowards_131 : decode cX6_goTowards 131 = .ok (.return_, 1) := dk_177 (dk_at dksX6_goTowards_5 21 rfl rfl)
abbrev cX6_isTooStressed : ByteArray := prog_13_method_4_code
def yX6_isTooStressed : MethodName := ⟨RX6, "isTooStressed", "()Z"⟩
def dkwX6_isTooStressed_0 : List UInt8 := [42, 180, 0, 32, 42, 180, 0, 19, 184, 0, 59, 149, 158, 0, 7, 4, 167, 0, 4, 3, 172]
abbrev dktX6_isTooStressed_0 : List UInt8 := dkwX6_isTooStressed_0 ++ []
theorem dksX6_isTooStressed_0 : cX6_isTooStressed.data.toList.drop 0 = dktX6_isTooStressed_0 := by decide +kernel
theorem dX6_isTooStressed_0 : decode cX6_isTooStressed 0 = .ok (.aload_n 0, 1) := dk_42 (dk_at dksX6_isTooStressed_0 0 rfl rfl)
theorem dX6_isTooStressed_1 : decode cX6_isTooStressed 1 = .ok (.getfield 32, 3) := dk_180 0 32 (dk_at dksX6_isTooStressed_0 1 rfl rfl)
theorem dX6_isTooStressed_4 : decode cX6_isTooStressed 4 = .ok (.aload_n 0, 1) := dk_42 (dk_at dksX6_isTooStressed_0 4 rfl rfl)
theorem dX6_isTooStressed_5 : decode cX6_isTooStressed 5 = .ok (.getfield 19, 3) := dk_180 0 19 (dk_at dksX6_isTooStressed_0 5 rfl rfl)
theorem dX6_isTooStressed_8 : decode cX6_isTooStressed 8 = .ok (.invokestatic 59, 3) := dk_184 0 59 (dk_at dksX6_isTooStressed_0 8 rfl rfl)
theorem dX6_isTooStressed_11 : decode cX6_isTooStressed 11 = .ok (.fcmp .l, 1) := dk_149 (dk_at dksX6_isTooStressed_0 11 rfl rfl)
theorem dX6_isTooStressed_12 : decode cX6_isTooStressed 12 = .ok (.ifCond .le 7, 3) := dk_158 0 7 (dk_at dksX6_isTooStressed_0 12 rfl rfl)
theorem dX6_isTooStressed_15 : decode cX6_isTooStressed 15 = .ok (.iconst 1, 1) := dk_4 (dk_at dksX6_isTooStressed_0 15 rfl rfl)
theorem dX6_isTooStressed_16 : decode cX6_isTooStressed 16 = .ok (.goto 4, 3) := dk_167 0 4 (dk_at dksX6_isTooStressed_0 16 rfl rfl)
theorem dX6_isTooStressed_19 : decode cX6_isTooStressed 19 = .ok (.iconst 0, 1) := dk_3 (dk_at dksX6_isTooStressed_0 19 rfl rfl)
theorem dX6_isTooStressed_20 : decode cX6_isTooStressed 20 = .ok (.ireturn, 1) := dk_172 (dk_at dksX6_isTooStressed_0 20 rfl rfl)
abbrev cX6_fate : ByteArray := prog_13_method_5_code
def yX6_fate : MethodName := ⟨RX6, "fate", "()I"⟩
def dkwX6_fate_1 : List UInt8 := [184, 0, 59, 13, 110, 149, 158, 0, 7, 5, 167, 0, 4, 4, 172]
abbrev dktX6_fate_1 : List UInt8 := dkwX6_fate_1 ++ []
def dkwX6_fate_0 : List UInt8 := [42, 180, 0, 9, 17, 0, 150, 164, 0, 7, 6, 167, 0, 25, 42, 180, 0, 32, 42, 180, 0, 19]
abbrev dktX6_fate_0 : List UInt8 := dkwX6_fate_0 ++ dktX6_fate_1
theorem dksX6_fate_0 : cX6_fate.data.toList.drop 0 = dktX6_fate_0 := by decide +kernel
theorem dksX6_fate_1 : cX6_fate.data.toList.drop 22 = dktX6_fate_1 := dk_seg dksX6_fate_0 22 rfl rfl
theorem dX6_fate_0 : decode cX6_fate 0 = .ok (.aload_n 0, 1) := dk_42 (dk_at dksX6_fate_0 0 rfl rfl)
theorem dX6_fate_1 : decode cX6_fate 1 = .ok (.getfield 9, 3) := dk_180 0 9 (dk_at dksX6_fate_0 1 rfl rfl)
theorem dX6_fate_4 : decode cX6_fate 4 = .ok (.sipush 150, 3) := dk_17 0 150 (dk_at dksX6_fate_0 4 rfl rfl)
theorem dX6_fate_7 : decode cX6_fate 7 = .ok (.if_icmp .le 7, 3) := dk_164 0 7 (dk_at dksX6_fate_0 7 rfl rfl)
theorem dX6_fate_10 : decode cX6_fate 10 = .ok (.iconst 3, 1) := dk_6 (dk_at dksX6_fate_0 10 rfl rfl)
theorem dX6_fate_11 : decode cX6_fate 11 = .ok (.goto 25, 3) := dk_167 0 25 (dk_at dksX6_fate_0 11 rfl rfl)
theorem dX6_fate_14 : decode cX6_fate 14 = .ok (.aload_n 0, 1) := dk_42 (dk_at dksX6_fate_0 14 rfl rfl)
theorem dX6_fate_15 : decode cX6_fate 15 = .ok (.getfield 32, 3) := dk_180 0 32 (dk_at dksX6_fate_0 15 rfl rfl)
theorem dX6_fate_18 : decode cX6_fate 18 = .ok (.aload_n 0, 1) := dk_42 (dk_at dksX6_fate_0 18 rfl rfl)
theorem dX6_fate_19 : decode cX6_fate 19 = .ok (.getfield 19, 3) := dk_180 0 19 (dk_at dksX6_fate_0 19 rfl rfl)
theorem dX6_fate_22 : decode cX6_fate 22 = .ok (.invokestatic 59, 3) := dk_184 0 59 (dk_at dksX6_fate_1 0 rfl rfl)
theorem dX6_fate_25 : decode cX6_fate 25 = .ok (.fconst 2, 1) := dk_13 (dk_at dksX6_fate_1 3 rfl rfl)
theorem dX6_fate_26 : decode cX6_fate 26 = .ok (.fdiv, 1) := dk_110 (dk_at dksX6_fate_1 4 rfl rfl)
theorem dX6_fate_27 : decode cX6_fate 27 = .ok (.fcmp .l, 1) := dk_149 (dk_at dksX6_fate_1 5 rfl rfl)
theorem dX6_fate_28 : decode cX6_fate 28 = .ok (.ifCond .le 7, 3) := dk_158 0 7 (dk_at dksX6_fate_1 6 rfl rfl)
theorem dX6_fate_31 : decode cX6_fate 31 = .ok (.iconst 2, 1) := dk_5 (dk_at dksX6_fate_1 9 rfl rfl)
theorem dX6_fate_32 : decode cX6_fate 32 = .ok (.goto 4, 3) := dk_167 0 4 (dk_at dksX6_fate_1 10 rfl rfl)
theorem dX6_fate_35 : decode cX6_fate 35 = .ok (.iconst 1, 1) := dk_4 (dk_at dksX6_fate_1 13 rfl rfl)
theorem dX6_fate_36 : decode cX6_fate 36 = .ok (.ireturn, 1) := dk_172 (dk_at dksX6_fate_1 14 rfl rfl)
abbrev cX6_copy : ByteArray := prog_13_method_2_code
def yX6_copy : MethodName := ⟨RX6, "copy", "()LAnnealingLehr$Piece;"⟩
def dkwX6_copy_2 : List UInt8 := [43, 176]
abbrev dktX6_copy_2 : List UInt8 := dkwX6_copy_2 ++ []
def dkwX6_copy_1 : List UInt8 := [43, 42, 180, 0, 29, 181, 0, 29, 43, 42, 180, 0, 9, 181, 0, 9, 43, 42, 180, 0, 32, 181, 0, 32]
abbrev dktX6_copy_1 : List UInt8 := dkwX6_copy_1 ++ dktX6_copy_2
def dkwX6_copy_0 : List UInt8 := [187, 0, 10, 89, 42, 180, 0, 15, 42, 180, 0, 19, 183, 0, 23, 76, 43, 42, 180, 0, 26, 181, 0, 26]
abbrev dktX6_copy_0 : List UInt8 := dkwX6_copy_0 ++ dktX6_copy_1
theorem dksX6_copy_0 : cX6_copy.data.toList.drop 0 = dktX6_copy_0 := by decide +kernel
theorem dksX6_copy_1 : cX6_copy.data.toList.drop 24 = dktX6_copy_1 := dk_seg dksX6_copy_0 24 rfl rfl
theorem dksX6_copy_2 : cX6_copy.data.toList.drop 48 = dktX6_copy_2 := dk_seg dksX6_copy_1 24 rfl rfl
theorem dX6_copy_0 : decode cX6_copy 0 = .ok (.new 10, 3) := dk_187 0 10 (dk_at dksX6_copy_0 0 rfl rfl)
theorem dX6_copy_3 : decode cX6_copy 3 = .ok (.dup, 1) := dk_89 (dk_at dksX6_copy_0 3 rfl rfl)
theorem dX6_copy_4 : decode cX6_copy 4 = .ok (.aload_n 0, 1) := dk_42 (dk_at dksX6_copy_0 4 rfl rfl)
theorem dX6_copy_5 : decode cX6_copy 5 = .ok (.getfield 15, 3) := dk_180 0 15 (dk_at dksX6_copy_0 5 rfl rfl)
theorem dX6_copy_8 : decode cX6_copy 8 = .ok (.aload_n 0, 1) := dk_42 (dk_at dksX6_copy_0 8 rfl rfl)
theorem dX6_copy_9 : decode cX6_copy 9 = .ok (.getfield 19, 3) := dk_180 0 19 (dk_at dksX6_copy_0 9 rfl rfl)
theorem dX6_copy_12 : decode cX6_copy 12 = .ok (.invokespecial 23, 3) := dk_183 0 23 (dk_at dksX6_copy_0 12 rfl rfl)
theorem dX6_copy_15 : decode cX6_copy 15 = .ok (.astore_n 1, 1) := dk_76 (dk_at dksX6_copy_0 15 rfl rfl)
theorem dX6_copy_16 : decode cX6_copy 16 = .ok (.aload_n 1, 1) := dk_43 (dk_at dksX6_copy_0 16 rfl rfl)
theorem dX6_copy_17 : decode cX6_copy 17 = .ok (.aload_n 0, 1) := dk_42 (dk_at dksX6_copy_0 17 rfl rfl)
theorem dX6_copy_18 : decode cX6_copy 18 = .ok (.getfield 26, 3) := dk_180 0 26 (dk_at dksX6_copy_0 18 rfl rfl)
theorem dX6_copy_21 : decode cX6_copy 21 = .ok (.putfield 26, 3) := dk_181 0 26 (dk_at dksX6_copy_0 21 rfl rfl)
theorem dX6_copy_24 : decode cX6_copy 24 = .ok (.aload_n 1, 1) := dk_43 (dk_at dksX6_copy_1 0 rfl rfl)
theorem dX6_copy_25 : decode cX6_copy 25 = .ok (.aload_n 0, 1) := dk_42 (dk_at dksX6_copy_1 1 rfl rfl)
theorem dX6_copy_26 : decode cX6_copy 26 = .ok (.getfield 29, 3) := dk_180 0 29 (dk_at dksX6_copy_1 2 rfl rfl)
theorem dX6_copy_29 : decode cX6_copy 29 = .ok (.putfield 29, 3) := dk_181 0 29 (dk_at dksX6_copy_1 5 rfl rfl)
theorem dX6_copy_32 : decode cX6_copy 32 = .ok (.aload_n 1, 1) := dk_43 (dk_at dksX6_copy_1 8 rfl rfl)
theorem dX6_copy_33 : decode cX6_copy 33 = .ok (.aload_n 0, 1) := dk_42 (dk_at dksX6_copy_1 9 rfl rfl)
theorem dX6_copy_34 : decode cX6_copy 34 = .ok (.getfield 9, 3) := dk_180 0 9 (dk_at dksX6_copy_1 10 rfl rfl)
theorem dX6_copy_37 : decode cX6_copy 37 = .ok (.putfield 9, 3) := dk_181 0 9 (dk_at dksX6_copy_1 13 rfl rfl)
theorem dX6_copy_40 : decode cX6_copy 40 = .ok (.aload_n 1, 1) := dk_43 (dk_at dksX6_copy_1 16 rfl rfl)
theorem dX6_copy_41 : decode cX6_copy 41 = .ok (.aload_n 0, 1) := dk_42 (dk_at dksX6_copy_1 17 rfl rfl)
theorem dX6_copy_42 : decode cX6_copy 42 = .ok (.getfield 32, 3) := dk_180 0 32 (dk_at dksX6_copy_1 18 rfl rfl)
theorem dX6_copy_45 : decode cX6_copy 45 = .ok (.putfield 32, 3) := dk_181 0 32 (dk_at dksX6_copy_1 21 rfl rfl)
theorem dX6_copy_48 : decode cX6_copy 48 = .ok (.aload_n 1, 1) := dk_43 (dk_at dksX6_copy_2 0 rfl rfl)
theorem dX6_copy_49 : decode cX6_copy 49 = .ok (.areturn, 1) := dk_176 (dk_at dksX6_copy_2 1 rfl rfl)
theorem q163 : (Jvm.Cond.initialized "AnnealingLehr$Piece") ∈ lw_all := lw_g (lw_at lw_m1 61 rfl) rfl
theorem q975 : (Jvm.Cond.selects "AnnealingLehr$Piece" ({ cls := "java/lang/Object", name := "toString", desc := "()Ljava/lang/String;" } : Jvm.MethodName) ({ cls := "java/lang/Object", name := "toString", desc := "()Ljava/lang/String;" } : Jvm.MethodName)) ∈ lw_all := lw_g (lw_at lw_m4 153 rfl) rfl
theorem q997 : (Jvm.Cond.selects "AnnealingLehr$Piece" ({ cls := "java/lang/Object", name := "getClass", desc := "()Ljava/lang/Class;" } : Jvm.MethodName) ({ cls := "java/lang/Object", name := "getClass", desc := "()Ljava/lang/Class;" } : Jvm.MethodName)) ∈ lw_all := lw_g (lw_at lw_m4 175 rfl) rfl
theorem q1645 : (Jvm.Cond.instantiable "AnnealingLehr$Piece" (6 : Nat)) ∈ lw_all := lw_g (lw_at lw_m7 103 rfl) rfl
theorem q1663 : (Jvm.Cond.instanceMethod ({ cls := "AnnealingLehr$Piece", name := "<init>", desc := "(LAnnealingLehr$PieceKey;LAnnealingLehr$Ware;)V" } : Jvm.MethodName)) ∈ lw_all := lw_g (lw_at lw_m7 121 rfl) rfl
theorem q1664 : (Jvm.Cond.code ({ cls := "AnnealingLehr$Piece", name := "<init>", desc := "(LAnnealingLehr$PieceKey;LAnnealingLehr$Ware;)V" } : Jvm.MethodName) prog_13_method_1_code (3 : Nat) (Option.none : Option Jvm.ClassFile.FieldType)) ∈ lw_all := lw_g (lw_at lw_m7 122 rfl) rfl
theorem q1665 : (Jvm.Cond.methodLink "AnnealingLehr$Piece" (3 : Nat) ({ cls := "java/lang/Object", name := "<init>", desc := "()V" } : Jvm.MethodName)) ∈ lw_all := lw_g (lw_at lw_m7 123 rfl) rfl
theorem q1666 : (Jvm.Cond.fieldLink "AnnealingLehr$Piece" (15 : Nat) "AnnealingLehr$Piece" "key" "LAnnealingLehr$PieceKey;") ∈ lw_all := lw_g (lw_at lw_m7 124 rfl) rfl
theorem q1669 : (Jvm.Cond.fieldLink "AnnealingLehr$Piece" (19 : Nat) "AnnealingLehr$Piece" "ware" "LAnnealingLehr$Ware;") ∈ lw_all := lw_g (lw_at lw_m7 127 rfl) rfl
theorem q1670 : (Jvm.Cond.fieldLink "AnnealingLehr$Piece" (26 : Nat) "AnnealingLehr$Piece" "place" "I") ∈ lw_all := lw_g (lw_at lw_m7 128 rfl) rfl
theorem q1673 : (Jvm.Cond.fieldLink "AnnealingLehr$Piece" (29 : Nat) "AnnealingLehr$Piece" "minutes" "I") ∈ lw_all := lw_g (lw_at lw_m7 131 rfl) rfl
theorem q1676 : (Jvm.Cond.fieldLink "AnnealingLehr$Piece" (9 : Nat) "AnnealingLehr$Piece" "warmth" "I") ∈ lw_all := lw_g (lw_at lw_m7 134 rfl) rfl
theorem q1679 : (Jvm.Cond.fieldLink "AnnealingLehr$Piece" (32 : Nat) "AnnealingLehr$Piece" "stress" "F") ∈ lw_all := lw_g (lw_at lw_m7 137 rfl) rfl
theorem q1681 : (Jvm.Cond.laysFinal "AnnealingLehr$Piece" "AnnealingLehr$Piece" "key" "LAnnealingLehr$PieceKey;") ∈ lw_all := lw_g (lw_at lw_m7 139 rfl) rfl
theorem q1682 : (Jvm.Cond.soleField "AnnealingLehr$Piece" "key") ∈ lw_all := lw_g (lw_at lw_m7 140 rfl) rfl
theorem q1683 : (Jvm.Cond.laysFinal "AnnealingLehr$Piece" "AnnealingLehr$Piece" "ware" "LAnnealingLehr$Ware;") ∈ lw_all := lw_g (lw_at lw_m7 141 rfl) rfl
theorem q1684 : (Jvm.Cond.soleField "AnnealingLehr$Piece" "ware") ∈ lw_all := lw_g (lw_at lw_m7 142 rfl) rfl
theorem q1685 : (Jvm.Cond.lays "AnnealingLehr$Piece" "AnnealingLehr$Piece" "place" "I") ∈ lw_all := lw_g (lw_at lw_m7 143 rfl) rfl
theorem q1686 : (Jvm.Cond.soleField "AnnealingLehr$Piece" "place") ∈ lw_all := lw_g (lw_at lw_m7 144 rfl) rfl
theorem q1687 : (Jvm.Cond.lays "AnnealingLehr$Piece" "AnnealingLehr$Piece" "minutes" "I") ∈ lw_all := lw_g (lw_at lw_m7 145 rfl) rfl
theorem q1688 : (Jvm.Cond.soleField "AnnealingLehr$Piece" "minutes") ∈ lw_all := lw_g (lw_at lw_m7 146 rfl) rfl
theorem q1689 : (Jvm.Cond.lays "AnnealingLehr$Piece" "AnnealingLehr$Piece" "warmth" "I") ∈ lw_all := lw_g (lw_at lw_m7 147 rfl) rfl
theorem q1690 : (Jvm.Cond.soleField "AnnealingLehr$Piece" "warmth") ∈ lw_all := lw_g (lw_at lw_m7 148 rfl) rfl
theorem q1691 : (Jvm.Cond.lays "AnnealingLehr$Piece" "AnnealingLehr$Piece" "stress" "F") ∈ lw_all := lw_g (lw_at lw_m7 149 rfl) rfl
theorem q1692 : (Jvm.Cond.soleField "AnnealingLehr$Piece" "stress") ∈ lw_all := lw_g (lw_at lw_m7 150 rfl) rfl
theorem q1693 : (Jvm.Cond.superclass "AnnealingLehr$Piece" "java/lang/Object") ∈ lw_all := lw_g (lw_at lw_m7 151 rfl) rfl
theorem q1725 : (Jvm.Cond.selects "AnnealingLehr$Piece" ({ cls := "java/lang/Object", name := "hashCode", desc := "()I" } : Jvm.MethodName) ({ cls := "java/lang/Object", name := "hashCode", desc := "()I" } : Jvm.MethodName)) ∈ lw_all := lw_g (lw_at lw_m7 183 rfl) rfl
theorem q2176 : (Jvm.Cond.selects "AnnealingLehr$Piece" ({ cls := "java/lang/Object", name := "equals", desc := "(Ljava/lang/Object;)Z" } : Jvm.MethodName) ({ cls := "java/lang/Object", name := "equals", desc := "(Ljava/lang/Object;)Z" } : Jvm.MethodName)) ∈ lw_all := lw_g (lw_at lw_m9 154 rfl) rfl
theorem q2716 : (Jvm.Cond.instanceMethod ({ cls := "AnnealingLehr$Piece", name := "goTowards", desc := "(I)V" } : Jvm.MethodName)) ∈ lw_all := lw_g (lw_at lw_m11 214 rfl) rfl
theorem q2717 : (Jvm.Cond.selects "AnnealingLehr$Piece" ({ cls := "AnnealingLehr$Piece", name := "goTowards", desc := "(I)V" } : Jvm.MethodName) ({ cls := "AnnealingLehr$Piece", name := "goTowards", desc := "(I)V" } : Jvm.MethodName)) ∈ lw_all := lw_g (lw_at lw_m11 215 rfl) rfl
theorem q2718 : (Jvm.Cond.code ({ cls := "AnnealingLehr$Piece", name := "goTowards", desc := "(I)V" } : Jvm.MethodName) prog_13_method_3_code (5 : Nat) (Option.none : Option Jvm.ClassFile.FieldType)) ∈ lw_all := lw_g (lw_at lw_m11 216 rfl) rfl
theorem q2719 : (Jvm.Cond.interfaceEntry "AnnealingLehr$Piece" (36 : Nat)) ∈ lw_tbl := lw_at lw_m11 217 rfl
theorem q2720 : (Jvm.Cond.methodLink "AnnealingLehr$Piece" (36 : Nat) ({ cls := "AnnealingLehr$Ware", name := "wall", desc := "()I" } : Jvm.MethodName)) ∈ lw_all := lw_g (lw_at lw_m11 218 rfl) rfl
theorem q2741 : (Jvm.Cond.methodLinkNest "AnnealingLehr$Piece" (42 : Nat) ({ cls := "AnnealingLehr", name := "step", desc := "(II)I" } : Jvm.MethodName) "AnnealingLehr") ∈ lw_tbl := lw_at lw_m11 239 rfl
theorem q2742 : (Jvm.Cond.methodLink "AnnealingLehr$Piece" (46 : Nat) ({ cls := "AnnealingLehr$Glass", name := "highest", desc := "(LAnnealingLehr$Ware;)I" } : Jvm.MethodName)) ∈ lw_all := lw_g (lw_at lw_m12 0 rfl) rfl
theorem q2745 : (Jvm.Cond.methodLink "AnnealingLehr$Piece" (52 : Nat) ({ cls := "AnnealingLehr$Glass", name := "lowest", desc := "(LAnnealingLehr$Ware;)I" } : Jvm.MethodName)) ∈ lw_all := lw_g (lw_at lw_m12 3 rfl) rfl
theorem q2748 : (Jvm.Cond.methodLink "AnnealingLehr$Piece" (55 : Nat) ({ cls := "AnnealingLehr$Glass", name := "softness", desc := "(LAnnealingLehr$Ware;)F" } : Jvm.MethodName)) ∈ lw_all := lw_g (lw_at lw_m12 6 rfl) rfl
theorem q2764 : (Jvm.Cond.instanceMethod ({ cls := "AnnealingLehr$Piece", name := "isTooStressed", desc := "()Z" } : Jvm.MethodName)) ∈ lw_all := lw_g (lw_at lw_m12 22 rfl) rfl
theorem q2765 : (Jvm.Cond.selects "AnnealingLehr$Piece" ({ cls := "AnnealingLehr$Piece", name := "isTooStressed", desc := "()Z" } : Jvm.MethodName) ({ cls := "AnnealingLehr$Piece", name := "isTooStressed", desc := "()Z" } : Jvm.MethodName)) ∈ lw_all := lw_g (lw_at lw_m12 23 rfl) rfl
theorem q2766 : (Jvm.Cond.code ({ cls := "AnnealingLehr$Piece", name := "isTooStressed", desc := "()Z" } : Jvm.MethodName) prog_13_method_4_code (1 : Nat) (Option.some Jvm.ClassFile.FieldType.boolean)) ∈ lw_all := lw_g (lw_at lw_m12 24 rfl) rfl
theorem q2767 : (Jvm.Cond.methodLink "AnnealingLehr$Piece" (59 : Nat) ({ cls := "AnnealingLehr$Glass", name := "limit", desc := "(LAnnealingLehr$Ware;)F" } : Jvm.MethodName)) ∈ lw_all := lw_g (lw_at lw_m12 25 rfl) rfl
theorem q2808 : (Jvm.Cond.instanceMethod ({ cls := "AnnealingLehr$Piece", name := "fate", desc := "()I" } : Jvm.MethodName)) ∈ lw_all := lw_g (lw_at lw_m12 66 rfl) rfl
theorem q2809 : (Jvm.Cond.selects "AnnealingLehr$Piece" ({ cls := "AnnealingLehr$Piece", name := "fate", desc := "()I" } : Jvm.MethodName) ({ cls := "AnnealingLehr$Piece", name := "fate", desc := "()I" } : Jvm.MethodName)) ∈ lw_all := lw_g (lw_at lw_m12 67 rfl) rfl
theorem q2810 : (Jvm.Cond.code ({ cls := "AnnealingLehr$Piece", name := "fate", desc := "()I" } : Jvm.MethodName) prog_13_method_5_code (1 : Nat) (Option.some Jvm.ClassFile.FieldType.int)) ∈ lw_all := lw_g (lw_at lw_m12 68 rfl) rfl
theorem q3112 : (Jvm.Cond.instanceMethod ({ cls := "AnnealingLehr$Piece", name := "copy", desc := "()LAnnealingLehr$Piece;" } : Jvm.MethodName)) ∈ lw_all := lw_g (lw_at lw_m13 130 rfl) rfl
theorem q3113 : (Jvm.Cond.selects "AnnealingLehr$Piece" ({ cls := "AnnealingLehr$Piece", name := "copy", desc := "()LAnnealingLehr$Piece;" } : Jvm.MethodName) ({ cls := "AnnealingLehr$Piece", name := "copy", desc := "()LAnnealingLehr$Piece;" } : Jvm.MethodName)) ∈ lw_all := lw_g (lw_at lw_m13 131 rfl) rfl
theorem q3114 : (Jvm.Cond.code ({ cls := "AnnealingLehr$Piece", name := "copy", desc := "()LAnnealingLehr$Piece;" } : Jvm.MethodName) prog_13_method_2_code (2 : Nat) (Option.some (Jvm.ClassFile.FieldType.object "AnnealingLehr$Piece"))) ∈ lw_all := lw_g (lw_at lw_m13 132 rfl) rfl
theorem q3115 : (Jvm.Cond.classLink "AnnealingLehr$Piece" (10 : Nat) "AnnealingLehr$Piece") ∈ lw_all := lw_g (lw_at lw_m13 133 rfl) rfl
theorem q3116 : (Jvm.Cond.methodLink "AnnealingLehr$Piece" (23 : Nat) ({ cls := "AnnealingLehr$Piece", name := "<init>", desc := "(LAnnealingLehr$PieceKey;LAnnealingLehr$Ware;)V" } : Jvm.MethodName)) ∈ lw_all := lw_g (lw_at lw_m13 134 rfl) rfl
theorem q4425 : (Jvm.Cond.castable "AnnealingLehr$Piece" "java/lang/Object") ∈ lw_tbl := lw_at lw_m19 3 rfl

set_option maxRecDepth 100000
abbrev cX7_of : ByteArray := prog_10_method_2_code
def yX7_of : MethodName := ⟨RX7, "of", "(II)LAnnealingLehr$Ware;"⟩
def dkwX7_of_1 : List UInt8 := [27, 183, 0, 14, 167, 0, 11, 187, 0, 15, 89, 27, 183, 0, 17, 176]
abbrev dktX7_of_1 : List UInt8 := dkwX7_of_1 ++ []
def dkwX7_of_0 : List UInt8 := [26, 154, 0, 14, 187, 0, 7, 89, 27, 183, 0, 9, 167, 0, 27, 26, 4, 160, 0, 14, 187, 0, 12, 89]
abbrev dktX7_of_0 : List UInt8 := dkwX7_of_0 ++ dktX7_of_1
theorem dksX7_of_0 : cX7_of.data.toList.drop 0 = dktX7_of_0 := by decide +kernel
theorem dksX7_of_1 : cX7_of.data.toList.drop 24 = dktX7_of_1 := dk_seg dksX7_of_0 24 rfl rfl
theorem dX7_of_0 : decode cX7_of 0 = .ok (.iload_n 0, 1) := dk_26 (dk_at dksX7_of_0 0 rfl rfl)
theorem dX7_of_1 : decode cX7_of 1 = .ok (.ifCond .ne 14, 3) := dk_154 0 14 (dk_at dksX7_of_0 1 rfl rfl)
theorem dX7_of_4 : decode cX7_of 4 = .ok (.new 7, 3) := dk_187 0 7 (dk_at dksX7_of_0 4 rfl rfl)
theorem dX7_of_7 : decode cX7_of 7 = .ok (.dup, 1) := dk_89 (dk_at dksX7_of_0 7 rfl rfl)
theorem dX7_of_8 : decode cX7_of 8 = .ok (.iload_n 1, 1) := dk_27 (dk_at dksX7_of_0 8 rfl rfl)
theorem dX7_of_9 : decode cX7_of 9 = .ok (.invokespecial 9, 3) := dk_183 0 9 (dk_at dksX7_of_0 9 rfl rfl)
theorem dX7_of_12 : decode cX7_of 12 = .ok (.goto 27, 3) := dk_167 0 27 (dk_at dksX7_of_0 12 rfl rfl)
theorem dX7_of_15 : decode cX7_of 15 = .ok (.iload_n 0, 1) := dk_26 (dk_at dksX7_of_0 15 rfl rfl)
theorem dX7_of_16 : decode cX7_of 16 = .ok (.iconst 1, 1) := dk_4 (dk_at dksX7_of_0 16 rfl rfl)
theorem dX7_of_17 : decode cX7_of 17 = .ok (.if_icmp .ne 14, 3) := dk_160 0 14 (dk_at dksX7_of_0 17 rfl rfl)
theorem dX7_of_20 : decode cX7_of 20 = .ok (.new 12, 3) := dk_187 0 12 (dk_at dksX7_of_0 20 rfl rfl)
theorem dX7_of_23 : decode cX7_of 23 = .ok (.dup, 1) := dk_89 (dk_at dksX7_of_0 23 rfl rfl)
theorem dX7_of_24 : decode cX7_of 24 = .ok (.iload_n 1, 1) := dk_27 (dk_at dksX7_of_1 0 rfl rfl)
theorem dX7_of_25 : decode cX7_of 25 = .ok (.invokespecial 14, 3) := dk_183 0 14 (dk_at dksX7_of_1 1 rfl rfl)
theorem dX7_of_28 : decode cX7_of 28 = .ok (.goto 11, 3) := dk_167 0 11 (dk_at dksX7_of_1 4 rfl rfl)
theorem dX7_of_31 : decode cX7_of 31 = .ok (.new 15, 3) := dk_187 0 15 (dk_at dksX7_of_1 7 rfl rfl)
theorem dX7_of_34 : decode cX7_of 34 = .ok (.dup, 1) := dk_89 (dk_at dksX7_of_1 10 rfl rfl)
theorem dX7_of_35 : decode cX7_of 35 = .ok (.iload_n 1, 1) := dk_27 (dk_at dksX7_of_1 11 rfl rfl)
theorem dX7_of_36 : decode cX7_of 36 = .ok (.invokespecial 17, 3) := dk_183 0 17 (dk_at dksX7_of_1 12 rfl rfl)
theorem dX7_of_39 : decode cX7_of 39 = .ok (.areturn, 1) := dk_176 (dk_at dksX7_of_1 15 rfl rfl)
abbrev cX7_highest : ByteArray := prog_10_method_5_code
def yX7_highest : MethodName := ⟨RX7, "highest", "(LAnnealingLehr$Ware;)I"⟩
def dkwX7_highest_1 : List UInt8 := [17, 2, 28, 172]
abbrev dktX7_highest_1 : List UInt8 := dkwX7_highest_1 ++ []
def dkwX7_highest_0 : List UInt8 := [42, 193, 0, 7, 153, 0, 7, 17, 2, 38, 172, 42, 193, 0, 12, 153, 0, 9, 17, 2, 48, 167, 0, 6]
abbrev dktX7_highest_0 : List UInt8 := dkwX7_highest_0 ++ dktX7_highest_1
theorem dksX7_highest_0 : cX7_highest.data.toList.drop 0 = dktX7_highest_0 := by decide +kernel
theorem dksX7_highest_1 : cX7_highest.data.toList.drop 24 = dktX7_highest_1 := dk_seg dksX7_highest_0 24 rfl rfl
theorem dX7_highest_0 : decode cX7_highest 0 = .ok (.aload_n 0, 1) := dk_42 (dk_at dksX7_highest_0 0 rfl rfl)
theorem dX7_highest_1 : decode cX7_highest 1 = .ok (.instanceof 7, 3) := dk_193 0 7 (dk_at dksX7_highest_0 1 rfl rfl)
theorem dX7_highest_4 : decode cX7_highest 4 = .ok (.ifCond .eq 7, 3) := dk_153 0 7 (dk_at dksX7_highest_0 4 rfl rfl)
theorem dX7_highest_7 : decode cX7_highest 7 = .ok (.sipush 550, 3) := dk_17 2 38 (dk_at dksX7_highest_0 7 rfl rfl)
theorem dX7_highest_10 : decode cX7_highest 10 = .ok (.ireturn, 1) := dk_172 (dk_at dksX7_highest_0 10 rfl rfl)
theorem dX7_highest_11 : decode cX7_highest 11 = .ok (.aload_n 0, 1) := dk_42 (dk_at dksX7_highest_0 11 rfl rfl)
theorem dX7_highest_12 : decode cX7_highest 12 = .ok (.instanceof 12, 3) := dk_193 0 12 (dk_at dksX7_highest_0 12 rfl rfl)
theorem dX7_highest_15 : decode cX7_highest 15 = .ok (.ifCond .eq 9, 3) := dk_153 0 9 (dk_at dksX7_highest_0 15 rfl rfl)
theorem dX7_highest_18 : decode cX7_highest 18 = .ok (.sipush 560, 3) := dk_17 2 48 (dk_at dksX7_highest_0 18 rfl rfl)
theorem dX7_highest_21 : decode cX7_highest 21 = .ok (.goto 6, 3) := dk_167 0 6 (dk_at dksX7_highest_0 21 rfl rfl)
theorem dX7_highest_24 : decode cX7_highest 24 = .ok (.sipush 540, 3) := dk_17 2 28 (dk_at dksX7_highest_1 0 rfl rfl)
theorem dX7_highest_27 : decode cX7_highest 27 = .ok (.ireturn, 1) := dk_172 (dk_at dksX7_highest_1 3 rfl rfl)
abbrev cX7_lowest : ByteArray := prog_10_method_4_code
def yX7_lowest : MethodName := ⟨RX7, "lowest", "(LAnnealingLehr$Ware;)I"⟩
def dkwX7_lowest_1 : List UInt8 := [17, 1, 174, 172]
abbrev dktX7_lowest_1 : List UInt8 := dkwX7_lowest_1 ++ []
def dkwX7_lowest_0 : List UInt8 := [42, 193, 0, 7, 153, 0, 7, 17, 1, 194, 172, 42, 193, 0, 12, 153, 0, 9, 17, 1, 214, 167, 0, 6]
abbrev dktX7_lowest_0 : List UInt8 := dkwX7_lowest_0 ++ dktX7_lowest_1
theorem dksX7_lowest_0 : cX7_lowest.data.toList.drop 0 = dktX7_lowest_0 := by decide +kernel
theorem dksX7_lowest_1 : cX7_lowest.data.toList.drop 24 = dktX7_lowest_1 := dk_seg dksX7_lowest_0 24 rfl rfl
theorem dX7_lowest_0 : decode cX7_lowest 0 = .ok (.aload_n 0, 1) := dk_42 (dk_at dksX7_lowest_0 0 rfl rfl)
theorem dX7_lowest_1 : decode cX7_lowest 1 = .ok (.instanceof 7, 3) := dk_193 0 7 (dk_at dksX7_lowest_0 1 rfl rfl)
theorem dX7_lowest_4 : decode cX7_lowest 4 = .ok (.ifCond .eq 7, 3) := dk_153 0 7 (dk_at dksX7_lowest_0 4 rfl rfl)
theorem dX7_lowest_7 : decode cX7_lowest 7 = .ok (.sipush 450, 3) := dk_17 1 194 (dk_at dksX7_lowest_0 7 rfl rfl)
theorem dX7_lowest_10 : decode cX7_lowest 10 = .ok (.ireturn, 1) := dk_172 (dk_at dksX7_lowest_0 10 rfl rfl)
theorem dX7_lowest_11 : decode cX7_lowest 11 = .ok (.aload_n 0, 1) := dk_42 (dk_at dksX7_lowest_0 11 rfl rfl)
theorem dX7_lowest_12 : decode cX7_lowest 12 = .ok (.instanceof 12, 3) := dk_193 0 12 (dk_at dksX7_lowest_0 12 rfl rfl)
theorem dX7_lowest_15 : decode cX7_lowest 15 = .ok (.ifCond .eq 9, 3) := dk_153 0 9 (dk_at dksX7_lowest_0 15 rfl rfl)
theorem dX7_lowest_18 : decode cX7_lowest 18 = .ok (.sipush 470, 3) := dk_17 1 214 (dk_at dksX7_lowest_0 18 rfl rfl)
theorem dX7_lowest_21 : decode cX7_lowest 21 = .ok (.goto 6, 3) := dk_167 0 6 (dk_at dksX7_lowest_0 21 rfl rfl)
theorem dX7_lowest_24 : decode cX7_lowest 24 = .ok (.sipush 430, 3) := dk_17 1 174 (dk_at dksX7_lowest_1 0 rfl rfl)
theorem dX7_lowest_27 : decode cX7_lowest 27 = .ok (.ireturn, 1) := dk_172 (dk_at dksX7_lowest_1 3 rfl rfl)
abbrev cX7_softness : ByteArray := prog_10_method_6_code
def yX7_softness : MethodName := ⟨RX7, "softness", "(LAnnealingLehr$Ware;)F"⟩
def dkwX7_softness_1 : List UInt8 := [174]
abbrev dktX7_softness_1 : List UInt8 := dkwX7_softness_1 ++ []
def dkwX7_softness_0 : List UInt8 := [42, 193, 0, 7, 153, 0, 6, 18, 18, 174, 42, 193, 0, 12, 153, 0, 8, 18, 19, 167, 0, 5, 18, 20]
abbrev dktX7_softness_0 : List UInt8 := dkwX7_softness_0 ++ dktX7_softness_1
theorem dksX7_softness_0 : cX7_softness.data.toList.drop 0 = dktX7_softness_0 := by decide +kernel
theorem dksX7_softness_1 : cX7_softness.data.toList.drop 24 = dktX7_softness_1 := dk_seg dksX7_softness_0 24 rfl rfl
theorem dX7_softness_0 : decode cX7_softness 0 = .ok (.aload_n 0, 1) := dk_42 (dk_at dksX7_softness_0 0 rfl rfl)
theorem dX7_softness_1 : decode cX7_softness 1 = .ok (.instanceof 7, 3) := dk_193 0 7 (dk_at dksX7_softness_0 1 rfl rfl)
theorem dX7_softness_4 : decode cX7_softness 4 = .ok (.ifCond .eq 6, 3) := dk_153 0 6 (dk_at dksX7_softness_0 4 rfl rfl)
theorem dX7_softness_7 : decode cX7_softness 7 = .ok (.ldc 18, 2) := dk_18 18 (dk_at dksX7_softness_0 7 rfl rfl)
theorem dX7_softness_9 : decode cX7_softness 9 = .ok (.freturn, 1) := dk_174 (dk_at dksX7_softness_0 9 rfl rfl)
theorem dX7_softness_10 : decode cX7_softness 10 = .ok (.aload_n 0, 1) := dk_42 (dk_at dksX7_softness_0 10 rfl rfl)
theorem dX7_softness_11 : decode cX7_softness 11 = .ok (.instanceof 12, 3) := dk_193 0 12 (dk_at dksX7_softness_0 11 rfl rfl)
theorem dX7_softness_14 : decode cX7_softness 14 = .ok (.ifCond .eq 8, 3) := dk_153 0 8 (dk_at dksX7_softness_0 14 rfl rfl)
theorem dX7_softness_17 : decode cX7_softness 17 = .ok (.ldc 19, 2) := dk_18 19 (dk_at dksX7_softness_0 17 rfl rfl)
theorem dX7_softness_19 : decode cX7_softness 19 = .ok (.goto 5, 3) := dk_167 0 5 (dk_at dksX7_softness_0 19 rfl rfl)
theorem dX7_softness_22 : decode cX7_softness 22 = .ok (.ldc 20, 2) := dk_18 20 (dk_at dksX7_softness_0 22 rfl rfl)
theorem dX7_softness_24 : decode cX7_softness 24 = .ok (.freturn, 1) := dk_174 (dk_at dksX7_softness_1 0 rfl rfl)
abbrev cX7_limit : ByteArray := prog_10_method_7_code
def yX7_limit : MethodName := ⟨RX7, "limit", "(LAnnealingLehr$Ware;)F"⟩
def dkwX7_limit_1 : List UInt8 := [174]
abbrev dktX7_limit_1 : List UInt8 := dkwX7_limit_1 ++ []
def dkwX7_limit_0 : List UInt8 := [42, 193, 0, 7, 153, 0, 6, 18, 21, 174, 42, 193, 0, 12, 153, 0, 8, 18, 22, 167, 0, 5, 18, 23]
abbrev dktX7_limit_0 : List UInt8 := dkwX7_limit_0 ++ dktX7_limit_1
theorem dksX7_limit_0 : cX7_limit.data.toList.drop 0 = dktX7_limit_0 := by decide +kernel
theorem dksX7_limit_1 : cX7_limit.data.toList.drop 24 = dktX7_limit_1 := dk_seg dksX7_limit_0 24 rfl rfl
theorem dX7_limit_0 : decode cX7_limit 0 = .ok (.aload_n 0, 1) := dk_42 (dk_at dksX7_limit_0 0 rfl rfl)
theorem dX7_limit_1 : decode cX7_limit 1 = .ok (.instanceof 7, 3) := dk_193 0 7 (dk_at dksX7_limit_0 1 rfl rfl)
theorem dX7_limit_4 : decode cX7_limit 4 = .ok (.ifCond .eq 6, 3) := dk_153 0 6 (dk_at dksX7_limit_0 4 rfl rfl)
theorem dX7_limit_7 : decode cX7_limit 7 = .ok (.ldc 21, 2) := dk_18 21 (dk_at dksX7_limit_0 7 rfl rfl)
theorem dX7_limit_9 : decode cX7_limit 9 = .ok (.freturn, 1) := dk_174 (dk_at dksX7_limit_0 9 rfl rfl)
theorem dX7_limit_10 : decode cX7_limit 10 = .ok (.aload_n 0, 1) := dk_42 (dk_at dksX7_limit_0 10 rfl rfl)
theorem dX7_limit_11 : decode cX7_limit 11 = .ok (.instanceof 12, 3) := dk_193 0 12 (dk_at dksX7_limit_0 11 rfl rfl)
theorem dX7_limit_14 : decode cX7_limit 14 = .ok (.ifCond .eq 8, 3) := dk_153 0 8 (dk_at dksX7_limit_0 14 rfl rfl)
theorem dX7_limit_17 : decode cX7_limit 17 = .ok (.ldc 22, 2) := dk_18 22 (dk_at dksX7_limit_0 17 rfl rfl)
theorem dX7_limit_19 : decode cX7_limit 19 = .ok (.goto 5, 3) := dk_167 0 5 (dk_at dksX7_limit_0 19 rfl rfl)
theorem dX7_limit_22 : decode cX7_limit 22 = .ok (.ldc 23, 2) := dk_18 23 (dk_at dksX7_limit_0 22 rfl rfl)
theorem dX7_limit_24 : decode cX7_limit 24 = .ok (.freturn, 1) := dk_174 (dk_at dksX7_limit_1 0 rfl rfl)
abbrev cX7_kind : ByteArray := prog_10_method_3_code
def yX7_kind : MethodName := ⟨RX7, "kind", "(LAnnealingLehr$Ware;)I"⟩
def dkwX7_kind_0 : List UInt8 := [42, 193, 0, 7, 153, 0, 5, 3, 172, 42, 193, 0, 12, 153, 0, 7, 4, 167, 0, 4, 5, 172]
abbrev dktX7_kind_0 : List UInt8 := dkwX7_kind_0 ++ []
theorem dksX7_kind_0 : cX7_kind.data.toList.drop 0 = dktX7_kind_0 := by decide +kernel
theorem dX7_kind_0 : decode cX7_kind 0 = .ok (.aload_n 0, 1) := dk_42 (dk_at dksX7_kind_0 0 rfl rfl)
theorem dX7_kind_1 : decode cX7_kind 1 = .ok (.instanceof 7, 3) := dk_193 0 7 (dk_at dksX7_kind_0 1 rfl rfl)
theorem dX7_kind_4 : decode cX7_kind 4 = .ok (.ifCond .eq 5, 3) := dk_153 0 5 (dk_at dksX7_kind_0 4 rfl rfl)
theorem dX7_kind_7 : decode cX7_kind 7 = .ok (.iconst 0, 1) := dk_3 (dk_at dksX7_kind_0 7 rfl rfl)
theorem dX7_kind_8 : decode cX7_kind 8 = .ok (.ireturn, 1) := dk_172 (dk_at dksX7_kind_0 8 rfl rfl)
theorem dX7_kind_9 : decode cX7_kind 9 = .ok (.aload_n 0, 1) := dk_42 (dk_at dksX7_kind_0 9 rfl rfl)
theorem dX7_kind_10 : decode cX7_kind 10 = .ok (.instanceof 12, 3) := dk_193 0 12 (dk_at dksX7_kind_0 10 rfl rfl)
theorem dX7_kind_13 : decode cX7_kind 13 = .ok (.ifCond .eq 7, 3) := dk_153 0 7 (dk_at dksX7_kind_0 13 rfl rfl)
theorem dX7_kind_16 : decode cX7_kind 16 = .ok (.iconst 1, 1) := dk_4 (dk_at dksX7_kind_0 16 rfl rfl)
theorem dX7_kind_17 : decode cX7_kind 17 = .ok (.goto 4, 3) := dk_167 0 4 (dk_at dksX7_kind_0 17 rfl rfl)
theorem dX7_kind_20 : decode cX7_kind 20 = .ok (.iconst 2, 1) := dk_5 (dk_at dksX7_kind_0 20 rfl rfl)
theorem dX7_kind_21 : decode cX7_kind 21 = .ok (.ireturn, 1) := dk_172 (dk_at dksX7_kind_0 21 rfl rfl)
theorem q164 : (Jvm.Cond.initialized "AnnealingLehr$Glass") ∈ lw_all := lw_g (lw_at lw_m1 62 rfl) rfl
theorem q1549 : (Jvm.Cond.static ({ cls := "AnnealingLehr$Glass", name := "of", desc := "(II)LAnnealingLehr$Ware;" } : Jvm.MethodName)) ∈ lw_all := lw_g (lw_at lw_m7 7 rfl) rfl
theorem q1550 : (Jvm.Cond.code ({ cls := "AnnealingLehr$Glass", name := "of", desc := "(II)LAnnealingLehr$Ware;" } : Jvm.MethodName) prog_10_method_2_code (2 : Nat) (Option.some (Jvm.ClassFile.FieldType.object "AnnealingLehr$Ware"))) ∈ lw_all := lw_g (lw_at lw_m7 8 rfl) rfl
theorem q1551 : (Jvm.Cond.classLink "AnnealingLehr$Glass" (7 : Nat) "AnnealingLehr$Bottle") ∈ lw_all := lw_g (lw_at lw_m7 9 rfl) rfl
theorem q1553 : (Jvm.Cond.methodLink "AnnealingLehr$Glass" (9 : Nat) ({ cls := "AnnealingLehr$Bottle", name := "<init>", desc := "(I)V" } : Jvm.MethodName)) ∈ lw_all := lw_g (lw_at lw_m7 11 rfl) rfl
theorem q1561 : (Jvm.Cond.classLink "AnnealingLehr$Glass" (12 : Nat) "AnnealingLehr$Pane") ∈ lw_all := lw_g (lw_at lw_m7 19 rfl) rfl
theorem q1563 : (Jvm.Cond.methodLink "AnnealingLehr$Glass" (14 : Nat) ({ cls := "AnnealingLehr$Pane", name := "<init>", desc := "(I)V" } : Jvm.MethodName)) ∈ lw_all := lw_g (lw_at lw_m7 21 rfl) rfl
theorem q1571 : (Jvm.Cond.classLink "AnnealingLehr$Glass" (15 : Nat) "AnnealingLehr$Bowl") ∈ lw_all := lw_g (lw_at lw_m7 29 rfl) rfl
theorem q1573 : (Jvm.Cond.methodLink "AnnealingLehr$Glass" (17 : Nat) ({ cls := "AnnealingLehr$Bowl", name := "<init>", desc := "(I)V" } : Jvm.MethodName)) ∈ lw_all := lw_g (lw_at lw_m7 31 rfl) rfl
theorem q2743 : (Jvm.Cond.static ({ cls := "AnnealingLehr$Glass", name := "highest", desc := "(LAnnealingLehr$Ware;)I" } : Jvm.MethodName)) ∈ lw_all := lw_g (lw_at lw_m12 1 rfl) rfl
theorem q2744 : (Jvm.Cond.code ({ cls := "AnnealingLehr$Glass", name := "highest", desc := "(LAnnealingLehr$Ware;)I" } : Jvm.MethodName) prog_10_method_5_code (1 : Nat) (Option.some Jvm.ClassFile.FieldType.int)) ∈ lw_all := lw_g (lw_at lw_m12 2 rfl) rfl
theorem q2746 : (Jvm.Cond.static ({ cls := "AnnealingLehr$Glass", name := "lowest", desc := "(LAnnealingLehr$Ware;)I" } : Jvm.MethodName)) ∈ lw_all := lw_g (lw_at lw_m12 4 rfl) rfl
theorem q2747 : (Jvm.Cond.code ({ cls := "AnnealingLehr$Glass", name := "lowest", desc := "(LAnnealingLehr$Ware;)I" } : Jvm.MethodName) prog_10_method_4_code (1 : Nat) (Option.some Jvm.ClassFile.FieldType.int)) ∈ lw_all := lw_g (lw_at lw_m12 5 rfl) rfl
theorem q2749 : (Jvm.Cond.static ({ cls := "AnnealingLehr$Glass", name := "softness", desc := "(LAnnealingLehr$Ware;)F" } : Jvm.MethodName)) ∈ lw_all := lw_g (lw_at lw_m12 7 rfl) rfl
theorem q2750 : (Jvm.Cond.code ({ cls := "AnnealingLehr$Glass", name := "softness", desc := "(LAnnealingLehr$Ware;)F" } : Jvm.MethodName) prog_10_method_6_code (1 : Nat) (Option.some Jvm.ClassFile.FieldType.float)) ∈ lw_all := lw_g (lw_at lw_m12 8 rfl) rfl
theorem q2751 : (Jvm.Cond.constantFloat "AnnealingLehr$Glass" (18 : Nat) (1109393408 : UInt32)) ∈ lw_all := lw_g (lw_at lw_m12 9 rfl) rfl
theorem q2752 : (Jvm.Cond.constantFloat "AnnealingLehr$Glass" (19 : Nat) (1103626240 : UInt32)) ∈ lw_all := lw_g (lw_at lw_m12 10 rfl) rfl
theorem q2753 : (Jvm.Cond.constantFloat "AnnealingLehr$Glass" (20 : Nat) (1114636288 : UInt32)) ∈ lw_all := lw_g (lw_at lw_m12 11 rfl) rfl
theorem q2768 : (Jvm.Cond.static ({ cls := "AnnealingLehr$Glass", name := "limit", desc := "(LAnnealingLehr$Ware;)F" } : Jvm.MethodName)) ∈ lw_all := lw_g (lw_at lw_m12 26 rfl) rfl
theorem q2769 : (Jvm.Cond.code ({ cls := "AnnealingLehr$Glass", name := "limit", desc := "(LAnnealingLehr$Ware;)F" } : Jvm.MethodName) prog_10_method_7_code (1 : Nat) (Option.some Jvm.ClassFile.FieldType.float)) ∈ lw_all := lw_g (lw_at lw_m12 27 rfl) rfl
theorem q2770 : (Jvm.Cond.constantFloat "AnnealingLehr$Glass" (21 : Nat) (1106247680 : UInt32)) ∈ lw_all := lw_g (lw_at lw_m12 28 rfl) rfl
theorem q2771 : (Jvm.Cond.constantFloat "AnnealingLehr$Glass" (22 : Nat) (1101004800 : UInt32)) ∈ lw_all := lw_g (lw_at lw_m12 29 rfl) rfl
theorem q2772 : (Jvm.Cond.constantFloat "AnnealingLehr$Glass" (23 : Nat) (1110704128 : UInt32)) ∈ lw_all := lw_g (lw_at lw_m12 30 rfl) rfl
theorem q2821 : (Jvm.Cond.static ({ cls := "AnnealingLehr$Glass", name := "kind", desc := "(LAnnealingLehr$Ware;)I" } : Jvm.MethodName)) ∈ lw_all := lw_g (lw_at lw_m12 79 rfl) rfl
theorem q2822 : (Jvm.Cond.code ({ cls := "AnnealingLehr$Glass", name := "kind", desc := "(LAnnealingLehr$Ware;)I" } : Jvm.MethodName) prog_10_method_3_code (1 : Nat) (Option.some Jvm.ClassFile.FieldType.int)) ∈ lw_all := lw_g (lw_at lw_m12 80 rfl) rfl

set_option maxRecDepth 100000
abbrev cX8_init : ByteArray := prog_2_method_1_code
def yX8_init : MethodName := ⟨RX8, "<init>", "(I)V"⟩
def dkwX8_init_0 : List UInt8 := [42, 183, 0, 1, 42, 27, 181, 0, 7, 177]
abbrev dktX8_init_0 : List UInt8 := dkwX8_init_0 ++ []
theorem dksX8_init_0 : cX8_init.data.toList.drop 0 = dktX8_init_0 := by decide +kernel
theorem dX8_init_0 : decode cX8_init 0 = .ok (.aload_n 0, 1) := dk_42 (dk_at dksX8_init_0 0 rfl rfl)
theorem dX8_init_1 : decode cX8_init 1 = .ok (.invokespecial 1, 3) := dk_183 0 1 (dk_at dksX8_init_0 1 rfl rfl)
theorem dX8_init_4 : decode cX8_init 4 = .ok (.aload_n 0, 1) := dk_42 (dk_at dksX8_init_0 4 rfl rfl)
theorem dX8_init_5 : decode cX8_init 5 = .ok (.iload_n 1, 1) := dk_27 (dk_at dksX8_init_0 5 rfl rfl)
theorem dX8_init_6 : decode cX8_init 6 = .ok (.putfield 7, 3) := dk_181 0 7 (dk_at dksX8_init_0 6 rfl rfl)
theorem dX8_init_9 : decode cX8_init 9 = .ok (.return_, 1) := dk_177 (dk_at dksX8_init_0 9 rfl rfl)
abbrev cX8_wall : ByteArray := prog_2_method_2_code
def yX8_wall : MethodName := ⟨RX8, "wall", "()I"⟩
theorem dX8_wall_0 : decode cX8_wall 0 = .ok (.aload_n 0, 1) := by decide +kernel
theorem dX8_wall_1 : decode cX8_wall 1 = .ok (.getfield 7, 3) := by decide +kernel
theorem dX8_wall_4 : decode cX8_wall 4 = .ok (.ireturn, 1) := by decide +kernel
theorem q165 : (Jvm.Cond.initialized "AnnealingLehr$Bottle") ∈ lw_all := lw_g (lw_at lw_m1 63 rfl) rfl
theorem q964 : (Jvm.Cond.selects "AnnealingLehr$Bottle" ({ cls := "java/lang/Object", name := "toString", desc := "()Ljava/lang/String;" } : Jvm.MethodName) ({ cls := "java/lang/Object", name := "toString", desc := "()Ljava/lang/String;" } : Jvm.MethodName)) ∈ lw_all := lw_g (lw_at lw_m4 142 rfl) rfl
theorem q988 : (Jvm.Cond.selects "AnnealingLehr$Bottle" ({ cls := "java/lang/Object", name := "getClass", desc := "()Ljava/lang/Class;" } : Jvm.MethodName) ({ cls := "java/lang/Object", name := "getClass", desc := "()Ljava/lang/Class;" } : Jvm.MethodName)) ∈ lw_all := lw_g (lw_at lw_m4 166 rfl) rfl
theorem q1552 : (Jvm.Cond.instantiable "AnnealingLehr$Bottle" (1 : Nat)) ∈ lw_all := lw_g (lw_at lw_m7 10 rfl) rfl
theorem q1554 : (Jvm.Cond.instanceMethod ({ cls := "AnnealingLehr$Bottle", name := "<init>", desc := "(I)V" } : Jvm.MethodName)) ∈ lw_all := lw_g (lw_at lw_m7 12 rfl) rfl
theorem q1555 : (Jvm.Cond.code ({ cls := "AnnealingLehr$Bottle", name := "<init>", desc := "(I)V" } : Jvm.MethodName) prog_2_method_1_code (2 : Nat) (Option.none : Option Jvm.ClassFile.FieldType)) ∈ lw_all := lw_g (lw_at lw_m7 13 rfl) rfl
theorem q1556 : (Jvm.Cond.methodLink "AnnealingLehr$Bottle" (1 : Nat) ({ cls := "java/lang/Object", name := "<init>", desc := "()V" } : Jvm.MethodName)) ∈ lw_all := lw_g (lw_at lw_m7 14 rfl) rfl
theorem q1557 : (Jvm.Cond.fieldLink "AnnealingLehr$Bottle" (7 : Nat) "AnnealingLehr$Bottle" "wall" "I") ∈ lw_all := lw_g (lw_at lw_m7 15 rfl) rfl
theorem q1558 : (Jvm.Cond.laysFinal "AnnealingLehr$Bottle" "AnnealingLehr$Bottle" "wall" "I") ∈ lw_all := lw_g (lw_at lw_m7 16 rfl) rfl
theorem q1559 : (Jvm.Cond.soleField "AnnealingLehr$Bottle" "wall") ∈ lw_all := lw_g (lw_at lw_m7 17 rfl) rfl
theorem q1560 : (Jvm.Cond.superclass "AnnealingLehr$Bottle" "java/lang/Object") ∈ lw_all := lw_g (lw_at lw_m7 18 rfl) rfl
theorem q1711 : (Jvm.Cond.selects "AnnealingLehr$Bottle" ({ cls := "java/lang/Object", name := "hashCode", desc := "()I" } : Jvm.MethodName) ({ cls := "java/lang/Object", name := "hashCode", desc := "()I" } : Jvm.MethodName)) ∈ lw_all := lw_g (lw_at lw_m7 169 rfl) rfl
theorem q2165 : (Jvm.Cond.selects "AnnealingLehr$Bottle" ({ cls := "java/lang/Object", name := "equals", desc := "(Ljava/lang/Object;)Z" } : Jvm.MethodName) ({ cls := "java/lang/Object", name := "equals", desc := "(Ljava/lang/Object;)Z" } : Jvm.MethodName)) ∈ lw_all := lw_g (lw_at lw_m9 143 rfl) rfl
theorem q2723 : (Jvm.Cond.castable "AnnealingLehr$Bottle" "AnnealingLehr$Ware") ∈ lw_tbl := lw_at lw_m11 221 rfl
theorem q2724 : (Jvm.Cond.selects "AnnealingLehr$Bottle" ({ cls := "AnnealingLehr$Ware", name := "wall", desc := "()I" } : Jvm.MethodName) ({ cls := "AnnealingLehr$Bottle", name := "wall", desc := "()I" } : Jvm.MethodName)) ∈ lw_all := lw_g (lw_at lw_m11 222 rfl) rfl
theorem q2725 : (Jvm.Cond.unhidden "AnnealingLehr$Bottle" "wall" "()I") ∈ lw_tbl := lw_at lw_m11 223 rfl
theorem q2726 : (Jvm.Cond.instanceMethod ({ cls := "AnnealingLehr$Bottle", name := "wall", desc := "()I" } : Jvm.MethodName)) ∈ lw_all := lw_g (lw_at lw_m11 224 rfl) rfl
theorem q2727 : (Jvm.Cond.publicMethod ({ cls := "AnnealingLehr$Bottle", name := "wall", desc := "()I" } : Jvm.MethodName)) ∈ lw_tbl := lw_at lw_m11 225 rfl
theorem q2728 : (Jvm.Cond.code ({ cls := "AnnealingLehr$Bottle", name := "wall", desc := "()I" } : Jvm.MethodName) prog_2_method_2_code (1 : Nat) (Option.some Jvm.ClassFile.FieldType.int)) ∈ lw_all := lw_g (lw_at lw_m11 226 rfl) rfl
theorem q4460 : (Jvm.Cond.castable "AnnealingLehr$Bottle" "java/lang/Object") ∈ lw_tbl := lw_at lw_m19 38 rfl

set_option maxRecDepth 100000
abbrev cX9_init : ByteArray := prog_12_method_1_code
def yX9_init : MethodName := ⟨RX9, "<init>", "(I)V"⟩
def dkwX9_init_0 : List UInt8 := [42, 183, 0, 1, 42, 27, 181, 0, 7, 177]
abbrev dktX9_init_0 : List UInt8 := dkwX9_init_0 ++ []
theorem dksX9_init_0 : cX9_init.data.toList.drop 0 = dktX9_init_0 := by decide +kernel
theorem dX9_init_0 : decode cX9_init 0 = .ok (.aload_n 0, 1) := dk_42 (dk_at dksX9_init_0 0 rfl rfl)
theorem dX9_init_1 : decode cX9_init 1 = .ok (.invokespecial 1, 3) := dk_183 0 1 (dk_at dksX9_init_0 1 rfl rfl)
theorem dX9_init_4 : decode cX9_init 4 = .ok (.aload_n 0, 1) := dk_42 (dk_at dksX9_init_0 4 rfl rfl)
theorem dX9_init_5 : decode cX9_init 5 = .ok (.iload_n 1, 1) := dk_27 (dk_at dksX9_init_0 5 rfl rfl)
theorem dX9_init_6 : decode cX9_init 6 = .ok (.putfield 7, 3) := dk_181 0 7 (dk_at dksX9_init_0 6 rfl rfl)
theorem dX9_init_9 : decode cX9_init 9 = .ok (.return_, 1) := dk_177 (dk_at dksX9_init_0 9 rfl rfl)
abbrev cX9_wall : ByteArray := prog_12_method_2_code
def yX9_wall : MethodName := ⟨RX9, "wall", "()I"⟩
theorem dX9_wall_0 : decode cX9_wall 0 = .ok (.aload_n 0, 1) := by decide +kernel
theorem dX9_wall_1 : decode cX9_wall 1 = .ok (.getfield 7, 3) := by decide +kernel
theorem dX9_wall_4 : decode cX9_wall 4 = .ok (.ireturn, 1) := by decide +kernel
theorem q166 : (Jvm.Cond.initialized "AnnealingLehr$Pane") ∈ lw_all := lw_g (lw_at lw_m1 64 rfl) rfl
theorem q974 : (Jvm.Cond.selects "AnnealingLehr$Pane" ({ cls := "java/lang/Object", name := "toString", desc := "()Ljava/lang/String;" } : Jvm.MethodName) ({ cls := "java/lang/Object", name := "toString", desc := "()Ljava/lang/String;" } : Jvm.MethodName)) ∈ lw_all := lw_g (lw_at lw_m4 152 rfl) rfl
theorem q996 : (Jvm.Cond.selects "AnnealingLehr$Pane" ({ cls := "java/lang/Object", name := "getClass", desc := "()Ljava/lang/Class;" } : Jvm.MethodName) ({ cls := "java/lang/Object", name := "getClass", desc := "()Ljava/lang/Class;" } : Jvm.MethodName)) ∈ lw_all := lw_g (lw_at lw_m4 174 rfl) rfl
theorem q1562 : (Jvm.Cond.instantiable "AnnealingLehr$Pane" (1 : Nat)) ∈ lw_all := lw_g (lw_at lw_m7 20 rfl) rfl
theorem q1564 : (Jvm.Cond.instanceMethod ({ cls := "AnnealingLehr$Pane", name := "<init>", desc := "(I)V" } : Jvm.MethodName)) ∈ lw_all := lw_g (lw_at lw_m7 22 rfl) rfl
theorem q1565 : (Jvm.Cond.code ({ cls := "AnnealingLehr$Pane", name := "<init>", desc := "(I)V" } : Jvm.MethodName) prog_12_method_1_code (2 : Nat) (Option.none : Option Jvm.ClassFile.FieldType)) ∈ lw_all := lw_g (lw_at lw_m7 23 rfl) rfl
theorem q1566 : (Jvm.Cond.methodLink "AnnealingLehr$Pane" (1 : Nat) ({ cls := "java/lang/Object", name := "<init>", desc := "()V" } : Jvm.MethodName)) ∈ lw_all := lw_g (lw_at lw_m7 24 rfl) rfl
theorem q1567 : (Jvm.Cond.fieldLink "AnnealingLehr$Pane" (7 : Nat) "AnnealingLehr$Pane" "wall" "I") ∈ lw_all := lw_g (lw_at lw_m7 25 rfl) rfl
theorem q1568 : (Jvm.Cond.laysFinal "AnnealingLehr$Pane" "AnnealingLehr$Pane" "wall" "I") ∈ lw_all := lw_g (lw_at lw_m7 26 rfl) rfl
theorem q1569 : (Jvm.Cond.soleField "AnnealingLehr$Pane" "wall") ∈ lw_all := lw_g (lw_at lw_m7 27 rfl) rfl
theorem q1570 : (Jvm.Cond.superclass "AnnealingLehr$Pane" "java/lang/Object") ∈ lw_all := lw_g (lw_at lw_m7 28 rfl) rfl
theorem q1724 : (Jvm.Cond.selects "AnnealingLehr$Pane" ({ cls := "java/lang/Object", name := "hashCode", desc := "()I" } : Jvm.MethodName) ({ cls := "java/lang/Object", name := "hashCode", desc := "()I" } : Jvm.MethodName)) ∈ lw_all := lw_g (lw_at lw_m7 182 rfl) rfl
theorem q2175 : (Jvm.Cond.selects "AnnealingLehr$Pane" ({ cls := "java/lang/Object", name := "equals", desc := "(Ljava/lang/Object;)Z" } : Jvm.MethodName) ({ cls := "java/lang/Object", name := "equals", desc := "(Ljava/lang/Object;)Z" } : Jvm.MethodName)) ∈ lw_all := lw_g (lw_at lw_m9 153 rfl) rfl
theorem q2735 : (Jvm.Cond.castable "AnnealingLehr$Pane" "AnnealingLehr$Ware") ∈ lw_tbl := lw_at lw_m11 233 rfl
theorem q2736 : (Jvm.Cond.selects "AnnealingLehr$Pane" ({ cls := "AnnealingLehr$Ware", name := "wall", desc := "()I" } : Jvm.MethodName) ({ cls := "AnnealingLehr$Pane", name := "wall", desc := "()I" } : Jvm.MethodName)) ∈ lw_all := lw_g (lw_at lw_m11 234 rfl) rfl
theorem q2737 : (Jvm.Cond.unhidden "AnnealingLehr$Pane" "wall" "()I") ∈ lw_tbl := lw_at lw_m11 235 rfl
theorem q2738 : (Jvm.Cond.instanceMethod ({ cls := "AnnealingLehr$Pane", name := "wall", desc := "()I" } : Jvm.MethodName)) ∈ lw_all := lw_g (lw_at lw_m11 236 rfl) rfl
theorem q2739 : (Jvm.Cond.publicMethod ({ cls := "AnnealingLehr$Pane", name := "wall", desc := "()I" } : Jvm.MethodName)) ∈ lw_tbl := lw_at lw_m11 237 rfl
theorem q2740 : (Jvm.Cond.code ({ cls := "AnnealingLehr$Pane", name := "wall", desc := "()I" } : Jvm.MethodName) prog_12_method_2_code (1 : Nat) (Option.some Jvm.ClassFile.FieldType.int)) ∈ lw_all := lw_g (lw_at lw_m11 238 rfl) rfl
theorem q4461 : (Jvm.Cond.castable "AnnealingLehr$Pane" "java/lang/Object") ∈ lw_tbl := lw_at lw_m19 39 rfl

set_option maxRecDepth 100000
abbrev cX10_init : ByteArray := prog_3_method_1_code
def yX10_init : MethodName := ⟨RX10, "<init>", "(I)V"⟩
def dkwX10_init_0 : List UInt8 := [42, 183, 0, 1, 42, 27, 181, 0, 7, 177]
abbrev dktX10_init_0 : List UInt8 := dkwX10_init_0 ++ []
theorem dksX10_init_0 : cX10_init.data.toList.drop 0 = dktX10_init_0 := by decide +kernel
theorem dX10_init_0 : decode cX10_init 0 = .ok (.aload_n 0, 1) := dk_42 (dk_at dksX10_init_0 0 rfl rfl)
theorem dX10_init_1 : decode cX10_init 1 = .ok (.invokespecial 1, 3) := dk_183 0 1 (dk_at dksX10_init_0 1 rfl rfl)
theorem dX10_init_4 : decode cX10_init 4 = .ok (.aload_n 0, 1) := dk_42 (dk_at dksX10_init_0 4 rfl rfl)
theorem dX10_init_5 : decode cX10_init 5 = .ok (.iload_n 1, 1) := dk_27 (dk_at dksX10_init_0 5 rfl rfl)
theorem dX10_init_6 : decode cX10_init 6 = .ok (.putfield 7, 3) := dk_181 0 7 (dk_at dksX10_init_0 6 rfl rfl)
theorem dX10_init_9 : decode cX10_init 9 = .ok (.return_, 1) := dk_177 (dk_at dksX10_init_0 9 rfl rfl)
abbrev cX10_wall : ByteArray := prog_3_method_2_code
def yX10_wall : MethodName := ⟨RX10, "wall", "()I"⟩
theorem dX10_wall_0 : decode cX10_wall 0 = .ok (.aload_n 0, 1) := by decide +kernel
theorem dX10_wall_1 : decode cX10_wall 1 = .ok (.getfield 7, 3) := by decide +kernel
theorem dX10_wall_4 : decode cX10_wall 4 = .ok (.ireturn, 1) := by decide +kernel
theorem q167 : (Jvm.Cond.initialized "AnnealingLehr$Bowl") ∈ lw_all := lw_g (lw_at lw_m1 65 rfl) rfl
theorem q965 : (Jvm.Cond.selects "AnnealingLehr$Bowl" ({ cls := "java/lang/Object", name := "toString", desc := "()Ljava/lang/String;" } : Jvm.MethodName) ({ cls := "java/lang/Object", name := "toString", desc := "()Ljava/lang/String;" } : Jvm.MethodName)) ∈ lw_all := lw_g (lw_at lw_m4 143 rfl) rfl
theorem q989 : (Jvm.Cond.selects "AnnealingLehr$Bowl" ({ cls := "java/lang/Object", name := "getClass", desc := "()Ljava/lang/Class;" } : Jvm.MethodName) ({ cls := "java/lang/Object", name := "getClass", desc := "()Ljava/lang/Class;" } : Jvm.MethodName)) ∈ lw_all := lw_g (lw_at lw_m4 167 rfl) rfl
theorem q1572 : (Jvm.Cond.instantiable "AnnealingLehr$Bowl" (1 : Nat)) ∈ lw_all := lw_g (lw_at lw_m7 30 rfl) rfl
theorem q1574 : (Jvm.Cond.instanceMethod ({ cls := "AnnealingLehr$Bowl", name := "<init>", desc := "(I)V" } : Jvm.MethodName)) ∈ lw_all := lw_g (lw_at lw_m7 32 rfl) rfl
theorem q1575 : (Jvm.Cond.code ({ cls := "AnnealingLehr$Bowl", name := "<init>", desc := "(I)V" } : Jvm.MethodName) prog_3_method_1_code (2 : Nat) (Option.none : Option Jvm.ClassFile.FieldType)) ∈ lw_all := lw_g (lw_at lw_m7 33 rfl) rfl
theorem q1576 : (Jvm.Cond.methodLink "AnnealingLehr$Bowl" (1 : Nat) ({ cls := "java/lang/Object", name := "<init>", desc := "()V" } : Jvm.MethodName)) ∈ lw_all := lw_g (lw_at lw_m7 34 rfl) rfl
theorem q1577 : (Jvm.Cond.fieldLink "AnnealingLehr$Bowl" (7 : Nat) "AnnealingLehr$Bowl" "wall" "I") ∈ lw_all := lw_g (lw_at lw_m7 35 rfl) rfl
theorem q1578 : (Jvm.Cond.laysFinal "AnnealingLehr$Bowl" "AnnealingLehr$Bowl" "wall" "I") ∈ lw_all := lw_g (lw_at lw_m7 36 rfl) rfl
theorem q1579 : (Jvm.Cond.soleField "AnnealingLehr$Bowl" "wall") ∈ lw_all := lw_g (lw_at lw_m7 37 rfl) rfl
theorem q1580 : (Jvm.Cond.superclass "AnnealingLehr$Bowl" "java/lang/Object") ∈ lw_all := lw_g (lw_at lw_m7 38 rfl) rfl
theorem q1712 : (Jvm.Cond.selects "AnnealingLehr$Bowl" ({ cls := "java/lang/Object", name := "hashCode", desc := "()I" } : Jvm.MethodName) ({ cls := "java/lang/Object", name := "hashCode", desc := "()I" } : Jvm.MethodName)) ∈ lw_all := lw_g (lw_at lw_m7 170 rfl) rfl
theorem q2166 : (Jvm.Cond.selects "AnnealingLehr$Bowl" ({ cls := "java/lang/Object", name := "equals", desc := "(Ljava/lang/Object;)Z" } : Jvm.MethodName) ({ cls := "java/lang/Object", name := "equals", desc := "(Ljava/lang/Object;)Z" } : Jvm.MethodName)) ∈ lw_all := lw_g (lw_at lw_m9 144 rfl) rfl
theorem q2729 : (Jvm.Cond.castable "AnnealingLehr$Bowl" "AnnealingLehr$Ware") ∈ lw_tbl := lw_at lw_m11 227 rfl
theorem q2730 : (Jvm.Cond.selects "AnnealingLehr$Bowl" ({ cls := "AnnealingLehr$Ware", name := "wall", desc := "()I" } : Jvm.MethodName) ({ cls := "AnnealingLehr$Bowl", name := "wall", desc := "()I" } : Jvm.MethodName)) ∈ lw_all := lw_g (lw_at lw_m11 228 rfl) rfl
theorem q2731 : (Jvm.Cond.unhidden "AnnealingLehr$Bowl" "wall" "()I") ∈ lw_tbl := lw_at lw_m11 229 rfl
theorem q2732 : (Jvm.Cond.instanceMethod ({ cls := "AnnealingLehr$Bowl", name := "wall", desc := "()I" } : Jvm.MethodName)) ∈ lw_all := lw_g (lw_at lw_m11 230 rfl) rfl
theorem q2733 : (Jvm.Cond.publicMethod ({ cls := "AnnealingLehr$Bowl", name := "wall", desc := "()I" } : Jvm.MethodName)) ∈ lw_tbl := lw_at lw_m11 231 rfl
theorem q2734 : (Jvm.Cond.code ({ cls := "AnnealingLehr$Bowl", name := "wall", desc := "()I" } : Jvm.MethodName) prog_3_method_2_code (1 : Nat) (Option.some Jvm.ClassFile.FieldType.int)) ∈ lw_all := lw_g (lw_at lw_m11 232 rfl) rfl
theorem q4462 : (Jvm.Cond.castable "AnnealingLehr$Bowl" "java/lang/Object") ∈ lw_tbl := lw_at lw_m19 40 rfl

set_option maxRecDepth 100000
abbrev cX13_of : ByteArray := prog_4_method_7_code
def yX13_of : MethodName := ⟨RX13, "of", "(I)LAnnealingLehr$Burner;"⟩
def dkwX13_of_2 : List UInt8 := [178, 0, 3, 176, 178, 0, 7, 176, 178, 0, 10, 176, 178, 0, 13, 176]
abbrev dktX13_of_2 : List UInt8 := dkwX13_of_2 ++ []
def dkwX13_of_1 : List UInt8 := [170, 0, 0, 0, 0, 0, 39, 0, 0, 0, 0, 0, 0, 0, 2, 0, 0, 0, 27, 0, 0, 0, 31, 0, 0, 0, 35]
abbrev dktX13_of_1 : List UInt8 := dkwX13_of_1 ++ dktX13_of_2
def dkwX13_of_0 : List UInt8 := [26]
abbrev dktX13_of_0 : List UInt8 := dkwX13_of_0 ++ dktX13_of_1
theorem dksX13_of_0 : cX13_of.data.toList.drop 0 = dktX13_of_0 := by decide +kernel
theorem dksX13_of_1 : cX13_of.data.toList.drop 1 = dktX13_of_1 := dk_seg dksX13_of_0 1 rfl rfl
theorem dksX13_of_2 : cX13_of.data.toList.drop 28 = dktX13_of_2 := dk_seg dksX13_of_1 27 rfl rfl
theorem dX13_of_0 : decode cX13_of 0 = .ok (.iload_n 0, 1) := dk_26 (dk_at dksX13_of_0 0 rfl rfl)
theorem dX13_of_1 : decode cX13_of 1 = .ok (.tableswitch 39 0 2 #[27, 31, 35], 27) := by decide +kernel
theorem dX13_of_28 : decode cX13_of 28 = .ok (.getstatic 3, 3) := dk_178 0 3 (dk_at dksX13_of_2 0 rfl rfl)
theorem dX13_of_31 : decode cX13_of 31 = .ok (.areturn, 1) := dk_176 (dk_at dksX13_of_2 3 rfl rfl)
theorem dX13_of_32 : decode cX13_of 32 = .ok (.getstatic 7, 3) := dk_178 0 7 (dk_at dksX13_of_2 4 rfl rfl)
theorem dX13_of_35 : decode cX13_of 35 = .ok (.areturn, 1) := dk_176 (dk_at dksX13_of_2 7 rfl rfl)
theorem dX13_of_36 : decode cX13_of 36 = .ok (.getstatic 10, 3) := dk_178 0 10 (dk_at dksX13_of_2 8 rfl rfl)
theorem dX13_of_39 : decode cX13_of 39 = .ok (.areturn, 1) := dk_176 (dk_at dksX13_of_2 11 rfl rfl)
theorem dX13_of_40 : decode cX13_of 40 = .ok (.getstatic 13, 3) := dk_178 0 13 (dk_at dksX13_of_2 12 rfl rfl)
theorem dX13_of_43 : decode cX13_of 43 = .ok (.areturn, 1) := dk_176 (dk_at dksX13_of_2 15 rfl rfl)
abbrev cX13_with : ByteArray := prog_4_method_8_code
def yX13_with : MethodName := ⟨RX13, "with", "(I)LAnnealingLehr$Burner;"⟩
def dkwX13_with_0 : List UInt8 := [42, 77, 44, 182, 0, 35, 27, 164, 0, 11, 44, 182, 0, 39, 77, 167, 255, 243, 44, 176]
abbrev dktX13_with_0 : List UInt8 := dkwX13_with_0 ++ []
theorem dksX13_with_0 : cX13_with.data.toList.drop 0 = dktX13_with_0 := by decide +kernel
theorem dX13_with_0 : decode cX13_with 0 = .ok (.aload_n 0, 1) := dk_42 (dk_at dksX13_with_0 0 rfl rfl)
theorem dX13_with_1 : decode cX13_with 1 = .ok (.astore_n 2, 1) := dk_77 (dk_at dksX13_with_0 1 rfl rfl)
theorem dX13_with_2 : decode cX13_with 2 = .ok (.aload_n 2, 1) := dk_44 (dk_at dksX13_with_0 2 rfl rfl)
theorem dX13_with_3 : decode cX13_with 3 = .ok (.invokevirtual 35, 3) := dk_182 0 35 (dk_at dksX13_with_0 3 rfl rfl)
theorem dX13_with_6 : decode cX13_with 6 = .ok (.iload_n 1, 1) := dk_27 (dk_at dksX13_with_0 6 rfl rfl)
theorem dX13_with_7 : decode cX13_with 7 = .ok (.if_icmp .le 11, 3) := dk_164 0 11 (dk_at dksX13_with_0 7 rfl rfl)
theorem dX13_with_10 : decode cX13_with 10 = .ok (.aload_n 2, 1) := dk_44 (dk_at dksX13_with_0 10 rfl rfl)
theorem dX13_with_11 : decode cX13_with 11 = .ok (.invokevirtual 39, 3) := dk_182 0 39 (dk_at dksX13_with_0 11 rfl rfl)
theorem dX13_with_14 : decode cX13_with 14 = .ok (.astore_n 2, 1) := dk_77 (dk_at dksX13_with_0 14 rfl rfl)
theorem dX13_with_15 : decode cX13_with 15 = .ok (.goto (-13), 3) := dk_167 255 243 (dk_at dksX13_with_0 15 rfl rfl)
theorem dX13_with_18 : decode cX13_with 18 = .ok (.aload_n 2, 1) := dk_44 (dk_at dksX13_with_0 18 rfl rfl)
theorem dX13_with_19 : decode cX13_with 19 = .ok (.areturn, 1) := dk_176 (dk_at dksX13_with_0 19 rfl rfl)
theorem q172 : (Jvm.Cond.initialized "AnnealingLehr$Burner") ∈ lw_all := lw_g (lw_at lw_m1 70 rfl) rfl
theorem q2625 : (Jvm.Cond.static ({ cls := "AnnealingLehr$Burner", name := "of", desc := "(I)LAnnealingLehr$Burner;" } : Jvm.MethodName)) ∈ lw_all := lw_g (lw_at lw_m11 123 rfl) rfl
theorem q2626 : (Jvm.Cond.code ({ cls := "AnnealingLehr$Burner", name := "of", desc := "(I)LAnnealingLehr$Burner;" } : Jvm.MethodName) prog_4_method_7_code (1 : Nat) (Option.some (Jvm.ClassFile.FieldType.object "AnnealingLehr$Burner"))) ∈ lw_all := lw_g (lw_at lw_m11 124 rfl) rfl
theorem q2627 : (Jvm.Cond.fieldLink "AnnealingLehr$Burner" (3 : Nat) "AnnealingLehr$Burner" "OFF" "LAnnealingLehr$Burner;") ∈ lw_all := lw_g (lw_at lw_m11 125 rfl) rfl
theorem q2628 : (Jvm.Cond.laysStatic "AnnealingLehr$Burner" "OFF" "LAnnealingLehr$Burner;") ∈ lw_tbl := lw_at lw_m11 126 rfl
theorem q2629 : (Jvm.Cond.fieldLink "AnnealingLehr$Burner" (7 : Nat) "AnnealingLehr$Burner" "LOW" "LAnnealingLehr$Burner;") ∈ lw_all := lw_g (lw_at lw_m11 127 rfl) rfl
theorem q2630 : (Jvm.Cond.laysStatic "AnnealingLehr$Burner" "LOW" "LAnnealingLehr$Burner;") ∈ lw_tbl := lw_at lw_m11 128 rfl
theorem q2631 : (Jvm.Cond.fieldLink "AnnealingLehr$Burner" (10 : Nat) "AnnealingLehr$Burner" "MIDDLE" "LAnnealingLehr$Burner;") ∈ lw_all := lw_g (lw_at lw_m11 129 rfl) rfl
theorem q2632 : (Jvm.Cond.laysStatic "AnnealingLehr$Burner" "MIDDLE" "LAnnealingLehr$Burner;") ∈ lw_tbl := lw_at lw_m11 130 rfl
theorem q2633 : (Jvm.Cond.fieldLink "AnnealingLehr$Burner" (13 : Nat) "AnnealingLehr$Burner" "HIGH" "LAnnealingLehr$Burner;") ∈ lw_all := lw_g (lw_at lw_m11 131 rfl) rfl
theorem q2634 : (Jvm.Cond.laysStatic "AnnealingLehr$Burner" "HIGH" "LAnnealingLehr$Burner;") ∈ lw_tbl := lw_at lw_m11 132 rfl
theorem q2636 : (Jvm.Cond.instanceMethod ({ cls := "AnnealingLehr$Burner", name := "with", desc := "(I)LAnnealingLehr$Burner;" } : Jvm.MethodName)) ∈ lw_all := lw_g (lw_at lw_m11 134 rfl) rfl
theorem q2637 : (Jvm.Cond.sameMethod "AnnealingLehr$Burner" "AnnealingLehr$Burner" "with" "(I)LAnnealingLehr$Burner;") ∈ lw_all := lw_g (lw_at lw_m11 135 rfl) rfl
theorem q2642 : (Jvm.Cond.code ({ cls := "AnnealingLehr$Burner", name := "with", desc := "(I)LAnnealingLehr$Burner;" } : Jvm.MethodName) prog_4_method_8_code (3 : Nat) (Option.some (Jvm.ClassFile.FieldType.object "AnnealingLehr$Burner"))) ∈ lw_all := lw_g (lw_at lw_m11 140 rfl) rfl
theorem q2643 : (Jvm.Cond.methodLink "AnnealingLehr$Burner" (35 : Nat) ({ cls := "AnnealingLehr$Burner", name := "gas", desc := "()I" } : Jvm.MethodName)) ∈ lw_all := lw_g (lw_at lw_m11 141 rfl) rfl
theorem q2644 : (Jvm.Cond.declares ({ cls := "AnnealingLehr$Burner", name := "gas", desc := "()I" } : Jvm.MethodName)) ∈ lw_tbl := lw_at lw_m11 142 rfl
theorem q2645 : (Jvm.Cond.sameMethod "AnnealingLehr$Burner" "AnnealingLehr$Burner" "gas" "()I") ∈ lw_all := lw_g (lw_at lw_m11 143 rfl) rfl
theorem q2658 : (Jvm.Cond.methodLink "AnnealingLehr$Burner" (39 : Nat) ({ cls := "AnnealingLehr$Burner", name := "lower", desc := "()LAnnealingLehr$Burner;" } : Jvm.MethodName)) ∈ lw_all := lw_g (lw_at lw_m11 156 rfl) rfl
theorem q2659 : (Jvm.Cond.declares ({ cls := "AnnealingLehr$Burner", name := "lower", desc := "()LAnnealingLehr$Burner;" } : Jvm.MethodName)) ∈ lw_tbl := lw_at lw_m11 157 rfl
theorem q2660 : (Jvm.Cond.sameMethod "AnnealingLehr$Burner" "AnnealingLehr$Burner" "lower" "()LAnnealingLehr$Burner;") ∈ lw_all := lw_g (lw_at lw_m11 158 rfl) rfl
theorem q2683 : (Jvm.Cond.declares ({ cls := "AnnealingLehr$Burner", name := "target", desc := "()I" } : Jvm.MethodName)) ∈ lw_tbl := lw_at lw_m11 181 rfl
theorem q2684 : (Jvm.Cond.sameMethod "AnnealingLehr$Burner" "AnnealingLehr$Burner" "target" "()I") ∈ lw_all := lw_g (lw_at lw_m11 182 rfl) rfl
theorem q3431 : (Jvm.Cond.sameMethod "AnnealingLehr$Burner" "java/lang/Enum" "ordinal" "()I") ∈ lw_all := lw_g (lw_at lw_m14 209 rfl) rfl
theorem q4478 : (Jvm.Cond.castable "AnnealingLehr$Burner" "java/lang/Object") ∈ lw_tbl := lw_at lw_m19 56 rfl
theorem q4496 : (Jvm.Cond.stringRef "AnnealingLehr$Burner" (45 : Nat) "OFF") ∈ lw_tbl := lw_at lw_m19 74 rfl
theorem q4497 : (Jvm.Cond.stringRef "AnnealingLehr$Burner" (49 : Nat) "LOW") ∈ lw_tbl := lw_at lw_m19 75 rfl
theorem q4498 : (Jvm.Cond.stringRef "AnnealingLehr$Burner" (53 : Nat) "MIDDLE") ∈ lw_tbl := lw_at lw_m19 76 rfl
theorem q4499 : (Jvm.Cond.stringRef "AnnealingLehr$Burner" (57 : Nat) "HIGH") ∈ lw_tbl := lw_at lw_m19 77 rfl

set_option maxRecDepth 100000
abbrev cX14_gas : ByteArray := prog_5_method_3_code
def yX14_gas : MethodName := ⟨RX14, "gas", "()I"⟩
theorem dX14_gas_0 : decode cX14_gas 0 = .ok (.iconst 0, 1) := by decide +kernel
theorem dX14_gas_1 : decode cX14_gas 1 = .ok (.ireturn, 1) := by decide +kernel
abbrev cX14_lower : ByteArray := prog_5_method_4_code
def yX14_lower : MethodName := ⟨RX14, "lower", "()LAnnealingLehr$Burner;"⟩
theorem dX14_lower_0 : decode cX14_lower 0 = .ok (.getstatic 9, 3) := by decide +kernel
theorem dX14_lower_3 : decode cX14_lower 3 = .ok (.areturn, 1) := by decide +kernel
abbrev cX14_target : ByteArray := prog_5_method_2_code
def yX14_target : MethodName := ⟨RX14, "target", "()I"⟩
theorem dX14_target_0 : decode cX14_target 0 = .ok (.bipush 20, 2) := by decide +kernel
theorem dX14_target_2 : decode cX14_target 2 = .ok (.ireturn, 1) := by decide +kernel
theorem q173 : (Jvm.Cond.initialized "AnnealingLehr$Burner$1") ∈ lw_all := lw_g (lw_at lw_m1 71 rfl) rfl
theorem q966 : (Jvm.Cond.selects "AnnealingLehr$Burner$1" ({ cls := "java/lang/Object", name := "toString", desc := "()Ljava/lang/String;" } : Jvm.MethodName) ({ cls := "java/lang/Enum", name := "toString", desc := "()Ljava/lang/String;" } : Jvm.MethodName)) ∈ lw_all := lw_g (lw_at lw_m4 144 rfl) rfl
theorem q990 : (Jvm.Cond.selects "AnnealingLehr$Burner$1" ({ cls := "java/lang/Object", name := "getClass", desc := "()Ljava/lang/Class;" } : Jvm.MethodName) ({ cls := "java/lang/Object", name := "getClass", desc := "()Ljava/lang/Class;" } : Jvm.MethodName)) ∈ lw_all := lw_g (lw_at lw_m4 168 rfl) rfl
theorem q1713 : (Jvm.Cond.selects "AnnealingLehr$Burner$1" ({ cls := "java/lang/Object", name := "hashCode", desc := "()I" } : Jvm.MethodName) ({ cls := "java/lang/Enum", name := "hashCode", desc := "()I" } : Jvm.MethodName)) ∈ lw_all := lw_g (lw_at lw_m7 171 rfl) rfl
theorem q1912 : (Jvm.Cond.castable "AnnealingLehr$Burner$1" "java/lang/Comparable") ∈ lw_tbl := lw_at lw_m8 130 rfl
theorem q1913 : (Jvm.Cond.selects "AnnealingLehr$Burner$1" ({ cls := "java/lang/Comparable", name := "compareTo", desc := "(Ljava/lang/Object;)I" } : Jvm.MethodName) ({ cls := "java/lang/Enum", name := "compareTo", desc := "(Ljava/lang/Object;)I" } : Jvm.MethodName)) ∈ lw_all := lw_g (lw_at lw_m8 131 rfl) rfl
theorem q1914 : (Jvm.Cond.unhidden "AnnealingLehr$Burner$1" "compareTo" "(Ljava/lang/Object;)I") ∈ lw_tbl := lw_at lw_m8 132 rfl
theorem q1922 : (Jvm.Cond.selects "AnnealingLehr$Burner$1" ({ cls := "java/lang/Enum", name := "compareTo", desc := "(Ljava/lang/Enum;)I" } : Jvm.MethodName) ({ cls := "java/lang/Enum", name := "compareTo", desc := "(Ljava/lang/Enum;)I" } : Jvm.MethodName)) ∈ lw_all := lw_g (lw_at lw_m8 140 rfl) rfl
theorem q1931 : (Jvm.Cond.selects "AnnealingLehr$Burner$1" ({ cls := "java/lang/Enum", name := "getDeclaringClass", desc := "()Ljava/lang/Class;" } : Jvm.MethodName) ({ cls := "java/lang/Enum", name := "getDeclaringClass", desc := "()Ljava/lang/Class;" } : Jvm.MethodName)) ∈ lw_all := lw_g (lw_at lw_m8 149 rfl) rfl
theorem q2167 : (Jvm.Cond.selects "AnnealingLehr$Burner$1" ({ cls := "java/lang/Object", name := "equals", desc := "(Ljava/lang/Object;)Z" } : Jvm.MethodName) ({ cls := "java/lang/Enum", name := "equals", desc := "(Ljava/lang/Object;)Z" } : Jvm.MethodName)) ∈ lw_all := lw_g (lw_at lw_m9 145 rfl) rfl
theorem q2638 : (Jvm.Cond.selects "AnnealingLehr$Burner$1" ({ cls := "AnnealingLehr$Burner", name := "with", desc := "(I)LAnnealingLehr$Burner;" } : Jvm.MethodName) ({ cls := "AnnealingLehr$Burner", name := "with", desc := "(I)LAnnealingLehr$Burner;" } : Jvm.MethodName)) ∈ lw_all := lw_g (lw_at lw_m11 136 rfl) rfl
theorem q2646 : (Jvm.Cond.selects "AnnealingLehr$Burner$1" ({ cls := "AnnealingLehr$Burner", name := "gas", desc := "()I" } : Jvm.MethodName) ({ cls := "AnnealingLehr$Burner$1", name := "gas", desc := "()I" } : Jvm.MethodName)) ∈ lw_all := lw_g (lw_at lw_m11 144 rfl) rfl
theorem q2647 : (Jvm.Cond.instanceMethod ({ cls := "AnnealingLehr$Burner$1", name := "gas", desc := "()I" } : Jvm.MethodName)) ∈ lw_all := lw_g (lw_at lw_m11 145 rfl) rfl
theorem q2648 : (Jvm.Cond.code ({ cls := "AnnealingLehr$Burner$1", name := "gas", desc := "()I" } : Jvm.MethodName) prog_5_method_3_code (1 : Nat) (Option.some Jvm.ClassFile.FieldType.int)) ∈ lw_all := lw_g (lw_at lw_m11 146 rfl) rfl
theorem q2661 : (Jvm.Cond.selects "AnnealingLehr$Burner$1" ({ cls := "AnnealingLehr$Burner", name := "lower", desc := "()LAnnealingLehr$Burner;" } : Jvm.MethodName) ({ cls := "AnnealingLehr$Burner$1", name := "lower", desc := "()LAnnealingLehr$Burner;" } : Jvm.MethodName)) ∈ lw_all := lw_g (lw_at lw_m11 159 rfl) rfl
theorem q2662 : (Jvm.Cond.instanceMethod ({ cls := "AnnealingLehr$Burner$1", name := "lower", desc := "()LAnnealingLehr$Burner;" } : Jvm.MethodName)) ∈ lw_all := lw_g (lw_at lw_m11 160 rfl) rfl
theorem q2663 : (Jvm.Cond.code ({ cls := "AnnealingLehr$Burner$1", name := "lower", desc := "()LAnnealingLehr$Burner;" } : Jvm.MethodName) prog_5_method_4_code (1 : Nat) (Option.some (Jvm.ClassFile.FieldType.object "AnnealingLehr$Burner"))) ∈ lw_all := lw_g (lw_at lw_m11 161 rfl) rfl
theorem q2664 : (Jvm.Cond.fieldLink "AnnealingLehr$Burner$1" (9 : Nat) "AnnealingLehr$Burner$1" "OFF" "LAnnealingLehr$Burner;") ∈ lw_all := lw_g (lw_at lw_m11 162 rfl) rfl
theorem q2665 : (Jvm.Cond.sameField "AnnealingLehr$Burner$1" "AnnealingLehr$Burner" "OFF" "LAnnealingLehr$Burner;") ∈ lw_all := lw_g (lw_at lw_m11 163 rfl) rfl
theorem q2685 : (Jvm.Cond.selects "AnnealingLehr$Burner$1" ({ cls := "AnnealingLehr$Burner", name := "target", desc := "()I" } : Jvm.MethodName) ({ cls := "AnnealingLehr$Burner$1", name := "target", desc := "()I" } : Jvm.MethodName)) ∈ lw_all := lw_g (lw_at lw_m11 183 rfl) rfl
theorem q2686 : (Jvm.Cond.instanceMethod ({ cls := "AnnealingLehr$Burner$1", name := "target", desc := "()I" } : Jvm.MethodName)) ∈ lw_all := lw_g (lw_at lw_m11 184 rfl) rfl
theorem q2687 : (Jvm.Cond.code ({ cls := "AnnealingLehr$Burner$1", name := "target", desc := "()I" } : Jvm.MethodName) prog_5_method_2_code (1 : Nat) (Option.some Jvm.ClassFile.FieldType.int)) ∈ lw_all := lw_g (lw_at lw_m11 185 rfl) rfl
theorem q3433 : (Jvm.Cond.selects "AnnealingLehr$Burner$1" ({ cls := "AnnealingLehr$Burner", name := "ordinal", desc := "()I" } : Jvm.MethodName) ({ cls := "java/lang/Enum", name := "ordinal", desc := "()I" } : Jvm.MethodName)) ∈ lw_all := lw_g (lw_at lw_m14 211 rfl) rfl
theorem q4404 : (Jvm.Cond.castable "AnnealingLehr$Burner$1" "java/lang/Enum") ∈ lw_tbl := lw_at lw_m18 222 rfl
theorem q4466 : (Jvm.Cond.castable "AnnealingLehr$Burner$1" "java/lang/Object") ∈ lw_tbl := lw_at lw_m19 44 rfl

set_option maxRecDepth 100000
abbrev cX15_gas : ByteArray := prog_6_method_3_code
def yX15_gas : MethodName := ⟨RX15, "gas", "()I"⟩
theorem dX15_gas_0 : decode cX15_gas 0 = .ok (.iconst 3, 1) := by decide +kernel
theorem dX15_gas_1 : decode cX15_gas 1 = .ok (.ireturn, 1) := by decide +kernel
abbrev cX15_lower : ByteArray := prog_6_method_4_code
def yX15_lower : MethodName := ⟨RX15, "lower", "()LAnnealingLehr$Burner;"⟩
theorem dX15_lower_0 : decode cX15_lower 0 = .ok (.getstatic 7, 3) := by decide +kernel
theorem dX15_lower_3 : decode cX15_lower 3 = .ok (.areturn, 1) := by decide +kernel
abbrev cX15_target : ByteArray := prog_6_method_2_code
def yX15_target : MethodName := ⟨RX15, "target", "()I"⟩
theorem dX15_target_0 : decode cX15_target 0 = .ok (.sipush 250, 3) := by decide +kernel
theorem dX15_target_3 : decode cX15_target 3 = .ok (.ireturn, 1) := by decide +kernel
theorem q174 : (Jvm.Cond.initialized "AnnealingLehr$Burner$2") ∈ lw_all := lw_g (lw_at lw_m1 72 rfl) rfl
theorem q969 : (Jvm.Cond.selects "AnnealingLehr$Burner$2" ({ cls := "java/lang/Object", name := "toString", desc := "()Ljava/lang/String;" } : Jvm.MethodName) ({ cls := "java/lang/Enum", name := "toString", desc := "()Ljava/lang/String;" } : Jvm.MethodName)) ∈ lw_all := lw_g (lw_at lw_m4 147 rfl) rfl
theorem q991 : (Jvm.Cond.selects "AnnealingLehr$Burner$2" ({ cls := "java/lang/Object", name := "getClass", desc := "()Ljava/lang/Class;" } : Jvm.MethodName) ({ cls := "java/lang/Object", name := "getClass", desc := "()Ljava/lang/Class;" } : Jvm.MethodName)) ∈ lw_all := lw_g (lw_at lw_m4 169 rfl) rfl
theorem q1719 : (Jvm.Cond.selects "AnnealingLehr$Burner$2" ({ cls := "java/lang/Object", name := "hashCode", desc := "()I" } : Jvm.MethodName) ({ cls := "java/lang/Enum", name := "hashCode", desc := "()I" } : Jvm.MethodName)) ∈ lw_all := lw_g (lw_at lw_m7 177 rfl) rfl
theorem q1923 : (Jvm.Cond.selects "AnnealingLehr$Burner$2" ({ cls := "java/lang/Enum", name := "compareTo", desc := "(Ljava/lang/Enum;)I" } : Jvm.MethodName) ({ cls := "java/lang/Enum", name := "compareTo", desc := "(Ljava/lang/Enum;)I" } : Jvm.MethodName)) ∈ lw_all := lw_g (lw_at lw_m8 141 rfl) rfl
theorem q1932 : (Jvm.Cond.selects "AnnealingLehr$Burner$2" ({ cls := "java/lang/Enum", name := "getDeclaringClass", desc := "()Ljava/lang/Class;" } : Jvm.MethodName) ({ cls := "java/lang/Enum", name := "getDeclaringClass", desc := "()Ljava/lang/Class;" } : Jvm.MethodName)) ∈ lw_all := lw_g (lw_at lw_m8 150 rfl) rfl
theorem q1936 : (Jvm.Cond.castable "AnnealingLehr$Burner$2" "java/lang/Comparable") ∈ lw_tbl := lw_at lw_m8 154 rfl
theorem q1937 : (Jvm.Cond.selects "AnnealingLehr$Burner$2" ({ cls := "java/lang/Comparable", name := "compareTo", desc := "(Ljava/lang/Object;)I" } : Jvm.MethodName) ({ cls := "java/lang/Enum", name := "compareTo", desc := "(Ljava/lang/Object;)I" } : Jvm.MethodName)) ∈ lw_all := lw_g (lw_at lw_m8 155 rfl) rfl
theorem q1938 : (Jvm.Cond.unhidden "AnnealingLehr$Burner$2" "compareTo" "(Ljava/lang/Object;)I") ∈ lw_tbl := lw_at lw_m8 156 rfl
theorem q2170 : (Jvm.Cond.selects "AnnealingLehr$Burner$2" ({ cls := "java/lang/Object", name := "equals", desc := "(Ljava/lang/Object;)Z" } : Jvm.MethodName) ({ cls := "java/lang/Enum", name := "equals", desc := "(Ljava/lang/Object;)Z" } : Jvm.MethodName)) ∈ lw_all := lw_g (lw_at lw_m9 148 rfl) rfl
theorem q2639 : (Jvm.Cond.selects "AnnealingLehr$Burner$2" ({ cls := "AnnealingLehr$Burner", name := "with", desc := "(I)LAnnealingLehr$Burner;" } : Jvm.MethodName) ({ cls := "AnnealingLehr$Burner", name := "with", desc := "(I)LAnnealingLehr$Burner;" } : Jvm.MethodName)) ∈ lw_all := lw_g (lw_at lw_m11 137 rfl) rfl
theorem q2649 : (Jvm.Cond.selects "AnnealingLehr$Burner$2" ({ cls := "AnnealingLehr$Burner", name := "gas", desc := "()I" } : Jvm.MethodName) ({ cls := "AnnealingLehr$Burner$2", name := "gas", desc := "()I" } : Jvm.MethodName)) ∈ lw_all := lw_g (lw_at lw_m11 147 rfl) rfl
theorem q2650 : (Jvm.Cond.instanceMethod ({ cls := "AnnealingLehr$Burner$2", name := "gas", desc := "()I" } : Jvm.MethodName)) ∈ lw_all := lw_g (lw_at lw_m11 148 rfl) rfl
theorem q2651 : (Jvm.Cond.code ({ cls := "AnnealingLehr$Burner$2", name := "gas", desc := "()I" } : Jvm.MethodName) prog_6_method_3_code (1 : Nat) (Option.some Jvm.ClassFile.FieldType.int)) ∈ lw_all := lw_g (lw_at lw_m11 149 rfl) rfl
theorem q2666 : (Jvm.Cond.selects "AnnealingLehr$Burner$2" ({ cls := "AnnealingLehr$Burner", name := "lower", desc := "()LAnnealingLehr$Burner;" } : Jvm.MethodName) ({ cls := "AnnealingLehr$Burner$2", name := "lower", desc := "()LAnnealingLehr$Burner;" } : Jvm.MethodName)) ∈ lw_all := lw_g (lw_at lw_m11 164 rfl) rfl
theorem q2667 : (Jvm.Cond.instanceMethod ({ cls := "AnnealingLehr$Burner$2", name := "lower", desc := "()LAnnealingLehr$Burner;" } : Jvm.MethodName)) ∈ lw_all := lw_g (lw_at lw_m11 165 rfl) rfl
theorem q2668 : (Jvm.Cond.code ({ cls := "AnnealingLehr$Burner$2", name := "lower", desc := "()LAnnealingLehr$Burner;" } : Jvm.MethodName) prog_6_method_4_code (1 : Nat) (Option.some (Jvm.ClassFile.FieldType.object "AnnealingLehr$Burner"))) ∈ lw_all := lw_g (lw_at lw_m11 166 rfl) rfl
theorem q2669 : (Jvm.Cond.fieldLink "AnnealingLehr$Burner$2" (7 : Nat) "AnnealingLehr$Burner$2" "OFF" "LAnnealingLehr$Burner;") ∈ lw_all := lw_g (lw_at lw_m11 167 rfl) rfl
theorem q2670 : (Jvm.Cond.sameField "AnnealingLehr$Burner$2" "AnnealingLehr$Burner" "OFF" "LAnnealingLehr$Burner;") ∈ lw_all := lw_g (lw_at lw_m11 168 rfl) rfl
theorem q2688 : (Jvm.Cond.selects "AnnealingLehr$Burner$2" ({ cls := "AnnealingLehr$Burner", name := "target", desc := "()I" } : Jvm.MethodName) ({ cls := "AnnealingLehr$Burner$2", name := "target", desc := "()I" } : Jvm.MethodName)) ∈ lw_all := lw_g (lw_at lw_m11 186 rfl) rfl
theorem q2689 : (Jvm.Cond.instanceMethod ({ cls := "AnnealingLehr$Burner$2", name := "target", desc := "()I" } : Jvm.MethodName)) ∈ lw_all := lw_g (lw_at lw_m11 187 rfl) rfl
theorem q2690 : (Jvm.Cond.code ({ cls := "AnnealingLehr$Burner$2", name := "target", desc := "()I" } : Jvm.MethodName) prog_6_method_2_code (1 : Nat) (Option.some Jvm.ClassFile.FieldType.int)) ∈ lw_all := lw_g (lw_at lw_m11 188 rfl) rfl
theorem q3434 : (Jvm.Cond.selects "AnnealingLehr$Burner$2" ({ cls := "AnnealingLehr$Burner", name := "ordinal", desc := "()I" } : Jvm.MethodName) ({ cls := "java/lang/Enum", name := "ordinal", desc := "()I" } : Jvm.MethodName)) ∈ lw_all := lw_g (lw_at lw_m14 212 rfl) rfl
theorem q4405 : (Jvm.Cond.castable "AnnealingLehr$Burner$2" "java/lang/Enum") ∈ lw_tbl := lw_at lw_m18 223 rfl
theorem q4467 : (Jvm.Cond.castable "AnnealingLehr$Burner$2" "java/lang/Object") ∈ lw_tbl := lw_at lw_m19 45 rfl

set_option maxRecDepth 100000
abbrev cX16_gas : ByteArray := prog_7_method_3_code
def yX16_gas : MethodName := ⟨RX16, "gas", "()I"⟩
theorem dX16_gas_0 : decode cX16_gas 0 = .ok (.bipush 6, 2) := by decide +kernel
theorem dX16_gas_2 : decode cX16_gas 2 = .ok (.ireturn, 1) := by decide +kernel
abbrev cX16_lower : ByteArray := prog_7_method_4_code
def yX16_lower : MethodName := ⟨RX16, "lower", "()LAnnealingLehr$Burner;"⟩
theorem dX16_lower_0 : decode cX16_lower 0 = .ok (.getstatic 7, 3) := by decide +kernel
theorem dX16_lower_3 : decode cX16_lower 3 = .ok (.areturn, 1) := by decide +kernel
abbrev cX16_target : ByteArray := prog_7_method_2_code
def yX16_target : MethodName := ⟨RX16, "target", "()I"⟩
theorem dX16_target_0 : decode cX16_target 0 = .ok (.sipush 450, 3) := by decide +kernel
theorem dX16_target_3 : decode cX16_target 3 = .ok (.ireturn, 1) := by decide +kernel
theorem q175 : (Jvm.Cond.initialized "AnnealingLehr$Burner$3") ∈ lw_all := lw_g (lw_at lw_m1 73 rfl) rfl
theorem q970 : (Jvm.Cond.selects "AnnealingLehr$Burner$3" ({ cls := "java/lang/Object", name := "toString", desc := "()Ljava/lang/String;" } : Jvm.MethodName) ({ cls := "java/lang/Enum", name := "toString", desc := "()Ljava/lang/String;" } : Jvm.MethodName)) ∈ lw_all := lw_g (lw_at lw_m4 148 rfl) rfl
theorem q992 : (Jvm.Cond.selects "AnnealingLehr$Burner$3" ({ cls := "java/lang/Object", name := "getClass", desc := "()Ljava/lang/Class;" } : Jvm.MethodName) ({ cls := "java/lang/Object", name := "getClass", desc := "()Ljava/lang/Class;" } : Jvm.MethodName)) ∈ lw_all := lw_g (lw_at lw_m4 170 rfl) rfl
theorem q1720 : (Jvm.Cond.selects "AnnealingLehr$Burner$3" ({ cls := "java/lang/Object", name := "hashCode", desc := "()I" } : Jvm.MethodName) ({ cls := "java/lang/Enum", name := "hashCode", desc := "()I" } : Jvm.MethodName)) ∈ lw_all := lw_g (lw_at lw_m7 178 rfl) rfl
theorem q1924 : (Jvm.Cond.selects "AnnealingLehr$Burner$3" ({ cls := "java/lang/Enum", name := "compareTo", desc := "(Ljava/lang/Enum;)I" } : Jvm.MethodName) ({ cls := "java/lang/Enum", name := "compareTo", desc := "(Ljava/lang/Enum;)I" } : Jvm.MethodName)) ∈ lw_all := lw_g (lw_at lw_m8 142 rfl) rfl
theorem q1933 : (Jvm.Cond.selects "AnnealingLehr$Burner$3" ({ cls := "java/lang/Enum", name := "getDeclaringClass", desc := "()Ljava/lang/Class;" } : Jvm.MethodName) ({ cls := "java/lang/Enum", name := "getDeclaringClass", desc := "()Ljava/lang/Class;" } : Jvm.MethodName)) ∈ lw_all := lw_g (lw_at lw_m8 151 rfl) rfl
theorem q1939 : (Jvm.Cond.castable "AnnealingLehr$Burner$3" "java/lang/Comparable") ∈ lw_tbl := lw_at lw_m8 157 rfl
theorem q1940 : (Jvm.Cond.selects "AnnealingLehr$Burner$3" ({ cls := "java/lang/Comparable", name := "compareTo", desc := "(Ljava/lang/Object;)I" } : Jvm.MethodName) ({ cls := "java/lang/Enum", name := "compareTo", desc := "(Ljava/lang/Object;)I" } : Jvm.MethodName)) ∈ lw_all := lw_g (lw_at lw_m8 158 rfl) rfl
theorem q1941 : (Jvm.Cond.unhidden "AnnealingLehr$Burner$3" "compareTo" "(Ljava/lang/Object;)I") ∈ lw_tbl := lw_at lw_m8 159 rfl
theorem q2171 : (Jvm.Cond.selects "AnnealingLehr$Burner$3" ({ cls := "java/lang/Object", name := "equals", desc := "(Ljava/lang/Object;)Z" } : Jvm.MethodName) ({ cls := "java/lang/Enum", name := "equals", desc := "(Ljava/lang/Object;)Z" } : Jvm.MethodName)) ∈ lw_all := lw_g (lw_at lw_m9 149 rfl) rfl
theorem q2640 : (Jvm.Cond.selects "AnnealingLehr$Burner$3" ({ cls := "AnnealingLehr$Burner", name := "with", desc := "(I)LAnnealingLehr$Burner;" } : Jvm.MethodName) ({ cls := "AnnealingLehr$Burner", name := "with", desc := "(I)LAnnealingLehr$Burner;" } : Jvm.MethodName)) ∈ lw_all := lw_g (lw_at lw_m11 138 rfl) rfl
theorem q2652 : (Jvm.Cond.selects "AnnealingLehr$Burner$3" ({ cls := "AnnealingLehr$Burner", name := "gas", desc := "()I" } : Jvm.MethodName) ({ cls := "AnnealingLehr$Burner$3", name := "gas", desc := "()I" } : Jvm.MethodName)) ∈ lw_all := lw_g (lw_at lw_m11 150 rfl) rfl
theorem q2653 : (Jvm.Cond.instanceMethod ({ cls := "AnnealingLehr$Burner$3", name := "gas", desc := "()I" } : Jvm.MethodName)) ∈ lw_all := lw_g (lw_at lw_m11 151 rfl) rfl
theorem q2654 : (Jvm.Cond.code ({ cls := "AnnealingLehr$Burner$3", name := "gas", desc := "()I" } : Jvm.MethodName) prog_7_method_3_code (1 : Nat) (Option.some Jvm.ClassFile.FieldType.int)) ∈ lw_all := lw_g (lw_at lw_m11 152 rfl) rfl
theorem q2671 : (Jvm.Cond.selects "AnnealingLehr$Burner$3" ({ cls := "AnnealingLehr$Burner", name := "lower", desc := "()LAnnealingLehr$Burner;" } : Jvm.MethodName) ({ cls := "AnnealingLehr$Burner$3", name := "lower", desc := "()LAnnealingLehr$Burner;" } : Jvm.MethodName)) ∈ lw_all := lw_g (lw_at lw_m11 169 rfl) rfl
theorem q2672 : (Jvm.Cond.instanceMethod ({ cls := "AnnealingLehr$Burner$3", name := "lower", desc := "()LAnnealingLehr$Burner;" } : Jvm.MethodName)) ∈ lw_all := lw_g (lw_at lw_m11 170 rfl) rfl
theorem q2673 : (Jvm.Cond.code ({ cls := "AnnealingLehr$Burner$3", name := "lower", desc := "()LAnnealingLehr$Burner;" } : Jvm.MethodName) prog_7_method_4_code (1 : Nat) (Option.some (Jvm.ClassFile.FieldType.object "AnnealingLehr$Burner"))) ∈ lw_all := lw_g (lw_at lw_m11 171 rfl) rfl
theorem q2674 : (Jvm.Cond.fieldLink "AnnealingLehr$Burner$3" (7 : Nat) "AnnealingLehr$Burner$3" "LOW" "LAnnealingLehr$Burner;") ∈ lw_all := lw_g (lw_at lw_m11 172 rfl) rfl
theorem q2675 : (Jvm.Cond.sameField "AnnealingLehr$Burner$3" "AnnealingLehr$Burner" "LOW" "LAnnealingLehr$Burner;") ∈ lw_all := lw_g (lw_at lw_m11 173 rfl) rfl
theorem q2691 : (Jvm.Cond.selects "AnnealingLehr$Burner$3" ({ cls := "AnnealingLehr$Burner", name := "target", desc := "()I" } : Jvm.MethodName) ({ cls := "AnnealingLehr$Burner$3", name := "target", desc := "()I" } : Jvm.MethodName)) ∈ lw_all := lw_g (lw_at lw_m11 189 rfl) rfl
theorem q2692 : (Jvm.Cond.instanceMethod ({ cls := "AnnealingLehr$Burner$3", name := "target", desc := "()I" } : Jvm.MethodName)) ∈ lw_all := lw_g (lw_at lw_m11 190 rfl) rfl
theorem q2693 : (Jvm.Cond.code ({ cls := "AnnealingLehr$Burner$3", name := "target", desc := "()I" } : Jvm.MethodName) prog_7_method_2_code (1 : Nat) (Option.some Jvm.ClassFile.FieldType.int)) ∈ lw_all := lw_g (lw_at lw_m11 191 rfl) rfl
theorem q3435 : (Jvm.Cond.selects "AnnealingLehr$Burner$3" ({ cls := "AnnealingLehr$Burner", name := "ordinal", desc := "()I" } : Jvm.MethodName) ({ cls := "java/lang/Enum", name := "ordinal", desc := "()I" } : Jvm.MethodName)) ∈ lw_all := lw_g (lw_at lw_m14 213 rfl) rfl
theorem q4406 : (Jvm.Cond.castable "AnnealingLehr$Burner$3" "java/lang/Enum") ∈ lw_tbl := lw_at lw_m18 224 rfl
theorem q4468 : (Jvm.Cond.castable "AnnealingLehr$Burner$3" "java/lang/Object") ∈ lw_tbl := lw_at lw_m19 46 rfl

set_option maxRecDepth 100000
abbrev cX17_gas : ByteArray := prog_8_method_3_code
def yX17_gas : MethodName := ⟨RX17, "gas", "()I"⟩
theorem dX17_gas_0 : decode cX17_gas 0 = .ok (.bipush 9, 2) := by decide +kernel
theorem dX17_gas_2 : decode cX17_gas 2 = .ok (.ireturn, 1) := by decide +kernel
abbrev cX17_lower : ByteArray := prog_8_method_4_code
def yX17_lower : MethodName := ⟨RX17, "lower", "()LAnnealingLehr$Burner;"⟩
theorem dX17_lower_0 : decode cX17_lower 0 = .ok (.getstatic 7, 3) := by decide +kernel
theorem dX17_lower_3 : decode cX17_lower 3 = .ok (.areturn, 1) := by decide +kernel
abbrev cX17_target : ByteArray := prog_8_method_2_code
def yX17_target : MethodName := ⟨RX17, "target", "()I"⟩
theorem dX17_target_0 : decode cX17_target 0 = .ok (.sipush 580, 3) := by decide +kernel
theorem dX17_target_3 : decode cX17_target 3 = .ok (.ireturn, 1) := by decide +kernel
theorem q176 : (Jvm.Cond.initialized "AnnealingLehr$Burner$4") ∈ lw_all := lw_g (lw_at lw_m1 74 rfl) rfl
theorem q971 : (Jvm.Cond.selects "AnnealingLehr$Burner$4" ({ cls := "java/lang/Object", name := "toString", desc := "()Ljava/lang/String;" } : Jvm.MethodName) ({ cls := "java/lang/Enum", name := "toString", desc := "()Ljava/lang/String;" } : Jvm.MethodName)) ∈ lw_all := lw_g (lw_at lw_m4 149 rfl) rfl
theorem q993 : (Jvm.Cond.selects "AnnealingLehr$Burner$4" ({ cls := "java/lang/Object", name := "getClass", desc := "()Ljava/lang/Class;" } : Jvm.MethodName) ({ cls := "java/lang/Object", name := "getClass", desc := "()Ljava/lang/Class;" } : Jvm.MethodName)) ∈ lw_all := lw_g (lw_at lw_m4 171 rfl) rfl
theorem q1721 : (Jvm.Cond.selects "AnnealingLehr$Burner$4" ({ cls := "java/lang/Object", name := "hashCode", desc := "()I" } : Jvm.MethodName) ({ cls := "java/lang/Enum", name := "hashCode", desc := "()I" } : Jvm.MethodName)) ∈ lw_all := lw_g (lw_at lw_m7 179 rfl) rfl
theorem q1925 : (Jvm.Cond.selects "AnnealingLehr$Burner$4" ({ cls := "java/lang/Enum", name := "compareTo", desc := "(Ljava/lang/Enum;)I" } : Jvm.MethodName) ({ cls := "java/lang/Enum", name := "compareTo", desc := "(Ljava/lang/Enum;)I" } : Jvm.MethodName)) ∈ lw_all := lw_g (lw_at lw_m8 143 rfl) rfl
theorem q1934 : (Jvm.Cond.selects "AnnealingLehr$Burner$4" ({ cls := "java/lang/Enum", name := "getDeclaringClass", desc := "()Ljava/lang/Class;" } : Jvm.MethodName) ({ cls := "java/lang/Enum", name := "getDeclaringClass", desc := "()Ljava/lang/Class;" } : Jvm.MethodName)) ∈ lw_all := lw_g (lw_at lw_m8 152 rfl) rfl
theorem q1942 : (Jvm.Cond.castable "AnnealingLehr$Burner$4" "java/lang/Comparable") ∈ lw_tbl := lw_at lw_m8 160 rfl
theorem q1943 : (Jvm.Cond.selects "AnnealingLehr$Burner$4" ({ cls := "java/lang/Comparable", name := "compareTo", desc := "(Ljava/lang/Object;)I" } : Jvm.MethodName) ({ cls := "java/lang/Enum", name := "compareTo", desc := "(Ljava/lang/Object;)I" } : Jvm.MethodName)) ∈ lw_all := lw_g (lw_at lw_m8 161 rfl) rfl
theorem q1944 : (Jvm.Cond.unhidden "AnnealingLehr$Burner$4" "compareTo" "(Ljava/lang/Object;)I") ∈ lw_tbl := lw_at lw_m8 162 rfl
theorem q2172 : (Jvm.Cond.selects "AnnealingLehr$Burner$4" ({ cls := "java/lang/Object", name := "equals", desc := "(Ljava/lang/Object;)Z" } : Jvm.MethodName) ({ cls := "java/lang/Enum", name := "equals", desc := "(Ljava/lang/Object;)Z" } : Jvm.MethodName)) ∈ lw_all := lw_g (lw_at lw_m9 150 rfl) rfl
theorem q2641 : (Jvm.Cond.selects "AnnealingLehr$Burner$4" ({ cls := "AnnealingLehr$Burner", name := "with", desc := "(I)LAnnealingLehr$Burner;" } : Jvm.MethodName) ({ cls := "AnnealingLehr$Burner", name := "with", desc := "(I)LAnnealingLehr$Burner;" } : Jvm.MethodName)) ∈ lw_all := lw_g (lw_at lw_m11 139 rfl) rfl
theorem q2655 : (Jvm.Cond.selects "AnnealingLehr$Burner$4" ({ cls := "AnnealingLehr$Burner", name := "gas", desc := "()I" } : Jvm.MethodName) ({ cls := "AnnealingLehr$Burner$4", name := "gas", desc := "()I" } : Jvm.MethodName)) ∈ lw_all := lw_g (lw_at lw_m11 153 rfl) rfl
theorem q2656 : (Jvm.Cond.instanceMethod ({ cls := "AnnealingLehr$Burner$4", name := "gas", desc := "()I" } : Jvm.MethodName)) ∈ lw_all := lw_g (lw_at lw_m11 154 rfl) rfl
theorem q2657 : (Jvm.Cond.code ({ cls := "AnnealingLehr$Burner$4", name := "gas", desc := "()I" } : Jvm.MethodName) prog_8_method_3_code (1 : Nat) (Option.some Jvm.ClassFile.FieldType.int)) ∈ lw_all := lw_g (lw_at lw_m11 155 rfl) rfl
theorem q2676 : (Jvm.Cond.selects "AnnealingLehr$Burner$4" ({ cls := "AnnealingLehr$Burner", name := "lower", desc := "()LAnnealingLehr$Burner;" } : Jvm.MethodName) ({ cls := "AnnealingLehr$Burner$4", name := "lower", desc := "()LAnnealingLehr$Burner;" } : Jvm.MethodName)) ∈ lw_all := lw_g (lw_at lw_m11 174 rfl) rfl
theorem q2677 : (Jvm.Cond.instanceMethod ({ cls := "AnnealingLehr$Burner$4", name := "lower", desc := "()LAnnealingLehr$Burner;" } : Jvm.MethodName)) ∈ lw_all := lw_g (lw_at lw_m11 175 rfl) rfl
theorem q2678 : (Jvm.Cond.code ({ cls := "AnnealingLehr$Burner$4", name := "lower", desc := "()LAnnealingLehr$Burner;" } : Jvm.MethodName) prog_8_method_4_code (1 : Nat) (Option.some (Jvm.ClassFile.FieldType.object "AnnealingLehr$Burner"))) ∈ lw_all := lw_g (lw_at lw_m11 176 rfl) rfl
theorem q2679 : (Jvm.Cond.fieldLink "AnnealingLehr$Burner$4" (7 : Nat) "AnnealingLehr$Burner$4" "MIDDLE" "LAnnealingLehr$Burner;") ∈ lw_all := lw_g (lw_at lw_m11 177 rfl) rfl
theorem q2680 : (Jvm.Cond.sameField "AnnealingLehr$Burner$4" "AnnealingLehr$Burner" "MIDDLE" "LAnnealingLehr$Burner;") ∈ lw_all := lw_g (lw_at lw_m11 178 rfl) rfl
theorem q2694 : (Jvm.Cond.selects "AnnealingLehr$Burner$4" ({ cls := "AnnealingLehr$Burner", name := "target", desc := "()I" } : Jvm.MethodName) ({ cls := "AnnealingLehr$Burner$4", name := "target", desc := "()I" } : Jvm.MethodName)) ∈ lw_all := lw_g (lw_at lw_m11 192 rfl) rfl
theorem q2695 : (Jvm.Cond.instanceMethod ({ cls := "AnnealingLehr$Burner$4", name := "target", desc := "()I" } : Jvm.MethodName)) ∈ lw_all := lw_g (lw_at lw_m11 193 rfl) rfl
theorem q2696 : (Jvm.Cond.code ({ cls := "AnnealingLehr$Burner$4", name := "target", desc := "()I" } : Jvm.MethodName) prog_8_method_2_code (1 : Nat) (Option.some Jvm.ClassFile.FieldType.int)) ∈ lw_all := lw_g (lw_at lw_m11 194 rfl) rfl
theorem q3436 : (Jvm.Cond.selects "AnnealingLehr$Burner$4" ({ cls := "AnnealingLehr$Burner", name := "ordinal", desc := "()I" } : Jvm.MethodName) ({ cls := "java/lang/Enum", name := "ordinal", desc := "()I" } : Jvm.MethodName)) ∈ lw_all := lw_g (lw_at lw_m14 214 rfl) rfl
theorem q4407 : (Jvm.Cond.castable "AnnealingLehr$Burner$4" "java/lang/Enum") ∈ lw_tbl := lw_at lw_m18 225 rfl
theorem q4469 : (Jvm.Cond.castable "AnnealingLehr$Burner$4" "java/lang/Object") ∈ lw_tbl := lw_at lw_m19 47 rfl

set_option maxRecDepth 100000
abbrev cX18_init : ByteArray := prog_18_method_1_code
def yX18_init : MethodName := ⟨RX18, "<init>", "(LAnnealingLehr;)V"⟩
def dkwX18_init_0 : List UInt8 := [42, 43, 181, 0, 3, 42, 183, 0, 9, 42, 16, 60, 189, 0, 15, 181, 0, 17, 177]
abbrev dktX18_init_0 : List UInt8 := dkwX18_init_0 ++ []
theorem dksX18_init_0 : cX18_init.data.toList.drop 0 = dktX18_init_0 := by decide +kernel
theorem dX18_init_0 : decode cX18_init 0 = .ok (.aload_n 0, 1) := dk_42 (dk_at dksX18_init_0 0 rfl rfl)
theorem dX18_init_1 : decode cX18_init 1 = .ok (.aload_n 1, 1) := dk_43 (dk_at dksX18_init_0 1 rfl rfl)
theorem dX18_init_2 : decode cX18_init 2 = .ok (.putfield 3, 3) := dk_181 0 3 (dk_at dksX18_init_0 2 rfl rfl)
theorem dX18_init_5 : decode cX18_init 5 = .ok (.aload_n 0, 1) := dk_42 (dk_at dksX18_init_0 5 rfl rfl)
theorem dX18_init_6 : decode cX18_init 6 = .ok (.invokespecial 9, 3) := dk_183 0 9 (dk_at dksX18_init_0 6 rfl rfl)
theorem dX18_init_9 : decode cX18_init 9 = .ok (.aload_n 0, 1) := dk_42 (dk_at dksX18_init_0 9 rfl rfl)
theorem dX18_init_10 : decode cX18_init 10 = .ok (.bipush 60, 2) := dk_16 60 (dk_at dksX18_init_0 10 rfl rfl)
theorem dX18_init_12 : decode cX18_init 12 = .ok (.anewarray 15, 3) := dk_189 0 15 (dk_at dksX18_init_0 12 rfl rfl)
theorem dX18_init_15 : decode cX18_init 15 = .ok (.putfield 17, 3) := dk_181 0 17 (dk_at dksX18_init_0 15 rfl rfl)
theorem dX18_init_18 : decode cX18_init 18 = .ok (.return_, 1) := dk_177 (dk_at dksX18_init_0 18 rfl rfl)
abbrev cX18_readAll : ByteArray := prog_18_method_2_code
def yX18_readAll : MethodName := ⟨RX18, "readAll", "()Z"⟩
def dkwX18_readAll_2 : List UInt8 := [154, 0, 7, 4, 167, 0, 4, 3, 172]
abbrev dktX18_readAll_2 : List UInt8 := dkwX18_readAll_2 ++ []
def dkwX18_readAll_1 : List UInt8 := [182, 0, 36, 162, 0, 16, 42, 16, 59, 182, 0, 42, 42, 182, 0, 21, 167, 255, 222, 42, 180, 0, 24]
abbrev dktX18_readAll_1 : List UInt8 := dkwX18_readAll_1 ++ dktX18_readAll_2
def dkwX18_readAll_0 : List UInt8 := [42, 182, 0, 21, 42, 180, 0, 24, 154, 0, 33, 42, 180, 0, 28, 42, 180, 0, 3, 180, 0, 32]
abbrev dktX18_readAll_0 : List UInt8 := dkwX18_readAll_0 ++ dktX18_readAll_1
theorem dksX18_readAll_0 : cX18_readAll.data.toList.drop 0 = dktX18_readAll_0 := by decide +kernel
theorem dksX18_readAll_1 : cX18_readAll.data.toList.drop 22 = dktX18_readAll_1 := dk_seg dksX18_readAll_0 22 rfl rfl
theorem dksX18_readAll_2 : cX18_readAll.data.toList.drop 45 = dktX18_readAll_2 := dk_seg dksX18_readAll_1 23 rfl rfl
theorem dX18_readAll_0 : decode cX18_readAll 0 = .ok (.aload_n 0, 1) := dk_42 (dk_at dksX18_readAll_0 0 rfl rfl)
theorem dX18_readAll_1 : decode cX18_readAll 1 = .ok (.invokevirtual 21, 3) := dk_182 0 21 (dk_at dksX18_readAll_0 1 rfl rfl)
theorem dX18_readAll_4 : decode cX18_readAll 4 = .ok (.aload_n 0, 1) := dk_42 (dk_at dksX18_readAll_0 4 rfl rfl)
theorem dX18_readAll_5 : decode cX18_readAll 5 = .ok (.getfield 24, 3) := dk_180 0 24 (dk_at dksX18_readAll_0 5 rfl rfl)
theorem dX18_readAll_8 : decode cX18_readAll 8 = .ok (.ifCond .ne 33, 3) := dk_154 0 33 (dk_at dksX18_readAll_0 8 rfl rfl)
theorem dX18_readAll_11 : decode cX18_readAll 11 = .ok (.aload_n 0, 1) := dk_42 (dk_at dksX18_readAll_0 11 rfl rfl)
theorem dX18_readAll_12 : decode cX18_readAll 12 = .ok (.getfield 28, 3) := dk_180 0 28 (dk_at dksX18_readAll_0 12 rfl rfl)
theorem dX18_readAll_15 : decode cX18_readAll 15 = .ok (.aload_n 0, 1) := dk_42 (dk_at dksX18_readAll_0 15 rfl rfl)
theorem dX18_readAll_16 : decode cX18_readAll 16 = .ok (.getfield 3, 3) := dk_180 0 3 (dk_at dksX18_readAll_0 16 rfl rfl)
theorem dX18_readAll_19 : decode cX18_readAll 19 = .ok (.getfield 32, 3) := dk_180 0 32 (dk_at dksX18_readAll_0 19 rfl rfl)
theorem dX18_readAll_22 : decode cX18_readAll 22 = .ok (.invokevirtual 36, 3) := dk_182 0 36 (dk_at dksX18_readAll_1 0 rfl rfl)
theorem dX18_readAll_25 : decode cX18_readAll 25 = .ok (.if_icmp .ge 16, 3) := dk_162 0 16 (dk_at dksX18_readAll_1 3 rfl rfl)
theorem dX18_readAll_28 : decode cX18_readAll 28 = .ok (.aload_n 0, 1) := dk_42 (dk_at dksX18_readAll_1 6 rfl rfl)
theorem dX18_readAll_29 : decode cX18_readAll 29 = .ok (.bipush 59, 2) := dk_16 59 (dk_at dksX18_readAll_1 7 rfl rfl)
theorem dX18_readAll_31 : decode cX18_readAll 31 = .ok (.invokevirtual 42, 3) := dk_182 0 42 (dk_at dksX18_readAll_1 9 rfl rfl)
theorem dX18_readAll_34 : decode cX18_readAll 34 = .ok (.aload_n 0, 1) := dk_42 (dk_at dksX18_readAll_1 12 rfl rfl)
theorem dX18_readAll_35 : decode cX18_readAll 35 = .ok (.invokevirtual 21, 3) := dk_182 0 21 (dk_at dksX18_readAll_1 13 rfl rfl)
theorem dX18_readAll_38 : decode cX18_readAll 38 = .ok (.goto (-34), 3) := dk_167 255 222 (dk_at dksX18_readAll_1 16 rfl rfl)
theorem dX18_readAll_41 : decode cX18_readAll 41 = .ok (.aload_n 0, 1) := dk_42 (dk_at dksX18_readAll_1 19 rfl rfl)
theorem dX18_readAll_42 : decode cX18_readAll 42 = .ok (.getfield 24, 3) := dk_180 0 24 (dk_at dksX18_readAll_1 20 rfl rfl)
theorem dX18_readAll_45 : decode cX18_readAll 45 = .ok (.ifCond .ne 7, 3) := dk_154 0 7 (dk_at dksX18_readAll_2 0 rfl rfl)
theorem dX18_readAll_48 : decode cX18_readAll 48 = .ok (.iconst 1, 1) := dk_4 (dk_at dksX18_readAll_2 3 rfl rfl)
theorem dX18_readAll_49 : decode cX18_readAll 49 = .ok (.goto 4, 3) := dk_167 0 4 (dk_at dksX18_readAll_2 4 rfl rfl)
theorem dX18_readAll_52 : decode cX18_readAll 52 = .ok (.iconst 0, 1) := dk_3 (dk_at dksX18_readAll_2 7 rfl rfl)
theorem dX18_readAll_53 : decode cX18_readAll 53 = .ok (.ireturn, 1) := dk_172 (dk_at dksX18_readAll_2 8 rfl rfl)
abbrev cX18_part : ByteArray := prog_18_method_7_code
def yX18_part : MethodName := ⟨RX18, "part", "()V"⟩
def dkwX18_part_8 : List UInt8 := [180, 0, 81, 44, 83, 42, 89, 180, 0, 81, 4, 96, 181, 0, 81, 177]
abbrev dktX18_part_8 : List UInt8 := dkwX18_part_8 ++ []
def dkwX18_part_7 : List UInt8 := [182, 0, 78, 77, 167, 0, 8, 42, 4, 181, 0, 24, 42, 180, 0, 24, 154, 0, 23, 42, 180, 0, 17, 42]
abbrev dktX18_part_7 : List UInt8 := dkwX18_part_7 ++ dktX18_part_8
def dkwX18_part_6 : List UInt8 := [77, 167, 0, 33, 42, 89, 180, 0, 28, 4, 96, 181, 0, 28, 42, 42, 4, 16, 60, 182, 0, 66]
abbrev dktX18_part_6 : List UInt8 := dkwX18_part_6 ++ dktX18_part_7
def dkwX18_part_5 : List UInt8 := [182, 0, 66, 182, 0, 70, 77, 167, 0, 51, 42, 89, 180, 0, 28, 4, 96, 181, 0, 28, 42, 182, 0, 74]
abbrev dktX18_part_5 : List UInt8 := dkwX18_part_5 ++ dktX18_part_6
def dkwX18_part_4 : List UInt8 := [182, 0, 62, 77, 167, 0, 76, 42, 89, 180, 0, 28, 4, 96, 181, 0, 28, 42, 42, 3, 16, 11]
abbrev dktX18_part_4 : List UInt8 := dkwX18_part_4 ++ dktX18_part_5
def dkwX18_part_3 : List UInt8 := [4, 96, 181, 0, 28, 42, 42, 16, 48, 16, 50, 182, 0, 54, 42, 16, 49, 16, 57, 182, 0, 54]
abbrev dktX18_part_3 : List UInt8 := dkwX18_part_3 ++ dktX18_part_4
def dkwX18_part_2 : List UInt8 := [42, 89, 180, 0, 28, 4, 96, 181, 0, 28, 42, 27, 182, 0, 58, 77, 167, 0, 110, 42, 89, 180, 0, 28]
abbrev dktX18_part_2 : List UInt8 := dkwX18_part_2 ++ dktX18_part_3
def dkwX18_part_1 : List UInt8 := [170, 0, 0, 0, 0, 0, 0, 205, 0, 0, 0, 98, 0, 0, 0, 114, 0, 0, 0, 84, 0, 0, 0, 162, 0, 0, 0, 205, 0, 0, 0, 205, 0, 0, 0, 84, 0, 0, 0, 205, 0, 0, 0, 205, 0, 0, 0, 205, 0, 0, 0, 205, 0, 0, 0, 205, 0, 0, 0, 137, 0, 0, 0, 180, 0, 0, 0, 205, 0, 0, 0, 103, 0, 0, 0, 205, 0, 0, 0, 205, 0, 0, 0, 84]
abbrev dktX18_part_1 : List UInt8 := dkwX18_part_1 ++ dktX18_part_2
def dkwX18_part_0 : List UInt8 := [42, 180, 0, 24, 153, 0, 4, 177, 42, 182, 0, 50, 60, 1, 77, 27]
abbrev dktX18_part_0 : List UInt8 := dkwX18_part_0 ++ dktX18_part_1
theorem dksX18_part_0 : cX18_part.data.toList.drop 0 = dktX18_part_0 := by decide +kernel
theorem dksX18_part_1 : cX18_part.data.toList.drop 16 = dktX18_part_1 := dk_seg dksX18_part_0 16 rfl rfl
theorem dksX18_part_2 : cX18_part.data.toList.drop 100 = dktX18_part_2 := dk_seg dksX18_part_1 84 rfl rfl
theorem dksX18_part_3 : cX18_part.data.toList.drop 124 = dktX18_part_3 := dk_seg dksX18_part_2 24 rfl rfl
theorem dksX18_part_4 : cX18_part.data.toList.drop 146 = dktX18_part_4 := dk_seg dksX18_part_3 22 rfl rfl
theorem dksX18_part_5 : cX18_part.data.toList.drop 168 = dktX18_part_5 := dk_seg dksX18_part_4 22 rfl rfl
theorem dksX18_part_6 : cX18_part.data.toList.drop 192 = dktX18_part_6 := dk_seg dksX18_part_5 24 rfl rfl
theorem dksX18_part_7 : cX18_part.data.toList.drop 214 = dktX18_part_7 := dk_seg dksX18_part_6 22 rfl rfl
theorem dksX18_part_8 : cX18_part.data.toList.drop 238 = dktX18_part_8 := dk_seg dksX18_part_7 24 rfl rfl
theorem dX18_part_0 : decode cX18_part 0 = .ok (.aload_n 0, 1) := dk_42 (dk_at dksX18_part_0 0 rfl rfl)
theorem dX18_part_1 : decode cX18_part 1 = .ok (.getfield 24, 3) := dk_180 0 24 (dk_at dksX18_part_0 1 rfl rfl)
theorem dX18_part_4 : decode cX18_part 4 = .ok (.ifCond .eq 4, 3) := dk_153 0 4 (dk_at dksX18_part_0 4 rfl rfl)
theorem dX18_part_7 : decode cX18_part 7 = .ok (.return_, 1) := dk_177 (dk_at dksX18_part_0 7 rfl rfl)
theorem dX18_part_8 : decode cX18_part 8 = .ok (.aload_n 0, 1) := dk_42 (dk_at dksX18_part_0 8 rfl rfl)
theorem dX18_part_9 : decode cX18_part 9 = .ok (.invokevirtual 50, 3) := dk_182 0 50 (dk_at dksX18_part_0 9 rfl rfl)
theorem dX18_part_12 : decode cX18_part 12 = .ok (.istore_n 1, 1) := dk_60 (dk_at dksX18_part_0 12 rfl rfl)
theorem dX18_part_13 : decode cX18_part 13 = .ok (.aconst_null, 1) := dk_1 (dk_at dksX18_part_0 13 rfl rfl)
theorem dX18_part_14 : decode cX18_part 14 = .ok (.astore_n 2, 1) := dk_77 (dk_at dksX18_part_0 14 rfl rfl)
theorem dX18_part_15 : decode cX18_part 15 = .ok (.iload_n 1, 1) := dk_27 (dk_at dksX18_part_0 15 rfl rfl)
theorem dX18_part_16 : decode cX18_part 16 = .ok (.tableswitch 205 98 114 #[84, 162, 205, 205, 84, 205, 205, 205, 205, 205, 137, 180, 205, 103, 205, 205, 84], 84) := by decide +kernel
theorem dX18_part_100 : decode cX18_part 100 = .ok (.aload_n 0, 1) := dk_42 (dk_at dksX18_part_2 0 rfl rfl)
theorem dX18_part_101 : decode cX18_part 101 = .ok (.dup, 1) := dk_89 (dk_at dksX18_part_2 1 rfl rfl)
theorem dX18_part_102 : decode cX18_part 102 = .ok (.getfield 28, 3) := dk_180 0 28 (dk_at dksX18_part_2 2 rfl rfl)
theorem dX18_part_105 : decode cX18_part 105 = .ok (.iconst 1, 1) := dk_4 (dk_at dksX18_part_2 5 rfl rfl)
theorem dX18_part_106 : decode cX18_part 106 = .ok (.iadd, 1) := dk_96 (dk_at dksX18_part_2 6 rfl rfl)
theorem dX18_part_107 : decode cX18_part 107 = .ok (.putfield 28, 3) := dk_181 0 28 (dk_at dksX18_part_2 7 rfl rfl)
theorem dX18_part_110 : decode cX18_part 110 = .ok (.aload_n 0, 1) := dk_42 (dk_at dksX18_part_2 10 rfl rfl)
theorem dX18_part_111 : decode cX18_part 111 = .ok (.iload_n 1, 1) := dk_27 (dk_at dksX18_part_2 11 rfl rfl)
theorem dX18_part_112 : decode cX18_part 112 = .ok (.invokevirtual 58, 3) := dk_182 0 58 (dk_at dksX18_part_2 12 rfl rfl)
theorem dX18_part_115 : decode cX18_part 115 = .ok (.astore_n 2, 1) := dk_77 (dk_at dksX18_part_2 15 rfl rfl)
theorem dX18_part_116 : decode cX18_part 116 = .ok (.goto 110, 3) := dk_167 0 110 (dk_at dksX18_part_2 16 rfl rfl)
theorem dX18_part_119 : decode cX18_part 119 = .ok (.aload_n 0, 1) := dk_42 (dk_at dksX18_part_2 19 rfl rfl)
theorem dX18_part_120 : decode cX18_part 120 = .ok (.dup, 1) := dk_89 (dk_at dksX18_part_2 20 rfl rfl)
theorem dX18_part_121 : decode cX18_part 121 = .ok (.getfield 28, 3) := dk_180 0 28 (dk_at dksX18_part_2 21 rfl rfl)
theorem dX18_part_124 : decode cX18_part 124 = .ok (.iconst 1, 1) := dk_4 (dk_at dksX18_part_3 0 rfl rfl)
theorem dX18_part_125 : decode cX18_part 125 = .ok (.iadd, 1) := dk_96 (dk_at dksX18_part_3 1 rfl rfl)
theorem dX18_part_126 : decode cX18_part 126 = .ok (.putfield 28, 3) := dk_181 0 28 (dk_at dksX18_part_3 2 rfl rfl)
theorem dX18_part_129 : decode cX18_part 129 = .ok (.aload_n 0, 1) := dk_42 (dk_at dksX18_part_3 5 rfl rfl)
theorem dX18_part_130 : decode cX18_part 130 = .ok (.aload_n 0, 1) := dk_42 (dk_at dksX18_part_3 6 rfl rfl)
theorem dX18_part_131 : decode cX18_part 131 = .ok (.bipush 48, 2) := dk_16 48 (dk_at dksX18_part_3 7 rfl rfl)
theorem dX18_part_133 : decode cX18_part 133 = .ok (.bipush 50, 2) := dk_16 50 (dk_at dksX18_part_3 9 rfl rfl)
theorem dX18_part_135 : decode cX18_part 135 = .ok (.invokevirtual 54, 3) := dk_182 0 54 (dk_at dksX18_part_3 11 rfl rfl)
theorem dX18_part_138 : decode cX18_part 138 = .ok (.aload_n 0, 1) := dk_42 (dk_at dksX18_part_3 14 rfl rfl)
theorem dX18_part_139 : decode cX18_part 139 = .ok (.bipush 49, 2) := dk_16 49 (dk_at dksX18_part_3 15 rfl rfl)
theorem dX18_part_141 : decode cX18_part 141 = .ok (.bipush 57, 2) := dk_16 57 (dk_at dksX18_part_3 17 rfl rfl)
theorem dX18_part_143 : decode cX18_part 143 = .ok (.invokevirtual 54, 3) := dk_182 0 54 (dk_at dksX18_part_3 19 rfl rfl)
theorem dX18_part_146 : decode cX18_part 146 = .ok (.invokevirtual 62, 3) := dk_182 0 62 (dk_at dksX18_part_4 0 rfl rfl)
theorem dX18_part_149 : decode cX18_part 149 = .ok (.astore_n 2, 1) := dk_77 (dk_at dksX18_part_4 3 rfl rfl)
theorem dX18_part_150 : decode cX18_part 150 = .ok (.goto 76, 3) := dk_167 0 76 (dk_at dksX18_part_4 4 rfl rfl)
theorem dX18_part_153 : decode cX18_part 153 = .ok (.aload_n 0, 1) := dk_42 (dk_at dksX18_part_4 7 rfl rfl)
theorem dX18_part_154 : decode cX18_part 154 = .ok (.dup, 1) := dk_89 (dk_at dksX18_part_4 8 rfl rfl)
theorem dX18_part_155 : decode cX18_part 155 = .ok (.getfield 28, 3) := dk_180 0 28 (dk_at dksX18_part_4 9 rfl rfl)
theorem dX18_part_158 : decode cX18_part 158 = .ok (.iconst 1, 1) := dk_4 (dk_at dksX18_part_4 12 rfl rfl)
theorem dX18_part_159 : decode cX18_part 159 = .ok (.iadd, 1) := dk_96 (dk_at dksX18_part_4 13 rfl rfl)
theorem dX18_part_160 : decode cX18_part 160 = .ok (.putfield 28, 3) := dk_181 0 28 (dk_at dksX18_part_4 14 rfl rfl)
theorem dX18_part_163 : decode cX18_part 163 = .ok (.aload_n 0, 1) := dk_42 (dk_at dksX18_part_4 17 rfl rfl)
theorem dX18_part_164 : decode cX18_part 164 = .ok (.aload_n 0, 1) := dk_42 (dk_at dksX18_part_4 18 rfl rfl)
theorem dX18_part_165 : decode cX18_part 165 = .ok (.iconst 0, 1) := dk_3 (dk_at dksX18_part_4 19 rfl rfl)
theorem dX18_part_166 : decode cX18_part 166 = .ok (.bipush 11, 2) := dk_16 11 (dk_at dksX18_part_4 20 rfl rfl)
theorem dX18_part_168 : decode cX18_part 168 = .ok (.invokevirtual 66, 3) := dk_182 0 66 (dk_at dksX18_part_5 0 rfl rfl)
theorem dX18_part_171 : decode cX18_part 171 = .ok (.invokevirtual 70, 3) := dk_182 0 70 (dk_at dksX18_part_5 3 rfl rfl)
theorem dX18_part_174 : decode cX18_part 174 = .ok (.astore_n 2, 1) := dk_77 (dk_at dksX18_part_5 6 rfl rfl)
theorem dX18_part_175 : decode cX18_part 175 = .ok (.goto 51, 3) := dk_167 0 51 (dk_at dksX18_part_5 7 rfl rfl)
theorem dX18_part_178 : decode cX18_part 178 = .ok (.aload_n 0, 1) := dk_42 (dk_at dksX18_part_5 10 rfl rfl)
theorem dX18_part_179 : decode cX18_part 179 = .ok (.dup, 1) := dk_89 (dk_at dksX18_part_5 11 rfl rfl)
theorem dX18_part_180 : decode cX18_part 180 = .ok (.getfield 28, 3) := dk_180 0 28 (dk_at dksX18_part_5 12 rfl rfl)
theorem dX18_part_183 : decode cX18_part 183 = .ok (.iconst 1, 1) := dk_4 (dk_at dksX18_part_5 15 rfl rfl)
theorem dX18_part_184 : decode cX18_part 184 = .ok (.iadd, 1) := dk_96 (dk_at dksX18_part_5 16 rfl rfl)
theorem dX18_part_185 : decode cX18_part 185 = .ok (.putfield 28, 3) := dk_181 0 28 (dk_at dksX18_part_5 17 rfl rfl)
theorem dX18_part_188 : decode cX18_part 188 = .ok (.aload_n 0, 1) := dk_42 (dk_at dksX18_part_5 20 rfl rfl)
theorem dX18_part_189 : decode cX18_part 189 = .ok (.invokevirtual 74, 3) := dk_182 0 74 (dk_at dksX18_part_5 21 rfl rfl)
theorem dX18_part_192 : decode cX18_part 192 = .ok (.astore_n 2, 1) := dk_77 (dk_at dksX18_part_6 0 rfl rfl)
theorem dX18_part_193 : decode cX18_part 193 = .ok (.goto 33, 3) := dk_167 0 33 (dk_at dksX18_part_6 1 rfl rfl)
theorem dX18_part_196 : decode cX18_part 196 = .ok (.aload_n 0, 1) := dk_42 (dk_at dksX18_part_6 4 rfl rfl)
theorem dX18_part_197 : decode cX18_part 197 = .ok (.dup, 1) := dk_89 (dk_at dksX18_part_6 5 rfl rfl)
theorem dX18_part_198 : decode cX18_part 198 = .ok (.getfield 28, 3) := dk_180 0 28 (dk_at dksX18_part_6 6 rfl rfl)
theorem dX18_part_201 : decode cX18_part 201 = .ok (.iconst 1, 1) := dk_4 (dk_at dksX18_part_6 9 rfl rfl)
theorem dX18_part_202 : decode cX18_part 202 = .ok (.iadd, 1) := dk_96 (dk_at dksX18_part_6 10 rfl rfl)
theorem dX18_part_203 : decode cX18_part 203 = .ok (.putfield 28, 3) := dk_181 0 28 (dk_at dksX18_part_6 11 rfl rfl)
theorem dX18_part_206 : decode cX18_part 206 = .ok (.aload_n 0, 1) := dk_42 (dk_at dksX18_part_6 14 rfl rfl)
theorem dX18_part_207 : decode cX18_part 207 = .ok (.aload_n 0, 1) := dk_42 (dk_at dksX18_part_6 15 rfl rfl)
theorem dX18_part_208 : decode cX18_part 208 = .ok (.iconst 1, 1) := dk_4 (dk_at dksX18_part_6 16 rfl rfl)
theorem dX18_part_209 : decode cX18_part 209 = .ok (.bipush 60, 2) := dk_16 60 (dk_at dksX18_part_6 17 rfl rfl)
theorem dX18_part_211 : decode cX18_part 211 = .ok (.invokevirtual 66, 3) := dk_182 0 66 (dk_at dksX18_part_6 19 rfl rfl)
theorem dX18_part_214 : decode cX18_part 214 = .ok (.invokevirtual 78, 3) := dk_182 0 78 (dk_at dksX18_part_7 0 rfl rfl)
theorem dX18_part_217 : decode cX18_part 217 = .ok (.astore_n 2, 1) := dk_77 (dk_at dksX18_part_7 3 rfl rfl)
theorem dX18_part_218 : decode cX18_part 218 = .ok (.goto 8, 3) := dk_167 0 8 (dk_at dksX18_part_7 4 rfl rfl)
theorem dX18_part_221 : decode cX18_part 221 = .ok (.aload_n 0, 1) := dk_42 (dk_at dksX18_part_7 7 rfl rfl)
theorem dX18_part_222 : decode cX18_part 222 = .ok (.iconst 1, 1) := dk_4 (dk_at dksX18_part_7 8 rfl rfl)
theorem dX18_part_223 : decode cX18_part 223 = .ok (.putfield 24, 3) := dk_181 0 24 (dk_at dksX18_part_7 9 rfl rfl)
theorem dX18_part_226 : decode cX18_part 226 = .ok (.aload_n 0, 1) := dk_42 (dk_at dksX18_part_7 12 rfl rfl)
theorem dX18_part_227 : decode cX18_part 227 = .ok (.getfield 24, 3) := dk_180 0 24 (dk_at dksX18_part_7 13 rfl rfl)
theorem dX18_part_230 : decode cX18_part 230 = .ok (.ifCond .ne 23, 3) := dk_154 0 23 (dk_at dksX18_part_7 16 rfl rfl)
theorem dX18_part_233 : decode cX18_part 233 = .ok (.aload_n 0, 1) := dk_42 (dk_at dksX18_part_7 19 rfl rfl)
theorem dX18_part_234 : decode cX18_part 234 = .ok (.getfield 17, 3) := dk_180 0 17 (dk_at dksX18_part_7 20 rfl rfl)
theorem dX18_part_237 : decode cX18_part 237 = .ok (.aload_n 0, 1) := dk_42 (dk_at dksX18_part_7 23 rfl rfl)
theorem dX18_part_238 : decode cX18_part 238 = .ok (.getfield 81, 3) := dk_180 0 81 (dk_at dksX18_part_8 0 rfl rfl)
theorem dX18_part_241 : decode cX18_part 241 = .ok (.aload_n 2, 1) := dk_44 (dk_at dksX18_part_8 3 rfl rfl)
theorem dX18_part_242 : decode cX18_part 242 = .ok (.aastore, 1) := dk_83 (dk_at dksX18_part_8 4 rfl rfl)
theorem dX18_part_243 : decode cX18_part 243 = .ok (.aload_n 0, 1) := dk_42 (dk_at dksX18_part_8 5 rfl rfl)
theorem dX18_part_244 : decode cX18_part 244 = .ok (.dup, 1) := dk_89 (dk_at dksX18_part_8 6 rfl rfl)
theorem dX18_part_245 : decode cX18_part 245 = .ok (.getfield 81, 3) := dk_180 0 81 (dk_at dksX18_part_8 7 rfl rfl)
theorem dX18_part_248 : decode cX18_part 248 = .ok (.iconst 1, 1) := dk_4 (dk_at dksX18_part_8 10 rfl rfl)
theorem dX18_part_249 : decode cX18_part 249 = .ok (.iadd, 1) := dk_96 (dk_at dksX18_part_8 11 rfl rfl)
theorem dX18_part_250 : decode cX18_part 250 = .ok (.putfield 81, 3) := dk_181 0 81 (dk_at dksX18_part_8 12 rfl rfl)
theorem dX18_part_253 : decode cX18_part 253 = .ok (.return_, 1) := dk_177 (dk_at dksX18_part_8 15 rfl rfl)
abbrev cX18_next : ByteArray := prog_18_method_3_code
def yX18_next : MethodName := ⟨RX18, "next", "()C"⟩
def dkwX18_next_1 : List UInt8 := [42, 180, 0, 28, 182, 0, 46, 167, 0, 5, 16, 32, 172]
abbrev dktX18_next_1 : List UInt8 := dkwX18_next_1 ++ []
def dkwX18_next_0 : List UInt8 := [42, 180, 0, 28, 42, 180, 0, 3, 180, 0, 32, 182, 0, 36, 162, 0, 20, 42, 180, 0, 3, 180, 0, 32]
abbrev dktX18_next_0 : List UInt8 := dkwX18_next_0 ++ dktX18_next_1
theorem dksX18_next_0 : cX18_next.data.toList.drop 0 = dktX18_next_0 := by decide +kernel
theorem dksX18_next_1 : cX18_next.data.toList.drop 24 = dktX18_next_1 := dk_seg dksX18_next_0 24 rfl rfl
theorem dX18_next_0 : decode cX18_next 0 = .ok (.aload_n 0, 1) := dk_42 (dk_at dksX18_next_0 0 rfl rfl)
theorem dX18_next_1 : decode cX18_next 1 = .ok (.getfield 28, 3) := dk_180 0 28 (dk_at dksX18_next_0 1 rfl rfl)
theorem dX18_next_4 : decode cX18_next 4 = .ok (.aload_n 0, 1) := dk_42 (dk_at dksX18_next_0 4 rfl rfl)
theorem dX18_next_5 : decode cX18_next 5 = .ok (.getfield 3, 3) := dk_180 0 3 (dk_at dksX18_next_0 5 rfl rfl)
theorem dX18_next_8 : decode cX18_next 8 = .ok (.getfield 32, 3) := dk_180 0 32 (dk_at dksX18_next_0 8 rfl rfl)
theorem dX18_next_11 : decode cX18_next 11 = .ok (.invokevirtual 36, 3) := dk_182 0 36 (dk_at dksX18_next_0 11 rfl rfl)
theorem dX18_next_14 : decode cX18_next 14 = .ok (.if_icmp .ge 20, 3) := dk_162 0 20 (dk_at dksX18_next_0 14 rfl rfl)
theorem dX18_next_17 : decode cX18_next 17 = .ok (.aload_n 0, 1) := dk_42 (dk_at dksX18_next_0 17 rfl rfl)
theorem dX18_next_18 : decode cX18_next 18 = .ok (.getfield 3, 3) := dk_180 0 3 (dk_at dksX18_next_0 18 rfl rfl)
theorem dX18_next_21 : decode cX18_next 21 = .ok (.getfield 32, 3) := dk_180 0 32 (dk_at dksX18_next_0 21 rfl rfl)
theorem dX18_next_24 : decode cX18_next 24 = .ok (.aload_n 0, 1) := dk_42 (dk_at dksX18_next_1 0 rfl rfl)
theorem dX18_next_25 : decode cX18_next 25 = .ok (.getfield 28, 3) := dk_180 0 28 (dk_at dksX18_next_1 1 rfl rfl)
theorem dX18_next_28 : decode cX18_next 28 = .ok (.invokevirtual 46, 3) := dk_182 0 46 (dk_at dksX18_next_1 4 rfl rfl)
theorem dX18_next_31 : decode cX18_next 31 = .ok (.goto 5, 3) := dk_167 0 5 (dk_at dksX18_next_1 7 rfl rfl)
theorem dX18_next_34 : decode cX18_next 34 = .ok (.bipush 32, 2) := dk_16 32 (dk_at dksX18_next_1 10 rfl rfl)
theorem dX18_next_36 : decode cX18_next 36 = .ok (.ireturn, 1) := dk_172 (dk_at dksX18_next_1 12 rfl rfl)
abbrev cX18_ofZone : ByteArray := prog_18_method_8_code
def yX18_ofZone : MethodName := ⟨RX18, "ofZone", "(C)LAnnealingLehr$Work;"⟩
def dkwX18_ofZone_2 : List UInt8 := [176, 27, 16, 102, 160, 0, 11, 28, 29, 186, 0, 87, 0, 0, 176, 28, 29, 186, 0, 88, 0, 0, 176]
abbrev dktX18_ofZone_2 : List UInt8 := dkwX18_ofZone_2 ++ []
def dkwX18_ofZone_1 : List UInt8 := [16, 57, 167, 0, 5, 16, 51, 182, 0, 54, 62, 27, 16, 98, 160, 0, 11, 28, 29, 186, 0, 84, 0, 0]
abbrev dktX18_ofZone_1 : List UInt8 := dkwX18_ofZone_1 ++ dktX18_ofZone_2
def dkwX18_ofZone_0 : List UInt8 := [42, 16, 48, 16, 55, 182, 0, 54, 61, 42, 16, 61, 182, 0, 42, 42, 16, 48, 27, 16, 114, 160, 0, 8]
abbrev dktX18_ofZone_0 : List UInt8 := dkwX18_ofZone_0 ++ dktX18_ofZone_1
theorem dksX18_ofZone_0 : cX18_ofZone.data.toList.drop 0 = dktX18_ofZone_0 := by decide +kernel
theorem dksX18_ofZone_1 : cX18_ofZone.data.toList.drop 24 = dktX18_ofZone_1 := dk_seg dksX18_ofZone_0 24 rfl rfl
theorem dksX18_ofZone_2 : cX18_ofZone.data.toList.drop 48 = dktX18_ofZone_2 := dk_seg dksX18_ofZone_1 24 rfl rfl
theorem dX18_ofZone_0 : decode cX18_ofZone 0 = .ok (.aload_n 0, 1) := dk_42 (dk_at dksX18_ofZone_0 0 rfl rfl)
theorem dX18_ofZone_1 : decode cX18_ofZone 1 = .ok (.bipush 48, 2) := dk_16 48 (dk_at dksX18_ofZone_0 1 rfl rfl)
theorem dX18_ofZone_3 : decode cX18_ofZone 3 = .ok (.bipush 55, 2) := dk_16 55 (dk_at dksX18_ofZone_0 3 rfl rfl)
theorem dX18_ofZone_5 : decode cX18_ofZone 5 = .ok (.invokevirtual 54, 3) := dk_182 0 54 (dk_at dksX18_ofZone_0 5 rfl rfl)
theorem dX18_ofZone_8 : decode cX18_ofZone 8 = .ok (.istore_n 2, 1) := dk_61 (dk_at dksX18_ofZone_0 8 rfl rfl)
theorem dX18_ofZone_9 : decode cX18_ofZone 9 = .ok (.aload_n 0, 1) := dk_42 (dk_at dksX18_ofZone_0 9 rfl rfl)
theorem dX18_ofZone_10 : decode cX18_ofZone 10 = .ok (.bipush 61, 2) := dk_16 61 (dk_at dksX18_ofZone_0 10 rfl rfl)
theorem dX18_ofZone_12 : decode cX18_ofZone 12 = .ok (.invokevirtual 42, 3) := dk_182 0 42 (dk_at dksX18_ofZone_0 12 rfl rfl)
theorem dX18_ofZone_15 : decode cX18_ofZone 15 = .ok (.aload_n 0, 1) := dk_42 (dk_at dksX18_ofZone_0 15 rfl rfl)
theorem dX18_ofZone_16 : decode cX18_ofZone 16 = .ok (.bipush 48, 2) := dk_16 48 (dk_at dksX18_ofZone_0 16 rfl rfl)
theorem dX18_ofZone_18 : decode cX18_ofZone 18 = .ok (.iload_n 1, 1) := dk_27 (dk_at dksX18_ofZone_0 18 rfl rfl)
theorem dX18_ofZone_19 : decode cX18_ofZone 19 = .ok (.bipush 114, 2) := dk_16 114 (dk_at dksX18_ofZone_0 19 rfl rfl)
theorem dX18_ofZone_21 : decode cX18_ofZone 21 = .ok (.if_icmp .ne 8, 3) := dk_160 0 8 (dk_at dksX18_ofZone_0 21 rfl rfl)
theorem dX18_ofZone_24 : decode cX18_ofZone 24 = .ok (.bipush 57, 2) := dk_16 57 (dk_at dksX18_ofZone_1 0 rfl rfl)
theorem dX18_ofZone_26 : decode cX18_ofZone 26 = .ok (.goto 5, 3) := dk_167 0 5 (dk_at dksX18_ofZone_1 2 rfl rfl)
theorem dX18_ofZone_29 : decode cX18_ofZone 29 = .ok (.bipush 51, 2) := dk_16 51 (dk_at dksX18_ofZone_1 5 rfl rfl)
theorem dX18_ofZone_31 : decode cX18_ofZone 31 = .ok (.invokevirtual 54, 3) := dk_182 0 54 (dk_at dksX18_ofZone_1 7 rfl rfl)
theorem dX18_ofZone_34 : decode cX18_ofZone 34 = .ok (.istore_n 3, 1) := dk_62 (dk_at dksX18_ofZone_1 10 rfl rfl)
theorem dX18_ofZone_35 : decode cX18_ofZone 35 = .ok (.iload_n 1, 1) := dk_27 (dk_at dksX18_ofZone_1 11 rfl rfl)
theorem dX18_ofZone_36 : decode cX18_ofZone 36 = .ok (.bipush 98, 2) := dk_16 98 (dk_at dksX18_ofZone_1 12 rfl rfl)
theorem dX18_ofZone_38 : decode cX18_ofZone 38 = .ok (.if_icmp .ne 11, 3) := dk_160 0 11 (dk_at dksX18_ofZone_1 14 rfl rfl)
theorem dX18_ofZone_41 : decode cX18_ofZone 41 = .ok (.iload_n 2, 1) := dk_28 (dk_at dksX18_ofZone_1 17 rfl rfl)
theorem dX18_ofZone_42 : decode cX18_ofZone 42 = .ok (.iload_n 3, 1) := dk_29 (dk_at dksX18_ofZone_1 18 rfl rfl)
theorem dX18_ofZone_43 : decode cX18_ofZone 43 = .ok (.invokedynamic 84, 5) := by decide +kernel
theorem dX18_ofZone_48 : decode cX18_ofZone 48 = .ok (.areturn, 1) := dk_176 (dk_at dksX18_ofZone_2 0 rfl rfl)
theorem dX18_ofZone_49 : decode cX18_ofZone 49 = .ok (.iload_n 1, 1) := dk_27 (dk_at dksX18_ofZone_2 1 rfl rfl)
theorem dX18_ofZone_50 : decode cX18_ofZone 50 = .ok (.bipush 102, 2) := dk_16 102 (dk_at dksX18_ofZone_2 2 rfl rfl)
theorem dX18_ofZone_52 : decode cX18_ofZone 52 = .ok (.if_icmp .ne 11, 3) := dk_160 0 11 (dk_at dksX18_ofZone_2 4 rfl rfl)
theorem dX18_ofZone_55 : decode cX18_ofZone 55 = .ok (.iload_n 2, 1) := dk_28 (dk_at dksX18_ofZone_2 7 rfl rfl)
theorem dX18_ofZone_56 : decode cX18_ofZone 56 = .ok (.iload_n 3, 1) := dk_29 (dk_at dksX18_ofZone_2 8 rfl rfl)
theorem dX18_ofZone_57 : decode cX18_ofZone 57 = .ok (.invokedynamic 87, 5) := by decide +kernel
theorem dX18_ofZone_62 : decode cX18_ofZone 62 = .ok (.areturn, 1) := dk_176 (dk_at dksX18_ofZone_2 14 rfl rfl)
theorem dX18_ofZone_63 : decode cX18_ofZone 63 = .ok (.iload_n 2, 1) := dk_28 (dk_at dksX18_ofZone_2 15 rfl rfl)
theorem dX18_ofZone_64 : decode cX18_ofZone 64 = .ok (.iload_n 3, 1) := dk_29 (dk_at dksX18_ofZone_2 16 rfl rfl)
theorem dX18_ofZone_65 : decode cX18_ofZone 65 = .ok (.invokedynamic 88, 5) := by decide +kernel
theorem dX18_ofZone_70 : decode cX18_ofZone 70 = .ok (.areturn, 1) := dk_176 (dk_at dksX18_ofZone_2 22 rfl rfl)
abbrev cX18_digit : ByteArray := prog_18_method_5_code
def yX18_digit : MethodName := ⟨RX18, "digit", "(CC)I"⟩
def dkwX18_digit_2 : List UInt8 := [181, 0, 28, 29, 16, 48, 100, 172]
abbrev dktX18_digit_2 : List UInt8 := dkwX18_digit_2 ++ []
def dkwX18_digit_1 : List UInt8 := [3, 128, 181, 0, 24, 42, 89, 180, 0, 28, 42, 180, 0, 24, 153, 0, 7, 3, 167, 0, 4, 4, 96]
abbrev dktX18_digit_1 : List UInt8 := dkwX18_digit_1 ++ dktX18_digit_2
def dkwX18_digit_0 : List UInt8 := [42, 182, 0, 50, 62, 42, 89, 180, 0, 24, 29, 27, 161, 0, 8, 29, 28, 164, 0, 7, 4, 167, 0, 4]
abbrev dktX18_digit_0 : List UInt8 := dkwX18_digit_0 ++ dktX18_digit_1
theorem dksX18_digit_0 : cX18_digit.data.toList.drop 0 = dktX18_digit_0 := by decide +kernel
theorem dksX18_digit_1 : cX18_digit.data.toList.drop 24 = dktX18_digit_1 := dk_seg dksX18_digit_0 24 rfl rfl
theorem dksX18_digit_2 : cX18_digit.data.toList.drop 47 = dktX18_digit_2 := dk_seg dksX18_digit_1 23 rfl rfl
theorem dX18_digit_0 : decode cX18_digit 0 = .ok (.aload_n 0, 1) := dk_42 (dk_at dksX18_digit_0 0 rfl rfl)
theorem dX18_digit_1 : decode cX18_digit 1 = .ok (.invokevirtual 50, 3) := dk_182 0 50 (dk_at dksX18_digit_0 1 rfl rfl)
theorem dX18_digit_4 : decode cX18_digit 4 = .ok (.istore_n 3, 1) := dk_62 (dk_at dksX18_digit_0 4 rfl rfl)
theorem dX18_digit_5 : decode cX18_digit 5 = .ok (.aload_n 0, 1) := dk_42 (dk_at dksX18_digit_0 5 rfl rfl)
theorem dX18_digit_6 : decode cX18_digit 6 = .ok (.dup, 1) := dk_89 (dk_at dksX18_digit_0 6 rfl rfl)
theorem dX18_digit_7 : decode cX18_digit 7 = .ok (.getfield 24, 3) := dk_180 0 24 (dk_at dksX18_digit_0 7 rfl rfl)
theorem dX18_digit_10 : decode cX18_digit 10 = .ok (.iload_n 3, 1) := dk_29 (dk_at dksX18_digit_0 10 rfl rfl)
theorem dX18_digit_11 : decode cX18_digit 11 = .ok (.iload_n 1, 1) := dk_27 (dk_at dksX18_digit_0 11 rfl rfl)
theorem dX18_digit_12 : decode cX18_digit 12 = .ok (.if_icmp .lt 8, 3) := dk_161 0 8 (dk_at dksX18_digit_0 12 rfl rfl)
theorem dX18_digit_15 : decode cX18_digit 15 = .ok (.iload_n 3, 1) := dk_29 (dk_at dksX18_digit_0 15 rfl rfl)
theorem dX18_digit_16 : decode cX18_digit 16 = .ok (.iload_n 2, 1) := dk_28 (dk_at dksX18_digit_0 16 rfl rfl)
theorem dX18_digit_17 : decode cX18_digit 17 = .ok (.if_icmp .le 7, 3) := dk_164 0 7 (dk_at dksX18_digit_0 17 rfl rfl)
theorem dX18_digit_20 : decode cX18_digit 20 = .ok (.iconst 1, 1) := dk_4 (dk_at dksX18_digit_0 20 rfl rfl)
theorem dX18_digit_21 : decode cX18_digit 21 = .ok (.goto 4, 3) := dk_167 0 4 (dk_at dksX18_digit_0 21 rfl rfl)
theorem dX18_digit_24 : decode cX18_digit 24 = .ok (.iconst 0, 1) := dk_3 (dk_at dksX18_digit_1 0 rfl rfl)
theorem dX18_digit_25 : decode cX18_digit 25 = .ok (.ior, 1) := dk_128 (dk_at dksX18_digit_1 1 rfl rfl)
theorem dX18_digit_26 : decode cX18_digit 26 = .ok (.putfield 24, 3) := dk_181 0 24 (dk_at dksX18_digit_1 2 rfl rfl)
theorem dX18_digit_29 : decode cX18_digit 29 = .ok (.aload_n 0, 1) := dk_42 (dk_at dksX18_digit_1 5 rfl rfl)
theorem dX18_digit_30 : decode cX18_digit 30 = .ok (.dup, 1) := dk_89 (dk_at dksX18_digit_1 6 rfl rfl)
theorem dX18_digit_31 : decode cX18_digit 31 = .ok (.getfield 28, 3) := dk_180 0 28 (dk_at dksX18_digit_1 7 rfl rfl)
theorem dX18_digit_34 : decode cX18_digit 34 = .ok (.aload_n 0, 1) := dk_42 (dk_at dksX18_digit_1 10 rfl rfl)
theorem dX18_digit_35 : decode cX18_digit 35 = .ok (.getfield 24, 3) := dk_180 0 24 (dk_at dksX18_digit_1 11 rfl rfl)
theorem dX18_digit_38 : decode cX18_digit 38 = .ok (.ifCond .eq 7, 3) := dk_153 0 7 (dk_at dksX18_digit_1 14 rfl rfl)
theorem dX18_digit_41 : decode cX18_digit 41 = .ok (.iconst 0, 1) := dk_3 (dk_at dksX18_digit_1 17 rfl rfl)
theorem dX18_digit_42 : decode cX18_digit 42 = .ok (.goto 4, 3) := dk_167 0 4 (dk_at dksX18_digit_1 18 rfl rfl)
theorem dX18_digit_45 : decode cX18_digit 45 = .ok (.iconst 1, 1) := dk_4 (dk_at dksX18_digit_1 21 rfl rfl)
theorem dX18_digit_46 : decode cX18_digit 46 = .ok (.iadd, 1) := dk_96 (dk_at dksX18_digit_1 22 rfl rfl)
theorem dX18_digit_47 : decode cX18_digit 47 = .ok (.putfield 28, 3) := dk_181 0 28 (dk_at dksX18_digit_2 0 rfl rfl)
theorem dX18_digit_50 : decode cX18_digit 50 = .ok (.iload_n 3, 1) := dk_29 (dk_at dksX18_digit_2 3 rfl rfl)
theorem dX18_digit_51 : decode cX18_digit 51 = .ok (.bipush 48, 2) := dk_16 48 (dk_at dksX18_digit_2 4 rfl rfl)
theorem dX18_digit_53 : decode cX18_digit 53 = .ok (.isub, 1) := dk_100 (dk_at dksX18_digit_2 6 rfl rfl)
theorem dX18_digit_54 : decode cX18_digit 54 = .ok (.ireturn, 1) := dk_172 (dk_at dksX18_digit_2 7 rfl rfl)
abbrev cX18_sign : ByteArray := prog_18_method_4_code
def yX18_sign : MethodName := ⟨RX18, "sign", "(C)V"⟩
def dkwX18_sign_1 : List UInt8 := [180, 0, 28, 42, 180, 0, 24, 153, 0, 7, 3, 167, 0, 4, 4, 96, 181, 0, 28, 177]
abbrev dktX18_sign_1 : List UInt8 := dkwX18_sign_1 ++ []
def dkwX18_sign_0 : List UInt8 := [42, 89, 180, 0, 24, 42, 182, 0, 50, 27, 159, 0, 7, 4, 167, 0, 4, 3, 128, 181, 0, 24, 42, 89]
abbrev dktX18_sign_0 : List UInt8 := dkwX18_sign_0 ++ dktX18_sign_1
theorem dksX18_sign_0 : cX18_sign.data.toList.drop 0 = dktX18_sign_0 := by decide +kernel
theorem dksX18_sign_1 : cX18_sign.data.toList.drop 24 = dktX18_sign_1 := dk_seg dksX18_sign_0 24 rfl rfl
theorem dX18_sign_0 : decode cX18_sign 0 = .ok (.aload_n 0, 1) := dk_42 (dk_at dksX18_sign_0 0 rfl rfl)
theorem dX18_sign_1 : decode cX18_sign 1 = .ok (.dup, 1) := dk_89 (dk_at dksX18_sign_0 1 rfl rfl)
theorem dX18_sign_2 : decode cX18_sign 2 = .ok (.getfield 24, 3) := dk_180 0 24 (dk_at dksX18_sign_0 2 rfl rfl)
theorem dX18_sign_5 : decode cX18_sign 5 = .ok (.aload_n 0, 1) := dk_42 (dk_at dksX18_sign_0 5 rfl rfl)
theorem dX18_sign_6 : decode cX18_sign 6 = .ok (.invokevirtual 50, 3) := dk_182 0 50 (dk_at dksX18_sign_0 6 rfl rfl)
theorem dX18_sign_9 : decode cX18_sign 9 = .ok (.iload_n 1, 1) := dk_27 (dk_at dksX18_sign_0 9 rfl rfl)
theorem dX18_sign_10 : decode cX18_sign 10 = .ok (.if_icmp .eq 7, 3) := dk_159 0 7 (dk_at dksX18_sign_0 10 rfl rfl)
theorem dX18_sign_13 : decode cX18_sign 13 = .ok (.iconst 1, 1) := dk_4 (dk_at dksX18_sign_0 13 rfl rfl)
theorem dX18_sign_14 : decode cX18_sign 14 = .ok (.goto 4, 3) := dk_167 0 4 (dk_at dksX18_sign_0 14 rfl rfl)
theorem dX18_sign_17 : decode cX18_sign 17 = .ok (.iconst 0, 1) := dk_3 (dk_at dksX18_sign_0 17 rfl rfl)
theorem dX18_sign_18 : decode cX18_sign 18 = .ok (.ior, 1) := dk_128 (dk_at dksX18_sign_0 18 rfl rfl)
theorem dX18_sign_19 : decode cX18_sign 19 = .ok (.putfield 24, 3) := dk_181 0 24 (dk_at dksX18_sign_0 19 rfl rfl)
theorem dX18_sign_22 : decode cX18_sign 22 = .ok (.aload_n 0, 1) := dk_42 (dk_at dksX18_sign_0 22 rfl rfl)
theorem dX18_sign_23 : decode cX18_sign 23 = .ok (.dup, 1) := dk_89 (dk_at dksX18_sign_0 23 rfl rfl)
theorem dX18_sign_24 : decode cX18_sign 24 = .ok (.getfield 28, 3) := dk_180 0 28 (dk_at dksX18_sign_1 0 rfl rfl)
theorem dX18_sign_27 : decode cX18_sign 27 = .ok (.aload_n 0, 1) := dk_42 (dk_at dksX18_sign_1 3 rfl rfl)
theorem dX18_sign_28 : decode cX18_sign 28 = .ok (.getfield 24, 3) := dk_180 0 24 (dk_at dksX18_sign_1 4 rfl rfl)
theorem dX18_sign_31 : decode cX18_sign 31 = .ok (.ifCond .eq 7, 3) := dk_153 0 7 (dk_at dksX18_sign_1 7 rfl rfl)
theorem dX18_sign_34 : decode cX18_sign 34 = .ok (.iconst 0, 1) := dk_3 (dk_at dksX18_sign_1 10 rfl rfl)
theorem dX18_sign_35 : decode cX18_sign 35 = .ok (.goto 4, 3) := dk_167 0 4 (dk_at dksX18_sign_1 11 rfl rfl)
theorem dX18_sign_38 : decode cX18_sign 38 = .ok (.iconst 1, 1) := dk_4 (dk_at dksX18_sign_1 14 rfl rfl)
theorem dX18_sign_39 : decode cX18_sign 39 = .ok (.iadd, 1) := dk_96 (dk_at dksX18_sign_1 15 rfl rfl)
theorem dX18_sign_40 : decode cX18_sign 40 = .ok (.putfield 28, 3) := dk_181 0 28 (dk_at dksX18_sign_1 16 rfl rfl)
theorem dX18_sign_43 : decode cX18_sign 43 = .ok (.return_, 1) := dk_177 (dk_at dksX18_sign_1 19 rfl rfl)
abbrev cX18_lambda_ofZone_0 : ByteArray := prog_18_method_20_code
def yX18_lambda_ofZone_0 : MethodName := ⟨RX18, "lambda$ofZone$0", "(IILAnnealingLehr$State;)Z"⟩
def dkwX18_lambda_ofZone_0_0 : List UInt8 := [44, 26, 27, 182, 0, 119, 172]
abbrev dktX18_lambda_ofZone_0_0 : List UInt8 := dkwX18_lambda_ofZone_0_0 ++ []
theorem dksX18_lambda_ofZone_0_0 : cX18_lambda_ofZone_0.data.toList.drop 0 = dktX18_lambda_ofZone_0_0 := by decide +kernel
theorem dX18_lambda_ofZone_0_0 : decode cX18_lambda_ofZone_0 0 = .ok (.aload_n 2, 1) := dk_44 (dk_at dksX18_lambda_ofZone_0_0 0 rfl rfl)
theorem dX18_lambda_ofZone_0_1 : decode cX18_lambda_ofZone_0 1 = .ok (.iload_n 0, 1) := dk_26 (dk_at dksX18_lambda_ofZone_0_0 1 rfl rfl)
theorem dX18_lambda_ofZone_0_2 : decode cX18_lambda_ofZone_0 2 = .ok (.iload_n 1, 1) := dk_27 (dk_at dksX18_lambda_ofZone_0_0 2 rfl rfl)
theorem dX18_lambda_ofZone_0_3 : decode cX18_lambda_ofZone_0 3 = .ok (.invokevirtual 119, 3) := dk_182 0 119 (dk_at dksX18_lambda_ofZone_0_0 3 rfl rfl)
theorem dX18_lambda_ofZone_0_6 : decode cX18_lambda_ofZone_0 6 = .ok (.ireturn, 1) := dk_172 (dk_at dksX18_lambda_ofZone_0_0 6 rfl rfl)
abbrev cX18_lambda_ofZone_1 : ByteArray := prog_18_method_19_code
def yX18_lambda_ofZone_1 : MethodName := ⟨RX18, "lambda$ofZone$1", "(IILAnnealingLehr$State;)Z"⟩
def dkwX18_lambda_ofZone_1_0 : List UInt8 := [44, 26, 27, 182, 0, 116, 172]
abbrev dktX18_lambda_ofZone_1_0 : List UInt8 := dkwX18_lambda_ofZone_1_0 ++ []
theorem dksX18_lambda_ofZone_1_0 : cX18_lambda_ofZone_1.data.toList.drop 0 = dktX18_lambda_ofZone_1_0 := by decide +kernel
theorem dX18_lambda_ofZone_1_0 : decode cX18_lambda_ofZone_1 0 = .ok (.aload_n 2, 1) := dk_44 (dk_at dksX18_lambda_ofZone_1_0 0 rfl rfl)
theorem dX18_lambda_ofZone_1_1 : decode cX18_lambda_ofZone_1 1 = .ok (.iload_n 0, 1) := dk_26 (dk_at dksX18_lambda_ofZone_1_0 1 rfl rfl)
theorem dX18_lambda_ofZone_1_2 : decode cX18_lambda_ofZone_1 2 = .ok (.iload_n 1, 1) := dk_27 (dk_at dksX18_lambda_ofZone_1_0 2 rfl rfl)
theorem dX18_lambda_ofZone_1_3 : decode cX18_lambda_ofZone_1 3 = .ok (.invokevirtual 116, 3) := dk_182 0 116 (dk_at dksX18_lambda_ofZone_1_0 3 rfl rfl)
theorem dX18_lambda_ofZone_1_6 : decode cX18_lambda_ofZone_1 6 = .ok (.ireturn, 1) := dk_172 (dk_at dksX18_lambda_ofZone_1_0 6 rfl rfl)
abbrev cX18_lambda_ofZone_2 : ByteArray := prog_18_method_18_code
def yX18_lambda_ofZone_2 : MethodName := ⟨RX18, "lambda$ofZone$2", "(IILAnnealingLehr$State;)Z"⟩
def dkwX18_lambda_ofZone_2_0 : List UInt8 := [44, 26, 27, 182, 0, 113, 172]
abbrev dktX18_lambda_ofZone_2_0 : List UInt8 := dkwX18_lambda_ofZone_2_0 ++ []
theorem dksX18_lambda_ofZone_2_0 : cX18_lambda_ofZone_2.data.toList.drop 0 = dktX18_lambda_ofZone_2_0 := by decide +kernel
theorem dX18_lambda_ofZone_2_0 : decode cX18_lambda_ofZone_2 0 = .ok (.aload_n 2, 1) := dk_44 (dk_at dksX18_lambda_ofZone_2_0 0 rfl rfl)
theorem dX18_lambda_ofZone_2_1 : decode cX18_lambda_ofZone_2 1 = .ok (.iload_n 0, 1) := dk_26 (dk_at dksX18_lambda_ofZone_2_0 1 rfl rfl)
theorem dX18_lambda_ofZone_2_2 : decode cX18_lambda_ofZone_2 2 = .ok (.iload_n 1, 1) := dk_27 (dk_at dksX18_lambda_ofZone_2_0 2 rfl rfl)
theorem dX18_lambda_ofZone_2_3 : decode cX18_lambda_ofZone_2 3 = .ok (.invokevirtual 113, 3) := dk_182 0 113 (dk_at dksX18_lambda_ofZone_2_0 3 rfl rfl)
theorem dX18_lambda_ofZone_2_6 : decode cX18_lambda_ofZone_2 6 = .ok (.ireturn, 1) := dk_172 (dk_at dksX18_lambda_ofZone_2_0 6 rfl rfl)
abbrev cX18_opening : ByteArray := prog_18_method_9_code
def yX18_opening : MethodName := ⟨RX18, "opening", "(II)LAnnealingLehr$Work;"⟩
def dkwX18_opening_0 : List UInt8 := [27, 28, 186, 0, 89, 0, 0, 176]
abbrev dktX18_opening_0 : List UInt8 := dkwX18_opening_0 ++ []
theorem dksX18_opening_0 : cX18_opening.data.toList.drop 0 = dktX18_opening_0 := by decide +kernel
theorem dX18_opening_0 : decode cX18_opening 0 = .ok (.iload_n 1, 1) := dk_27 (dk_at dksX18_opening_0 0 rfl rfl)
theorem dX18_opening_1 : decode cX18_opening 1 = .ok (.iload_n 2, 1) := dk_28 (dk_at dksX18_opening_0 1 rfl rfl)
theorem dX18_opening_2 : decode cX18_opening 2 = .ok (.invokedynamic 89, 5) := by decide +kernel
theorem dX18_opening_7 : decode cX18_opening 7 = .ok (.areturn, 1) := dk_176 (dk_at dksX18_opening_0 7 rfl rfl)
abbrev cX18_lambda_opening_3 : ByteArray := prog_18_method_17_code
def yX18_lambda_opening_3 : MethodName := ⟨RX18, "lambda$opening$3", "(IILAnnealingLehr$State;)Z"⟩
def dkwX18_lambda_opening_3_0 : List UInt8 := [44, 26, 27, 182, 0, 110, 172]
abbrev dktX18_lambda_opening_3_0 : List UInt8 := dkwX18_lambda_opening_3_0 ++ []
theorem dksX18_lambda_opening_3_0 : cX18_lambda_opening_3.data.toList.drop 0 = dktX18_lambda_opening_3_0 := by decide +kernel
theorem dX18_lambda_opening_3_0 : decode cX18_lambda_opening_3 0 = .ok (.aload_n 2, 1) := dk_44 (dk_at dksX18_lambda_opening_3_0 0 rfl rfl)
theorem dX18_lambda_opening_3_1 : decode cX18_lambda_opening_3 1 = .ok (.iload_n 0, 1) := dk_26 (dk_at dksX18_lambda_opening_3_0 1 rfl rfl)
theorem dX18_lambda_opening_3_2 : decode cX18_lambda_opening_3 2 = .ok (.iload_n 1, 1) := dk_27 (dk_at dksX18_lambda_opening_3_0 2 rfl rfl)
theorem dX18_lambda_opening_3_3 : decode cX18_lambda_opening_3 3 = .ok (.invokevirtual 110, 3) := dk_182 0 110 (dk_at dksX18_lambda_opening_3_0 3 rfl rfl)
theorem dX18_lambda_opening_3_6 : decode cX18_lambda_opening_3 6 = .ok (.ireturn, 1) := dk_172 (dk_at dksX18_lambda_opening_3_0 6 rfl rfl)
abbrev cX18_number : ByteArray := prog_18_method_6_code
def yX18_number : MethodName := ⟨RX18, "number", "(II)I"⟩
def dkwX18_number_3 : List UInt8 := [62, 29, 172]
abbrev dktX18_number_3 : List UInt8 := dkwX18_number_3 ++ []
def dkwX18_number_2 : List UInt8 := [182, 0, 50, 96, 16, 48, 100, 28, 163, 0, 17, 16, 10, 29, 104, 42, 16, 48, 16, 57, 182, 0, 54, 96]
abbrev dktX18_number_2 : List UInt8 := dkwX18_number_2 ++ dktX18_number_3
def dkwX18_number_1 : List UInt8 := [182, 0, 50, 16, 48, 161, 0, 42, 42, 182, 0, 50, 16, 57, 163, 0, 33, 16, 10, 29, 104, 42]
abbrev dktX18_number_1 : List UInt8 := dkwX18_number_1 ++ dktX18_number_2
def dkwX18_number_0 : List UInt8 := [42, 16, 48, 27, 96, 146, 16, 57, 182, 0, 54, 62, 42, 180, 0, 24, 154, 0, 55, 29, 158, 0, 51, 42]
abbrev dktX18_number_0 : List UInt8 := dkwX18_number_0 ++ dktX18_number_1
theorem dksX18_number_0 : cX18_number.data.toList.drop 0 = dktX18_number_0 := by decide +kernel
theorem dksX18_number_1 : cX18_number.data.toList.drop 24 = dktX18_number_1 := dk_seg dksX18_number_0 24 rfl rfl
theorem dksX18_number_2 : cX18_number.data.toList.drop 46 = dktX18_number_2 := dk_seg dksX18_number_1 22 rfl rfl
theorem dksX18_number_3 : cX18_number.data.toList.drop 70 = dktX18_number_3 := dk_seg dksX18_number_2 24 rfl rfl
theorem dX18_number_0 : decode cX18_number 0 = .ok (.aload_n 0, 1) := dk_42 (dk_at dksX18_number_0 0 rfl rfl)
theorem dX18_number_1 : decode cX18_number 1 = .ok (.bipush 48, 2) := dk_16 48 (dk_at dksX18_number_0 1 rfl rfl)
theorem dX18_number_3 : decode cX18_number 3 = .ok (.iload_n 1, 1) := dk_27 (dk_at dksX18_number_0 3 rfl rfl)
theorem dX18_number_4 : decode cX18_number 4 = .ok (.iadd, 1) := dk_96 (dk_at dksX18_number_0 4 rfl rfl)
theorem dX18_number_5 : decode cX18_number 5 = .ok (.i2c, 1) := dk_146 (dk_at dksX18_number_0 5 rfl rfl)
theorem dX18_number_6 : decode cX18_number 6 = .ok (.bipush 57, 2) := dk_16 57 (dk_at dksX18_number_0 6 rfl rfl)
theorem dX18_number_8 : decode cX18_number 8 = .ok (.invokevirtual 54, 3) := dk_182 0 54 (dk_at dksX18_number_0 8 rfl rfl)
theorem dX18_number_11 : decode cX18_number 11 = .ok (.istore_n 3, 1) := dk_62 (dk_at dksX18_number_0 11 rfl rfl)
theorem dX18_number_12 : decode cX18_number 12 = .ok (.aload_n 0, 1) := dk_42 (dk_at dksX18_number_0 12 rfl rfl)
theorem dX18_number_13 : decode cX18_number 13 = .ok (.getfield 24, 3) := dk_180 0 24 (dk_at dksX18_number_0 13 rfl rfl)
theorem dX18_number_16 : decode cX18_number 16 = .ok (.ifCond .ne 55, 3) := dk_154 0 55 (dk_at dksX18_number_0 16 rfl rfl)
theorem dX18_number_19 : decode cX18_number 19 = .ok (.iload_n 3, 1) := dk_29 (dk_at dksX18_number_0 19 rfl rfl)
theorem dX18_number_20 : decode cX18_number 20 = .ok (.ifCond .le 51, 3) := dk_158 0 51 (dk_at dksX18_number_0 20 rfl rfl)
theorem dX18_number_23 : decode cX18_number 23 = .ok (.aload_n 0, 1) := dk_42 (dk_at dksX18_number_0 23 rfl rfl)
theorem dX18_number_24 : decode cX18_number 24 = .ok (.invokevirtual 50, 3) := dk_182 0 50 (dk_at dksX18_number_1 0 rfl rfl)
theorem dX18_number_27 : decode cX18_number 27 = .ok (.bipush 48, 2) := dk_16 48 (dk_at dksX18_number_1 3 rfl rfl)
theorem dX18_number_29 : decode cX18_number 29 = .ok (.if_icmp .lt 42, 3) := dk_161 0 42 (dk_at dksX18_number_1 5 rfl rfl)
theorem dX18_number_32 : decode cX18_number 32 = .ok (.aload_n 0, 1) := dk_42 (dk_at dksX18_number_1 8 rfl rfl)
theorem dX18_number_33 : decode cX18_number 33 = .ok (.invokevirtual 50, 3) := dk_182 0 50 (dk_at dksX18_number_1 9 rfl rfl)
theorem dX18_number_36 : decode cX18_number 36 = .ok (.bipush 57, 2) := dk_16 57 (dk_at dksX18_number_1 12 rfl rfl)
theorem dX18_number_38 : decode cX18_number 38 = .ok (.if_icmp .gt 33, 3) := dk_163 0 33 (dk_at dksX18_number_1 14 rfl rfl)
theorem dX18_number_41 : decode cX18_number 41 = .ok (.bipush 10, 2) := dk_16 10 (dk_at dksX18_number_1 17 rfl rfl)
theorem dX18_number_43 : decode cX18_number 43 = .ok (.iload_n 3, 1) := dk_29 (dk_at dksX18_number_1 19 rfl rfl)
theorem dX18_number_44 : decode cX18_number 44 = .ok (.imul, 1) := dk_104 (dk_at dksX18_number_1 20 rfl rfl)
theorem dX18_number_45 : decode cX18_number 45 = .ok (.aload_n 0, 1) := dk_42 (dk_at dksX18_number_1 21 rfl rfl)
theorem dX18_number_46 : decode cX18_number 46 = .ok (.invokevirtual 50, 3) := dk_182 0 50 (dk_at dksX18_number_2 0 rfl rfl)
theorem dX18_number_49 : decode cX18_number 49 = .ok (.iadd, 1) := dk_96 (dk_at dksX18_number_2 3 rfl rfl)
theorem dX18_number_50 : decode cX18_number 50 = .ok (.bipush 48, 2) := dk_16 48 (dk_at dksX18_number_2 4 rfl rfl)
theorem dX18_number_52 : decode cX18_number 52 = .ok (.isub, 1) := dk_100 (dk_at dksX18_number_2 6 rfl rfl)
theorem dX18_number_53 : decode cX18_number 53 = .ok (.iload_n 2, 1) := dk_28 (dk_at dksX18_number_2 7 rfl rfl)
theorem dX18_number_54 : decode cX18_number 54 = .ok (.if_icmp .gt 17, 3) := dk_163 0 17 (dk_at dksX18_number_2 8 rfl rfl)
theorem dX18_number_57 : decode cX18_number 57 = .ok (.bipush 10, 2) := dk_16 10 (dk_at dksX18_number_2 11 rfl rfl)
theorem dX18_number_59 : decode cX18_number 59 = .ok (.iload_n 3, 1) := dk_29 (dk_at dksX18_number_2 13 rfl rfl)
theorem dX18_number_60 : decode cX18_number 60 = .ok (.imul, 1) := dk_104 (dk_at dksX18_number_2 14 rfl rfl)
theorem dX18_number_61 : decode cX18_number 61 = .ok (.aload_n 0, 1) := dk_42 (dk_at dksX18_number_2 15 rfl rfl)
theorem dX18_number_62 : decode cX18_number 62 = .ok (.bipush 48, 2) := dk_16 48 (dk_at dksX18_number_2 16 rfl rfl)
theorem dX18_number_64 : decode cX18_number 64 = .ok (.bipush 57, 2) := dk_16 57 (dk_at dksX18_number_2 18 rfl rfl)
theorem dX18_number_66 : decode cX18_number 66 = .ok (.invokevirtual 54, 3) := dk_182 0 54 (dk_at dksX18_number_2 20 rfl rfl)
theorem dX18_number_69 : decode cX18_number 69 = .ok (.iadd, 1) := dk_96 (dk_at dksX18_number_2 23 rfl rfl)
theorem dX18_number_70 : decode cX18_number 70 = .ok (.istore_n 3, 1) := dk_62 (dk_at dksX18_number_3 0 rfl rfl)
theorem dX18_number_71 : decode cX18_number 71 = .ok (.iload_n 3, 1) := dk_29 (dk_at dksX18_number_3 1 rfl rfl)
theorem dX18_number_72 : decode cX18_number 72 = .ok (.ireturn, 1) := dk_172 (dk_at dksX18_number_3 2 rfl rfl)
abbrev cX18_loading : ByteArray := prog_18_method_10_code
def yX18_loading : MethodName := ⟨RX18, "loading", "(I)LAnnealingLehr$Work;"⟩
theorem dX18_loading_0 : decode cX18_loading 0 = .ok (.iload_n 1, 1) := by decide +kernel
theorem dX18_loading_1 : decode cX18_loading 1 = .ok (.invokedynamic 90, 5) := by decide +kernel
theorem dX18_loading_6 : decode cX18_loading 6 = .ok (.areturn, 1) := by decide +kernel
abbrev cX18_lambda_loading_4 : ByteArray := prog_18_method_16_code
def yX18_lambda_loading_4 : MethodName := ⟨RX18, "lambda$loading$4", "(ILAnnealingLehr$State;)Z"⟩
def dkwX18_lambda_loading_4_0 : List UInt8 := [43, 26, 182, 0, 107, 172]
abbrev dktX18_lambda_loading_4_0 : List UInt8 := dkwX18_lambda_loading_4_0 ++ []
theorem dksX18_lambda_loading_4_0 : cX18_lambda_loading_4.data.toList.drop 0 = dktX18_lambda_loading_4_0 := by decide +kernel
theorem dX18_lambda_loading_4_0 : decode cX18_lambda_loading_4 0 = .ok (.aload_n 1, 1) := dk_43 (dk_at dksX18_lambda_loading_4_0 0 rfl rfl)
theorem dX18_lambda_loading_4_1 : decode cX18_lambda_loading_4 1 = .ok (.iload_n 0, 1) := dk_26 (dk_at dksX18_lambda_loading_4_0 1 rfl rfl)
theorem dX18_lambda_loading_4_2 : decode cX18_lambda_loading_4 2 = .ok (.invokevirtual 107, 3) := dk_182 0 107 (dk_at dksX18_lambda_loading_4_0 2 rfl rfl)
theorem dX18_lambda_loading_4_5 : decode cX18_lambda_loading_4 5 = .ok (.ireturn, 1) := dk_172 (dk_at dksX18_lambda_loading_4_0 5 rfl rfl)
abbrev cX18_cleaning : ByteArray := prog_18_method_11_code
def yX18_cleaning : MethodName := ⟨RX18, "cleaning", "()LAnnealingLehr$Work;"⟩
def dkwX18_cleaning_1 : List UInt8 := [28, 186, 0, 92, 0, 0, 176]
abbrev dktX18_cleaning_1 : List UInt8 := dkwX18_cleaning_1 ++ []
def dkwX18_cleaning_0 : List UInt8 := [42, 16, 48, 16, 49, 182, 0, 54, 60, 42, 16, 58, 182, 0, 42, 42, 3, 16, 23, 182, 0, 66, 61, 27]
abbrev dktX18_cleaning_0 : List UInt8 := dkwX18_cleaning_0 ++ dktX18_cleaning_1
theorem dksX18_cleaning_0 : cX18_cleaning.data.toList.drop 0 = dktX18_cleaning_0 := by decide +kernel
theorem dksX18_cleaning_1 : cX18_cleaning.data.toList.drop 24 = dktX18_cleaning_1 := dk_seg dksX18_cleaning_0 24 rfl rfl
theorem dX18_cleaning_0 : decode cX18_cleaning 0 = .ok (.aload_n 0, 1) := dk_42 (dk_at dksX18_cleaning_0 0 rfl rfl)
theorem dX18_cleaning_1 : decode cX18_cleaning 1 = .ok (.bipush 48, 2) := dk_16 48 (dk_at dksX18_cleaning_0 1 rfl rfl)
theorem dX18_cleaning_3 : decode cX18_cleaning 3 = .ok (.bipush 49, 2) := dk_16 49 (dk_at dksX18_cleaning_0 3 rfl rfl)
theorem dX18_cleaning_5 : decode cX18_cleaning 5 = .ok (.invokevirtual 54, 3) := dk_182 0 54 (dk_at dksX18_cleaning_0 5 rfl rfl)
theorem dX18_cleaning_8 : decode cX18_cleaning 8 = .ok (.istore_n 1, 1) := dk_60 (dk_at dksX18_cleaning_0 8 rfl rfl)
theorem dX18_cleaning_9 : decode cX18_cleaning 9 = .ok (.aload_n 0, 1) := dk_42 (dk_at dksX18_cleaning_0 9 rfl rfl)
theorem dX18_cleaning_10 : decode cX18_cleaning 10 = .ok (.bipush 58, 2) := dk_16 58 (dk_at dksX18_cleaning_0 10 rfl rfl)
theorem dX18_cleaning_12 : decode cX18_cleaning 12 = .ok (.invokevirtual 42, 3) := dk_182 0 42 (dk_at dksX18_cleaning_0 12 rfl rfl)
theorem dX18_cleaning_15 : decode cX18_cleaning 15 = .ok (.aload_n 0, 1) := dk_42 (dk_at dksX18_cleaning_0 15 rfl rfl)
theorem dX18_cleaning_16 : decode cX18_cleaning 16 = .ok (.iconst 0, 1) := dk_3 (dk_at dksX18_cleaning_0 16 rfl rfl)
theorem dX18_cleaning_17 : decode cX18_cleaning 17 = .ok (.bipush 23, 2) := dk_16 23 (dk_at dksX18_cleaning_0 17 rfl rfl)
theorem dX18_cleaning_19 : decode cX18_cleaning 19 = .ok (.invokevirtual 66, 3) := dk_182 0 66 (dk_at dksX18_cleaning_0 19 rfl rfl)
theorem dX18_cleaning_22 : decode cX18_cleaning 22 = .ok (.istore_n 2, 1) := dk_61 (dk_at dksX18_cleaning_0 22 rfl rfl)
theorem dX18_cleaning_23 : decode cX18_cleaning 23 = .ok (.iload_n 1, 1) := dk_27 (dk_at dksX18_cleaning_0 23 rfl rfl)
theorem dX18_cleaning_24 : decode cX18_cleaning 24 = .ok (.iload_n 2, 1) := dk_28 (dk_at dksX18_cleaning_1 0 rfl rfl)
theorem dX18_cleaning_25 : decode cX18_cleaning 25 = .ok (.invokedynamic 92, 5) := by decide +kernel
theorem dX18_cleaning_30 : decode cX18_cleaning 30 = .ok (.areturn, 1) := dk_176 (dk_at dksX18_cleaning_1 6 rfl rfl)
abbrev cX18_lambda_cleaning_5 : ByteArray := prog_18_method_15_code
def yX18_lambda_cleaning_5 : MethodName := ⟨RX18, "lambda$cleaning$5", "(IILAnnealingLehr$State;)Z"⟩
def dkwX18_lambda_cleaning_5_0 : List UInt8 := [44, 26, 27, 182, 0, 103, 172]
abbrev dktX18_lambda_cleaning_5_0 : List UInt8 := dkwX18_lambda_cleaning_5_0 ++ []
theorem dksX18_lambda_cleaning_5_0 : cX18_lambda_cleaning_5.data.toList.drop 0 = dktX18_lambda_cleaning_5_0 := by decide +kernel
theorem dX18_lambda_cleaning_5_0 : decode cX18_lambda_cleaning_5 0 = .ok (.aload_n 2, 1) := dk_44 (dk_at dksX18_lambda_cleaning_5_0 0 rfl rfl)
theorem dX18_lambda_cleaning_5_1 : decode cX18_lambda_cleaning_5 1 = .ok (.iload_n 0, 1) := dk_26 (dk_at dksX18_lambda_cleaning_5_0 1 rfl rfl)
theorem dX18_lambda_cleaning_5_2 : decode cX18_lambda_cleaning_5 2 = .ok (.iload_n 1, 1) := dk_27 (dk_at dksX18_lambda_cleaning_5_0 2 rfl rfl)
theorem dX18_lambda_cleaning_5_3 : decode cX18_lambda_cleaning_5 3 = .ok (.invokevirtual 103, 3) := dk_182 0 103 (dk_at dksX18_lambda_cleaning_5_0 3 rfl rfl)
theorem dX18_lambda_cleaning_5_6 : decode cX18_lambda_cleaning_5 6 = .ok (.ireturn, 1) := dk_172 (dk_at dksX18_lambda_cleaning_5_0 6 rfl rfl)
abbrev cX18_passing : ByteArray := prog_18_method_12_code
def yX18_passing : MethodName := ⟨RX18, "passing", "(I)LAnnealingLehr$Work;"⟩
theorem dX18_passing_0 : decode cX18_passing 0 = .ok (.iload_n 1, 1) := by decide +kernel
theorem dX18_passing_1 : decode cX18_passing 1 = .ok (.invokedynamic 93, 5) := by decide +kernel
theorem dX18_passing_6 : decode cX18_passing 6 = .ok (.areturn, 1) := by decide +kernel
abbrev cX18_lambda_passing_6 : ByteArray := prog_18_method_14_code
def yX18_lambda_passing_6 : MethodName := ⟨RX18, "lambda$passing$6", "(ILAnnealingLehr$State;)Z"⟩
def dkwX18_lambda_passing_6_0 : List UInt8 := [43, 26, 182, 0, 97, 172]
abbrev dktX18_lambda_passing_6_0 : List UInt8 := dkwX18_lambda_passing_6_0 ++ []
theorem dksX18_lambda_passing_6_0 : cX18_lambda_passing_6.data.toList.drop 0 = dktX18_lambda_passing_6_0 := by decide +kernel
theorem dX18_lambda_passing_6_0 : decode cX18_lambda_passing_6 0 = .ok (.aload_n 1, 1) := dk_43 (dk_at dksX18_lambda_passing_6_0 0 rfl rfl)
theorem dX18_lambda_passing_6_1 : decode cX18_lambda_passing_6 1 = .ok (.iload_n 0, 1) := dk_26 (dk_at dksX18_lambda_passing_6_0 1 rfl rfl)
theorem dX18_lambda_passing_6_2 : decode cX18_lambda_passing_6 2 = .ok (.invokevirtual 97, 3) := dk_182 0 97 (dk_at dksX18_lambda_passing_6_0 2 rfl rfl)
theorem dX18_lambda_passing_6_5 : decode cX18_lambda_passing_6 5 = .ok (.ireturn, 1) := dk_172 (dk_at dksX18_lambda_passing_6_0 5 rfl rfl)
abbrev cX18_doAll : ByteArray := prog_18_method_13_code
def yX18_doAll : MethodName := ⟨RX18, "doAll", "(LAnnealingLehr$State;)I"⟩
def dkwX18_doAll_1 : List UInt8 := [153, 0, 9, 132, 2, 1, 167, 255, 230, 28, 172]
abbrev dktX18_doAll_1 : List UInt8 := dkwX18_doAll_1 ++ []
def dkwX18_doAll_0 : List UInt8 := [3, 61, 28, 42, 180, 0, 81, 162, 0, 24, 42, 180, 0, 17, 28, 50, 43, 185, 0, 94, 2, 0]
abbrev dktX18_doAll_0 : List UInt8 := dkwX18_doAll_0 ++ dktX18_doAll_1
theorem dksX18_doAll_0 : cX18_doAll.data.toList.drop 0 = dktX18_doAll_0 := by decide +kernel
theorem dksX18_doAll_1 : cX18_doAll.data.toList.drop 22 = dktX18_doAll_1 := dk_seg dksX18_doAll_0 22 rfl rfl
theorem dX18_doAll_0 : decode cX18_doAll 0 = .ok (.iconst 0, 1) := dk_3 (dk_at dksX18_doAll_0 0 rfl rfl)
theorem dX18_doAll_1 : decode cX18_doAll 1 = .ok (.istore_n 2, 1) := dk_61 (dk_at dksX18_doAll_0 1 rfl rfl)
theorem dX18_doAll_2 : decode cX18_doAll 2 = .ok (.iload_n 2, 1) := dk_28 (dk_at dksX18_doAll_0 2 rfl rfl)
theorem dX18_doAll_3 : decode cX18_doAll 3 = .ok (.aload_n 0, 1) := dk_42 (dk_at dksX18_doAll_0 3 rfl rfl)
theorem dX18_doAll_4 : decode cX18_doAll 4 = .ok (.getfield 81, 3) := dk_180 0 81 (dk_at dksX18_doAll_0 4 rfl rfl)
theorem dX18_doAll_7 : decode cX18_doAll 7 = .ok (.if_icmp .ge 24, 3) := dk_162 0 24 (dk_at dksX18_doAll_0 7 rfl rfl)
theorem dX18_doAll_10 : decode cX18_doAll 10 = .ok (.aload_n 0, 1) := dk_42 (dk_at dksX18_doAll_0 10 rfl rfl)
theorem dX18_doAll_11 : decode cX18_doAll 11 = .ok (.getfield 17, 3) := dk_180 0 17 (dk_at dksX18_doAll_0 11 rfl rfl)
theorem dX18_doAll_14 : decode cX18_doAll 14 = .ok (.iload_n 2, 1) := dk_28 (dk_at dksX18_doAll_0 14 rfl rfl)
theorem dX18_doAll_15 : decode cX18_doAll 15 = .ok (.aaload, 1) := dk_50 (dk_at dksX18_doAll_0 15 rfl rfl)
theorem dX18_doAll_16 : decode cX18_doAll 16 = .ok (.aload_n 1, 1) := dk_43 (dk_at dksX18_doAll_0 16 rfl rfl)
theorem dX18_doAll_17 : decode cX18_doAll 17 = .ok (.invokeinterface 94 2, 5) := by decide +kernel
theorem dX18_doAll_22 : decode cX18_doAll 22 = .ok (.ifCond .eq 9, 3) := dk_153 0 9 (dk_at dksX18_doAll_1 0 rfl rfl)
theorem dX18_doAll_25 : decode cX18_doAll 25 = .ok (.iinc 2 1, 3) := dk_132 2 1 (dk_at dksX18_doAll_1 3 rfl rfl)
theorem dX18_doAll_28 : decode cX18_doAll 28 = .ok (.goto (-26), 3) := dk_167 255 230 (dk_at dksX18_doAll_1 6 rfl rfl)
theorem dX18_doAll_31 : decode cX18_doAll 31 = .ok (.iload_n 2, 1) := dk_28 (dk_at dksX18_doAll_1 9 rfl rfl)
theorem dX18_doAll_32 : decode cX18_doAll 32 = .ok (.ireturn, 1) := dk_172 (dk_at dksX18_doAll_1 10 rfl rfl)
theorem q178 : (Jvm.Cond.initialized "AnnealingLehr$TextReader") ∈ lw_all := lw_g (lw_at lw_m1 76 rfl) rfl
theorem q979 : (Jvm.Cond.selects "AnnealingLehr$TextReader" ({ cls := "java/lang/Object", name := "toString", desc := "()Ljava/lang/String;" } : Jvm.MethodName) ({ cls := "java/lang/Object", name := "toString", desc := "()Ljava/lang/String;" } : Jvm.MethodName)) ∈ lw_all := lw_g (lw_at lw_m4 157 rfl) rfl
theorem q1001 : (Jvm.Cond.selects "AnnealingLehr$TextReader" ({ cls := "java/lang/Object", name := "getClass", desc := "()Ljava/lang/Class;" } : Jvm.MethodName) ({ cls := "java/lang/Object", name := "getClass", desc := "()Ljava/lang/Class;" } : Jvm.MethodName)) ∈ lw_all := lw_g (lw_at lw_m4 179 rfl) rfl
theorem q1274 : (Jvm.Cond.fieldLinkNest "AnnealingLehr$TextReader" (32 : Nat) "AnnealingLehr" "buffer" "Ljava/lang/StringBuilder;" "AnnealingLehr") ∈ lw_tbl := lw_at lw_m5 212 rfl
theorem q1465 : (Jvm.Cond.instantiable "AnnealingLehr$TextReader" (5 : Nat)) ∈ lw_all := lw_g (lw_at lw_m6 163 rfl) rfl
theorem q1467 : (Jvm.Cond.instanceMethod ({ cls := "AnnealingLehr$TextReader", name := "<init>", desc := "(LAnnealingLehr;)V" } : Jvm.MethodName)) ∈ lw_all := lw_g (lw_at lw_m6 165 rfl) rfl
theorem q1468 : (Jvm.Cond.code ({ cls := "AnnealingLehr$TextReader", name := "<init>", desc := "(LAnnealingLehr;)V" } : Jvm.MethodName) prog_18_method_1_code (2 : Nat) (Option.none : Option Jvm.ClassFile.FieldType)) ∈ lw_all := lw_g (lw_at lw_m6 166 rfl) rfl
theorem q1469 : (Jvm.Cond.methodLink "AnnealingLehr$TextReader" (9 : Nat) ({ cls := "java/lang/Object", name := "<init>", desc := "()V" } : Jvm.MethodName)) ∈ lw_all := lw_g (lw_at lw_m6 167 rfl) rfl
theorem q1470 : (Jvm.Cond.classLink "AnnealingLehr$TextReader" (15 : Nat) "AnnealingLehr$Work") ∈ lw_all := lw_g (lw_at lw_m6 168 rfl) rfl
theorem q1472 : (Jvm.Cond.fieldLink "AnnealingLehr$TextReader" (28 : Nat) "AnnealingLehr$TextReader" "place" "I") ∈ lw_all := lw_g (lw_at lw_m6 170 rfl) rfl
theorem q1474 : (Jvm.Cond.fieldLink "AnnealingLehr$TextReader" (24 : Nat) "AnnealingLehr$TextReader" "isWrong" "Z") ∈ lw_all := lw_g (lw_at lw_m6 172 rfl) rfl
theorem q1475 : (Jvm.Cond.fieldLink "AnnealingLehr$TextReader" (17 : Nat) "AnnealingLehr$TextReader" "works" "[LAnnealingLehr$Work;") ∈ lw_all := lw_g (lw_at lw_m6 173 rfl) rfl
theorem q1476 : (Jvm.Cond.fieldLink "AnnealingLehr$TextReader" (81 : Nat) "AnnealingLehr$TextReader" "many" "I") ∈ lw_all := lw_g (lw_at lw_m6 174 rfl) rfl
theorem q1477 : (Jvm.Cond.fieldLink "AnnealingLehr$TextReader" (3 : Nat) "AnnealingLehr$TextReader" "this$0" "LAnnealingLehr;") ∈ lw_all := lw_g (lw_at lw_m6 175 rfl) rfl
theorem q1478 : (Jvm.Cond.lays "AnnealingLehr$TextReader" "AnnealingLehr$TextReader" "place" "I") ∈ lw_all := lw_g (lw_at lw_m6 176 rfl) rfl
theorem q1479 : (Jvm.Cond.soleField "AnnealingLehr$TextReader" "place") ∈ lw_all := lw_g (lw_at lw_m6 177 rfl) rfl
theorem q1480 : (Jvm.Cond.lays "AnnealingLehr$TextReader" "AnnealingLehr$TextReader" "isWrong" "Z") ∈ lw_all := lw_g (lw_at lw_m6 178 rfl) rfl
theorem q1481 : (Jvm.Cond.soleField "AnnealingLehr$TextReader" "isWrong") ∈ lw_all := lw_g (lw_at lw_m6 179 rfl) rfl
theorem q1482 : (Jvm.Cond.laysFinal "AnnealingLehr$TextReader" "AnnealingLehr$TextReader" "works" "[LAnnealingLehr$Work;") ∈ lw_all := lw_g (lw_at lw_m6 180 rfl) rfl
theorem q1483 : (Jvm.Cond.soleField "AnnealingLehr$TextReader" "works") ∈ lw_all := lw_g (lw_at lw_m6 181 rfl) rfl
theorem q1484 : (Jvm.Cond.lays "AnnealingLehr$TextReader" "AnnealingLehr$TextReader" "many" "I") ∈ lw_all := lw_g (lw_at lw_m6 182 rfl) rfl
theorem q1485 : (Jvm.Cond.soleField "AnnealingLehr$TextReader" "many") ∈ lw_all := lw_g (lw_at lw_m6 183 rfl) rfl
theorem q1486 : (Jvm.Cond.laysFinal "AnnealingLehr$TextReader" "AnnealingLehr$TextReader" "this$0" "LAnnealingLehr;") ∈ lw_all := lw_g (lw_at lw_m6 184 rfl) rfl
theorem q1487 : (Jvm.Cond.soleField "AnnealingLehr$TextReader" "this$0") ∈ lw_all := lw_g (lw_at lw_m6 185 rfl) rfl
theorem q1488 : (Jvm.Cond.superclass "AnnealingLehr$TextReader" "java/lang/Object") ∈ lw_all := lw_g (lw_at lw_m6 186 rfl) rfl
theorem q1490 : (Jvm.Cond.instanceMethod ({ cls := "AnnealingLehr$TextReader", name := "readAll", desc := "()Z" } : Jvm.MethodName)) ∈ lw_all := lw_g (lw_at lw_m6 188 rfl) rfl
theorem q1491 : (Jvm.Cond.selects "AnnealingLehr$TextReader" ({ cls := "AnnealingLehr$TextReader", name := "readAll", desc := "()Z" } : Jvm.MethodName) ({ cls := "AnnealingLehr$TextReader", name := "readAll", desc := "()Z" } : Jvm.MethodName)) ∈ lw_all := lw_g (lw_at lw_m6 189 rfl) rfl
theorem q1492 : (Jvm.Cond.code ({ cls := "AnnealingLehr$TextReader", name := "readAll", desc := "()Z" } : Jvm.MethodName) prog_18_method_2_code (1 : Nat) (Option.some Jvm.ClassFile.FieldType.boolean)) ∈ lw_all := lw_g (lw_at lw_m6 190 rfl) rfl
theorem q1493 : (Jvm.Cond.methodLink "AnnealingLehr$TextReader" (21 : Nat) ({ cls := "AnnealingLehr$TextReader", name := "part", desc := "()V" } : Jvm.MethodName)) ∈ lw_all := lw_g (lw_at lw_m6 191 rfl) rfl
theorem q1494 : (Jvm.Cond.privateMethod ({ cls := "AnnealingLehr$TextReader", name := "part", desc := "()V" } : Jvm.MethodName)) ∈ lw_tbl := lw_at lw_m6 192 rfl
theorem q1495 : (Jvm.Cond.instanceMethod ({ cls := "AnnealingLehr$TextReader", name := "part", desc := "()V" } : Jvm.MethodName)) ∈ lw_all := lw_g (lw_at lw_m6 193 rfl) rfl
theorem q1496 : (Jvm.Cond.code ({ cls := "AnnealingLehr$TextReader", name := "part", desc := "()V" } : Jvm.MethodName) prog_18_method_7_code (3 : Nat) (Option.none : Option Jvm.ClassFile.FieldType)) ∈ lw_all := lw_g (lw_at lw_m6 194 rfl) rfl
theorem q1497 : (Jvm.Cond.methodLink "AnnealingLehr$TextReader" (50 : Nat) ({ cls := "AnnealingLehr$TextReader", name := "next", desc := "()C" } : Jvm.MethodName)) ∈ lw_all := lw_g (lw_at lw_m6 195 rfl) rfl
theorem q1498 : (Jvm.Cond.privateMethod ({ cls := "AnnealingLehr$TextReader", name := "next", desc := "()C" } : Jvm.MethodName)) ∈ lw_tbl := lw_at lw_m6 196 rfl
theorem q1499 : (Jvm.Cond.instanceMethod ({ cls := "AnnealingLehr$TextReader", name := "next", desc := "()C" } : Jvm.MethodName)) ∈ lw_all := lw_g (lw_at lw_m6 197 rfl) rfl
theorem q1500 : (Jvm.Cond.code ({ cls := "AnnealingLehr$TextReader", name := "next", desc := "()C" } : Jvm.MethodName) prog_18_method_3_code (1 : Nat) (Option.some Jvm.ClassFile.FieldType.char)) ∈ lw_all := lw_g (lw_at lw_m6 198 rfl) rfl
theorem q1501 : (Jvm.Cond.methodLink "AnnealingLehr$TextReader" (36 : Nat) ({ cls := "java/lang/StringBuilder", name := "length", desc := "()I" } : Jvm.MethodName)) ∈ lw_all := lw_g (lw_at lw_m6 199 rfl) rfl
theorem q1502 : (Jvm.Cond.methodLink "AnnealingLehr$TextReader" (46 : Nat) ({ cls := "java/lang/StringBuilder", name := "charAt", desc := "(I)C" } : Jvm.MethodName)) ∈ lw_all := lw_g (lw_at lw_m6 200 rfl) rfl
theorem q1503 : (Jvm.Cond.methodLink "AnnealingLehr$TextReader" (58 : Nat) ({ cls := "AnnealingLehr$TextReader", name := "ofZone", desc := "(C)LAnnealingLehr$Work;" } : Jvm.MethodName)) ∈ lw_all := lw_g (lw_at lw_m6 201 rfl) rfl
theorem q1504 : (Jvm.Cond.privateMethod ({ cls := "AnnealingLehr$TextReader", name := "ofZone", desc := "(C)LAnnealingLehr$Work;" } : Jvm.MethodName)) ∈ lw_tbl := lw_at lw_m6 202 rfl
theorem q1505 : (Jvm.Cond.instanceMethod ({ cls := "AnnealingLehr$TextReader", name := "ofZone", desc := "(C)LAnnealingLehr$Work;" } : Jvm.MethodName)) ∈ lw_all := lw_g (lw_at lw_m6 203 rfl) rfl
theorem q1506 : (Jvm.Cond.code ({ cls := "AnnealingLehr$TextReader", name := "ofZone", desc := "(C)LAnnealingLehr$Work;" } : Jvm.MethodName) prog_18_method_8_code (4 : Nat) (Option.some (Jvm.ClassFile.FieldType.object "AnnealingLehr$Work"))) ∈ lw_all := lw_g (lw_at lw_m6 204 rfl) rfl
theorem q1507 : (Jvm.Cond.methodLink "AnnealingLehr$TextReader" (54 : Nat) ({ cls := "AnnealingLehr$TextReader", name := "digit", desc := "(CC)I" } : Jvm.MethodName)) ∈ lw_all := lw_g (lw_at lw_m6 205 rfl) rfl
theorem q1508 : (Jvm.Cond.privateMethod ({ cls := "AnnealingLehr$TextReader", name := "digit", desc := "(CC)I" } : Jvm.MethodName)) ∈ lw_tbl := lw_at lw_m6 206 rfl
theorem q1509 : (Jvm.Cond.instanceMethod ({ cls := "AnnealingLehr$TextReader", name := "digit", desc := "(CC)I" } : Jvm.MethodName)) ∈ lw_all := lw_g (lw_at lw_m6 207 rfl) rfl
theorem q1510 : (Jvm.Cond.code ({ cls := "AnnealingLehr$TextReader", name := "digit", desc := "(CC)I" } : Jvm.MethodName) prog_18_method_5_code (4 : Nat) (Option.some Jvm.ClassFile.FieldType.int)) ∈ lw_all := lw_g (lw_at lw_m6 208 rfl) rfl
theorem q1511 : (Jvm.Cond.methodLink "AnnealingLehr$TextReader" (42 : Nat) ({ cls := "AnnealingLehr$TextReader", name := "sign", desc := "(C)V" } : Jvm.MethodName)) ∈ lw_all := lw_g (lw_at lw_m6 209 rfl) rfl
theorem q1512 : (Jvm.Cond.privateMethod ({ cls := "AnnealingLehr$TextReader", name := "sign", desc := "(C)V" } : Jvm.MethodName)) ∈ lw_tbl := lw_at lw_m6 210 rfl
theorem q1513 : (Jvm.Cond.instanceMethod ({ cls := "AnnealingLehr$TextReader", name := "sign", desc := "(C)V" } : Jvm.MethodName)) ∈ lw_all := lw_g (lw_at lw_m6 211 rfl) rfl
theorem q1514 : (Jvm.Cond.code ({ cls := "AnnealingLehr$TextReader", name := "sign", desc := "(C)V" } : Jvm.MethodName) prog_18_method_4_code (2 : Nat) (Option.none : Option Jvm.ClassFile.FieldType)) ∈ lw_all := lw_g (lw_at lw_m6 212 rfl) rfl
theorem q1515 : (Jvm.Cond.static ({ cls := "AnnealingLehr$TextReader", name := "lambda$ofZone$0", desc := "(IILAnnealingLehr$State;)Z" } : Jvm.MethodName)) ∈ lw_all := lw_g (lw_at lw_m6 213 rfl) rfl
theorem q1516 : (Jvm.Cond.code ({ cls := "AnnealingLehr$TextReader", name := "lambda$ofZone$0", desc := "(IILAnnealingLehr$State;)Z" } : Jvm.MethodName) prog_18_method_20_code (3 : Nat) (Option.some Jvm.ClassFile.FieldType.boolean)) ∈ lw_all := lw_g (lw_at lw_m6 214 rfl) rfl
theorem q1517 : (Jvm.Cond.methodLink "AnnealingLehr$TextReader" (119 : Nat) ({ cls := "AnnealingLehr$State", name := "setBurner", desc := "(II)Z" } : Jvm.MethodName)) ∈ lw_all := lw_g (lw_at lw_m6 215 rfl) rfl
theorem q1521 : (Jvm.Cond.static ({ cls := "AnnealingLehr$TextReader", name := "lambda$ofZone$1", desc := "(IILAnnealingLehr$State;)Z" } : Jvm.MethodName)) ∈ lw_all := lw_g (lw_at lw_m6 219 rfl) rfl
theorem q1522 : (Jvm.Cond.code ({ cls := "AnnealingLehr$TextReader", name := "lambda$ofZone$1", desc := "(IILAnnealingLehr$State;)Z" } : Jvm.MethodName) prog_18_method_19_code (3 : Nat) (Option.some Jvm.ClassFile.FieldType.boolean)) ∈ lw_all := lw_g (lw_at lw_m6 220 rfl) rfl
theorem q1523 : (Jvm.Cond.methodLink "AnnealingLehr$TextReader" (116 : Nat) ({ cls := "AnnealingLehr$State", name := "setFan", desc := "(II)Z" } : Jvm.MethodName)) ∈ lw_all := lw_g (lw_at lw_m6 221 rfl) rfl
theorem q1527 : (Jvm.Cond.static ({ cls := "AnnealingLehr$TextReader", name := "lambda$ofZone$2", desc := "(IILAnnealingLehr$State;)Z" } : Jvm.MethodName)) ∈ lw_all := lw_g (lw_at lw_m6 225 rfl) rfl
theorem q1528 : (Jvm.Cond.code ({ cls := "AnnealingLehr$TextReader", name := "lambda$ofZone$2", desc := "(IILAnnealingLehr$State;)Z" } : Jvm.MethodName) prog_18_method_18_code (3 : Nat) (Option.some Jvm.ClassFile.FieldType.boolean)) ∈ lw_all := lw_g (lw_at lw_m6 226 rfl) rfl
theorem q1529 : (Jvm.Cond.methodLink "AnnealingLehr$TextReader" (113 : Nat) ({ cls := "AnnealingLehr$State", name := "setRollers", desc := "(II)Z" } : Jvm.MethodName)) ∈ lw_all := lw_g (lw_at lw_m6 227 rfl) rfl
theorem q1533 : (Jvm.Cond.methodLink "AnnealingLehr$TextReader" (62 : Nat) ({ cls := "AnnealingLehr$TextReader", name := "opening", desc := "(II)LAnnealingLehr$Work;" } : Jvm.MethodName)) ∈ lw_all := lw_g (lw_at lw_m6 231 rfl) rfl
theorem q1534 : (Jvm.Cond.privateMethod ({ cls := "AnnealingLehr$TextReader", name := "opening", desc := "(II)LAnnealingLehr$Work;" } : Jvm.MethodName)) ∈ lw_tbl := lw_at lw_m6 232 rfl
theorem q1535 : (Jvm.Cond.instanceMethod ({ cls := "AnnealingLehr$TextReader", name := "opening", desc := "(II)LAnnealingLehr$Work;" } : Jvm.MethodName)) ∈ lw_all := lw_g (lw_at lw_m6 233 rfl) rfl
theorem q1536 : (Jvm.Cond.code ({ cls := "AnnealingLehr$TextReader", name := "opening", desc := "(II)LAnnealingLehr$Work;" } : Jvm.MethodName) prog_18_method_9_code (3 : Nat) (Option.some (Jvm.ClassFile.FieldType.object "AnnealingLehr$Work"))) ∈ lw_all := lw_g (lw_at lw_m6 234 rfl) rfl
theorem q1537 : (Jvm.Cond.static ({ cls := "AnnealingLehr$TextReader", name := "lambda$opening$3", desc := "(IILAnnealingLehr$State;)Z" } : Jvm.MethodName)) ∈ lw_all := lw_g (lw_at lw_m6 235 rfl) rfl
theorem q1538 : (Jvm.Cond.code ({ cls := "AnnealingLehr$TextReader", name := "lambda$opening$3", desc := "(IILAnnealingLehr$State;)Z" } : Jvm.MethodName) prog_18_method_17_code (3 : Nat) (Option.some Jvm.ClassFile.FieldType.boolean)) ∈ lw_all := lw_g (lw_at lw_m6 236 rfl) rfl
theorem q1539 : (Jvm.Cond.methodLink "AnnealingLehr$TextReader" (110 : Nat) ({ cls := "AnnealingLehr$State", name := "openLot", desc := "(II)Z" } : Jvm.MethodName)) ∈ lw_all := lw_g (lw_at lw_m6 237 rfl) rfl
theorem q1610 : (Jvm.Cond.methodLink "AnnealingLehr$TextReader" (66 : Nat) ({ cls := "AnnealingLehr$TextReader", name := "number", desc := "(II)I" } : Jvm.MethodName)) ∈ lw_all := lw_g (lw_at lw_m7 68 rfl) rfl
theorem q1611 : (Jvm.Cond.privateMethod ({ cls := "AnnealingLehr$TextReader", name := "number", desc := "(II)I" } : Jvm.MethodName)) ∈ lw_tbl := lw_at lw_m7 69 rfl
theorem q1612 : (Jvm.Cond.instanceMethod ({ cls := "AnnealingLehr$TextReader", name := "number", desc := "(II)I" } : Jvm.MethodName)) ∈ lw_all := lw_g (lw_at lw_m7 70 rfl) rfl
theorem q1613 : (Jvm.Cond.code ({ cls := "AnnealingLehr$TextReader", name := "number", desc := "(II)I" } : Jvm.MethodName) prog_18_method_6_code (4 : Nat) (Option.some Jvm.ClassFile.FieldType.int)) ∈ lw_all := lw_g (lw_at lw_m7 71 rfl) rfl
theorem q1614 : (Jvm.Cond.methodLink "AnnealingLehr$TextReader" (70 : Nat) ({ cls := "AnnealingLehr$TextReader", name := "loading", desc := "(I)LAnnealingLehr$Work;" } : Jvm.MethodName)) ∈ lw_all := lw_g (lw_at lw_m7 72 rfl) rfl
theorem q1615 : (Jvm.Cond.privateMethod ({ cls := "AnnealingLehr$TextReader", name := "loading", desc := "(I)LAnnealingLehr$Work;" } : Jvm.MethodName)) ∈ lw_tbl := lw_at lw_m7 73 rfl
theorem q1616 : (Jvm.Cond.instanceMethod ({ cls := "AnnealingLehr$TextReader", name := "loading", desc := "(I)LAnnealingLehr$Work;" } : Jvm.MethodName)) ∈ lw_all := lw_g (lw_at lw_m7 74 rfl) rfl
theorem q1617 : (Jvm.Cond.code ({ cls := "AnnealingLehr$TextReader", name := "loading", desc := "(I)LAnnealingLehr$Work;" } : Jvm.MethodName) prog_18_method_10_code (2 : Nat) (Option.some (Jvm.ClassFile.FieldType.object "AnnealingLehr$Work"))) ∈ lw_all := lw_g (lw_at lw_m7 75 rfl) rfl
theorem q1618 : (Jvm.Cond.static ({ cls := "AnnealingLehr$TextReader", name := "lambda$loading$4", desc := "(ILAnnealingLehr$State;)Z" } : Jvm.MethodName)) ∈ lw_all := lw_g (lw_at lw_m7 76 rfl) rfl
theorem q1619 : (Jvm.Cond.code ({ cls := "AnnealingLehr$TextReader", name := "lambda$loading$4", desc := "(ILAnnealingLehr$State;)Z" } : Jvm.MethodName) prog_18_method_16_code (2 : Nat) (Option.some Jvm.ClassFile.FieldType.boolean)) ∈ lw_all := lw_g (lw_at lw_m7 77 rfl) rfl
theorem q1620 : (Jvm.Cond.methodLink "AnnealingLehr$TextReader" (107 : Nat) ({ cls := "AnnealingLehr$State", name := "load", desc := "(I)Z" } : Jvm.MethodName)) ∈ lw_all := lw_g (lw_at lw_m7 78 rfl) rfl
theorem q1733 : (Jvm.Cond.selects "AnnealingLehr$TextReader" ({ cls := "java/lang/Object", name := "hashCode", desc := "()I" } : Jvm.MethodName) ({ cls := "java/lang/Object", name := "hashCode", desc := "()I" } : Jvm.MethodName)) ∈ lw_all := lw_g (lw_at lw_m7 191 rfl) rfl
theorem q2186 : (Jvm.Cond.selects "AnnealingLehr$TextReader" ({ cls := "java/lang/Object", name := "equals", desc := "(Ljava/lang/Object;)Z" } : Jvm.MethodName) ({ cls := "java/lang/Object", name := "equals", desc := "(Ljava/lang/Object;)Z" } : Jvm.MethodName)) ∈ lw_all := lw_g (lw_at lw_m9 164 rfl) rfl
theorem q2292 : (Jvm.Cond.methodLink "AnnealingLehr$TextReader" (74 : Nat) ({ cls := "AnnealingLehr$TextReader", name := "cleaning", desc := "()LAnnealingLehr$Work;" } : Jvm.MethodName)) ∈ lw_all := lw_g (lw_at lw_m10 30 rfl) rfl
theorem q2293 : (Jvm.Cond.privateMethod ({ cls := "AnnealingLehr$TextReader", name := "cleaning", desc := "()LAnnealingLehr$Work;" } : Jvm.MethodName)) ∈ lw_tbl := lw_at lw_m10 31 rfl
theorem q2294 : (Jvm.Cond.instanceMethod ({ cls := "AnnealingLehr$TextReader", name := "cleaning", desc := "()LAnnealingLehr$Work;" } : Jvm.MethodName)) ∈ lw_all := lw_g (lw_at lw_m10 32 rfl) rfl
theorem q2295 : (Jvm.Cond.code ({ cls := "AnnealingLehr$TextReader", name := "cleaning", desc := "()LAnnealingLehr$Work;" } : Jvm.MethodName) prog_18_method_11_code (3 : Nat) (Option.some (Jvm.ClassFile.FieldType.object "AnnealingLehr$Work"))) ∈ lw_all := lw_g (lw_at lw_m10 33 rfl) rfl
theorem q2296 : (Jvm.Cond.static ({ cls := "AnnealingLehr$TextReader", name := "lambda$cleaning$5", desc := "(IILAnnealingLehr$State;)Z" } : Jvm.MethodName)) ∈ lw_all := lw_g (lw_at lw_m10 34 rfl) rfl
theorem q2297 : (Jvm.Cond.code ({ cls := "AnnealingLehr$TextReader", name := "lambda$cleaning$5", desc := "(IILAnnealingLehr$State;)Z" } : Jvm.MethodName) prog_18_method_15_code (3 : Nat) (Option.some Jvm.ClassFile.FieldType.boolean)) ∈ lw_all := lw_g (lw_at lw_m10 35 rfl) rfl
theorem q2298 : (Jvm.Cond.methodLink "AnnealingLehr$TextReader" (103 : Nat) ({ cls := "AnnealingLehr$State", name := "sendCleaner", desc := "(II)Z" } : Jvm.MethodName)) ∈ lw_all := lw_g (lw_at lw_m10 36 rfl) rfl
theorem q2315 : (Jvm.Cond.methodLink "AnnealingLehr$TextReader" (78 : Nat) ({ cls := "AnnealingLehr$TextReader", name := "passing", desc := "(I)LAnnealingLehr$Work;" } : Jvm.MethodName)) ∈ lw_all := lw_g (lw_at lw_m10 53 rfl) rfl
theorem q2316 : (Jvm.Cond.privateMethod ({ cls := "AnnealingLehr$TextReader", name := "passing", desc := "(I)LAnnealingLehr$Work;" } : Jvm.MethodName)) ∈ lw_tbl := lw_at lw_m10 54 rfl
theorem q2317 : (Jvm.Cond.instanceMethod ({ cls := "AnnealingLehr$TextReader", name := "passing", desc := "(I)LAnnealingLehr$Work;" } : Jvm.MethodName)) ∈ lw_all := lw_g (lw_at lw_m10 55 rfl) rfl
theorem q2318 : (Jvm.Cond.code ({ cls := "AnnealingLehr$TextReader", name := "passing", desc := "(I)LAnnealingLehr$Work;" } : Jvm.MethodName) prog_18_method_12_code (2 : Nat) (Option.some (Jvm.ClassFile.FieldType.object "AnnealingLehr$Work"))) ∈ lw_all := lw_g (lw_at lw_m10 56 rfl) rfl
theorem q2319 : (Jvm.Cond.static ({ cls := "AnnealingLehr$TextReader", name := "lambda$passing$6", desc := "(ILAnnealingLehr$State;)Z" } : Jvm.MethodName)) ∈ lw_all := lw_g (lw_at lw_m10 57 rfl) rfl
theorem q2320 : (Jvm.Cond.code ({ cls := "AnnealingLehr$TextReader", name := "lambda$passing$6", desc := "(ILAnnealingLehr$State;)Z" } : Jvm.MethodName) prog_18_method_14_code (2 : Nat) (Option.some Jvm.ClassFile.FieldType.boolean)) ∈ lw_all := lw_g (lw_at lw_m10 58 rfl) rfl
theorem q2321 : (Jvm.Cond.methodLink "AnnealingLehr$TextReader" (97 : Nat) ({ cls := "AnnealingLehr$State", name := "pass", desc := "(I)Z" } : Jvm.MethodName)) ∈ lw_all := lw_g (lw_at lw_m10 59 rfl) rfl
theorem q3780 : (Jvm.Cond.instanceMethod ({ cls := "AnnealingLehr$TextReader", name := "doAll", desc := "(LAnnealingLehr$State;)I" } : Jvm.MethodName)) ∈ lw_all := lw_g (lw_at lw_m16 78 rfl) rfl
theorem q3781 : (Jvm.Cond.selects "AnnealingLehr$TextReader" ({ cls := "AnnealingLehr$TextReader", name := "doAll", desc := "(LAnnealingLehr$State;)I" } : Jvm.MethodName) ({ cls := "AnnealingLehr$TextReader", name := "doAll", desc := "(LAnnealingLehr$State;)I" } : Jvm.MethodName)) ∈ lw_all := lw_g (lw_at lw_m16 79 rfl) rfl
theorem q3782 : (Jvm.Cond.code ({ cls := "AnnealingLehr$TextReader", name := "doAll", desc := "(LAnnealingLehr$State;)I" } : Jvm.MethodName) prog_18_method_13_code (3 : Nat) (Option.some Jvm.ClassFile.FieldType.int)) ∈ lw_all := lw_g (lw_at lw_m16 80 rfl) rfl
theorem q3783 : (Jvm.Cond.interfaceEntry "AnnealingLehr$TextReader" (94 : Nat)) ∈ lw_tbl := lw_at lw_m16 81 rfl
theorem q3784 : (Jvm.Cond.methodLink "AnnealingLehr$TextReader" (94 : Nat) ({ cls := "AnnealingLehr$Work", name := "doIt", desc := "(LAnnealingLehr$State;)Z" } : Jvm.MethodName)) ∈ lw_all := lw_g (lw_at lw_m16 82 rfl) rfl
theorem q4471 : (Jvm.Cond.castable "AnnealingLehr$TextReader" "java/lang/Object") ∈ lw_tbl := lw_at lw_m19 49 rfl

set_option maxRecDepth 100000
abbrev cJ52_toString : ByteArray := prog_32_method_4_code
def yJ52_toString : MethodName := ⟨RJ52, "toString", "()Ljava/lang/String;"⟩
theorem dJ52_toString_0 : decode cJ52_toString 0 = .ok (.aload_n 0, 1) := by decide +kernel
theorem dJ52_toString_1 : decode cJ52_toString 1 = .ok (.getfield 1, 3) := by decide +kernel
theorem dJ52_toString_4 : decode cJ52_toString 4 = .ok (.areturn, 1) := by decide +kernel
abbrev cJ52_hashCode : ByteArray := prog_32_method_6_code
def yJ52_hashCode : MethodName := ⟨RJ52, "hashCode", "()I"⟩
def dkwJ52_hashCode_0 : List UInt8 := [42, 180, 0, 17, 60, 27, 154, 0, 13, 42, 42, 184, 0, 20, 90, 181, 0, 17, 60, 27, 172]
abbrev dktJ52_hashCode_0 : List UInt8 := dkwJ52_hashCode_0 ++ []
theorem dksJ52_hashCode_0 : cJ52_hashCode.data.toList.drop 0 = dktJ52_hashCode_0 := by decide +kernel
theorem dJ52_hashCode_0 : decode cJ52_hashCode 0 = .ok (.aload_n 0, 1) := dk_42 (dk_at dksJ52_hashCode_0 0 rfl rfl)
theorem dJ52_hashCode_1 : decode cJ52_hashCode 1 = .ok (.getfield 17, 3) := dk_180 0 17 (dk_at dksJ52_hashCode_0 1 rfl rfl)
theorem dJ52_hashCode_4 : decode cJ52_hashCode 4 = .ok (.istore_n 1, 1) := dk_60 (dk_at dksJ52_hashCode_0 4 rfl rfl)
theorem dJ52_hashCode_5 : decode cJ52_hashCode 5 = .ok (.iload_n 1, 1) := dk_27 (dk_at dksJ52_hashCode_0 5 rfl rfl)
theorem dJ52_hashCode_6 : decode cJ52_hashCode 6 = .ok (.ifCond .ne 13, 3) := dk_154 0 13 (dk_at dksJ52_hashCode_0 6 rfl rfl)
theorem dJ52_hashCode_9 : decode cJ52_hashCode 9 = .ok (.aload_n 0, 1) := dk_42 (dk_at dksJ52_hashCode_0 9 rfl rfl)
theorem dJ52_hashCode_10 : decode cJ52_hashCode 10 = .ok (.aload_n 0, 1) := dk_42 (dk_at dksJ52_hashCode_0 10 rfl rfl)
theorem dJ52_hashCode_11 : decode cJ52_hashCode 11 = .ok (.invokestatic 20, 3) := dk_184 0 20 (dk_at dksJ52_hashCode_0 11 rfl rfl)
theorem dJ52_hashCode_14 : decode cJ52_hashCode 14 = .ok (.dup_x1, 1) := dk_90 (dk_at dksJ52_hashCode_0 14 rfl rfl)
theorem dJ52_hashCode_15 : decode cJ52_hashCode 15 = .ok (.putfield 17, 3) := dk_181 0 17 (dk_at dksJ52_hashCode_0 15 rfl rfl)
theorem dJ52_hashCode_18 : decode cJ52_hashCode 18 = .ok (.istore_n 1, 1) := dk_60 (dk_at dksJ52_hashCode_0 18 rfl rfl)
theorem dJ52_hashCode_19 : decode cJ52_hashCode 19 = .ok (.iload_n 1, 1) := dk_27 (dk_at dksJ52_hashCode_0 19 rfl rfl)
theorem dJ52_hashCode_20 : decode cJ52_hashCode 20 = .ok (.ireturn, 1) := dk_172 (dk_at dksJ52_hashCode_0 20 rfl rfl)
abbrev cJ52_compareTo : ByteArray := prog_32_method_15_code
def yJ52_compareTo : MethodName := ⟨RJ52, "compareTo", "(Ljava/lang/Object;)I"⟩
def dkwJ52_compareTo_0 : List UInt8 := [42, 43, 192, 0, 2, 182, 0, 101, 172]
abbrev dktJ52_compareTo_0 : List UInt8 := dkwJ52_compareTo_0 ++ []
theorem dksJ52_compareTo_0 : cJ52_compareTo.data.toList.drop 0 = dktJ52_compareTo_0 := by decide +kernel
theorem dJ52_compareTo_0 : decode cJ52_compareTo 0 = .ok (.aload_n 0, 1) := dk_42 (dk_at dksJ52_compareTo_0 0 rfl rfl)
theorem dJ52_compareTo_1 : decode cJ52_compareTo 1 = .ok (.aload_n 1, 1) := dk_43 (dk_at dksJ52_compareTo_0 1 rfl rfl)
theorem dJ52_compareTo_2 : decode cJ52_compareTo 2 = .ok (.checkcast 2, 3) := dk_192 0 2 (dk_at dksJ52_compareTo_0 2 rfl rfl)
theorem dJ52_compareTo_5 : decode cJ52_compareTo 5 = .ok (.invokevirtual 101, 3) := dk_182 0 101 (dk_at dksJ52_compareTo_0 5 rfl rfl)
theorem dJ52_compareTo_8 : decode cJ52_compareTo 8 = .ok (.ireturn, 1) := dk_172 (dk_at dksJ52_compareTo_0 8 rfl rfl)
abbrev cJ52_compareTo_2 : ByteArray := prog_32_method_8_code
def yJ52_compareTo_2 : MethodName := ⟨RJ52, "compareTo", "(Ljava/lang/Enum;)I"⟩
def dkwJ52_compareTo_2_1 : List UInt8 := [165, 0, 11, 187, 0, 36, 89, 183, 0, 38, 191, 45, 180, 0, 7, 44, 180, 0, 7, 100, 172]
abbrev dktJ52_compareTo_2_1 : List UInt8 := dkwJ52_compareTo_2_1 ++ []
def dkwJ52_compareTo_2_0 : List UInt8 := [43, 77, 42, 78, 45, 182, 0, 29, 44, 182, 0, 29, 165, 0, 22, 45, 182, 0, 33, 44, 182, 0, 33]
abbrev dktJ52_compareTo_2_0 : List UInt8 := dkwJ52_compareTo_2_0 ++ dktJ52_compareTo_2_1
theorem dksJ52_compareTo_2_0 : cJ52_compareTo_2.data.toList.drop 0 = dktJ52_compareTo_2_0 := by decide +kernel
theorem dksJ52_compareTo_2_1 : cJ52_compareTo_2.data.toList.drop 23 = dktJ52_compareTo_2_1 := dk_seg dksJ52_compareTo_2_0 23 rfl rfl
theorem dJ52_compareTo_2_0 : decode cJ52_compareTo_2 0 = .ok (.aload_n 1, 1) := dk_43 (dk_at dksJ52_compareTo_2_0 0 rfl rfl)
theorem dJ52_compareTo_2_1 : decode cJ52_compareTo_2 1 = .ok (.astore_n 2, 1) := dk_77 (dk_at dksJ52_compareTo_2_0 1 rfl rfl)
theorem dJ52_compareTo_2_2 : decode cJ52_compareTo_2 2 = .ok (.aload_n 0, 1) := dk_42 (dk_at dksJ52_compareTo_2_0 2 rfl rfl)
theorem dJ52_compareTo_2_3 : decode cJ52_compareTo_2 3 = .ok (.astore_n 3, 1) := dk_78 (dk_at dksJ52_compareTo_2_0 3 rfl rfl)
theorem dJ52_compareTo_2_4 : decode cJ52_compareTo_2 4 = .ok (.aload_n 3, 1) := dk_45 (dk_at dksJ52_compareTo_2_0 4 rfl rfl)
theorem dJ52_compareTo_2_5 : decode cJ52_compareTo_2 5 = .ok (.invokevirtual 29, 3) := dk_182 0 29 (dk_at dksJ52_compareTo_2_0 5 rfl rfl)
theorem dJ52_compareTo_2_8 : decode cJ52_compareTo_2 8 = .ok (.aload_n 2, 1) := dk_44 (dk_at dksJ52_compareTo_2_0 8 rfl rfl)
theorem dJ52_compareTo_2_9 : decode cJ52_compareTo_2 9 = .ok (.invokevirtual 29, 3) := dk_182 0 29 (dk_at dksJ52_compareTo_2_0 9 rfl rfl)
theorem dJ52_compareTo_2_12 : decode cJ52_compareTo_2 12 = .ok (.if_acmp .eq 22, 3) := dk_165 0 22 (dk_at dksJ52_compareTo_2_0 12 rfl rfl)
theorem dJ52_compareTo_2_15 : decode cJ52_compareTo_2 15 = .ok (.aload_n 3, 1) := dk_45 (dk_at dksJ52_compareTo_2_0 15 rfl rfl)
theorem dJ52_compareTo_2_16 : decode cJ52_compareTo_2 16 = .ok (.invokevirtual 33, 3) := dk_182 0 33 (dk_at dksJ52_compareTo_2_0 16 rfl rfl)
theorem dJ52_compareTo_2_19 : decode cJ52_compareTo_2 19 = .ok (.aload_n 2, 1) := dk_44 (dk_at dksJ52_compareTo_2_0 19 rfl rfl)
theorem dJ52_compareTo_2_20 : decode cJ52_compareTo_2 20 = .ok (.invokevirtual 33, 3) := dk_182 0 33 (dk_at dksJ52_compareTo_2_0 20 rfl rfl)
theorem dJ52_compareTo_2_23 : decode cJ52_compareTo_2 23 = .ok (.if_acmp .eq 11, 3) := dk_165 0 11 (dk_at dksJ52_compareTo_2_1 0 rfl rfl)
theorem dJ52_compareTo_2_26 : decode cJ52_compareTo_2 26 = .ok (.new 36, 3) := dk_187 0 36 (dk_at dksJ52_compareTo_2_1 3 rfl rfl)
theorem dJ52_compareTo_2_29 : decode cJ52_compareTo_2 29 = .ok (.dup, 1) := dk_89 (dk_at dksJ52_compareTo_2_1 6 rfl rfl)
theorem dJ52_compareTo_2_30 : decode cJ52_compareTo_2 30 = .ok (.invokespecial 38, 3) := dk_183 0 38 (dk_at dksJ52_compareTo_2_1 7 rfl rfl)
theorem dJ52_compareTo_2_33 : decode cJ52_compareTo_2 33 = .ok (.athrow, 1) := dk_191 (dk_at dksJ52_compareTo_2_1 10 rfl rfl)
theorem dJ52_compareTo_2_34 : decode cJ52_compareTo_2 34 = .ok (.aload_n 3, 1) := dk_45 (dk_at dksJ52_compareTo_2_1 11 rfl rfl)
theorem dJ52_compareTo_2_35 : decode cJ52_compareTo_2 35 = .ok (.getfield 7, 3) := dk_180 0 7 (dk_at dksJ52_compareTo_2_1 12 rfl rfl)
theorem dJ52_compareTo_2_38 : decode cJ52_compareTo_2 38 = .ok (.aload_n 2, 1) := dk_44 (dk_at dksJ52_compareTo_2_1 15 rfl rfl)
theorem dJ52_compareTo_2_39 : decode cJ52_compareTo_2 39 = .ok (.getfield 7, 3) := dk_180 0 7 (dk_at dksJ52_compareTo_2_1 16 rfl rfl)
theorem dJ52_compareTo_2_42 : decode cJ52_compareTo_2 42 = .ok (.isub, 1) := dk_100 (dk_at dksJ52_compareTo_2_1 19 rfl rfl)
theorem dJ52_compareTo_2_43 : decode cJ52_compareTo_2 43 = .ok (.ireturn, 1) := dk_172 (dk_at dksJ52_compareTo_2_1 20 rfl rfl)
abbrev cJ52_getDeclaringClass : ByteArray := prog_32_method_9_code
def yJ52_getDeclaringClass : MethodName := ⟨RJ52, "getDeclaringClass", "()Ljava/lang/Class;"⟩
def dkwJ52_getDeclaringClass_0 : List UInt8 := [42, 182, 0, 29, 76, 43, 182, 0, 39, 77, 44, 18, 2, 166, 0, 7, 43, 167, 0, 4, 44, 176]
abbrev dktJ52_getDeclaringClass_0 : List UInt8 := dkwJ52_getDeclaringClass_0 ++ []
theorem dksJ52_getDeclaringClass_0 : cJ52_getDeclaringClass.data.toList.drop 0 = dktJ52_getDeclaringClass_0 := by decide +kernel
theorem dJ52_getDeclaringClass_0 : decode cJ52_getDeclaringClass 0 = .ok (.aload_n 0, 1) := dk_42 (dk_at dksJ52_getDeclaringClass_0 0 rfl rfl)
theorem dJ52_getDeclaringClass_1 : decode cJ52_getDeclaringClass 1 = .ok (.invokevirtual 29, 3) := dk_182 0 29 (dk_at dksJ52_getDeclaringClass_0 1 rfl rfl)
theorem dJ52_getDeclaringClass_4 : decode cJ52_getDeclaringClass 4 = .ok (.astore_n 1, 1) := dk_76 (dk_at dksJ52_getDeclaringClass_0 4 rfl rfl)
theorem dJ52_getDeclaringClass_5 : decode cJ52_getDeclaringClass 5 = .ok (.aload_n 1, 1) := dk_43 (dk_at dksJ52_getDeclaringClass_0 5 rfl rfl)
theorem dJ52_getDeclaringClass_6 : decode cJ52_getDeclaringClass 6 = .ok (.invokevirtual 39, 3) := dk_182 0 39 (dk_at dksJ52_getDeclaringClass_0 6 rfl rfl)
theorem dJ52_getDeclaringClass_9 : decode cJ52_getDeclaringClass 9 = .ok (.astore_n 2, 1) := dk_77 (dk_at dksJ52_getDeclaringClass_0 9 rfl rfl)
theorem dJ52_getDeclaringClass_10 : decode cJ52_getDeclaringClass 10 = .ok (.aload_n 2, 1) := dk_44 (dk_at dksJ52_getDeclaringClass_0 10 rfl rfl)
theorem dJ52_getDeclaringClass_11 : decode cJ52_getDeclaringClass 11 = .ok (.ldc 2, 2) := dk_18 2 (dk_at dksJ52_getDeclaringClass_0 11 rfl rfl)
theorem dJ52_getDeclaringClass_13 : decode cJ52_getDeclaringClass 13 = .ok (.if_acmp .ne 7, 3) := dk_166 0 7 (dk_at dksJ52_getDeclaringClass_0 13 rfl rfl)
theorem dJ52_getDeclaringClass_16 : decode cJ52_getDeclaringClass 16 = .ok (.aload_n 1, 1) := dk_43 (dk_at dksJ52_getDeclaringClass_0 16 rfl rfl)
theorem dJ52_getDeclaringClass_17 : decode cJ52_getDeclaringClass 17 = .ok (.goto 4, 3) := dk_167 0 4 (dk_at dksJ52_getDeclaringClass_0 17 rfl rfl)
theorem dJ52_getDeclaringClass_20 : decode cJ52_getDeclaringClass 20 = .ok (.aload_n 2, 1) := dk_44 (dk_at dksJ52_getDeclaringClass_0 20 rfl rfl)
theorem dJ52_getDeclaringClass_21 : decode cJ52_getDeclaringClass 21 = .ok (.areturn, 1) := dk_176 (dk_at dksJ52_getDeclaringClass_0 21 rfl rfl)
abbrev cJ52_equals : ByteArray := prog_32_method_5_code
def yJ52_equals : MethodName := ⟨RJ52, "equals", "(Ljava/lang/Object;)Z"⟩
def dkwJ52_equals_0 : List UInt8 := [42, 43, 166, 0, 7, 4, 167, 0, 4, 3, 172]
abbrev dktJ52_equals_0 : List UInt8 := dkwJ52_equals_0 ++ []
theorem dksJ52_equals_0 : cJ52_equals.data.toList.drop 0 = dktJ52_equals_0 := by decide +kernel
theorem dJ52_equals_0 : decode cJ52_equals 0 = .ok (.aload_n 0, 1) := dk_42 (dk_at dksJ52_equals_0 0 rfl rfl)
theorem dJ52_equals_1 : decode cJ52_equals 1 = .ok (.aload_n 1, 1) := dk_43 (dk_at dksJ52_equals_0 1 rfl rfl)
theorem dJ52_equals_2 : decode cJ52_equals 2 = .ok (.if_acmp .ne 7, 3) := dk_166 0 7 (dk_at dksJ52_equals_0 2 rfl rfl)
theorem dJ52_equals_5 : decode cJ52_equals 5 = .ok (.iconst 1, 1) := dk_4 (dk_at dksJ52_equals_0 5 rfl rfl)
theorem dJ52_equals_6 : decode cJ52_equals 6 = .ok (.goto 4, 3) := dk_167 0 4 (dk_at dksJ52_equals_0 6 rfl rfl)
theorem dJ52_equals_9 : decode cJ52_equals 9 = .ok (.iconst 0, 1) := dk_3 (dk_at dksJ52_equals_0 9 rfl rfl)
theorem dJ52_equals_10 : decode cJ52_equals 10 = .ok (.ireturn, 1) := dk_172 (dk_at dksJ52_equals_0 10 rfl rfl)
abbrev cJ52_ordinal : ByteArray := prog_32_method_2_code
def yJ52_ordinal : MethodName := ⟨RJ52, "ordinal", "()I"⟩
theorem dJ52_ordinal_0 : decode cJ52_ordinal 0 = .ok (.aload_n 0, 1) := by decide +kernel
theorem dJ52_ordinal_1 : decode cJ52_ordinal 1 = .ok (.getfield 7, 3) := by decide +kernel
theorem dJ52_ordinal_4 : decode cJ52_ordinal 4 = .ok (.ireturn, 1) := by decide +kernel
theorem q171 : (Jvm.Cond.initialized "java/lang/Enum") ∈ lw_all := lw_g (lw_at lw_m1 69 rfl) rfl
theorem q967 : (Jvm.Cond.instanceMethod ({ cls := "java/lang/Enum", name := "toString", desc := "()Ljava/lang/String;" } : Jvm.MethodName)) ∈ lw_all := lw_g (lw_at lw_m4 145 rfl) rfl
theorem q968 : (Jvm.Cond.code ({ cls := "java/lang/Enum", name := "toString", desc := "()Ljava/lang/String;" } : Jvm.MethodName) prog_32_method_4_code (1 : Nat) (Option.some (Jvm.ClassFile.FieldType.object "java/lang/String"))) ∈ lw_all := lw_g (lw_at lw_m4 146 rfl) rfl
theorem q1714 : (Jvm.Cond.instanceMethod ({ cls := "java/lang/Enum", name := "hashCode", desc := "()I" } : Jvm.MethodName)) ∈ lw_all := lw_g (lw_at lw_m7 172 rfl) rfl
theorem q1715 : (Jvm.Cond.code ({ cls := "java/lang/Enum", name := "hashCode", desc := "()I" } : Jvm.MethodName) prog_32_method_6_code (2 : Nat) (Option.some Jvm.ClassFile.FieldType.int)) ∈ lw_all := lw_g (lw_at lw_m7 173 rfl) rfl
theorem q1716 : (Jvm.Cond.methodLink "java/lang/Enum" (20 : Nat) ({ cls := "java/lang/System", name := "identityHashCode", desc := "(Ljava/lang/Object;)I" } : Jvm.MethodName)) ∈ lw_all := lw_g (lw_at lw_m7 174 rfl) rfl
theorem q1915 : (Jvm.Cond.instanceMethod ({ cls := "java/lang/Enum", name := "compareTo", desc := "(Ljava/lang/Object;)I" } : Jvm.MethodName)) ∈ lw_all := lw_g (lw_at lw_m8 133 rfl) rfl
theorem q1916 : (Jvm.Cond.publicMethod ({ cls := "java/lang/Enum", name := "compareTo", desc := "(Ljava/lang/Object;)I" } : Jvm.MethodName)) ∈ lw_tbl := lw_at lw_m8 134 rfl
theorem q1917 : (Jvm.Cond.code ({ cls := "java/lang/Enum", name := "compareTo", desc := "(Ljava/lang/Object;)I" } : Jvm.MethodName) prog_32_method_15_code (2 : Nat) (Option.some Jvm.ClassFile.FieldType.int)) ∈ lw_all := lw_g (lw_at lw_m8 135 rfl) rfl
theorem q1918 : (Jvm.Cond.classLink "java/lang/Enum" (2 : Nat) "java/lang/Enum") ∈ lw_all := lw_g (lw_at lw_m8 136 rfl) rfl
theorem q1919 : (Jvm.Cond.methodLink "java/lang/Enum" (101 : Nat) ({ cls := "java/lang/Enum", name := "compareTo", desc := "(Ljava/lang/Enum;)I" } : Jvm.MethodName)) ∈ lw_all := lw_g (lw_at lw_m8 137 rfl) rfl
theorem q1920 : (Jvm.Cond.instanceMethod ({ cls := "java/lang/Enum", name := "compareTo", desc := "(Ljava/lang/Enum;)I" } : Jvm.MethodName)) ∈ lw_all := lw_g (lw_at lw_m8 138 rfl) rfl
theorem q1921 : (Jvm.Cond.sameMethod "java/lang/Enum" "java/lang/Enum" "compareTo" "(Ljava/lang/Enum;)I") ∈ lw_all := lw_g (lw_at lw_m8 139 rfl) rfl
theorem q1926 : (Jvm.Cond.code ({ cls := "java/lang/Enum", name := "compareTo", desc := "(Ljava/lang/Enum;)I" } : Jvm.MethodName) prog_32_method_8_code (4 : Nat) (Option.some Jvm.ClassFile.FieldType.int)) ∈ lw_all := lw_g (lw_at lw_m8 144 rfl) rfl
theorem q1927 : (Jvm.Cond.methodLink "java/lang/Enum" (29 : Nat) ({ cls := "java/lang/Object", name := "getClass", desc := "()Ljava/lang/Class;" } : Jvm.MethodName)) ∈ lw_all := lw_g (lw_at lw_m8 145 rfl) rfl
theorem q1928 : (Jvm.Cond.methodLink "java/lang/Enum" (33 : Nat) ({ cls := "java/lang/Enum", name := "getDeclaringClass", desc := "()Ljava/lang/Class;" } : Jvm.MethodName)) ∈ lw_all := lw_g (lw_at lw_m8 146 rfl) rfl
theorem q1929 : (Jvm.Cond.instanceMethod ({ cls := "java/lang/Enum", name := "getDeclaringClass", desc := "()Ljava/lang/Class;" } : Jvm.MethodName)) ∈ lw_all := lw_g (lw_at lw_m8 147 rfl) rfl
theorem q1930 : (Jvm.Cond.sameMethod "java/lang/Enum" "java/lang/Enum" "getDeclaringClass" "()Ljava/lang/Class;") ∈ lw_all := lw_g (lw_at lw_m8 148 rfl) rfl
theorem q1935 : (Jvm.Cond.code ({ cls := "java/lang/Enum", name := "getDeclaringClass", desc := "()Ljava/lang/Class;" } : Jvm.MethodName) prog_32_method_9_code (3 : Nat) (Option.some (Jvm.ClassFile.FieldType.object "java/lang/Class"))) ∈ lw_all := lw_g (lw_at lw_m8 153 rfl) rfl
theorem q2168 : (Jvm.Cond.instanceMethod ({ cls := "java/lang/Enum", name := "equals", desc := "(Ljava/lang/Object;)Z" } : Jvm.MethodName)) ∈ lw_all := lw_g (lw_at lw_m9 146 rfl) rfl
theorem q2169 : (Jvm.Cond.code ({ cls := "java/lang/Enum", name := "equals", desc := "(Ljava/lang/Object;)Z" } : Jvm.MethodName) prog_32_method_5_code (2 : Nat) (Option.some Jvm.ClassFile.FieldType.boolean)) ∈ lw_all := lw_g (lw_at lw_m9 147 rfl) rfl
theorem q3432 : (Jvm.Cond.declares ({ cls := "java/lang/Enum", name := "ordinal", desc := "()I" } : Jvm.MethodName)) ∈ lw_tbl := lw_at lw_m14 210 rfl
theorem q3437 : (Jvm.Cond.instanceMethod ({ cls := "java/lang/Enum", name := "ordinal", desc := "()I" } : Jvm.MethodName)) ∈ lw_all := lw_g (lw_at lw_m14 215 rfl) rfl
theorem q3438 : (Jvm.Cond.code ({ cls := "java/lang/Enum", name := "ordinal", desc := "()I" } : Jvm.MethodName) prog_32_method_2_code (1 : Nat) (Option.some Jvm.ClassFile.FieldType.int)) ∈ lw_all := lw_g (lw_at lw_m14 216 rfl) rfl
theorem q4492 : (Jvm.Cond.fieldLink "java/lang/Enum" (17 : Nat) "java/lang/Enum" "hash" "I") ∈ lw_all := lw_g (lw_at lw_m19 70 rfl) rfl
theorem q4493 : (Jvm.Cond.fieldLink "java/lang/Enum" (1 : Nat) "java/lang/Enum" "name" "Ljava/lang/String;") ∈ lw_all := lw_g (lw_at lw_m19 71 rfl) rfl
theorem q4494 : (Jvm.Cond.fieldLink "java/lang/Enum" (7 : Nat) "java/lang/Enum" "ordinal" "I") ∈ lw_all := lw_g (lw_at lw_m19 72 rfl) rfl

