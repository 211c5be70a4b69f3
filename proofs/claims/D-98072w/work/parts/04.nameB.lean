/-! PanSlicesLaw -/
set_option maxRecDepth 100000
def RX0 : String := "PanSlicesLaw"
abbrev cX0_slice : ByteArray := method_3_code
def yX0_slice : MethodName := ⟨RX0, "slice", "(LPanSlices;II[J)I"⟩
def dkwX0_slice_0 : List UInt8 := [45, 3, 42, 27, 28, 182, 0, 7, 133, 80, 167, 0, 7, 58, 4, 4, 172, 3, 172]
abbrev dktX0_slice_0 : List UInt8 := dkwX0_slice_0 ++ []
theorem dksX0_slice_0 : cX0_slice.data.toList.drop 0 = dktX0_slice_0 := by decide +kernel
theorem dX0_slice_0 : decode cX0_slice 0 = .ok (.aload_n 3, 1) := dk_45 (dk_at dksX0_slice_0 0 rfl rfl)
theorem dX0_slice_1 : decode cX0_slice 1 = .ok (.iconst 0, 1) := dk_3 (dk_at dksX0_slice_0 1 rfl rfl)
theorem dX0_slice_2 : decode cX0_slice 2 = .ok (.aload_n 0, 1) := dk_42 (dk_at dksX0_slice_0 2 rfl rfl)
theorem dX0_slice_3 : decode cX0_slice 3 = .ok (.iload_n 1, 1) := dk_27 (dk_at dksX0_slice_0 3 rfl rfl)
theorem dX0_slice_4 : decode cX0_slice 4 = .ok (.iload_n 2, 1) := dk_28 (dk_at dksX0_slice_0 4 rfl rfl)
theorem dX0_slice_5 : decode cX0_slice 5 = .ok (.invokevirtual 7, 3) := dk_182 0 7 (dk_at dksX0_slice_0 5 rfl rfl)
theorem dX0_slice_8 : decode cX0_slice 8 = .ok (.i2l, 1) := dk_133 (dk_at dksX0_slice_0 8 rfl rfl)
theorem dX0_slice_9 : decode cX0_slice 9 = .ok (.lastore, 1) := dk_80 (dk_at dksX0_slice_0 9 rfl rfl)
theorem dX0_slice_10 : decode cX0_slice 10 = .ok (.goto 7, 3) := dk_167 0 7 (dk_at dksX0_slice_0 10 rfl rfl)
theorem dX0_slice_13 : decode cX0_slice 13 = .ok (.astore 4, 2) := dk_58 4 (dk_at dksX0_slice_0 13 rfl rfl)
theorem dX0_slice_15 : decode cX0_slice 15 = .ok (.iconst 1, 1) := dk_4 (dk_at dksX0_slice_0 15 rfl rfl)
theorem dX0_slice_16 : decode cX0_slice 16 = .ok (.ireturn, 1) := dk_172 (dk_at dksX0_slice_0 16 rfl rfl)
theorem dX0_slice_17 : decode cX0_slice 17 = .ok (.iconst 0, 1) := dk_3 (dk_at dksX0_slice_0 17 rfl rfl)
theorem dX0_slice_18 : decode cX0_slice 18 = .ok (.ireturn, 1) := dk_172 (dk_at dksX0_slice_0 18 rfl rfl)
abbrev cX0_guest : ByteArray := method_4_code
def yX0_guest : MethodName := ⟨RX0, "guest", "(LPanSlices;II[J)I"⟩
def dkwX0_guest_0 : List UInt8 := [45, 3, 42, 27, 28, 182, 0, 15, 133, 80, 167, 0, 7, 58, 4, 4, 172, 3, 172]
abbrev dktX0_guest_0 : List UInt8 := dkwX0_guest_0 ++ []
theorem dksX0_guest_0 : cX0_guest.data.toList.drop 0 = dktX0_guest_0 := by decide +kernel
theorem dX0_guest_0 : decode cX0_guest 0 = .ok (.aload_n 3, 1) := dk_45 (dk_at dksX0_guest_0 0 rfl rfl)
theorem dX0_guest_1 : decode cX0_guest 1 = .ok (.iconst 0, 1) := dk_3 (dk_at dksX0_guest_0 1 rfl rfl)
theorem dX0_guest_2 : decode cX0_guest 2 = .ok (.aload_n 0, 1) := dk_42 (dk_at dksX0_guest_0 2 rfl rfl)
theorem dX0_guest_3 : decode cX0_guest 3 = .ok (.iload_n 1, 1) := dk_27 (dk_at dksX0_guest_0 3 rfl rfl)
theorem dX0_guest_4 : decode cX0_guest 4 = .ok (.iload_n 2, 1) := dk_28 (dk_at dksX0_guest_0 4 rfl rfl)
theorem dX0_guest_5 : decode cX0_guest 5 = .ok (.invokevirtual 15, 3) := dk_182 0 15 (dk_at dksX0_guest_0 5 rfl rfl)
theorem dX0_guest_8 : decode cX0_guest 8 = .ok (.i2l, 1) := dk_133 (dk_at dksX0_guest_0 8 rfl rfl)
theorem dX0_guest_9 : decode cX0_guest 9 = .ok (.lastore, 1) := dk_80 (dk_at dksX0_guest_0 9 rfl rfl)
theorem dX0_guest_10 : decode cX0_guest 10 = .ok (.goto 7, 3) := dk_167 0 7 (dk_at dksX0_guest_0 10 rfl rfl)
theorem dX0_guest_13 : decode cX0_guest 13 = .ok (.astore 4, 2) := dk_58 4 (dk_at dksX0_guest_0 13 rfl rfl)
theorem dX0_guest_15 : decode cX0_guest 15 = .ok (.iconst 1, 1) := dk_4 (dk_at dksX0_guest_0 15 rfl rfl)
theorem dX0_guest_16 : decode cX0_guest 16 = .ok (.ireturn, 1) := dk_172 (dk_at dksX0_guest_0 16 rfl rfl)
theorem dX0_guest_17 : decode cX0_guest 17 = .ok (.iconst 0, 1) := dk_3 (dk_at dksX0_guest_0 17 rfl rfl)
theorem dX0_guest_18 : decode cX0_guest 18 = .ok (.ireturn, 1) := dk_172 (dk_at dksX0_guest_0 18 rfl rfl)
abbrev cX0_sort : ByteArray := method_5_code
def yX0_sort : MethodName := ⟨RX0, "sort", "(LPanSlices;II[J)I"⟩
def dkwX0_sort_0 : List UInt8 := [45, 3, 42, 27, 28, 182, 0, 18, 133, 80, 167, 0, 7, 58, 4, 4, 172, 3, 172]
abbrev dktX0_sort_0 : List UInt8 := dkwX0_sort_0 ++ []
theorem dksX0_sort_0 : cX0_sort.data.toList.drop 0 = dktX0_sort_0 := by decide +kernel
theorem dX0_sort_0 : decode cX0_sort 0 = .ok (.aload_n 3, 1) := dk_45 (dk_at dksX0_sort_0 0 rfl rfl)
theorem dX0_sort_1 : decode cX0_sort 1 = .ok (.iconst 0, 1) := dk_3 (dk_at dksX0_sort_0 1 rfl rfl)
theorem dX0_sort_2 : decode cX0_sort 2 = .ok (.aload_n 0, 1) := dk_42 (dk_at dksX0_sort_0 2 rfl rfl)
theorem dX0_sort_3 : decode cX0_sort 3 = .ok (.iload_n 1, 1) := dk_27 (dk_at dksX0_sort_0 3 rfl rfl)
theorem dX0_sort_4 : decode cX0_sort 4 = .ok (.iload_n 2, 1) := dk_28 (dk_at dksX0_sort_0 4 rfl rfl)
theorem dX0_sort_5 : decode cX0_sort 5 = .ok (.invokevirtual 18, 3) := dk_182 0 18 (dk_at dksX0_sort_0 5 rfl rfl)
theorem dX0_sort_8 : decode cX0_sort 8 = .ok (.i2l, 1) := dk_133 (dk_at dksX0_sort_0 8 rfl rfl)
theorem dX0_sort_9 : decode cX0_sort 9 = .ok (.lastore, 1) := dk_80 (dk_at dksX0_sort_0 9 rfl rfl)
theorem dX0_sort_10 : decode cX0_sort 10 = .ok (.goto 7, 3) := dk_167 0 7 (dk_at dksX0_sort_0 10 rfl rfl)
theorem dX0_sort_13 : decode cX0_sort 13 = .ok (.astore 4, 2) := dk_58 4 (dk_at dksX0_sort_0 13 rfl rfl)
theorem dX0_sort_15 : decode cX0_sort 15 = .ok (.iconst 1, 1) := dk_4 (dk_at dksX0_sort_0 15 rfl rfl)
theorem dX0_sort_16 : decode cX0_sort 16 = .ok (.ireturn, 1) := dk_172 (dk_at dksX0_sort_0 16 rfl rfl)
theorem dX0_sort_17 : decode cX0_sort 17 = .ok (.iconst 0, 1) := dk_3 (dk_at dksX0_sort_0 17 rfl rfl)
theorem dX0_sort_18 : decode cX0_sort 18 = .ok (.ireturn, 1) := dk_172 (dk_at dksX0_sort_0 18 rfl rfl)
abbrev cX0_left : ByteArray := method_6_code
def yX0_left : MethodName := ⟨RX0, "left", "(LPanSlices;II[J)I"⟩
def dkwX0_left_0 : List UInt8 := [45, 3, 42, 27, 28, 182, 0, 21, 133, 80, 167, 0, 7, 58, 4, 4, 172, 3, 172]
abbrev dktX0_left_0 : List UInt8 := dkwX0_left_0 ++ []
theorem dksX0_left_0 : cX0_left.data.toList.drop 0 = dktX0_left_0 := by decide +kernel
theorem dX0_left_0 : decode cX0_left 0 = .ok (.aload_n 3, 1) := dk_45 (dk_at dksX0_left_0 0 rfl rfl)
theorem dX0_left_1 : decode cX0_left 1 = .ok (.iconst 0, 1) := dk_3 (dk_at dksX0_left_0 1 rfl rfl)
theorem dX0_left_2 : decode cX0_left 2 = .ok (.aload_n 0, 1) := dk_42 (dk_at dksX0_left_0 2 rfl rfl)
theorem dX0_left_3 : decode cX0_left 3 = .ok (.iload_n 1, 1) := dk_27 (dk_at dksX0_left_0 3 rfl rfl)
theorem dX0_left_4 : decode cX0_left 4 = .ok (.iload_n 2, 1) := dk_28 (dk_at dksX0_left_0 4 rfl rfl)
theorem dX0_left_5 : decode cX0_left 5 = .ok (.invokevirtual 21, 3) := dk_182 0 21 (dk_at dksX0_left_0 5 rfl rfl)
theorem dX0_left_8 : decode cX0_left 8 = .ok (.i2l, 1) := dk_133 (dk_at dksX0_left_0 8 rfl rfl)
theorem dX0_left_9 : decode cX0_left 9 = .ok (.lastore, 1) := dk_80 (dk_at dksX0_left_0 9 rfl rfl)
theorem dX0_left_10 : decode cX0_left 10 = .ok (.goto 7, 3) := dk_167 0 7 (dk_at dksX0_left_0 10 rfl rfl)
theorem dX0_left_13 : decode cX0_left 13 = .ok (.astore 4, 2) := dk_58 4 (dk_at dksX0_left_0 13 rfl rfl)
theorem dX0_left_15 : decode cX0_left 15 = .ok (.iconst 1, 1) := dk_4 (dk_at dksX0_left_0 15 rfl rfl)
theorem dX0_left_16 : decode cX0_left 16 = .ok (.ireturn, 1) := dk_172 (dk_at dksX0_left_0 16 rfl rfl)
theorem dX0_left_17 : decode cX0_left 17 = .ok (.iconst 0, 1) := dk_3 (dk_at dksX0_left_0 17 rfl rfl)
theorem dX0_left_18 : decode cX0_left 18 = .ok (.ireturn, 1) := dk_172 (dk_at dksX0_left_0 18 rfl rfl)
abbrev cX0_mean : ByteArray := method_7_code
def yX0_mean : MethodName := ⟨RX0, "mean", "(LPanSlices;II[J)I"⟩
def dkwX0_mean_0 : List UInt8 := [45, 3, 42, 27, 28, 182, 0, 24, 80, 167, 0, 7, 58, 4, 4, 172, 3, 172]
abbrev dktX0_mean_0 : List UInt8 := dkwX0_mean_0 ++ []
theorem dksX0_mean_0 : cX0_mean.data.toList.drop 0 = dktX0_mean_0 := by decide +kernel
theorem dX0_mean_0 : decode cX0_mean 0 = .ok (.aload_n 3, 1) := dk_45 (dk_at dksX0_mean_0 0 rfl rfl)
theorem dX0_mean_1 : decode cX0_mean 1 = .ok (.iconst 0, 1) := dk_3 (dk_at dksX0_mean_0 1 rfl rfl)
theorem dX0_mean_2 : decode cX0_mean 2 = .ok (.aload_n 0, 1) := dk_42 (dk_at dksX0_mean_0 2 rfl rfl)
theorem dX0_mean_3 : decode cX0_mean 3 = .ok (.iload_n 1, 1) := dk_27 (dk_at dksX0_mean_0 3 rfl rfl)
theorem dX0_mean_4 : decode cX0_mean 4 = .ok (.iload_n 2, 1) := dk_28 (dk_at dksX0_mean_0 4 rfl rfl)
theorem dX0_mean_5 : decode cX0_mean 5 = .ok (.invokevirtual 24, 3) := dk_182 0 24 (dk_at dksX0_mean_0 5 rfl rfl)
theorem dX0_mean_8 : decode cX0_mean 8 = .ok (.lastore, 1) := dk_80 (dk_at dksX0_mean_0 8 rfl rfl)
theorem dX0_mean_9 : decode cX0_mean 9 = .ok (.goto 7, 3) := dk_167 0 7 (dk_at dksX0_mean_0 9 rfl rfl)
theorem dX0_mean_12 : decode cX0_mean 12 = .ok (.astore 4, 2) := dk_58 4 (dk_at dksX0_mean_0 12 rfl rfl)
theorem dX0_mean_14 : decode cX0_mean 14 = .ok (.iconst 1, 1) := dk_4 (dk_at dksX0_mean_0 14 rfl rfl)
theorem dX0_mean_15 : decode cX0_mean 15 = .ok (.ireturn, 1) := dk_172 (dk_at dksX0_mean_0 15 rfl rfl)
theorem dX0_mean_16 : decode cX0_mean 16 = .ok (.iconst 0, 1) := dk_3 (dk_at dksX0_mean_0 16 rfl rfl)
theorem dX0_mean_17 : decode cX0_mean 17 = .ok (.ireturn, 1) := dk_172 (dk_at dksX0_mean_0 17 rfl rfl)
theorem q106 : (Jvm.Cond.initialized "PanSlicesLaw") ∈ lw_all := lw_g (lw_at lw_m1 0 rfl) rfl
theorem q137 : (Jvm.Cond.classLink "PanSlicesLaw" (8 : Nat) "PanSlices") ∈ lw_all := lw_g (lw_at lw_m1 31 rfl) rfl
theorem q139 : (Jvm.Cond.methodLink "PanSlicesLaw" (28 : Nat) ({ cls := "PanSlices", name := "<init>", desc := "()V" } : Jvm.MethodName)) ∈ lw_all := lw_g (lw_at lw_m1 33 rfl) rfl
theorem q631 : (Jvm.Cond.methodLink "PanSlicesLaw" (32 : Nat) ({ cls := "PanSlices", name := "feed", desc := "(IIIII)I" } : Jvm.MethodName)) ∈ lw_all := lw_g (lw_at lw_m3 45 rfl) rfl
theorem q639 : (Jvm.Cond.methodLink "PanSlicesLaw" (37 : Nat) ({ cls := "PanSlices", name := "end", desc := "(I)Z" } : Jvm.MethodName)) ∈ lw_all := lw_g (lw_at lw_m3 53 rfl) rfl
theorem q643 : (Jvm.Cond.methodLink "PanSlicesLaw" (42 : Nat) ({ cls := "PanSlices", name := "kitchen", desc := "()I" } : Jvm.MethodName)) ∈ lw_all := lw_g (lw_at lw_m3 57 rfl) rfl
theorem q814 : (Jvm.Cond.methodLink "PanSlicesLaw" (47 : Nat) ({ cls := "PanSlices", name := "fault", desc := "()I" } : Jvm.MethodName)) ∈ lw_all := lw_g (lw_at lw_m3 228 rfl) rfl
theorem q818 : (Jvm.Cond.methodLink "PanSlicesLaw" (66 : Nat) ({ cls := "PanSlices", name := "plan", desc := "()I" } : Jvm.MethodName)) ∈ lw_all := lw_g (lw_at lw_m3 232 rfl) rfl
theorem q870 : (Jvm.Cond.methodLink "PanSlicesLaw" (70 : Nat) ({ cls := "PanSlices", name := "judge", desc := "()I" } : Jvm.MethodName)) ∈ lw_all := lw_g (lw_at lw_m4 44 rfl) rfl
theorem q890 : (Jvm.Cond.methodLink "PanSlicesLaw" (74 : Nat) ({ cls := "PanSlices", name := "why", desc := "()I" } : Jvm.MethodName)) ∈ lw_all := lw_g (lw_at lw_m4 64 rfl) rfl
theorem q894 : (Jvm.Cond.methodLink "PanSlicesLaw" (78 : Nat) ({ cls := "PanSlices", name := "go", desc := "(II)I" } : Jvm.MethodName)) ∈ lw_all := lw_g (lw_at lw_m4 68 rfl) rfl
theorem q899 : (Jvm.Cond.methodLink "PanSlicesLaw" (85 : Nat) ({ cls := "PanSlices", name := "ends", desc := "()I" } : Jvm.MethodName)) ∈ lw_all := lw_g (lw_at lw_m4 73 rfl) rfl
theorem q910 : (Jvm.Cond.methodLink "PanSlicesLaw" (89 : Nat) ({ cls := "PanSlices", name := "done", desc := "()I" } : Jvm.MethodName)) ∈ lw_all := lw_g (lw_at lw_m4 84 rfl) rfl
theorem q922 : (Jvm.Cond.methodLink "PanSlicesLaw" (93 : Nat) ({ cls := "PanSlices", name := "on", desc := "(I)I" } : Jvm.MethodName)) ∈ lw_all := lw_g (lw_at lw_m4 96 rfl) rfl
theorem q927 : (Jvm.Cond.methodLink "PanSlicesLaw" (98 : Nat) ({ cls := "PanSlices", name := "write", desc := "()I" } : Jvm.MethodName)) ∈ lw_all := lw_g (lw_at lw_m4 101 rfl) rfl
theorem q944 : (Jvm.Cond.methodLink "PanSlicesLaw" (102 : Nat) ({ cls := "PanSlices", name := "byteAt", desc := "(I)I" } : Jvm.MethodName)) ∈ lw_all := lw_g (lw_at lw_m4 118 rfl) rfl
theorem q948 : (Jvm.Cond.methodLink "PanSlicesLaw" (147 : Nat) ({ cls := "PanSlices", name := "undo", desc := "()I" } : Jvm.MethodName)) ∈ lw_all := lw_g (lw_at lw_m4 122 rfl) rfl
theorem q952 : (Jvm.Cond.methodLink "PanSlicesLaw" (130 : Nat) ({ cls := "PanSlices", name := "add", desc := "(IIIII)I" } : Jvm.MethodName)) ∈ lw_all := lw_g (lw_at lw_m4 126 rfl) rfl
theorem q961 : (Jvm.Cond.methodLink "PanSlicesLaw" (134 : Nat) ({ cls := "PanSlices", name := "drop", desc := "(I)Z" } : Jvm.MethodName)) ∈ lw_all := lw_g (lw_at lw_m4 135 rfl) rfl
theorem q973 : (Jvm.Cond.methodLink "PanSlicesLaw" (138 : Nat) ({ cls := "PanSlices", name := "later", desc := "(II)Z" } : Jvm.MethodName)) ∈ lw_all := lw_g (lw_at lw_m4 147 rfl) rfl
theorem q977 : (Jvm.Cond.methodLink "PanSlicesLaw" (143 : Nat) ({ cls := "PanSlices", name := "early", desc := "()I" } : Jvm.MethodName)) ∈ lw_all := lw_g (lw_at lw_m4 151 rfl) rfl
theorem q985 : (Jvm.Cond.methodLink "PanSlicesLaw" (151 : Nat) ({ cls := "PanSlices", name := "idle", desc := "(I)I" } : Jvm.MethodName)) ∈ lw_all := lw_g (lw_at lw_m4 159 rfl) rfl
theorem q993 : (Jvm.Cond.methodLink "PanSlicesLaw" (155 : Nat) ({ cls := "PanSlices", name := "forgotten", desc := "()I" } : Jvm.MethodName)) ∈ lw_all := lw_g (lw_at lw_m4 167 rfl) rfl
theorem q998 : (Jvm.Cond.methodLink "PanSlicesLaw" (159 : Nat) ({ cls := "PanSlices", name := "fewest", desc := "(III)I" } : Jvm.MethodName)) ∈ lw_all := lw_g (lw_at lw_m4 172 rfl) rfl
theorem q1002 : (Jvm.Cond.methodLink "PanSlicesLaw" (126 : Nat) ({ cls := "PanSlices", name := "bound", desc := "(I)I" } : Jvm.MethodName)) ∈ lw_all := lw_g (lw_at lw_m4 176 rfl) rfl
theorem q1016 : (Jvm.Cond.methodLink "PanSlicesLaw" (106 : Nat) ({ cls := "PanSlices", name := "several", desc := "()I" } : Jvm.MethodName)) ∈ lw_all := lw_g (lw_at lw_m4 190 rfl) rfl
theorem q1024 : (Jvm.Cond.methodLink "PanSlicesLaw" (110 : Nat) ({ cls := "PanSlices", name := "one", desc := "()I" } : Jvm.MethodName)) ∈ lw_all := lw_g (lw_at lw_m4 198 rfl) rfl
theorem q1041 : (Jvm.Cond.methodLink "PanSlicesLaw" (114 : Nat) ({ cls := "PanSlices", name := "masters", desc := "()I" } : Jvm.MethodName)) ∈ lw_all := lw_g (lw_at lw_m4 215 rfl) rfl
theorem q1049 : (Jvm.Cond.methodLink "PanSlicesLaw" (118 : Nat) ({ cls := "PanSlices", name := "cook", desc := "(I)I" } : Jvm.MethodName)) ∈ lw_all := lw_g (lw_at lw_m4 223 rfl) rfl
theorem q1093 : (Jvm.Cond.methodLink "PanSlicesLaw" (122 : Nat) ({ cls := "PanSlices", name := "best", desc := "()I" } : Jvm.MethodName)) ∈ lw_all := lw_g (lw_at lw_m5 27 rfl) rfl
theorem q1097 : (Jvm.Cond.methodLink "PanSlicesLaw" (164 : Nat) ({ cls := "PanSlices", name := "alike", desc := "(II)I" } : Jvm.MethodName)) ∈ lw_all := lw_g (lw_at lw_m5 31 rfl) rfl
theorem q1107 : (Jvm.Cond.methodLink "PanSlicesLaw" (168 : Nat) ({ cls := "PanSlices", name := "alikeAt", desc := "(IIII)I" } : Jvm.MethodName)) ∈ lw_all := lw_g (lw_at lw_m5 41 rfl) rfl
theorem q1111 : (Jvm.Cond.methodLink "PanSlicesLaw" (173 : Nat) ({ cls := "PanSlices", name := "served", desc := "(I)I" } : Jvm.MethodName)) ∈ lw_all := lw_g (lw_at lw_m5 45 rfl) rfl
theorem q1130 : (Jvm.Cond.methodLink "PanSlicesLaw" (177 : Nat) ({ cls := "PanSlices", name := "servedAt", desc := "(I)I" } : Jvm.MethodName)) ∈ lw_all := lw_g (lw_at lw_m5 64 rfl) rfl
theorem q1134 : (Jvm.Cond.methodLink "PanSlicesLaw" (184 : Nat) ({ cls := "PanSlices", name := "hotel", desc := "(III)I" } : Jvm.MethodName)) ∈ lw_all := lw_g (lw_at lw_m5 68 rfl) rfl
theorem q1138 : (Jvm.Cond.methodLink "PanSlicesLaw" (188 : Nat) ({ cls := "PanSlices", name := "pans", desc := "(I)I" } : Jvm.MethodName)) ∈ lw_all := lw_g (lw_at lw_m5 72 rfl) rfl
theorem q1142 : (Jvm.Cond.methodLink "PanSlicesLaw" (192 : Nat) ({ cls := "PanSlices", name := "brown", desc := "(II)J" } : Jvm.MethodName)) ∈ lw_all := lw_g (lw_at lw_m5 76 rfl) rfl
theorem q1154 : (Jvm.Cond.methodLink "PanSlicesLaw" (196 : Nat) ({ cls := "PanSlices", name := "morning", desc := "(I)I" } : Jvm.MethodName)) ∈ lw_all := lw_g (lw_at lw_m5 88 rfl) rfl
theorem q1171 : (Jvm.Cond.methodLink "PanSlicesLaw" (200 : Nat) ({ cls := "PanSlices", name := "mornings", desc := "(II)I" } : Jvm.MethodName)) ∈ lw_all := lw_g (lw_at lw_m5 105 rfl) rfl
theorem q1175 : (Jvm.Cond.methodLink "PanSlicesLaw" (204 : Nat) ({ cls := "PanSlices", name := "sentence", desc := "()I" } : Jvm.MethodName)) ∈ lw_all := lw_g (lw_at lw_m5 109 rfl) rfl
theorem q1291 : (Jvm.Cond.methodLink "PanSlicesLaw" (208 : Nat) ({ cls := "PanSlices", name := "said", desc := "(I)I" } : Jvm.MethodName)) ∈ lw_all := lw_g (lw_at lw_m5 225 rfl) rfl
theorem q1327 : (Jvm.Cond.methodLink "PanSlicesLaw" (212 : Nat) ({ cls := "PanSlices", name := "image", desc := "(I)Z" } : Jvm.MethodName)) ∈ lw_all := lw_g (lw_at lw_m6 21 rfl) rfl
theorem q1331 : (Jvm.Cond.methodLink "PanSlicesLaw" (216 : Nat) ({ cls := "PanSlices", name := "restore", desc := "(I)Z" } : Jvm.MethodName)) ∈ lw_all := lw_g (lw_at lw_m6 25 rfl) rfl
theorem q1335 : (Jvm.Cond.methodLink "PanSlicesLaw" (220 : Nat) ({ cls := "PanSlices", name := "count", desc := "(I)I" } : Jvm.MethodName)) ∈ lw_all := lw_g (lw_at lw_m6 29 rfl) rfl
theorem q1339 : (Jvm.Cond.methodLink "PanSlicesLaw" (51 : Nat) ({ cls := "PanSlicesLaw", name := "slice", desc := "(LPanSlices;II[J)I" } : Jvm.MethodName)) ∈ lw_all := lw_g (lw_at lw_m6 33 rfl) rfl
theorem q1340 : (Jvm.Cond.static ({ cls := "PanSlicesLaw", name := "slice", desc := "(LPanSlices;II[J)I" } : Jvm.MethodName)) ∈ lw_all := lw_g (lw_at lw_m6 34 rfl) rfl
theorem q1341 : (Jvm.Cond.codeWith ({ cls := "PanSlicesLaw", name := "slice", desc := "(LPanSlices;II[J)I" } : Jvm.MethodName) method_3_code (5 : Nat) (Option.some Jvm.ClassFile.FieldType.int) [((0 : Nat), (10 : Nat), (13 : Nat), (13 : Nat))]) ∈ lw_all := lw_g (lw_at lw_m6 35 rfl) rfl
theorem q1342 : (Jvm.Cond.classLink "PanSlicesLaw" (13 : Nat) "java/util/NoSuchElementException") ∈ lw_all := lw_g (lw_at lw_m6 36 rfl) rfl
theorem q1343 : (Jvm.Cond.methodLink "PanSlicesLaw" (7 : Nat) ({ cls := "PanSlices", name := "slice", desc := "(II)I" } : Jvm.MethodName)) ∈ lw_all := lw_g (lw_at lw_m6 37 rfl) rfl
theorem q1373 : (Jvm.Cond.methodLink "PanSlicesLaw" (60 : Nat) ({ cls := "PanSlicesLaw", name := "guest", desc := "(LPanSlices;II[J)I" } : Jvm.MethodName)) ∈ lw_all := lw_g (lw_at lw_m6 67 rfl) rfl
theorem q1374 : (Jvm.Cond.static ({ cls := "PanSlicesLaw", name := "guest", desc := "(LPanSlices;II[J)I" } : Jvm.MethodName)) ∈ lw_all := lw_g (lw_at lw_m6 68 rfl) rfl
theorem q1375 : (Jvm.Cond.codeWith ({ cls := "PanSlicesLaw", name := "guest", desc := "(LPanSlices;II[J)I" } : Jvm.MethodName) method_4_code (5 : Nat) (Option.some Jvm.ClassFile.FieldType.int) [((0 : Nat), (10 : Nat), (13 : Nat), (13 : Nat))]) ∈ lw_all := lw_g (lw_at lw_m6 69 rfl) rfl
theorem q1376 : (Jvm.Cond.methodLink "PanSlicesLaw" (15 : Nat) ({ cls := "PanSlices", name := "guest", desc := "(II)I" } : Jvm.MethodName)) ∈ lw_all := lw_g (lw_at lw_m6 70 rfl) rfl
theorem q1380 : (Jvm.Cond.methodLink "PanSlicesLaw" (63 : Nat) ({ cls := "PanSlicesLaw", name := "sort", desc := "(LPanSlices;II[J)I" } : Jvm.MethodName)) ∈ lw_all := lw_g (lw_at lw_m6 74 rfl) rfl
theorem q1381 : (Jvm.Cond.static ({ cls := "PanSlicesLaw", name := "sort", desc := "(LPanSlices;II[J)I" } : Jvm.MethodName)) ∈ lw_all := lw_g (lw_at lw_m6 75 rfl) rfl
theorem q1382 : (Jvm.Cond.codeWith ({ cls := "PanSlicesLaw", name := "sort", desc := "(LPanSlices;II[J)I" } : Jvm.MethodName) method_5_code (5 : Nat) (Option.some Jvm.ClassFile.FieldType.int) [((0 : Nat), (10 : Nat), (13 : Nat), (13 : Nat))]) ∈ lw_all := lw_g (lw_at lw_m6 76 rfl) rfl
theorem q1383 : (Jvm.Cond.methodLink "PanSlicesLaw" (18 : Nat) ({ cls := "PanSlices", name := "sort", desc := "(II)I" } : Jvm.MethodName)) ∈ lw_all := lw_g (lw_at lw_m6 77 rfl) rfl
theorem q1387 : (Jvm.Cond.methodLink "PanSlicesLaw" (82 : Nat) ({ cls := "PanSlicesLaw", name := "left", desc := "(LPanSlices;II[J)I" } : Jvm.MethodName)) ∈ lw_all := lw_g (lw_at lw_m6 81 rfl) rfl
theorem q1388 : (Jvm.Cond.static ({ cls := "PanSlicesLaw", name := "left", desc := "(LPanSlices;II[J)I" } : Jvm.MethodName)) ∈ lw_all := lw_g (lw_at lw_m6 82 rfl) rfl
theorem q1389 : (Jvm.Cond.codeWith ({ cls := "PanSlicesLaw", name := "left", desc := "(LPanSlices;II[J)I" } : Jvm.MethodName) method_6_code (5 : Nat) (Option.some Jvm.ClassFile.FieldType.int) [((0 : Nat), (10 : Nat), (13 : Nat), (13 : Nat))]) ∈ lw_all := lw_g (lw_at lw_m6 83 rfl) rfl
theorem q1390 : (Jvm.Cond.methodLink "PanSlicesLaw" (21 : Nat) ({ cls := "PanSlices", name := "left", desc := "(II)I" } : Jvm.MethodName)) ∈ lw_all := lw_g (lw_at lw_m6 84 rfl) rfl
theorem q1394 : (Jvm.Cond.methodLink "PanSlicesLaw" (181 : Nat) ({ cls := "PanSlicesLaw", name := "mean", desc := "(LPanSlices;II[J)I" } : Jvm.MethodName)) ∈ lw_all := lw_g (lw_at lw_m6 88 rfl) rfl
theorem q1395 : (Jvm.Cond.static ({ cls := "PanSlicesLaw", name := "mean", desc := "(LPanSlices;II[J)I" } : Jvm.MethodName)) ∈ lw_all := lw_g (lw_at lw_m6 89 rfl) rfl
theorem q1396 : (Jvm.Cond.codeWith ({ cls := "PanSlicesLaw", name := "mean", desc := "(LPanSlices;II[J)I" } : Jvm.MethodName) method_7_code (5 : Nat) (Option.some Jvm.ClassFile.FieldType.int) [((0 : Nat), (9 : Nat), (12 : Nat), (13 : Nat))]) ∈ lw_all := lw_g (lw_at lw_m6 90 rfl) rfl
theorem q1397 : (Jvm.Cond.methodLink "PanSlicesLaw" (24 : Nat) ({ cls := "PanSlices", name := "mean", desc := "(II)J" } : Jvm.MethodName)) ∈ lw_all := lw_g (lw_at lw_m6 91 rfl) rfl
theorem q1404 : (Jvm.Cond.classLink "PanSlicesLaw" (29 : Nat) "PanSlicesModel") ∈ lw_all := lw_g (lw_at lw_m6 98 rfl) rfl
theorem q1406 : (Jvm.Cond.methodLink "PanSlicesLaw" (31 : Nat) ({ cls := "PanSlicesModel", name := "<init>", desc := "()V" } : Jvm.MethodName)) ∈ lw_all := lw_g (lw_at lw_m6 100 rfl) rfl
theorem q1598 : (Jvm.Cond.methodLink "PanSlicesLaw" (57 : Nat) ({ cls := "PanSlicesModel", name := "thrown", desc := "()I" } : Jvm.MethodName)) ∈ lw_all := lw_g (lw_at lw_m7 52 rfl) rfl
theorem q1602 : (Jvm.Cond.methodLink "PanSlicesLaw" (36 : Nat) ({ cls := "PanSlicesModel", name := "feed", desc := "(IIIII)I" } : Jvm.MethodName)) ∈ lw_all := lw_g (lw_at lw_m7 56 rfl) rfl
theorem q1610 : (Jvm.Cond.methodLink "PanSlicesLaw" (41 : Nat) ({ cls := "PanSlicesModel", name := "end", desc := "(I)Z" } : Jvm.MethodName)) ∈ lw_all := lw_g (lw_at lw_m7 64 rfl) rfl
theorem q1614 : (Jvm.Cond.methodLink "PanSlicesLaw" (46 : Nat) ({ cls := "PanSlicesModel", name := "kitchen", desc := "()I" } : Jvm.MethodName)) ∈ lw_all := lw_g (lw_at lw_m7 68 rfl) rfl
theorem q1720 : (Jvm.Cond.methodLink "PanSlicesLaw" (50 : Nat) ({ cls := "PanSlicesModel", name := "fault", desc := "()I" } : Jvm.MethodName)) ∈ lw_all := lw_g (lw_at lw_m7 174 rfl) rfl
theorem q1724 : (Jvm.Cond.methodLink "PanSlicesLaw" (56 : Nat) ({ cls := "PanSlicesModel", name := "slice", desc := "(II)I" } : Jvm.MethodName)) ∈ lw_all := lw_g (lw_at lw_m7 178 rfl) rfl
theorem q1740 : (Jvm.Cond.methodLink "PanSlicesLaw" (62 : Nat) ({ cls := "PanSlicesModel", name := "guest", desc := "(II)I" } : Jvm.MethodName)) ∈ lw_all := lw_g (lw_at lw_m7 194 rfl) rfl
theorem q1744 : (Jvm.Cond.methodLink "PanSlicesLaw" (65 : Nat) ({ cls := "PanSlicesModel", name := "sort", desc := "(II)I" } : Jvm.MethodName)) ∈ lw_all := lw_g (lw_at lw_m7 198 rfl) rfl
theorem q1748 : (Jvm.Cond.methodLink "PanSlicesLaw" (150 : Nat) ({ cls := "PanSlicesModel", name := "undo", desc := "()I" } : Jvm.MethodName)) ∈ lw_all := lw_g (lw_at lw_m7 202 rfl) rfl
theorem q1752 : (Jvm.Cond.methodLink "PanSlicesLaw" (69 : Nat) ({ cls := "PanSlicesModel", name := "plan", desc := "()I" } : Jvm.MethodName)) ∈ lw_all := lw_g (lw_at lw_m7 206 rfl) rfl
theorem q1772 : (Jvm.Cond.methodLink "PanSlicesLaw" (73 : Nat) ({ cls := "PanSlicesModel", name := "judge", desc := "()I" } : Jvm.MethodName)) ∈ lw_all := lw_g (lw_at lw_m7 226 rfl) rfl
theorem q1803 : (Jvm.Cond.methodLink "PanSlicesLaw" (77 : Nat) ({ cls := "PanSlicesModel", name := "why", desc := "()I" } : Jvm.MethodName)) ∈ lw_all := lw_g (lw_at lw_m8 17 rfl) rfl
theorem q1807 : (Jvm.Cond.methodLink "PanSlicesLaw" (81 : Nat) ({ cls := "PanSlicesModel", name := "go", desc := "(II)I" } : Jvm.MethodName)) ∈ lw_all := lw_g (lw_at lw_m8 21 rfl) rfl
theorem q1811 : (Jvm.Cond.methodLink "PanSlicesLaw" (84 : Nat) ({ cls := "PanSlicesModel", name := "left", desc := "(II)I" } : Jvm.MethodName)) ∈ lw_all := lw_g (lw_at lw_m8 25 rfl) rfl
theorem q1819 : (Jvm.Cond.methodLink "PanSlicesLaw" (88 : Nat) ({ cls := "PanSlicesModel", name := "ends", desc := "()I" } : Jvm.MethodName)) ∈ lw_all := lw_g (lw_at lw_m8 33 rfl) rfl
theorem q1830 : (Jvm.Cond.methodLink "PanSlicesLaw" (92 : Nat) ({ cls := "PanSlicesModel", name := "done", desc := "()I" } : Jvm.MethodName)) ∈ lw_all := lw_g (lw_at lw_m8 44 rfl) rfl
theorem q1838 : (Jvm.Cond.methodLink "PanSlicesLaw" (97 : Nat) ({ cls := "PanSlicesModel", name := "on", desc := "(I)I" } : Jvm.MethodName)) ∈ lw_all := lw_g (lw_at lw_m8 52 rfl) rfl
theorem q1842 : (Jvm.Cond.methodLink "PanSlicesLaw" (101 : Nat) ({ cls := "PanSlicesModel", name := "write", desc := "()I" } : Jvm.MethodName)) ∈ lw_all := lw_g (lw_at lw_m8 56 rfl) rfl
theorem q1858 : (Jvm.Cond.methodLink "PanSlicesLaw" (105 : Nat) ({ cls := "PanSlicesModel", name := "byteAt", desc := "(I)I" } : Jvm.MethodName)) ∈ lw_all := lw_g (lw_at lw_m8 72 rfl) rfl
theorem q1862 : (Jvm.Cond.methodLink "PanSlicesLaw" (109 : Nat) ({ cls := "PanSlicesModel", name := "several", desc := "()I" } : Jvm.MethodName)) ∈ lw_all := lw_g (lw_at lw_m8 76 rfl) rfl
theorem q1877 : (Jvm.Cond.methodLink "PanSlicesLaw" (129 : Nat) ({ cls := "PanSlicesModel", name := "bound", desc := "(I)I" } : Jvm.MethodName)) ∈ lw_all := lw_g (lw_at lw_m8 91 rfl) rfl
theorem q1881 : (Jvm.Cond.methodLink "PanSlicesLaw" (113 : Nat) ({ cls := "PanSlicesModel", name := "one", desc := "()I" } : Jvm.MethodName)) ∈ lw_all := lw_g (lw_at lw_m8 95 rfl) rfl
theorem q1893 : (Jvm.Cond.methodLink "PanSlicesLaw" (117 : Nat) ({ cls := "PanSlicesModel", name := "masters", desc := "()I" } : Jvm.MethodName)) ∈ lw_all := lw_g (lw_at lw_m8 107 rfl) rfl
theorem q1901 : (Jvm.Cond.methodLink "PanSlicesLaw" (121 : Nat) ({ cls := "PanSlicesModel", name := "cook", desc := "(I)I" } : Jvm.MethodName)) ∈ lw_all := lw_g (lw_at lw_m8 115 rfl) rfl
theorem q1945 : (Jvm.Cond.methodLink "PanSlicesLaw" (125 : Nat) ({ cls := "PanSlicesModel", name := "best", desc := "()I" } : Jvm.MethodName)) ∈ lw_all := lw_g (lw_at lw_m8 159 rfl) rfl
theorem q1949 : (Jvm.Cond.methodLink "PanSlicesLaw" (133 : Nat) ({ cls := "PanSlicesModel", name := "add", desc := "(IIIII)I" } : Jvm.MethodName)) ∈ lw_all := lw_g (lw_at lw_m8 163 rfl) rfl
theorem q1953 : (Jvm.Cond.methodLink "PanSlicesLaw" (137 : Nat) ({ cls := "PanSlicesModel", name := "drop", desc := "(I)Z" } : Jvm.MethodName)) ∈ lw_all := lw_g (lw_at lw_m8 167 rfl) rfl
theorem q1957 : (Jvm.Cond.methodLink "PanSlicesLaw" (142 : Nat) ({ cls := "PanSlicesModel", name := "later", desc := "(II)Z" } : Jvm.MethodName)) ∈ lw_all := lw_g (lw_at lw_m8 171 rfl) rfl
theorem q1961 : (Jvm.Cond.methodLink "PanSlicesLaw" (146 : Nat) ({ cls := "PanSlicesModel", name := "early", desc := "()I" } : Jvm.MethodName)) ∈ lw_all := lw_g (lw_at lw_m8 175 rfl) rfl
theorem q1973 : (Jvm.Cond.methodLink "PanSlicesLaw" (154 : Nat) ({ cls := "PanSlicesModel", name := "idle", desc := "(I)I" } : Jvm.MethodName)) ∈ lw_all := lw_g (lw_at lw_m8 187 rfl) rfl
theorem q1977 : (Jvm.Cond.methodLink "PanSlicesLaw" (158 : Nat) ({ cls := "PanSlicesModel", name := "forgotten", desc := "()I" } : Jvm.MethodName)) ∈ lw_all := lw_g (lw_at lw_m8 191 rfl) rfl
theorem q1981 : (Jvm.Cond.methodLink "PanSlicesLaw" (163 : Nat) ({ cls := "PanSlicesModel", name := "fewest", desc := "(III)I" } : Jvm.MethodName)) ∈ lw_all := lw_g (lw_at lw_m8 195 rfl) rfl
theorem q1988 : (Jvm.Cond.methodLink "PanSlicesLaw" (167 : Nat) ({ cls := "PanSlicesModel", name := "alike", desc := "(II)I" } : Jvm.MethodName)) ∈ lw_all := lw_g (lw_at lw_m8 202 rfl) rfl
theorem q1995 : (Jvm.Cond.methodLink "PanSlicesLaw" (172 : Nat) ({ cls := "PanSlicesModel", name := "alikeAt", desc := "(IIII)I" } : Jvm.MethodName)) ∈ lw_all := lw_g (lw_at lw_m8 209 rfl) rfl
theorem q1999 : (Jvm.Cond.methodLink "PanSlicesLaw" (176 : Nat) ({ cls := "PanSlicesModel", name := "served", desc := "(I)I" } : Jvm.MethodName)) ∈ lw_all := lw_g (lw_at lw_m8 213 rfl) rfl
theorem q2014 : (Jvm.Cond.methodLink "PanSlicesLaw" (180 : Nat) ({ cls := "PanSlicesModel", name := "servedAt", desc := "(I)I" } : Jvm.MethodName)) ∈ lw_all := lw_g (lw_at lw_m8 228 rfl) rfl
theorem q2018 : (Jvm.Cond.methodLink "PanSlicesLaw" (183 : Nat) ({ cls := "PanSlicesModel", name := "mean", desc := "(II)J" } : Jvm.MethodName)) ∈ lw_all := lw_g (lw_at lw_m8 232 rfl) rfl
theorem q2029 : (Jvm.Cond.methodLink "PanSlicesLaw" (187 : Nat) ({ cls := "PanSlicesModel", name := "hotel", desc := "(III)I" } : Jvm.MethodName)) ∈ lw_all := lw_g (lw_at lw_m9 3 rfl) rfl
theorem q2034 : (Jvm.Cond.methodLink "PanSlicesLaw" (191 : Nat) ({ cls := "PanSlicesModel", name := "pans", desc := "(I)I" } : Jvm.MethodName)) ∈ lw_all := lw_g (lw_at lw_m9 8 rfl) rfl
theorem q2038 : (Jvm.Cond.methodLink "PanSlicesLaw" (195 : Nat) ({ cls := "PanSlicesModel", name := "brown", desc := "(II)J" } : Jvm.MethodName)) ∈ lw_all := lw_g (lw_at lw_m9 12 rfl) rfl
theorem q2046 : (Jvm.Cond.methodLink "PanSlicesLaw" (199 : Nat) ({ cls := "PanSlicesModel", name := "morning", desc := "(I)I" } : Jvm.MethodName)) ∈ lw_all := lw_g (lw_at lw_m9 20 rfl) rfl
theorem q2063 : (Jvm.Cond.methodLink "PanSlicesLaw" (203 : Nat) ({ cls := "PanSlicesModel", name := "mornings", desc := "(II)I" } : Jvm.MethodName)) ∈ lw_all := lw_g (lw_at lw_m9 37 rfl) rfl
theorem q2067 : (Jvm.Cond.methodLink "PanSlicesLaw" (207 : Nat) ({ cls := "PanSlicesModel", name := "sentence", desc := "()I" } : Jvm.MethodName)) ∈ lw_all := lw_g (lw_at lw_m9 41 rfl) rfl
theorem q2107 : (Jvm.Cond.methodLink "PanSlicesLaw" (211 : Nat) ({ cls := "PanSlicesModel", name := "said", desc := "(I)I" } : Jvm.MethodName)) ∈ lw_all := lw_g (lw_at lw_m9 81 rfl) rfl
theorem q2123 : (Jvm.Cond.methodLink "PanSlicesLaw" (215 : Nat) ({ cls := "PanSlicesModel", name := "image", desc := "(I)Z" } : Jvm.MethodName)) ∈ lw_all := lw_g (lw_at lw_m9 97 rfl) rfl
theorem q2127 : (Jvm.Cond.methodLink "PanSlicesLaw" (219 : Nat) ({ cls := "PanSlicesModel", name := "restore", desc := "(I)Z" } : Jvm.MethodName)) ∈ lw_all := lw_g (lw_at lw_m9 101 rfl) rfl
theorem q2131 : (Jvm.Cond.methodLink "PanSlicesLaw" (223 : Nat) ({ cls := "PanSlicesModel", name := "count", desc := "(I)I" } : Jvm.MethodName)) ∈ lw_all := lw_g (lw_at lw_m9 105 rfl) rfl
/-! PanSlices$Fault -/
set_option maxRecDepth 100000
def RX2 : String := "PanSlices$Fault"
def TX2 : u_T := fun k => match k with
  | 0 => ("java/lang/Throwable", "cause", "Ljava/lang/Throwable;", false)
  | 1 => ("java/lang/Throwable", "stackTrace", "[Ljava/lang/StackTraceElement;", false)
  | 2 => ("java/lang/Throwable", "suppressedExceptions", "Ljava/util/List;", false)
  | 3 => ("java/lang/Throwable", "detailMessage", "Ljava/lang/String;", false)
  | 4 => ("java/lang/Throwable", "backtrace", "Ljava/lang/Object;", false)
  | 5 => ("java/lang/Throwable", "depth", "I", false)
  | 6 => ("PanSlices$Fault", "kind", "I", false)
  | _ => ("PanSlices$Fault", "place", "I", false)
def tyX2 : Nat → FieldType := fun k => match k with
  | 0 => .object "java/lang/Throwable"
  | 1 => .array (.object "java/lang/StackTraceElement")
  | 2 => .object "java/util/List"
  | 3 => .object "java/lang/String"
  | 4 => .object "java/lang/Object"
  | 5 => .int
  | 6 => .int
  | _ => .int
abbrev wsX20 : List Cond := u_ws RX2 TX2 8
theorem nmX2 : ∀ a, a < 8 → ∀ b, b < 8 → a ≠ b → (TX2 a).2.1 ≠ (TX2 b).2.1 := by decide +kernel
theorem tyX2_ok : ∀ k, k < 8 → parseFieldDescriptor (TX2 k).2.2.1 = some (tyX2 k) := by decide +kernel
abbrev cX2_init : ByteArray := prog_7_method_1_code
def yX2_init : MethodName := ⟨RX2, "<init>", "()V"⟩
def dkwX2_init_0 : List UInt8 := [42, 1, 1, 3, 3, 183, 0, 1, 177]
abbrev dktX2_init_0 : List UInt8 := dkwX2_init_0 ++ []
theorem dksX2_init_0 : cX2_init.data.toList.drop 0 = dktX2_init_0 := by decide +kernel
theorem dX2_init_0 : decode cX2_init 0 = .ok (.aload_n 0, 1) := dk_42 (dk_at dksX2_init_0 0 rfl rfl)
theorem dX2_init_1 : decode cX2_init 1 = .ok (.aconst_null, 1) := dk_1 (dk_at dksX2_init_0 1 rfl rfl)
theorem dX2_init_2 : decode cX2_init 2 = .ok (.aconst_null, 1) := dk_1 (dk_at dksX2_init_0 2 rfl rfl)
theorem dX2_init_3 : decode cX2_init 3 = .ok (.iconst 0, 1) := dk_3 (dk_at dksX2_init_0 3 rfl rfl)
theorem dX2_init_4 : decode cX2_init 4 = .ok (.iconst 0, 1) := dk_3 (dk_at dksX2_init_0 4 rfl rfl)
theorem dX2_init_5 : decode cX2_init 5 = .ok (.invokespecial 1, 3) := dk_183 0 1 (dk_at dksX2_init_0 5 rfl rfl)
theorem dX2_init_8 : decode cX2_init 8 = .ok (.return_, 1) := dk_177 (dk_at dksX2_init_0 8 rfl rfl)
theorem q110 : (Jvm.Cond.initialized "PanSlices$Fault") ∈ lw_all := lw_g (lw_at lw_m1 4 rfl) rfl
theorem q146 : (Jvm.Cond.instantiable "PanSlices$Fault" (8 : Nat)) ∈ lw_all := lw_g (lw_at lw_m1 40 rfl) rfl
theorem q147 : (Jvm.Cond.castable "PanSlices$Fault" "PanSlices$Fault") ∈ lw_tbl := lw_at lw_m1 41 rfl
theorem q152 : (Jvm.Cond.selects "PanSlices$Fault" ({ cls := "java/lang/Throwable", name := "fillInStackTrace", desc := "(I)Ljava/lang/Throwable;" } : Jvm.MethodName) ({ cls := "java/lang/Throwable", name := "fillInStackTrace", desc := "(I)Ljava/lang/Throwable;" } : Jvm.MethodName)) ∈ lw_all := lw_g (lw_at lw_m1 46 rfl) rfl
theorem q153 : (Jvm.Cond.selects "PanSlices$Fault" ({ cls := "java/lang/Throwable", name := "fillInStackTrace", desc := "()Ljava/lang/Throwable;" } : Jvm.MethodName) ({ cls := "java/lang/Throwable", name := "fillInStackTrace", desc := "()Ljava/lang/Throwable;" } : Jvm.MethodName)) ∈ lw_all := lw_g (lw_at lw_m1 47 rfl) rfl
theorem q154 : (Jvm.Cond.lays "PanSlices$Fault" "java/lang/Throwable" "cause" "Ljava/lang/Throwable;") ∈ lw_all := lw_g (lw_at lw_m1 48 rfl) rfl
theorem q156 : (Jvm.Cond.lays "PanSlices$Fault" "java/lang/Throwable" "stackTrace" "[Ljava/lang/StackTraceElement;") ∈ lw_all := lw_g (lw_at lw_m1 50 rfl) rfl
theorem q158 : (Jvm.Cond.lays "PanSlices$Fault" "java/lang/Throwable" "suppressedExceptions" "Ljava/util/List;") ∈ lw_all := lw_g (lw_at lw_m1 52 rfl) rfl
theorem q160 : (Jvm.Cond.lays "PanSlices$Fault" "java/lang/Throwable" "detailMessage" "Ljava/lang/String;") ∈ lw_all := lw_g (lw_at lw_m1 54 rfl) rfl
theorem q162 : (Jvm.Cond.lays "PanSlices$Fault" "java/lang/Throwable" "backtrace" "Ljava/lang/Object;") ∈ lw_all := lw_g (lw_at lw_m1 56 rfl) rfl
theorem q184 : (Jvm.Cond.instanceMethod ({ cls := "PanSlices$Fault", name := "<init>", desc := "()V" } : Jvm.MethodName)) ∈ lw_all := lw_g (lw_at lw_m1 78 rfl) rfl
theorem q185 : (Jvm.Cond.code ({ cls := "PanSlices$Fault", name := "<init>", desc := "()V" } : Jvm.MethodName) prog_7_method_1_code (1 : Nat) (Option.none : Option Jvm.ClassFile.FieldType)) ∈ lw_all := lw_g (lw_at lw_m1 79 rfl) rfl
theorem q186 : (Jvm.Cond.methodLink "PanSlices$Fault" (1 : Nat) ({ cls := "java/lang/Exception", name := "<init>", desc := "(Ljava/lang/String;Ljava/lang/Throwable;ZZ)V" } : Jvm.MethodName)) ∈ lw_all := lw_g (lw_at lw_m1 80 rfl) rfl
theorem q201 : (Jvm.Cond.lays "PanSlices$Fault" "PanSlices$Fault" "kind" "I") ∈ lw_all := lw_g (lw_at lw_m1 95 rfl) rfl
theorem q202 : (Jvm.Cond.soleField "PanSlices$Fault" "kind") ∈ lw_all := lw_g (lw_at lw_m1 96 rfl) rfl
theorem q203 : (Jvm.Cond.lays "PanSlices$Fault" "PanSlices$Fault" "place" "I") ∈ lw_all := lw_g (lw_at lw_m1 97 rfl) rfl
theorem q204 : (Jvm.Cond.soleField "PanSlices$Fault" "place") ∈ lw_all := lw_g (lw_at lw_m1 98 rfl) rfl
theorem q209 : (Jvm.Cond.lays "PanSlices$Fault" "java/lang/Throwable" "depth" "I") ∈ lw_all := lw_g (lw_at lw_m1 103 rfl) rfl
theorem q212 : (Jvm.Cond.superclass "PanSlices$Fault" "java/lang/Exception") ∈ lw_all := lw_g (lw_at lw_m1 106 rfl) rfl
theorem q2157 : (Jvm.Cond.castable "PanSlices$Fault" "java/lang/Object") ∈ lw_tbl := lw_at lw_m9 131 rfl
theorem in_X2 : ∀ w ∈ wsX20, w ∈ lw_all := lw_in wsX20 [154, 156, 158, 160, 162, 209, 201, 203] (by decide +kernel) (by decide +kernel)
/-! PanSlices$Kitchen -/
set_option maxRecDepth 100000
def RX3 : String := "PanSlices$Kitchen"
def TX3 : u_T := fun k => match k with
  | 0 => ("PanSlices$Kitchen", "names", "[J", true)
  | 1 => ("PanSlices$Kitchen", "guestNames", "[J", true)
  | 2 => ("PanSlices$Kitchen", "minutes", "[I", true)
  | 3 => ("PanSlices$Kitchen", "comes", "[I", true)
  | 4 => ("PanSlices$Kitchen", "worth", "[I", true)
  | 5 => ("PanSlices$Kitchen", "sortPlaces", "[I", true)
  | 6 => ("PanSlices$Kitchen", "cost", "[I", true)
  | 7 => ("PanSlices$Kitchen", "once", "[Z", true)
  | 8 => ("PanSlices$Kitchen", "slices", "I", false)
  | 9 => ("PanSlices$Kitchen", "guests", "I", false)
  | 10 => ("PanSlices$Kitchen", "sorts", "I", false)
  | 11 => ("PanSlices$Kitchen", "places", "I", false)
  | 12 => ("PanSlices$Kitchen", "rest", "I", false)
  | 13 => ("PanSlices$Kitchen", "cold", "I", false)
  | 14 => ("PanSlices$Kitchen", "burns", "I", false)
  | _ => ("PanSlices$Kitchen", "by", "I", false)
def tyX3 : Nat → FieldType := fun k => match k with
  | 0 => .array .long
  | 1 => .array .long
  | 2 => .array .int
  | 3 => .array .int
  | 4 => .array .int
  | 5 => .array .int
  | 6 => .array .int
  | 7 => .array .boolean
  | 8 => .int
  | 9 => .int
  | 10 => .int
  | 11 => .int
  | 12 => .int
  | 13 => .int
  | 14 => .int
  | _ => .int
abbrev wsX30 : List Cond := u_ws RX3 TX3 16
set_option maxRecDepth 100000 in
theorem nmX3 : ∀ a, a < 16 → ∀ b, b < 16 → a ≠ b → (TX3 a).2.1 ≠ (TX3 b).2.1 := by decide +kernel
set_option maxRecDepth 100000 in
theorem tyX3_ok : ∀ k, k < 16 → parseFieldDescriptor (TX3 k).2.2.1 = some (tyX3 k) := by decide +kernel
abbrev cX3_init : ByteArray := prog_9_method_1_code
def yX3_init : MethodName := ⟨RX3, "<init>", "()V"⟩
def dkwX3_init_3 : List UInt8 := [181, 0, 38, 42, 16, 10, 181, 0, 42, 42, 4, 181, 0, 45, 177]
abbrev dktX3_init_3 : List UInt8 := dkwX3_init_3 ++ []
def dkwX3_init_2 : List UInt8 := [188, 10, 181, 0, 28, 42, 8, 188, 10, 181, 0, 31, 42, 16, 8, 188, 4, 181, 0, 34, 42, 5]
abbrev dktX3_init_2 : List UInt8 := dkwX3_init_2 ++ dktX3_init_3
def dkwX3_init_1 : List UInt8 := [188, 10, 181, 0, 18, 42, 16, 8, 188, 10, 181, 0, 22, 42, 16, 8, 188, 10, 181, 0, 25, 42, 8]
abbrev dktX3_init_1 : List UInt8 := dkwX3_init_1 ++ dktX3_init_2
def dkwX3_init_0 : List UInt8 := [42, 183, 0, 3, 42, 16, 8, 188, 11, 181, 0, 9, 42, 16, 8, 188, 11, 181, 0, 15, 42, 16, 16]
abbrev dktX3_init_0 : List UInt8 := dkwX3_init_0 ++ dktX3_init_1
theorem dksX3_init_0 : cX3_init.data.toList.drop 0 = dktX3_init_0 := by decide +kernel
theorem dksX3_init_1 : cX3_init.data.toList.drop 23 = dktX3_init_1 := dk_seg dksX3_init_0 23 rfl rfl
theorem dksX3_init_2 : cX3_init.data.toList.drop 46 = dktX3_init_2 := dk_seg dksX3_init_1 23 rfl rfl
theorem dksX3_init_3 : cX3_init.data.toList.drop 68 = dktX3_init_3 := dk_seg dksX3_init_2 22 rfl rfl
theorem dX3_init_0 : decode cX3_init 0 = .ok (.aload_n 0, 1) := dk_42 (dk_at dksX3_init_0 0 rfl rfl)
theorem dX3_init_1 : decode cX3_init 1 = .ok (.invokespecial 3, 3) := dk_183 0 3 (dk_at dksX3_init_0 1 rfl rfl)
theorem dX3_init_4 : decode cX3_init 4 = .ok (.aload_n 0, 1) := dk_42 (dk_at dksX3_init_0 4 rfl rfl)
theorem dX3_init_5 : decode cX3_init 5 = .ok (.bipush 8, 2) := dk_16 8 (dk_at dksX3_init_0 5 rfl rfl)
theorem dX3_init_7 : decode cX3_init 7 = .ok (.newarray .long, 2) := dk_188_11 (dk_at dksX3_init_0 7 rfl rfl)
theorem dX3_init_9 : decode cX3_init 9 = .ok (.putfield 9, 3) := dk_181 0 9 (dk_at dksX3_init_0 9 rfl rfl)
theorem dX3_init_12 : decode cX3_init 12 = .ok (.aload_n 0, 1) := dk_42 (dk_at dksX3_init_0 12 rfl rfl)
theorem dX3_init_13 : decode cX3_init 13 = .ok (.bipush 8, 2) := dk_16 8 (dk_at dksX3_init_0 13 rfl rfl)
theorem dX3_init_15 : decode cX3_init 15 = .ok (.newarray .long, 2) := dk_188_11 (dk_at dksX3_init_0 15 rfl rfl)
theorem dX3_init_17 : decode cX3_init 17 = .ok (.putfield 15, 3) := dk_181 0 15 (dk_at dksX3_init_0 17 rfl rfl)
theorem dX3_init_20 : decode cX3_init 20 = .ok (.aload_n 0, 1) := dk_42 (dk_at dksX3_init_0 20 rfl rfl)
theorem dX3_init_21 : decode cX3_init 21 = .ok (.bipush 16, 2) := dk_16 16 (dk_at dksX3_init_0 21 rfl rfl)
theorem dX3_init_23 : decode cX3_init 23 = .ok (.newarray .int, 2) := dk_188_10 (dk_at dksX3_init_1 0 rfl rfl)
theorem dX3_init_25 : decode cX3_init 25 = .ok (.putfield 18, 3) := dk_181 0 18 (dk_at dksX3_init_1 2 rfl rfl)
theorem dX3_init_28 : decode cX3_init 28 = .ok (.aload_n 0, 1) := dk_42 (dk_at dksX3_init_1 5 rfl rfl)
theorem dX3_init_29 : decode cX3_init 29 = .ok (.bipush 8, 2) := dk_16 8 (dk_at dksX3_init_1 6 rfl rfl)
theorem dX3_init_31 : decode cX3_init 31 = .ok (.newarray .int, 2) := dk_188_10 (dk_at dksX3_init_1 8 rfl rfl)
theorem dX3_init_33 : decode cX3_init 33 = .ok (.putfield 22, 3) := dk_181 0 22 (dk_at dksX3_init_1 10 rfl rfl)
theorem dX3_init_36 : decode cX3_init 36 = .ok (.aload_n 0, 1) := dk_42 (dk_at dksX3_init_1 13 rfl rfl)
theorem dX3_init_37 : decode cX3_init 37 = .ok (.bipush 8, 2) := dk_16 8 (dk_at dksX3_init_1 14 rfl rfl)
theorem dX3_init_39 : decode cX3_init 39 = .ok (.newarray .int, 2) := dk_188_10 (dk_at dksX3_init_1 16 rfl rfl)
theorem dX3_init_41 : decode cX3_init 41 = .ok (.putfield 25, 3) := dk_181 0 25 (dk_at dksX3_init_1 18 rfl rfl)
theorem dX3_init_44 : decode cX3_init 44 = .ok (.aload_n 0, 1) := dk_42 (dk_at dksX3_init_1 21 rfl rfl)
theorem dX3_init_45 : decode cX3_init 45 = .ok (.iconst 5, 1) := dk_8 (dk_at dksX3_init_1 22 rfl rfl)
theorem dX3_init_46 : decode cX3_init 46 = .ok (.newarray .int, 2) := dk_188_10 (dk_at dksX3_init_2 0 rfl rfl)
theorem dX3_init_48 : decode cX3_init 48 = .ok (.putfield 28, 3) := dk_181 0 28 (dk_at dksX3_init_2 2 rfl rfl)
theorem dX3_init_51 : decode cX3_init 51 = .ok (.aload_n 0, 1) := dk_42 (dk_at dksX3_init_2 5 rfl rfl)
theorem dX3_init_52 : decode cX3_init 52 = .ok (.iconst 5, 1) := dk_8 (dk_at dksX3_init_2 6 rfl rfl)
theorem dX3_init_53 : decode cX3_init 53 = .ok (.newarray .int, 2) := dk_188_10 (dk_at dksX3_init_2 7 rfl rfl)
theorem dX3_init_55 : decode cX3_init 55 = .ok (.putfield 31, 3) := dk_181 0 31 (dk_at dksX3_init_2 9 rfl rfl)
theorem dX3_init_58 : decode cX3_init 58 = .ok (.aload_n 0, 1) := dk_42 (dk_at dksX3_init_2 12 rfl rfl)
theorem dX3_init_59 : decode cX3_init 59 = .ok (.bipush 8, 2) := dk_16 8 (dk_at dksX3_init_2 13 rfl rfl)
theorem dX3_init_61 : decode cX3_init 61 = .ok (.newarray .boolean, 2) := dk_188_4 (dk_at dksX3_init_2 15 rfl rfl)
theorem dX3_init_63 : decode cX3_init 63 = .ok (.putfield 34, 3) := dk_181 0 34 (dk_at dksX3_init_2 17 rfl rfl)
theorem dX3_init_66 : decode cX3_init 66 = .ok (.aload_n 0, 1) := dk_42 (dk_at dksX3_init_2 20 rfl rfl)
theorem dX3_init_67 : decode cX3_init 67 = .ok (.iconst 2, 1) := dk_5 (dk_at dksX3_init_2 21 rfl rfl)
theorem dX3_init_68 : decode cX3_init 68 = .ok (.putfield 38, 3) := dk_181 0 38 (dk_at dksX3_init_3 0 rfl rfl)
theorem dX3_init_71 : decode cX3_init 71 = .ok (.aload_n 0, 1) := dk_42 (dk_at dksX3_init_3 3 rfl rfl)
theorem dX3_init_72 : decode cX3_init 72 = .ok (.bipush 10, 2) := dk_16 10 (dk_at dksX3_init_3 4 rfl rfl)
theorem dX3_init_74 : decode cX3_init 74 = .ok (.putfield 42, 3) := dk_181 0 42 (dk_at dksX3_init_3 6 rfl rfl)
theorem dX3_init_77 : decode cX3_init 77 = .ok (.aload_n 0, 1) := dk_42 (dk_at dksX3_init_3 9 rfl rfl)
theorem dX3_init_78 : decode cX3_init 78 = .ok (.iconst 1, 1) := dk_4 (dk_at dksX3_init_3 10 rfl rfl)
theorem dX3_init_79 : decode cX3_init 79 = .ok (.putfield 45, 3) := dk_181 0 45 (dk_at dksX3_init_3 11 rfl rfl)
theorem dX3_init_82 : decode cX3_init 82 = .ok (.return_, 1) := dk_177 (dk_at dksX3_init_3 14 rfl rfl)
abbrev cX3_whole : ByteArray := prog_9_method_2_code
def yX3_whole : MethodName := ⟨RX3, "whole", "(I)I"⟩
def dkwX3_whole_0 : List UInt8 := [42, 180, 0, 18, 5, 27, 104, 46, 42, 180, 0, 18, 5, 27, 104, 4, 96, 46, 96, 172]
abbrev dktX3_whole_0 : List UInt8 := dkwX3_whole_0 ++ []
theorem dksX3_whole_0 : cX3_whole.data.toList.drop 0 = dktX3_whole_0 := by decide +kernel
theorem dX3_whole_0 : decode cX3_whole 0 = .ok (.aload_n 0, 1) := dk_42 (dk_at dksX3_whole_0 0 rfl rfl)
theorem dX3_whole_1 : decode cX3_whole 1 = .ok (.getfield 18, 3) := dk_180 0 18 (dk_at dksX3_whole_0 1 rfl rfl)
theorem dX3_whole_4 : decode cX3_whole 4 = .ok (.iconst 2, 1) := dk_5 (dk_at dksX3_whole_0 4 rfl rfl)
theorem dX3_whole_5 : decode cX3_whole 5 = .ok (.iload_n 1, 1) := dk_27 (dk_at dksX3_whole_0 5 rfl rfl)
theorem dX3_whole_6 : decode cX3_whole 6 = .ok (.imul, 1) := dk_104 (dk_at dksX3_whole_0 6 rfl rfl)
theorem dX3_whole_7 : decode cX3_whole 7 = .ok (.iaload, 1) := dk_46 (dk_at dksX3_whole_0 7 rfl rfl)
theorem dX3_whole_8 : decode cX3_whole 8 = .ok (.aload_n 0, 1) := dk_42 (dk_at dksX3_whole_0 8 rfl rfl)
theorem dX3_whole_9 : decode cX3_whole 9 = .ok (.getfield 18, 3) := dk_180 0 18 (dk_at dksX3_whole_0 9 rfl rfl)
theorem dX3_whole_12 : decode cX3_whole 12 = .ok (.iconst 2, 1) := dk_5 (dk_at dksX3_whole_0 12 rfl rfl)
theorem dX3_whole_13 : decode cX3_whole 13 = .ok (.iload_n 1, 1) := dk_27 (dk_at dksX3_whole_0 13 rfl rfl)
theorem dX3_whole_14 : decode cX3_whole 14 = .ok (.imul, 1) := dk_104 (dk_at dksX3_whole_0 14 rfl rfl)
theorem dX3_whole_15 : decode cX3_whole 15 = .ok (.iconst 1, 1) := dk_4 (dk_at dksX3_whole_0 15 rfl rfl)
theorem dX3_whole_16 : decode cX3_whole 16 = .ok (.iadd, 1) := dk_96 (dk_at dksX3_whole_0 16 rfl rfl)
theorem dX3_whole_17 : decode cX3_whole 17 = .ok (.iaload, 1) := dk_46 (dk_at dksX3_whole_0 17 rfl rfl)
theorem dX3_whole_18 : decode cX3_whole 18 = .ok (.iadd, 1) := dk_96 (dk_at dksX3_whole_0 18 rfl rfl)
theorem dX3_whole_19 : decode cX3_whole 19 = .ok (.ireturn, 1) := dk_172 (dk_at dksX3_whole_0 19 rfl rfl)
abbrev cX3_all : ByteArray := prog_9_method_3_code
def yX3_all : MethodName := ⟨RX3, "all", "()I"⟩
def dkwX3_all_1 : List UInt8 := [167, 255, 237, 27, 172]
abbrev dktX3_all_1 : List UInt8 := dkwX3_all_1 ++ []
def dkwX3_all_0 : List UInt8 := [3, 60, 3, 61, 28, 42, 180, 0, 48, 162, 0, 17, 27, 42, 28, 182, 0, 51, 96, 60, 132, 2, 1]
abbrev dktX3_all_0 : List UInt8 := dkwX3_all_0 ++ dktX3_all_1
theorem dksX3_all_0 : cX3_all.data.toList.drop 0 = dktX3_all_0 := by decide +kernel
theorem dksX3_all_1 : cX3_all.data.toList.drop 23 = dktX3_all_1 := dk_seg dksX3_all_0 23 rfl rfl
theorem dX3_all_0 : decode cX3_all 0 = .ok (.iconst 0, 1) := dk_3 (dk_at dksX3_all_0 0 rfl rfl)
theorem dX3_all_1 : decode cX3_all 1 = .ok (.istore_n 1, 1) := dk_60 (dk_at dksX3_all_0 1 rfl rfl)
theorem dX3_all_2 : decode cX3_all 2 = .ok (.iconst 0, 1) := dk_3 (dk_at dksX3_all_0 2 rfl rfl)
theorem dX3_all_3 : decode cX3_all 3 = .ok (.istore_n 2, 1) := dk_61 (dk_at dksX3_all_0 3 rfl rfl)
theorem dX3_all_4 : decode cX3_all 4 = .ok (.iload_n 2, 1) := dk_28 (dk_at dksX3_all_0 4 rfl rfl)
theorem dX3_all_5 : decode cX3_all 5 = .ok (.aload_n 0, 1) := dk_42 (dk_at dksX3_all_0 5 rfl rfl)
theorem dX3_all_6 : decode cX3_all 6 = .ok (.getfield 48, 3) := dk_180 0 48 (dk_at dksX3_all_0 6 rfl rfl)
theorem dX3_all_9 : decode cX3_all 9 = .ok (.if_icmp .ge 17, 3) := dk_162 0 17 (dk_at dksX3_all_0 9 rfl rfl)
theorem dX3_all_12 : decode cX3_all 12 = .ok (.iload_n 1, 1) := dk_27 (dk_at dksX3_all_0 12 rfl rfl)
theorem dX3_all_13 : decode cX3_all 13 = .ok (.aload_n 0, 1) := dk_42 (dk_at dksX3_all_0 13 rfl rfl)
theorem dX3_all_14 : decode cX3_all 14 = .ok (.iload_n 2, 1) := dk_28 (dk_at dksX3_all_0 14 rfl rfl)
theorem dX3_all_15 : decode cX3_all 15 = .ok (.invokevirtual 51, 3) := dk_182 0 51 (dk_at dksX3_all_0 15 rfl rfl)
theorem dX3_all_18 : decode cX3_all 18 = .ok (.iadd, 1) := dk_96 (dk_at dksX3_all_0 18 rfl rfl)
theorem dX3_all_19 : decode cX3_all 19 = .ok (.istore_n 1, 1) := dk_60 (dk_at dksX3_all_0 19 rfl rfl)
theorem dX3_all_20 : decode cX3_all 20 = .ok (.iinc 2 1, 3) := dk_132 2 1 (dk_at dksX3_all_0 20 rfl rfl)
theorem dX3_all_23 : decode cX3_all 23 = .ok (.goto (-19), 3) := dk_167 255 237 (dk_at dksX3_all_1 0 rfl rfl)
theorem dX3_all_26 : decode cX3_all 26 = .ok (.iload_n 1, 1) := dk_27 (dk_at dksX3_all_1 3 rfl rfl)
theorem dX3_all_27 : decode cX3_all 27 = .ok (.ireturn, 1) := dk_172 (dk_at dksX3_all_1 4 rfl rfl)
theorem q111 : (Jvm.Cond.initialized "PanSlices$Kitchen") ∈ lw_all := lw_g (lw_at lw_m1 5 rfl) rfl
theorem q234 : (Jvm.Cond.instantiable "PanSlices$Kitchen" (16 : Nat)) ∈ lw_all := lw_g (lw_at lw_m1 128 rfl) rfl
theorem q236 : (Jvm.Cond.instanceMethod ({ cls := "PanSlices$Kitchen", name := "<init>", desc := "()V" } : Jvm.MethodName)) ∈ lw_all := lw_g (lw_at lw_m1 130 rfl) rfl
theorem q237 : (Jvm.Cond.code ({ cls := "PanSlices$Kitchen", name := "<init>", desc := "()V" } : Jvm.MethodName) prog_9_method_1_code (1 : Nat) (Option.none : Option Jvm.ClassFile.FieldType)) ∈ lw_all := lw_g (lw_at lw_m1 131 rfl) rfl
theorem q238 : (Jvm.Cond.methodLink "PanSlices$Kitchen" (3 : Nat) ({ cls := "java/lang/Object", name := "<init>", desc := "()V" } : Jvm.MethodName)) ∈ lw_all := lw_g (lw_at lw_m1 132 rfl) rfl
theorem q239 : (Jvm.Cond.fieldLink "PanSlices$Kitchen" (9 : Nat) "PanSlices$Kitchen" "names" "[J") ∈ lw_all := lw_g (lw_at lw_m1 133 rfl) rfl
theorem q243 : (Jvm.Cond.fieldLink "PanSlices$Kitchen" (15 : Nat) "PanSlices$Kitchen" "guestNames" "[J") ∈ lw_all := lw_g (lw_at lw_m1 137 rfl) rfl
theorem q245 : (Jvm.Cond.fieldLink "PanSlices$Kitchen" (18 : Nat) "PanSlices$Kitchen" "minutes" "[I") ∈ lw_all := lw_g (lw_at lw_m1 139 rfl) rfl
theorem q250 : (Jvm.Cond.fieldLink "PanSlices$Kitchen" (22 : Nat) "PanSlices$Kitchen" "comes" "[I") ∈ lw_all := lw_g (lw_at lw_m1 144 rfl) rfl
theorem q253 : (Jvm.Cond.fieldLink "PanSlices$Kitchen" (25 : Nat) "PanSlices$Kitchen" "worth" "[I") ∈ lw_all := lw_g (lw_at lw_m1 147 rfl) rfl
theorem q256 : (Jvm.Cond.fieldLink "PanSlices$Kitchen" (28 : Nat) "PanSlices$Kitchen" "sortPlaces" "[I") ∈ lw_all := lw_g (lw_at lw_m1 150 rfl) rfl
theorem q259 : (Jvm.Cond.fieldLink "PanSlices$Kitchen" (31 : Nat) "PanSlices$Kitchen" "cost" "[I") ∈ lw_all := lw_g (lw_at lw_m1 153 rfl) rfl
theorem q262 : (Jvm.Cond.fieldLink "PanSlices$Kitchen" (34 : Nat) "PanSlices$Kitchen" "once" "[Z") ∈ lw_all := lw_g (lw_at lw_m1 156 rfl) rfl
theorem q268 : (Jvm.Cond.fieldLink "PanSlices$Kitchen" (48 : Nat) "PanSlices$Kitchen" "slices" "I") ∈ lw_all := lw_g (lw_at lw_m1 162 rfl) rfl
theorem q275 : (Jvm.Cond.fieldLink "PanSlices$Kitchen" (38 : Nat) "PanSlices$Kitchen" "places" "I") ∈ lw_all := lw_g (lw_at lw_m1 169 rfl) rfl
theorem q282 : (Jvm.Cond.fieldLink "PanSlices$Kitchen" (42 : Nat) "PanSlices$Kitchen" "cold" "I") ∈ lw_all := lw_g (lw_at lw_m1 176 rfl) rfl
theorem q287 : (Jvm.Cond.fieldLink "PanSlices$Kitchen" (45 : Nat) "PanSlices$Kitchen" "by" "I") ∈ lw_all := lw_g (lw_at lw_m1 181 rfl) rfl
theorem q290 : (Jvm.Cond.laysFinal "PanSlices$Kitchen" "PanSlices$Kitchen" "names" "[J") ∈ lw_all := lw_g (lw_at lw_m1 184 rfl) rfl
theorem q291 : (Jvm.Cond.soleField "PanSlices$Kitchen" "names") ∈ lw_all := lw_g (lw_at lw_m1 185 rfl) rfl
theorem q292 : (Jvm.Cond.laysFinal "PanSlices$Kitchen" "PanSlices$Kitchen" "guestNames" "[J") ∈ lw_all := lw_g (lw_at lw_m1 186 rfl) rfl
theorem q293 : (Jvm.Cond.soleField "PanSlices$Kitchen" "guestNames") ∈ lw_all := lw_g (lw_at lw_m1 187 rfl) rfl
theorem q294 : (Jvm.Cond.laysFinal "PanSlices$Kitchen" "PanSlices$Kitchen" "minutes" "[I") ∈ lw_all := lw_g (lw_at lw_m1 188 rfl) rfl
theorem q295 : (Jvm.Cond.soleField "PanSlices$Kitchen" "minutes") ∈ lw_all := lw_g (lw_at lw_m1 189 rfl) rfl
theorem q296 : (Jvm.Cond.laysFinal "PanSlices$Kitchen" "PanSlices$Kitchen" "comes" "[I") ∈ lw_all := lw_g (lw_at lw_m1 190 rfl) rfl
theorem q297 : (Jvm.Cond.soleField "PanSlices$Kitchen" "comes") ∈ lw_all := lw_g (lw_at lw_m1 191 rfl) rfl
theorem q298 : (Jvm.Cond.laysFinal "PanSlices$Kitchen" "PanSlices$Kitchen" "worth" "[I") ∈ lw_all := lw_g (lw_at lw_m1 192 rfl) rfl
theorem q299 : (Jvm.Cond.soleField "PanSlices$Kitchen" "worth") ∈ lw_all := lw_g (lw_at lw_m1 193 rfl) rfl
theorem q300 : (Jvm.Cond.laysFinal "PanSlices$Kitchen" "PanSlices$Kitchen" "sortPlaces" "[I") ∈ lw_all := lw_g (lw_at lw_m1 194 rfl) rfl
theorem q301 : (Jvm.Cond.soleField "PanSlices$Kitchen" "sortPlaces") ∈ lw_all := lw_g (lw_at lw_m1 195 rfl) rfl
theorem q302 : (Jvm.Cond.laysFinal "PanSlices$Kitchen" "PanSlices$Kitchen" "cost" "[I") ∈ lw_all := lw_g (lw_at lw_m1 196 rfl) rfl
theorem q303 : (Jvm.Cond.soleField "PanSlices$Kitchen" "cost") ∈ lw_all := lw_g (lw_at lw_m1 197 rfl) rfl
theorem q304 : (Jvm.Cond.laysFinal "PanSlices$Kitchen" "PanSlices$Kitchen" "once" "[Z") ∈ lw_all := lw_g (lw_at lw_m1 198 rfl) rfl
theorem q305 : (Jvm.Cond.soleField "PanSlices$Kitchen" "once") ∈ lw_all := lw_g (lw_at lw_m1 199 rfl) rfl
theorem q306 : (Jvm.Cond.lays "PanSlices$Kitchen" "PanSlices$Kitchen" "slices" "I") ∈ lw_all := lw_g (lw_at lw_m1 200 rfl) rfl
theorem q307 : (Jvm.Cond.soleField "PanSlices$Kitchen" "slices") ∈ lw_all := lw_g (lw_at lw_m1 201 rfl) rfl
theorem q308 : (Jvm.Cond.lays "PanSlices$Kitchen" "PanSlices$Kitchen" "guests" "I") ∈ lw_all := lw_g (lw_at lw_m1 202 rfl) rfl
theorem q309 : (Jvm.Cond.soleField "PanSlices$Kitchen" "guests") ∈ lw_all := lw_g (lw_at lw_m1 203 rfl) rfl
theorem q310 : (Jvm.Cond.lays "PanSlices$Kitchen" "PanSlices$Kitchen" "sorts" "I") ∈ lw_all := lw_g (lw_at lw_m1 204 rfl) rfl
theorem q311 : (Jvm.Cond.soleField "PanSlices$Kitchen" "sorts") ∈ lw_all := lw_g (lw_at lw_m1 205 rfl) rfl
theorem q312 : (Jvm.Cond.lays "PanSlices$Kitchen" "PanSlices$Kitchen" "places" "I") ∈ lw_all := lw_g (lw_at lw_m1 206 rfl) rfl
theorem q313 : (Jvm.Cond.soleField "PanSlices$Kitchen" "places") ∈ lw_all := lw_g (lw_at lw_m1 207 rfl) rfl
theorem q314 : (Jvm.Cond.lays "PanSlices$Kitchen" "PanSlices$Kitchen" "rest" "I") ∈ lw_all := lw_g (lw_at lw_m1 208 rfl) rfl
theorem q315 : (Jvm.Cond.soleField "PanSlices$Kitchen" "rest") ∈ lw_all := lw_g (lw_at lw_m1 209 rfl) rfl
theorem q316 : (Jvm.Cond.lays "PanSlices$Kitchen" "PanSlices$Kitchen" "cold" "I") ∈ lw_all := lw_g (lw_at lw_m1 210 rfl) rfl
theorem q317 : (Jvm.Cond.soleField "PanSlices$Kitchen" "cold") ∈ lw_all := lw_g (lw_at lw_m1 211 rfl) rfl
theorem q318 : (Jvm.Cond.lays "PanSlices$Kitchen" "PanSlices$Kitchen" "burns" "I") ∈ lw_all := lw_g (lw_at lw_m1 212 rfl) rfl
theorem q319 : (Jvm.Cond.soleField "PanSlices$Kitchen" "burns") ∈ lw_all := lw_g (lw_at lw_m1 213 rfl) rfl
theorem q320 : (Jvm.Cond.lays "PanSlices$Kitchen" "PanSlices$Kitchen" "by" "I") ∈ lw_all := lw_g (lw_at lw_m1 214 rfl) rfl
theorem q321 : (Jvm.Cond.soleField "PanSlices$Kitchen" "by") ∈ lw_all := lw_g (lw_at lw_m1 215 rfl) rfl
theorem q322 : (Jvm.Cond.superclass "PanSlices$Kitchen" "java/lang/Object") ∈ lw_all := lw_g (lw_at lw_m1 216 rfl) rfl
theorem q1007 : (Jvm.Cond.instanceMethod ({ cls := "PanSlices$Kitchen", name := "whole", desc := "(I)I" } : Jvm.MethodName)) ∈ lw_all := lw_g (lw_at lw_m4 181 rfl) rfl
theorem q1008 : (Jvm.Cond.selects "PanSlices$Kitchen" ({ cls := "PanSlices$Kitchen", name := "whole", desc := "(I)I" } : Jvm.MethodName) ({ cls := "PanSlices$Kitchen", name := "whole", desc := "(I)I" } : Jvm.MethodName)) ∈ lw_all := lw_g (lw_at lw_m4 182 rfl) rfl
theorem q1009 : (Jvm.Cond.code ({ cls := "PanSlices$Kitchen", name := "whole", desc := "(I)I" } : Jvm.MethodName) prog_9_method_2_code (2 : Nat) (Option.some Jvm.ClassFile.FieldType.int)) ∈ lw_all := lw_g (lw_at lw_m4 183 rfl) rfl
theorem q1012 : (Jvm.Cond.instanceMethod ({ cls := "PanSlices$Kitchen", name := "all", desc := "()I" } : Jvm.MethodName)) ∈ lw_all := lw_g (lw_at lw_m4 186 rfl) rfl
theorem q1013 : (Jvm.Cond.selects "PanSlices$Kitchen" ({ cls := "PanSlices$Kitchen", name := "all", desc := "()I" } : Jvm.MethodName) ({ cls := "PanSlices$Kitchen", name := "all", desc := "()I" } : Jvm.MethodName)) ∈ lw_all := lw_g (lw_at lw_m4 187 rfl) rfl
theorem q1014 : (Jvm.Cond.code ({ cls := "PanSlices$Kitchen", name := "all", desc := "()I" } : Jvm.MethodName) prog_9_method_3_code (3 : Nat) (Option.some Jvm.ClassFile.FieldType.int)) ∈ lw_all := lw_g (lw_at lw_m4 188 rfl) rfl
theorem q1015 : (Jvm.Cond.methodLink "PanSlices$Kitchen" (51 : Nat) ({ cls := "PanSlices$Kitchen", name := "whole", desc := "(I)I" } : Jvm.MethodName)) ∈ lw_all := lw_g (lw_at lw_m4 189 rfl) rfl
theorem q2158 : (Jvm.Cond.castable "PanSlices$Kitchen" "java/lang/Object") ∈ lw_tbl := lw_at lw_m9 132 rfl
theorem in_X3 : ∀ w ∈ wsX30, w ∈ lw_all := lw_in wsX30 [290, 292, 294, 296, 298, 300, 302, 304, 306, 308, 310, 312, 314, 316, 318, 320] (by decide +kernel) (by decide +kernel)
/-! PanSlices$Plan -/
set_option maxRecDepth 100000
def RX4 : String := "PanSlices$Plan"
def TX4 : u_T := fun k => match k with
  | 0 => ("PanSlices$Plan", "slice", "[I", true)
  | 1 => ("PanSlices$Plan", "side", "[I", true)
  | 2 => ("PanSlices$Plan", "from", "[I", true)
  | 3 => ("PanSlices$Plan", "place", "[I", true)
  | 4 => ("PanSlices$Plan", "many", "[I", true)
  | _ => ("PanSlices$Plan", "goes", "I", false)
def tyX4 : Nat → FieldType := fun k => match k with
  | 0 => .array .int
  | 1 => .array .int
  | 2 => .array .int
  | 3 => .array .int
  | 4 => .array .int
  | _ => .int
abbrev wsX40 : List Cond := u_ws RX4 TX4 6
theorem nmX4 : ∀ a, a < 6 → ∀ b, b < 6 → a ≠ b → (TX4 a).2.1 ≠ (TX4 b).2.1 := by decide +kernel
theorem tyX4_ok : ∀ k, k < 6 → parseFieldDescriptor (TX4 k).2.2.1 = some (tyX4 k) := by decide +kernel
abbrev cX4_init : ByteArray := prog_15_method_1_code
def yX4_init : MethodName := ⟨RX4, "<init>", "()V"⟩
def dkwX4_init_2 : List UInt8 := [181, 0, 24, 177]
abbrev dktX4_init_2 : List UInt8 := dkwX4_init_2 ++ []
def dkwX4_init_1 : List UInt8 := [17, 1, 144, 188, 10, 181, 0, 18, 42, 17, 1, 144, 188, 10, 181, 0, 21, 42, 17, 1, 144, 188, 10]
abbrev dktX4_init_1 : List UInt8 := dkwX4_init_1 ++ dktX4_init_2
def dkwX4_init_0 : List UInt8 := [42, 183, 0, 3, 42, 17, 1, 144, 188, 10, 181, 0, 9, 42, 17, 1, 144, 188, 10, 181, 0, 15, 42]
abbrev dktX4_init_0 : List UInt8 := dkwX4_init_0 ++ dktX4_init_1
theorem dksX4_init_0 : cX4_init.data.toList.drop 0 = dktX4_init_0 := by decide +kernel
theorem dksX4_init_1 : cX4_init.data.toList.drop 23 = dktX4_init_1 := dk_seg dksX4_init_0 23 rfl rfl
theorem dksX4_init_2 : cX4_init.data.toList.drop 46 = dktX4_init_2 := dk_seg dksX4_init_1 23 rfl rfl
theorem dX4_init_0 : decode cX4_init 0 = .ok (.aload_n 0, 1) := dk_42 (dk_at dksX4_init_0 0 rfl rfl)
theorem dX4_init_1 : decode cX4_init 1 = .ok (.invokespecial 3, 3) := dk_183 0 3 (dk_at dksX4_init_0 1 rfl rfl)
theorem dX4_init_4 : decode cX4_init 4 = .ok (.aload_n 0, 1) := dk_42 (dk_at dksX4_init_0 4 rfl rfl)
theorem dX4_init_5 : decode cX4_init 5 = .ok (.sipush 400, 3) := dk_17 1 144 (dk_at dksX4_init_0 5 rfl rfl)
theorem dX4_init_8 : decode cX4_init 8 = .ok (.newarray .int, 2) := dk_188_10 (dk_at dksX4_init_0 8 rfl rfl)
theorem dX4_init_10 : decode cX4_init 10 = .ok (.putfield 9, 3) := dk_181 0 9 (dk_at dksX4_init_0 10 rfl rfl)
theorem dX4_init_13 : decode cX4_init 13 = .ok (.aload_n 0, 1) := dk_42 (dk_at dksX4_init_0 13 rfl rfl)
theorem dX4_init_14 : decode cX4_init 14 = .ok (.sipush 400, 3) := dk_17 1 144 (dk_at dksX4_init_0 14 rfl rfl)
theorem dX4_init_17 : decode cX4_init 17 = .ok (.newarray .int, 2) := dk_188_10 (dk_at dksX4_init_0 17 rfl rfl)
theorem dX4_init_19 : decode cX4_init 19 = .ok (.putfield 15, 3) := dk_181 0 15 (dk_at dksX4_init_0 19 rfl rfl)
theorem dX4_init_22 : decode cX4_init 22 = .ok (.aload_n 0, 1) := dk_42 (dk_at dksX4_init_0 22 rfl rfl)
theorem dX4_init_23 : decode cX4_init 23 = .ok (.sipush 400, 3) := dk_17 1 144 (dk_at dksX4_init_1 0 rfl rfl)
theorem dX4_init_26 : decode cX4_init 26 = .ok (.newarray .int, 2) := dk_188_10 (dk_at dksX4_init_1 3 rfl rfl)
theorem dX4_init_28 : decode cX4_init 28 = .ok (.putfield 18, 3) := dk_181 0 18 (dk_at dksX4_init_1 5 rfl rfl)
theorem dX4_init_31 : decode cX4_init 31 = .ok (.aload_n 0, 1) := dk_42 (dk_at dksX4_init_1 8 rfl rfl)
theorem dX4_init_32 : decode cX4_init 32 = .ok (.sipush 400, 3) := dk_17 1 144 (dk_at dksX4_init_1 9 rfl rfl)
theorem dX4_init_35 : decode cX4_init 35 = .ok (.newarray .int, 2) := dk_188_10 (dk_at dksX4_init_1 12 rfl rfl)
theorem dX4_init_37 : decode cX4_init 37 = .ok (.putfield 21, 3) := dk_181 0 21 (dk_at dksX4_init_1 14 rfl rfl)
theorem dX4_init_40 : decode cX4_init 40 = .ok (.aload_n 0, 1) := dk_42 (dk_at dksX4_init_1 17 rfl rfl)
theorem dX4_init_41 : decode cX4_init 41 = .ok (.sipush 400, 3) := dk_17 1 144 (dk_at dksX4_init_1 18 rfl rfl)
theorem dX4_init_44 : decode cX4_init 44 = .ok (.newarray .int, 2) := dk_188_10 (dk_at dksX4_init_1 21 rfl rfl)
theorem dX4_init_46 : decode cX4_init 46 = .ok (.putfield 24, 3) := dk_181 0 24 (dk_at dksX4_init_2 0 rfl rfl)
theorem dX4_init_49 : decode cX4_init 49 = .ok (.return_, 1) := dk_177 (dk_at dksX4_init_2 3 rfl rfl)
abbrev cX4_go : ByteArray := prog_15_method_3_code
def yX4_go : MethodName := ⟨RX4, "go", "(IIIII)I"⟩
def dkwX4_go_2 : List UInt8 := [180, 0, 27, 21, 5, 79, 42, 89, 180, 0, 27, 4, 96, 181, 0, 27, 42, 180, 0, 27, 4, 100, 172]
abbrev dktX4_go_2 : List UInt8 := dkwX4_go_2 ++ []
def dkwX4_go_1 : List UInt8 := [42, 180, 0, 27, 29, 79, 42, 180, 0, 21, 42, 180, 0, 27, 21, 4, 79, 42, 180, 0, 24, 42]
abbrev dktX4_go_1 : List UInt8 := dkwX4_go_1 ++ dktX4_go_2
def dkwX4_go_0 : List UInt8 := [42, 180, 0, 9, 42, 180, 0, 27, 27, 79, 42, 180, 0, 15, 42, 180, 0, 27, 28, 79, 42, 180, 0, 18]
abbrev dktX4_go_0 : List UInt8 := dkwX4_go_0 ++ dktX4_go_1
theorem dksX4_go_0 : cX4_go.data.toList.drop 0 = dktX4_go_0 := by decide +kernel
theorem dksX4_go_1 : cX4_go.data.toList.drop 24 = dktX4_go_1 := dk_seg dksX4_go_0 24 rfl rfl
theorem dksX4_go_2 : cX4_go.data.toList.drop 46 = dktX4_go_2 := dk_seg dksX4_go_1 22 rfl rfl
theorem dX4_go_0 : decode cX4_go 0 = .ok (.aload_n 0, 1) := dk_42 (dk_at dksX4_go_0 0 rfl rfl)
theorem dX4_go_1 : decode cX4_go 1 = .ok (.getfield 9, 3) := dk_180 0 9 (dk_at dksX4_go_0 1 rfl rfl)
theorem dX4_go_4 : decode cX4_go 4 = .ok (.aload_n 0, 1) := dk_42 (dk_at dksX4_go_0 4 rfl rfl)
theorem dX4_go_5 : decode cX4_go 5 = .ok (.getfield 27, 3) := dk_180 0 27 (dk_at dksX4_go_0 5 rfl rfl)
theorem dX4_go_8 : decode cX4_go 8 = .ok (.iload_n 1, 1) := dk_27 (dk_at dksX4_go_0 8 rfl rfl)
theorem dX4_go_9 : decode cX4_go 9 = .ok (.iastore, 1) := dk_79 (dk_at dksX4_go_0 9 rfl rfl)
theorem dX4_go_10 : decode cX4_go 10 = .ok (.aload_n 0, 1) := dk_42 (dk_at dksX4_go_0 10 rfl rfl)
theorem dX4_go_11 : decode cX4_go 11 = .ok (.getfield 15, 3) := dk_180 0 15 (dk_at dksX4_go_0 11 rfl rfl)
theorem dX4_go_14 : decode cX4_go 14 = .ok (.aload_n 0, 1) := dk_42 (dk_at dksX4_go_0 14 rfl rfl)
theorem dX4_go_15 : decode cX4_go 15 = .ok (.getfield 27, 3) := dk_180 0 27 (dk_at dksX4_go_0 15 rfl rfl)
theorem dX4_go_18 : decode cX4_go 18 = .ok (.iload_n 2, 1) := dk_28 (dk_at dksX4_go_0 18 rfl rfl)
theorem dX4_go_19 : decode cX4_go 19 = .ok (.iastore, 1) := dk_79 (dk_at dksX4_go_0 19 rfl rfl)
theorem dX4_go_20 : decode cX4_go 20 = .ok (.aload_n 0, 1) := dk_42 (dk_at dksX4_go_0 20 rfl rfl)
theorem dX4_go_21 : decode cX4_go 21 = .ok (.getfield 18, 3) := dk_180 0 18 (dk_at dksX4_go_0 21 rfl rfl)
theorem dX4_go_24 : decode cX4_go 24 = .ok (.aload_n 0, 1) := dk_42 (dk_at dksX4_go_1 0 rfl rfl)
theorem dX4_go_25 : decode cX4_go 25 = .ok (.getfield 27, 3) := dk_180 0 27 (dk_at dksX4_go_1 1 rfl rfl)
theorem dX4_go_28 : decode cX4_go 28 = .ok (.iload_n 3, 1) := dk_29 (dk_at dksX4_go_1 4 rfl rfl)
theorem dX4_go_29 : decode cX4_go 29 = .ok (.iastore, 1) := dk_79 (dk_at dksX4_go_1 5 rfl rfl)
theorem dX4_go_30 : decode cX4_go 30 = .ok (.aload_n 0, 1) := dk_42 (dk_at dksX4_go_1 6 rfl rfl)
theorem dX4_go_31 : decode cX4_go 31 = .ok (.getfield 21, 3) := dk_180 0 21 (dk_at dksX4_go_1 7 rfl rfl)
theorem dX4_go_34 : decode cX4_go 34 = .ok (.aload_n 0, 1) := dk_42 (dk_at dksX4_go_1 10 rfl rfl)
theorem dX4_go_35 : decode cX4_go 35 = .ok (.getfield 27, 3) := dk_180 0 27 (dk_at dksX4_go_1 11 rfl rfl)
theorem dX4_go_38 : decode cX4_go 38 = .ok (.iload 4, 2) := dk_21 4 (dk_at dksX4_go_1 14 rfl rfl)
theorem dX4_go_40 : decode cX4_go 40 = .ok (.iastore, 1) := dk_79 (dk_at dksX4_go_1 16 rfl rfl)
theorem dX4_go_41 : decode cX4_go 41 = .ok (.aload_n 0, 1) := dk_42 (dk_at dksX4_go_1 17 rfl rfl)
theorem dX4_go_42 : decode cX4_go 42 = .ok (.getfield 24, 3) := dk_180 0 24 (dk_at dksX4_go_1 18 rfl rfl)
theorem dX4_go_45 : decode cX4_go 45 = .ok (.aload_n 0, 1) := dk_42 (dk_at dksX4_go_1 21 rfl rfl)
theorem dX4_go_46 : decode cX4_go 46 = .ok (.getfield 27, 3) := dk_180 0 27 (dk_at dksX4_go_2 0 rfl rfl)
theorem dX4_go_49 : decode cX4_go 49 = .ok (.iload 5, 2) := dk_21 5 (dk_at dksX4_go_2 3 rfl rfl)
theorem dX4_go_51 : decode cX4_go 51 = .ok (.iastore, 1) := dk_79 (dk_at dksX4_go_2 5 rfl rfl)
theorem dX4_go_52 : decode cX4_go 52 = .ok (.aload_n 0, 1) := dk_42 (dk_at dksX4_go_2 6 rfl rfl)
theorem dX4_go_53 : decode cX4_go 53 = .ok (.dup, 1) := dk_89 (dk_at dksX4_go_2 7 rfl rfl)
theorem dX4_go_54 : decode cX4_go 54 = .ok (.getfield 27, 3) := dk_180 0 27 (dk_at dksX4_go_2 8 rfl rfl)
theorem dX4_go_57 : decode cX4_go 57 = .ok (.iconst 1, 1) := dk_4 (dk_at dksX4_go_2 11 rfl rfl)
theorem dX4_go_58 : decode cX4_go 58 = .ok (.iadd, 1) := dk_96 (dk_at dksX4_go_2 12 rfl rfl)
theorem dX4_go_59 : decode cX4_go 59 = .ok (.putfield 27, 3) := dk_181 0 27 (dk_at dksX4_go_2 13 rfl rfl)
theorem dX4_go_62 : decode cX4_go 62 = .ok (.aload_n 0, 1) := dk_42 (dk_at dksX4_go_2 16 rfl rfl)
theorem dX4_go_63 : decode cX4_go 63 = .ok (.getfield 27, 3) := dk_180 0 27 (dk_at dksX4_go_2 17 rfl rfl)
theorem dX4_go_66 : decode cX4_go 66 = .ok (.iconst 1, 1) := dk_4 (dk_at dksX4_go_2 20 rfl rfl)
theorem dX4_go_67 : decode cX4_go 67 = .ok (.isub, 1) := dk_100 (dk_at dksX4_go_2 21 rfl rfl)
theorem dX4_go_68 : decode cX4_go 68 = .ok (.ireturn, 1) := dk_172 (dk_at dksX4_go_2 22 rfl rfl)
abbrev cX4_be : ByteArray := prog_15_method_2_code
def yX4_be : MethodName := ⟨RX4, "be", "(LPanSlices$Plan;)V"⟩
def dkwX4_be_3 : List UInt8 := [180, 0, 27, 184, 0, 31, 43, 180, 0, 24, 3, 42, 180, 0, 24, 3, 42, 180, 0, 27, 184, 0, 31, 177]
abbrev dktX4_be_3 : List UInt8 := dkwX4_be_3 ++ []
def dkwX4_be_2 : List UInt8 := [3, 42, 180, 0, 18, 3, 42, 180, 0, 27, 184, 0, 31, 43, 180, 0, 21, 3, 42, 180, 0, 21, 3, 42]
abbrev dktX4_be_2 : List UInt8 := dkwX4_be_2 ++ dktX4_be_3
def dkwX4_be_1 : List UInt8 := [184, 0, 31, 43, 180, 0, 15, 3, 42, 180, 0, 15, 3, 42, 180, 0, 27, 184, 0, 31, 43, 180, 0, 18]
abbrev dktX4_be_1 : List UInt8 := dkwX4_be_1 ++ dktX4_be_2
def dkwX4_be_0 : List UInt8 := [42, 43, 180, 0, 27, 181, 0, 27, 43, 180, 0, 9, 3, 42, 180, 0, 9, 3, 42, 180, 0, 27]
abbrev dktX4_be_0 : List UInt8 := dkwX4_be_0 ++ dktX4_be_1
theorem dksX4_be_0 : cX4_be.data.toList.drop 0 = dktX4_be_0 := by decide +kernel
theorem dksX4_be_1 : cX4_be.data.toList.drop 22 = dktX4_be_1 := dk_seg dksX4_be_0 22 rfl rfl
theorem dksX4_be_2 : cX4_be.data.toList.drop 46 = dktX4_be_2 := dk_seg dksX4_be_1 24 rfl rfl
theorem dksX4_be_3 : cX4_be.data.toList.drop 70 = dktX4_be_3 := dk_seg dksX4_be_2 24 rfl rfl
theorem dX4_be_0 : decode cX4_be 0 = .ok (.aload_n 0, 1) := dk_42 (dk_at dksX4_be_0 0 rfl rfl)
theorem dX4_be_1 : decode cX4_be 1 = .ok (.aload_n 1, 1) := dk_43 (dk_at dksX4_be_0 1 rfl rfl)
theorem dX4_be_2 : decode cX4_be 2 = .ok (.getfield 27, 3) := dk_180 0 27 (dk_at dksX4_be_0 2 rfl rfl)
theorem dX4_be_5 : decode cX4_be 5 = .ok (.putfield 27, 3) := dk_181 0 27 (dk_at dksX4_be_0 5 rfl rfl)
theorem dX4_be_8 : decode cX4_be 8 = .ok (.aload_n 1, 1) := dk_43 (dk_at dksX4_be_0 8 rfl rfl)
theorem dX4_be_9 : decode cX4_be 9 = .ok (.getfield 9, 3) := dk_180 0 9 (dk_at dksX4_be_0 9 rfl rfl)
theorem dX4_be_12 : decode cX4_be 12 = .ok (.iconst 0, 1) := dk_3 (dk_at dksX4_be_0 12 rfl rfl)
theorem dX4_be_13 : decode cX4_be 13 = .ok (.aload_n 0, 1) := dk_42 (dk_at dksX4_be_0 13 rfl rfl)
theorem dX4_be_14 : decode cX4_be 14 = .ok (.getfield 9, 3) := dk_180 0 9 (dk_at dksX4_be_0 14 rfl rfl)
theorem dX4_be_17 : decode cX4_be 17 = .ok (.iconst 0, 1) := dk_3 (dk_at dksX4_be_0 17 rfl rfl)
theorem dX4_be_18 : decode cX4_be 18 = .ok (.aload_n 0, 1) := dk_42 (dk_at dksX4_be_0 18 rfl rfl)
theorem dX4_be_19 : decode cX4_be 19 = .ok (.getfield 27, 3) := dk_180 0 27 (dk_at dksX4_be_0 19 rfl rfl)
theorem dX4_be_22 : decode cX4_be 22 = .ok (.invokestatic 31, 3) := dk_184 0 31 (dk_at dksX4_be_1 0 rfl rfl)
theorem dX4_be_25 : decode cX4_be 25 = .ok (.aload_n 1, 1) := dk_43 (dk_at dksX4_be_1 3 rfl rfl)
theorem dX4_be_26 : decode cX4_be 26 = .ok (.getfield 15, 3) := dk_180 0 15 (dk_at dksX4_be_1 4 rfl rfl)
theorem dX4_be_29 : decode cX4_be 29 = .ok (.iconst 0, 1) := dk_3 (dk_at dksX4_be_1 7 rfl rfl)
theorem dX4_be_30 : decode cX4_be 30 = .ok (.aload_n 0, 1) := dk_42 (dk_at dksX4_be_1 8 rfl rfl)
theorem dX4_be_31 : decode cX4_be 31 = .ok (.getfield 15, 3) := dk_180 0 15 (dk_at dksX4_be_1 9 rfl rfl)
theorem dX4_be_34 : decode cX4_be 34 = .ok (.iconst 0, 1) := dk_3 (dk_at dksX4_be_1 12 rfl rfl)
theorem dX4_be_35 : decode cX4_be 35 = .ok (.aload_n 0, 1) := dk_42 (dk_at dksX4_be_1 13 rfl rfl)
theorem dX4_be_36 : decode cX4_be 36 = .ok (.getfield 27, 3) := dk_180 0 27 (dk_at dksX4_be_1 14 rfl rfl)
theorem dX4_be_39 : decode cX4_be 39 = .ok (.invokestatic 31, 3) := dk_184 0 31 (dk_at dksX4_be_1 17 rfl rfl)
theorem dX4_be_42 : decode cX4_be 42 = .ok (.aload_n 1, 1) := dk_43 (dk_at dksX4_be_1 20 rfl rfl)
theorem dX4_be_43 : decode cX4_be 43 = .ok (.getfield 18, 3) := dk_180 0 18 (dk_at dksX4_be_1 21 rfl rfl)
theorem dX4_be_46 : decode cX4_be 46 = .ok (.iconst 0, 1) := dk_3 (dk_at dksX4_be_2 0 rfl rfl)
theorem dX4_be_47 : decode cX4_be 47 = .ok (.aload_n 0, 1) := dk_42 (dk_at dksX4_be_2 1 rfl rfl)
theorem dX4_be_48 : decode cX4_be 48 = .ok (.getfield 18, 3) := dk_180 0 18 (dk_at dksX4_be_2 2 rfl rfl)
theorem dX4_be_51 : decode cX4_be 51 = .ok (.iconst 0, 1) := dk_3 (dk_at dksX4_be_2 5 rfl rfl)
theorem dX4_be_52 : decode cX4_be 52 = .ok (.aload_n 0, 1) := dk_42 (dk_at dksX4_be_2 6 rfl rfl)
theorem dX4_be_53 : decode cX4_be 53 = .ok (.getfield 27, 3) := dk_180 0 27 (dk_at dksX4_be_2 7 rfl rfl)
theorem dX4_be_56 : decode cX4_be 56 = .ok (.invokestatic 31, 3) := dk_184 0 31 (dk_at dksX4_be_2 10 rfl rfl)
theorem dX4_be_59 : decode cX4_be 59 = .ok (.aload_n 1, 1) := dk_43 (dk_at dksX4_be_2 13 rfl rfl)
theorem dX4_be_60 : decode cX4_be 60 = .ok (.getfield 21, 3) := dk_180 0 21 (dk_at dksX4_be_2 14 rfl rfl)
theorem dX4_be_63 : decode cX4_be 63 = .ok (.iconst 0, 1) := dk_3 (dk_at dksX4_be_2 17 rfl rfl)
theorem dX4_be_64 : decode cX4_be 64 = .ok (.aload_n 0, 1) := dk_42 (dk_at dksX4_be_2 18 rfl rfl)
theorem dX4_be_65 : decode cX4_be 65 = .ok (.getfield 21, 3) := dk_180 0 21 (dk_at dksX4_be_2 19 rfl rfl)
theorem dX4_be_68 : decode cX4_be 68 = .ok (.iconst 0, 1) := dk_3 (dk_at dksX4_be_2 22 rfl rfl)
theorem dX4_be_69 : decode cX4_be 69 = .ok (.aload_n 0, 1) := dk_42 (dk_at dksX4_be_2 23 rfl rfl)
theorem dX4_be_70 : decode cX4_be 70 = .ok (.getfield 27, 3) := dk_180 0 27 (dk_at dksX4_be_3 0 rfl rfl)
theorem dX4_be_73 : decode cX4_be 73 = .ok (.invokestatic 31, 3) := dk_184 0 31 (dk_at dksX4_be_3 3 rfl rfl)
theorem dX4_be_76 : decode cX4_be 76 = .ok (.aload_n 1, 1) := dk_43 (dk_at dksX4_be_3 6 rfl rfl)
theorem dX4_be_77 : decode cX4_be 77 = .ok (.getfield 24, 3) := dk_180 0 24 (dk_at dksX4_be_3 7 rfl rfl)
theorem dX4_be_80 : decode cX4_be 80 = .ok (.iconst 0, 1) := dk_3 (dk_at dksX4_be_3 10 rfl rfl)
theorem dX4_be_81 : decode cX4_be 81 = .ok (.aload_n 0, 1) := dk_42 (dk_at dksX4_be_3 11 rfl rfl)
theorem dX4_be_82 : decode cX4_be 82 = .ok (.getfield 24, 3) := dk_180 0 24 (dk_at dksX4_be_3 12 rfl rfl)
theorem dX4_be_85 : decode cX4_be 85 = .ok (.iconst 0, 1) := dk_3 (dk_at dksX4_be_3 15 rfl rfl)
theorem dX4_be_86 : decode cX4_be 86 = .ok (.aload_n 0, 1) := dk_42 (dk_at dksX4_be_3 16 rfl rfl)
theorem dX4_be_87 : decode cX4_be 87 = .ok (.getfield 27, 3) := dk_180 0 27 (dk_at dksX4_be_3 17 rfl rfl)
theorem dX4_be_90 : decode cX4_be 90 = .ok (.invokestatic 31, 3) := dk_184 0 31 (dk_at dksX4_be_3 20 rfl rfl)
theorem dX4_be_93 : decode cX4_be 93 = .ok (.return_, 1) := dk_177 (dk_at dksX4_be_3 23 rfl rfl)
abbrev cX4_why : ByteArray := prog_15_method_10_code
def yX4_why : MethodName := ⟨RX4, "why", "(LPanSlices$Kitchen;I)I"⟩
def dkwX4_why_9 : List UInt8 := [21, 5, 182, 0, 37, 100, 43, 180, 0, 64, 162, 0, 5, 8, 172, 132, 5, 1, 167, 255, 178, 3, 172]
abbrev dktX4_why_9 : List UInt8 := dkwX4_why_9 ++ []
def dkwX4_why_8 : List UInt8 := [21, 5, 46, 42, 28, 182, 0, 37, 100, 43, 180, 0, 64, 162, 0, 25, 42, 180, 0, 18, 28, 46, 42]
abbrev dktX4_why_8 : List UInt8 := dkwX4_why_8 ++ dktX4_why_9
def dkwX4_why_7 : List UInt8 := [160, 0, 61, 42, 180, 0, 15, 21, 5, 46, 42, 180, 0, 15, 28, 46, 159, 0, 45, 42, 180, 0, 18]
abbrev dktX4_why_7 : List UInt8 := dkwX4_why_7 ++ dktX4_why_8
def dkwX4_why_6 : List UInt8 := [158, 0, 5, 7, 172, 3, 54, 5, 21, 5, 28, 162, 0, 78, 42, 180, 0, 9, 21, 5, 46, 29]
abbrev dktX4_why_6 : List UInt8 := dkwX4_why_6 ++ dktX4_why_7
def dkwX4_why_5 : List UInt8 := [180, 0, 15, 28, 46, 96, 46, 164, 0, 5, 6, 172, 43, 180, 0, 60, 29, 51, 153, 0, 10, 21, 4]
abbrev dktX4_why_5 : List UInt8 := dkwX4_why_5 ++ dktX4_why_6
def dkwX4_why_4 : List UInt8 := [46, 28, 182, 0, 51, 54, 4, 21, 4, 42, 180, 0, 24, 28, 46, 96, 43, 180, 0, 55, 5, 29, 104, 42]
abbrev dktX4_why_4 : List UInt8 := dkwX4_why_4 ++ dktX4_why_5
def dkwX4_why_3 : List UInt8 := [21, 4, 28, 182, 0, 47, 153, 0, 5, 5, 172, 132, 4, 1, 167, 255, 224, 42, 29, 42, 180, 0, 15, 28]
abbrev dktX4_why_3 : List UInt8 := dkwX4_why_3 ++ dktX4_why_4
def dkwX4_why_2 : List UInt8 := [167, 255, 219, 3, 54, 4, 21, 4, 28, 162, 0, 32, 42, 180, 0, 9, 21, 4, 46, 29, 160, 0, 15, 42]
abbrev dktX4_why_2 : List UInt8 := dkwX4_why_2 ++ dktX4_why_3
def dkwX4_why_1 : List UInt8 := [180, 0, 21, 28, 46, 160, 0, 15, 42, 21, 4, 28, 182, 0, 47, 153, 0, 5, 4, 172, 132, 4, 1]
abbrev dktX4_why_1 : List UInt8 := dkwX4_why_1 ++ dktX4_why_2
def dkwX4_why_0 : List UInt8 := [42, 180, 0, 9, 28, 46, 62, 3, 54, 4, 21, 4, 28, 162, 0, 37, 42, 180, 0, 21, 21, 4, 46, 42]
abbrev dktX4_why_0 : List UInt8 := dkwX4_why_0 ++ dktX4_why_1
theorem dksX4_why_0 : cX4_why.data.toList.drop 0 = dktX4_why_0 := by decide +kernel
theorem dksX4_why_1 : cX4_why.data.toList.drop 24 = dktX4_why_1 := dk_seg dksX4_why_0 24 rfl rfl
theorem dksX4_why_2 : cX4_why.data.toList.drop 47 = dktX4_why_2 := dk_seg dksX4_why_1 23 rfl rfl
theorem dksX4_why_3 : cX4_why.data.toList.drop 71 = dktX4_why_3 := dk_seg dksX4_why_2 24 rfl rfl
theorem dksX4_why_4 : cX4_why.data.toList.drop 95 = dktX4_why_4 := dk_seg dksX4_why_3 24 rfl rfl
theorem dksX4_why_5 : cX4_why.data.toList.drop 119 = dktX4_why_5 := dk_seg dksX4_why_4 24 rfl rfl
theorem dksX4_why_6 : cX4_why.data.toList.drop 142 = dktX4_why_6 := dk_seg dksX4_why_5 23 rfl rfl
theorem dksX4_why_7 : cX4_why.data.toList.drop 164 = dktX4_why_7 := dk_seg dksX4_why_6 22 rfl rfl
theorem dksX4_why_8 : cX4_why.data.toList.drop 187 = dktX4_why_8 := dk_seg dksX4_why_7 23 rfl rfl
theorem dksX4_why_9 : cX4_why.data.toList.drop 210 = dktX4_why_9 := dk_seg dksX4_why_8 23 rfl rfl
theorem dX4_why_0 : decode cX4_why 0 = .ok (.aload_n 0, 1) := dk_42 (dk_at dksX4_why_0 0 rfl rfl)
theorem dX4_why_1 : decode cX4_why 1 = .ok (.getfield 9, 3) := dk_180 0 9 (dk_at dksX4_why_0 1 rfl rfl)
theorem dX4_why_4 : decode cX4_why 4 = .ok (.iload_n 2, 1) := dk_28 (dk_at dksX4_why_0 4 rfl rfl)
theorem dX4_why_5 : decode cX4_why 5 = .ok (.iaload, 1) := dk_46 (dk_at dksX4_why_0 5 rfl rfl)
theorem dX4_why_6 : decode cX4_why 6 = .ok (.istore_n 3, 1) := dk_62 (dk_at dksX4_why_0 6 rfl rfl)
theorem dX4_why_7 : decode cX4_why 7 = .ok (.iconst 0, 1) := dk_3 (dk_at dksX4_why_0 7 rfl rfl)
theorem dX4_why_8 : decode cX4_why 8 = .ok (.istore 4, 2) := dk_54 4 (dk_at dksX4_why_0 8 rfl rfl)
theorem dX4_why_10 : decode cX4_why 10 = .ok (.iload 4, 2) := dk_21 4 (dk_at dksX4_why_0 10 rfl rfl)
theorem dX4_why_12 : decode cX4_why 12 = .ok (.iload_n 2, 1) := dk_28 (dk_at dksX4_why_0 12 rfl rfl)
theorem dX4_why_13 : decode cX4_why 13 = .ok (.if_icmp .ge 37, 3) := dk_162 0 37 (dk_at dksX4_why_0 13 rfl rfl)
theorem dX4_why_16 : decode cX4_why 16 = .ok (.aload_n 0, 1) := dk_42 (dk_at dksX4_why_0 16 rfl rfl)
theorem dX4_why_17 : decode cX4_why 17 = .ok (.getfield 21, 3) := dk_180 0 21 (dk_at dksX4_why_0 17 rfl rfl)
theorem dX4_why_20 : decode cX4_why 20 = .ok (.iload 4, 2) := dk_21 4 (dk_at dksX4_why_0 20 rfl rfl)
theorem dX4_why_22 : decode cX4_why 22 = .ok (.iaload, 1) := dk_46 (dk_at dksX4_why_0 22 rfl rfl)
theorem dX4_why_23 : decode cX4_why 23 = .ok (.aload_n 0, 1) := dk_42 (dk_at dksX4_why_0 23 rfl rfl)
theorem dX4_why_24 : decode cX4_why 24 = .ok (.getfield 21, 3) := dk_180 0 21 (dk_at dksX4_why_1 0 rfl rfl)
theorem dX4_why_27 : decode cX4_why 27 = .ok (.iload_n 2, 1) := dk_28 (dk_at dksX4_why_1 3 rfl rfl)
theorem dX4_why_28 : decode cX4_why 28 = .ok (.iaload, 1) := dk_46 (dk_at dksX4_why_1 4 rfl rfl)
theorem dX4_why_29 : decode cX4_why 29 = .ok (.if_icmp .ne 15, 3) := dk_160 0 15 (dk_at dksX4_why_1 5 rfl rfl)
theorem dX4_why_32 : decode cX4_why 32 = .ok (.aload_n 0, 1) := dk_42 (dk_at dksX4_why_1 8 rfl rfl)
theorem dX4_why_33 : decode cX4_why 33 = .ok (.iload 4, 2) := dk_21 4 (dk_at dksX4_why_1 9 rfl rfl)
theorem dX4_why_35 : decode cX4_why 35 = .ok (.iload_n 2, 1) := dk_28 (dk_at dksX4_why_1 11 rfl rfl)
theorem dX4_why_36 : decode cX4_why 36 = .ok (.invokevirtual 47, 3) := dk_182 0 47 (dk_at dksX4_why_1 12 rfl rfl)
theorem dX4_why_39 : decode cX4_why 39 = .ok (.ifCond .eq 5, 3) := dk_153 0 5 (dk_at dksX4_why_1 15 rfl rfl)
theorem dX4_why_42 : decode cX4_why 42 = .ok (.iconst 1, 1) := dk_4 (dk_at dksX4_why_1 18 rfl rfl)
theorem dX4_why_43 : decode cX4_why 43 = .ok (.ireturn, 1) := dk_172 (dk_at dksX4_why_1 19 rfl rfl)
theorem dX4_why_44 : decode cX4_why 44 = .ok (.iinc 4 1, 3) := dk_132 4 1 (dk_at dksX4_why_1 20 rfl rfl)
theorem dX4_why_47 : decode cX4_why 47 = .ok (.goto (-37), 3) := dk_167 255 219 (dk_at dksX4_why_2 0 rfl rfl)
theorem dX4_why_50 : decode cX4_why 50 = .ok (.iconst 0, 1) := dk_3 (dk_at dksX4_why_2 3 rfl rfl)
theorem dX4_why_51 : decode cX4_why 51 = .ok (.istore 4, 2) := dk_54 4 (dk_at dksX4_why_2 4 rfl rfl)
theorem dX4_why_53 : decode cX4_why 53 = .ok (.iload 4, 2) := dk_21 4 (dk_at dksX4_why_2 6 rfl rfl)
theorem dX4_why_55 : decode cX4_why 55 = .ok (.iload_n 2, 1) := dk_28 (dk_at dksX4_why_2 8 rfl rfl)
theorem dX4_why_56 : decode cX4_why 56 = .ok (.if_icmp .ge 32, 3) := dk_162 0 32 (dk_at dksX4_why_2 9 rfl rfl)
theorem dX4_why_59 : decode cX4_why 59 = .ok (.aload_n 0, 1) := dk_42 (dk_at dksX4_why_2 12 rfl rfl)
theorem dX4_why_60 : decode cX4_why 60 = .ok (.getfield 9, 3) := dk_180 0 9 (dk_at dksX4_why_2 13 rfl rfl)
theorem dX4_why_63 : decode cX4_why 63 = .ok (.iload 4, 2) := dk_21 4 (dk_at dksX4_why_2 16 rfl rfl)
theorem dX4_why_65 : decode cX4_why 65 = .ok (.iaload, 1) := dk_46 (dk_at dksX4_why_2 18 rfl rfl)
theorem dX4_why_66 : decode cX4_why 66 = .ok (.iload_n 3, 1) := dk_29 (dk_at dksX4_why_2 19 rfl rfl)
theorem dX4_why_67 : decode cX4_why 67 = .ok (.if_icmp .ne 15, 3) := dk_160 0 15 (dk_at dksX4_why_2 20 rfl rfl)
theorem dX4_why_70 : decode cX4_why 70 = .ok (.aload_n 0, 1) := dk_42 (dk_at dksX4_why_2 23 rfl rfl)
theorem dX4_why_71 : decode cX4_why 71 = .ok (.iload 4, 2) := dk_21 4 (dk_at dksX4_why_3 0 rfl rfl)
theorem dX4_why_73 : decode cX4_why 73 = .ok (.iload_n 2, 1) := dk_28 (dk_at dksX4_why_3 2 rfl rfl)
theorem dX4_why_74 : decode cX4_why 74 = .ok (.invokevirtual 47, 3) := dk_182 0 47 (dk_at dksX4_why_3 3 rfl rfl)
theorem dX4_why_77 : decode cX4_why 77 = .ok (.ifCond .eq 5, 3) := dk_153 0 5 (dk_at dksX4_why_3 6 rfl rfl)
theorem dX4_why_80 : decode cX4_why 80 = .ok (.iconst 2, 1) := dk_5 (dk_at dksX4_why_3 9 rfl rfl)
theorem dX4_why_81 : decode cX4_why 81 = .ok (.ireturn, 1) := dk_172 (dk_at dksX4_why_3 10 rfl rfl)
theorem dX4_why_82 : decode cX4_why 82 = .ok (.iinc 4 1, 3) := dk_132 4 1 (dk_at dksX4_why_3 11 rfl rfl)
theorem dX4_why_85 : decode cX4_why 85 = .ok (.goto (-32), 3) := dk_167 255 224 (dk_at dksX4_why_3 14 rfl rfl)
theorem dX4_why_88 : decode cX4_why 88 = .ok (.aload_n 0, 1) := dk_42 (dk_at dksX4_why_3 17 rfl rfl)
theorem dX4_why_89 : decode cX4_why 89 = .ok (.iload_n 3, 1) := dk_29 (dk_at dksX4_why_3 18 rfl rfl)
theorem dX4_why_90 : decode cX4_why 90 = .ok (.aload_n 0, 1) := dk_42 (dk_at dksX4_why_3 19 rfl rfl)
theorem dX4_why_91 : decode cX4_why 91 = .ok (.getfield 15, 3) := dk_180 0 15 (dk_at dksX4_why_3 20 rfl rfl)
theorem dX4_why_94 : decode cX4_why 94 = .ok (.iload_n 2, 1) := dk_28 (dk_at dksX4_why_3 23 rfl rfl)
theorem dX4_why_95 : decode cX4_why 95 = .ok (.iaload, 1) := dk_46 (dk_at dksX4_why_4 0 rfl rfl)
theorem dX4_why_96 : decode cX4_why 96 = .ok (.iload_n 2, 1) := dk_28 (dk_at dksX4_why_4 1 rfl rfl)
theorem dX4_why_97 : decode cX4_why 97 = .ok (.invokevirtual 51, 3) := dk_182 0 51 (dk_at dksX4_why_4 2 rfl rfl)
theorem dX4_why_100 : decode cX4_why 100 = .ok (.istore 4, 2) := dk_54 4 (dk_at dksX4_why_4 5 rfl rfl)
theorem dX4_why_102 : decode cX4_why 102 = .ok (.iload 4, 2) := dk_21 4 (dk_at dksX4_why_4 7 rfl rfl)
theorem dX4_why_104 : decode cX4_why 104 = .ok (.aload_n 0, 1) := dk_42 (dk_at dksX4_why_4 9 rfl rfl)
theorem dX4_why_105 : decode cX4_why 105 = .ok (.getfield 24, 3) := dk_180 0 24 (dk_at dksX4_why_4 10 rfl rfl)
theorem dX4_why_108 : decode cX4_why 108 = .ok (.iload_n 2, 1) := dk_28 (dk_at dksX4_why_4 13 rfl rfl)
theorem dX4_why_109 : decode cX4_why 109 = .ok (.iaload, 1) := dk_46 (dk_at dksX4_why_4 14 rfl rfl)
theorem dX4_why_110 : decode cX4_why 110 = .ok (.iadd, 1) := dk_96 (dk_at dksX4_why_4 15 rfl rfl)
theorem dX4_why_111 : decode cX4_why 111 = .ok (.aload_n 1, 1) := dk_43 (dk_at dksX4_why_4 16 rfl rfl)
theorem dX4_why_112 : decode cX4_why 112 = .ok (.getfield 55, 3) := dk_180 0 55 (dk_at dksX4_why_4 17 rfl rfl)
theorem dX4_why_115 : decode cX4_why 115 = .ok (.iconst 2, 1) := dk_5 (dk_at dksX4_why_4 20 rfl rfl)
theorem dX4_why_116 : decode cX4_why 116 = .ok (.iload_n 3, 1) := dk_29 (dk_at dksX4_why_4 21 rfl rfl)
theorem dX4_why_117 : decode cX4_why 117 = .ok (.imul, 1) := dk_104 (dk_at dksX4_why_4 22 rfl rfl)
theorem dX4_why_118 : decode cX4_why 118 = .ok (.aload_n 0, 1) := dk_42 (dk_at dksX4_why_4 23 rfl rfl)
theorem dX4_why_119 : decode cX4_why 119 = .ok (.getfield 15, 3) := dk_180 0 15 (dk_at dksX4_why_5 0 rfl rfl)
theorem dX4_why_122 : decode cX4_why 122 = .ok (.iload_n 2, 1) := dk_28 (dk_at dksX4_why_5 3 rfl rfl)
theorem dX4_why_123 : decode cX4_why 123 = .ok (.iaload, 1) := dk_46 (dk_at dksX4_why_5 4 rfl rfl)
theorem dX4_why_124 : decode cX4_why 124 = .ok (.iadd, 1) := dk_96 (dk_at dksX4_why_5 5 rfl rfl)
theorem dX4_why_125 : decode cX4_why 125 = .ok (.iaload, 1) := dk_46 (dk_at dksX4_why_5 6 rfl rfl)
theorem dX4_why_126 : decode cX4_why 126 = .ok (.if_icmp .le 5, 3) := dk_164 0 5 (dk_at dksX4_why_5 7 rfl rfl)
theorem dX4_why_129 : decode cX4_why 129 = .ok (.iconst 3, 1) := dk_6 (dk_at dksX4_why_5 10 rfl rfl)
theorem dX4_why_130 : decode cX4_why 130 = .ok (.ireturn, 1) := dk_172 (dk_at dksX4_why_5 11 rfl rfl)
theorem dX4_why_131 : decode cX4_why 131 = .ok (.aload_n 1, 1) := dk_43 (dk_at dksX4_why_5 12 rfl rfl)
theorem dX4_why_132 : decode cX4_why 132 = .ok (.getfield 60, 3) := dk_180 0 60 (dk_at dksX4_why_5 13 rfl rfl)
theorem dX4_why_135 : decode cX4_why 135 = .ok (.iload_n 3, 1) := dk_29 (dk_at dksX4_why_5 16 rfl rfl)
theorem dX4_why_136 : decode cX4_why 136 = .ok (.baload, 1) := dk_51 (dk_at dksX4_why_5 17 rfl rfl)
theorem dX4_why_137 : decode cX4_why 137 = .ok (.ifCond .eq 10, 3) := dk_153 0 10 (dk_at dksX4_why_5 18 rfl rfl)
theorem dX4_why_140 : decode cX4_why 140 = .ok (.iload 4, 2) := dk_21 4 (dk_at dksX4_why_5 21 rfl rfl)
theorem dX4_why_142 : decode cX4_why 142 = .ok (.ifCond .le 5, 3) := dk_158 0 5 (dk_at dksX4_why_6 0 rfl rfl)
theorem dX4_why_145 : decode cX4_why 145 = .ok (.iconst 4, 1) := dk_7 (dk_at dksX4_why_6 3 rfl rfl)
theorem dX4_why_146 : decode cX4_why 146 = .ok (.ireturn, 1) := dk_172 (dk_at dksX4_why_6 4 rfl rfl)
theorem dX4_why_147 : decode cX4_why 147 = .ok (.iconst 0, 1) := dk_3 (dk_at dksX4_why_6 5 rfl rfl)
theorem dX4_why_148 : decode cX4_why 148 = .ok (.istore 5, 2) := dk_54 5 (dk_at dksX4_why_6 6 rfl rfl)
theorem dX4_why_150 : decode cX4_why 150 = .ok (.iload 5, 2) := dk_21 5 (dk_at dksX4_why_6 8 rfl rfl)
theorem dX4_why_152 : decode cX4_why 152 = .ok (.iload_n 2, 1) := dk_28 (dk_at dksX4_why_6 10 rfl rfl)
theorem dX4_why_153 : decode cX4_why 153 = .ok (.if_icmp .ge 78, 3) := dk_162 0 78 (dk_at dksX4_why_6 11 rfl rfl)
theorem dX4_why_156 : decode cX4_why 156 = .ok (.aload_n 0, 1) := dk_42 (dk_at dksX4_why_6 14 rfl rfl)
theorem dX4_why_157 : decode cX4_why 157 = .ok (.getfield 9, 3) := dk_180 0 9 (dk_at dksX4_why_6 15 rfl rfl)
theorem dX4_why_160 : decode cX4_why 160 = .ok (.iload 5, 2) := dk_21 5 (dk_at dksX4_why_6 18 rfl rfl)
theorem dX4_why_162 : decode cX4_why 162 = .ok (.iaload, 1) := dk_46 (dk_at dksX4_why_6 20 rfl rfl)
theorem dX4_why_163 : decode cX4_why 163 = .ok (.iload_n 3, 1) := dk_29 (dk_at dksX4_why_6 21 rfl rfl)
theorem dX4_why_164 : decode cX4_why 164 = .ok (.if_icmp .ne 61, 3) := dk_160 0 61 (dk_at dksX4_why_7 0 rfl rfl)
theorem dX4_why_167 : decode cX4_why 167 = .ok (.aload_n 0, 1) := dk_42 (dk_at dksX4_why_7 3 rfl rfl)
theorem dX4_why_168 : decode cX4_why 168 = .ok (.getfield 15, 3) := dk_180 0 15 (dk_at dksX4_why_7 4 rfl rfl)
theorem dX4_why_171 : decode cX4_why 171 = .ok (.iload 5, 2) := dk_21 5 (dk_at dksX4_why_7 7 rfl rfl)
theorem dX4_why_173 : decode cX4_why 173 = .ok (.iaload, 1) := dk_46 (dk_at dksX4_why_7 9 rfl rfl)
theorem dX4_why_174 : decode cX4_why 174 = .ok (.aload_n 0, 1) := dk_42 (dk_at dksX4_why_7 10 rfl rfl)
theorem dX4_why_175 : decode cX4_why 175 = .ok (.getfield 15, 3) := dk_180 0 15 (dk_at dksX4_why_7 11 rfl rfl)
theorem dX4_why_178 : decode cX4_why 178 = .ok (.iload_n 2, 1) := dk_28 (dk_at dksX4_why_7 14 rfl rfl)
theorem dX4_why_179 : decode cX4_why 179 = .ok (.iaload, 1) := dk_46 (dk_at dksX4_why_7 15 rfl rfl)
theorem dX4_why_180 : decode cX4_why 180 = .ok (.if_icmp .eq 45, 3) := dk_159 0 45 (dk_at dksX4_why_7 16 rfl rfl)
theorem dX4_why_183 : decode cX4_why 183 = .ok (.aload_n 0, 1) := dk_42 (dk_at dksX4_why_7 19 rfl rfl)
theorem dX4_why_184 : decode cX4_why 184 = .ok (.getfield 18, 3) := dk_180 0 18 (dk_at dksX4_why_7 20 rfl rfl)
theorem dX4_why_187 : decode cX4_why 187 = .ok (.iload 5, 2) := dk_21 5 (dk_at dksX4_why_8 0 rfl rfl)
theorem dX4_why_189 : decode cX4_why 189 = .ok (.iaload, 1) := dk_46 (dk_at dksX4_why_8 2 rfl rfl)
theorem dX4_why_190 : decode cX4_why 190 = .ok (.aload_n 0, 1) := dk_42 (dk_at dksX4_why_8 3 rfl rfl)
theorem dX4_why_191 : decode cX4_why 191 = .ok (.iload_n 2, 1) := dk_28 (dk_at dksX4_why_8 4 rfl rfl)
theorem dX4_why_192 : decode cX4_why 192 = .ok (.invokevirtual 37, 3) := dk_182 0 37 (dk_at dksX4_why_8 5 rfl rfl)
theorem dX4_why_195 : decode cX4_why 195 = .ok (.isub, 1) := dk_100 (dk_at dksX4_why_8 8 rfl rfl)
theorem dX4_why_196 : decode cX4_why 196 = .ok (.aload_n 1, 1) := dk_43 (dk_at dksX4_why_8 9 rfl rfl)
theorem dX4_why_197 : decode cX4_why 197 = .ok (.getfield 64, 3) := dk_180 0 64 (dk_at dksX4_why_8 10 rfl rfl)
theorem dX4_why_200 : decode cX4_why 200 = .ok (.if_icmp .ge 25, 3) := dk_162 0 25 (dk_at dksX4_why_8 13 rfl rfl)
theorem dX4_why_203 : decode cX4_why 203 = .ok (.aload_n 0, 1) := dk_42 (dk_at dksX4_why_8 16 rfl rfl)
theorem dX4_why_204 : decode cX4_why 204 = .ok (.getfield 18, 3) := dk_180 0 18 (dk_at dksX4_why_8 17 rfl rfl)
theorem dX4_why_207 : decode cX4_why 207 = .ok (.iload_n 2, 1) := dk_28 (dk_at dksX4_why_8 20 rfl rfl)
theorem dX4_why_208 : decode cX4_why 208 = .ok (.iaload, 1) := dk_46 (dk_at dksX4_why_8 21 rfl rfl)
theorem dX4_why_209 : decode cX4_why 209 = .ok (.aload_n 0, 1) := dk_42 (dk_at dksX4_why_8 22 rfl rfl)
theorem dX4_why_210 : decode cX4_why 210 = .ok (.iload 5, 2) := dk_21 5 (dk_at dksX4_why_9 0 rfl rfl)
theorem dX4_why_212 : decode cX4_why 212 = .ok (.invokevirtual 37, 3) := dk_182 0 37 (dk_at dksX4_why_9 2 rfl rfl)
theorem dX4_why_215 : decode cX4_why 215 = .ok (.isub, 1) := dk_100 (dk_at dksX4_why_9 5 rfl rfl)
theorem dX4_why_216 : decode cX4_why 216 = .ok (.aload_n 1, 1) := dk_43 (dk_at dksX4_why_9 6 rfl rfl)
theorem dX4_why_217 : decode cX4_why 217 = .ok (.getfield 64, 3) := dk_180 0 64 (dk_at dksX4_why_9 7 rfl rfl)
theorem dX4_why_220 : decode cX4_why 220 = .ok (.if_icmp .ge 5, 3) := dk_162 0 5 (dk_at dksX4_why_9 10 rfl rfl)
theorem dX4_why_223 : decode cX4_why 223 = .ok (.iconst 5, 1) := dk_8 (dk_at dksX4_why_9 13 rfl rfl)
theorem dX4_why_224 : decode cX4_why 224 = .ok (.ireturn, 1) := dk_172 (dk_at dksX4_why_9 14 rfl rfl)
theorem dX4_why_225 : decode cX4_why 225 = .ok (.iinc 5 1, 3) := dk_132 5 1 (dk_at dksX4_why_9 15 rfl rfl)
theorem dX4_why_228 : decode cX4_why 228 = .ok (.goto (-78), 3) := dk_167 255 178 (dk_at dksX4_why_9 18 rfl rfl)
theorem dX4_why_231 : decode cX4_why 231 = .ok (.iconst 0, 1) := dk_3 (dk_at dksX4_why_9 21 rfl rfl)
theorem dX4_why_232 : decode cX4_why 232 = .ok (.ireturn, 1) := dk_172 (dk_at dksX4_why_9 22 rfl rfl)
abbrev cX4_areMet : ByteArray := prog_15_method_9_code
def yX4_areMet : MethodName := ⟨RX4, "areMet", "(II)Z"⟩
def dkwX4_areMet_1 : List UInt8 := [182, 0, 37, 162, 0, 7, 4, 167, 0, 4, 3, 172]
abbrev dktX4_areMet_1 : List UInt8 := dkwX4_areMet_1 ++ []
def dkwX4_areMet_0 : List UInt8 := [42, 180, 0, 18, 27, 46, 42, 28, 182, 0, 37, 162, 0, 21, 42, 180, 0, 18, 28, 46, 42, 27]
abbrev dktX4_areMet_0 : List UInt8 := dkwX4_areMet_0 ++ dktX4_areMet_1
theorem dksX4_areMet_0 : cX4_areMet.data.toList.drop 0 = dktX4_areMet_0 := by decide +kernel
theorem dksX4_areMet_1 : cX4_areMet.data.toList.drop 22 = dktX4_areMet_1 := dk_seg dksX4_areMet_0 22 rfl rfl
theorem dX4_areMet_0 : decode cX4_areMet 0 = .ok (.aload_n 0, 1) := dk_42 (dk_at dksX4_areMet_0 0 rfl rfl)
theorem dX4_areMet_1 : decode cX4_areMet 1 = .ok (.getfield 18, 3) := dk_180 0 18 (dk_at dksX4_areMet_0 1 rfl rfl)
theorem dX4_areMet_4 : decode cX4_areMet 4 = .ok (.iload_n 1, 1) := dk_27 (dk_at dksX4_areMet_0 4 rfl rfl)
theorem dX4_areMet_5 : decode cX4_areMet 5 = .ok (.iaload, 1) := dk_46 (dk_at dksX4_areMet_0 5 rfl rfl)
theorem dX4_areMet_6 : decode cX4_areMet 6 = .ok (.aload_n 0, 1) := dk_42 (dk_at dksX4_areMet_0 6 rfl rfl)
theorem dX4_areMet_7 : decode cX4_areMet 7 = .ok (.iload_n 2, 1) := dk_28 (dk_at dksX4_areMet_0 7 rfl rfl)
theorem dX4_areMet_8 : decode cX4_areMet 8 = .ok (.invokevirtual 37, 3) := dk_182 0 37 (dk_at dksX4_areMet_0 8 rfl rfl)
theorem dX4_areMet_11 : decode cX4_areMet 11 = .ok (.if_icmp .ge 21, 3) := dk_162 0 21 (dk_at dksX4_areMet_0 11 rfl rfl)
theorem dX4_areMet_14 : decode cX4_areMet 14 = .ok (.aload_n 0, 1) := dk_42 (dk_at dksX4_areMet_0 14 rfl rfl)
theorem dX4_areMet_15 : decode cX4_areMet 15 = .ok (.getfield 18, 3) := dk_180 0 18 (dk_at dksX4_areMet_0 15 rfl rfl)
theorem dX4_areMet_18 : decode cX4_areMet 18 = .ok (.iload_n 2, 1) := dk_28 (dk_at dksX4_areMet_0 18 rfl rfl)
theorem dX4_areMet_19 : decode cX4_areMet 19 = .ok (.iaload, 1) := dk_46 (dk_at dksX4_areMet_0 19 rfl rfl)
theorem dX4_areMet_20 : decode cX4_areMet 20 = .ok (.aload_n 0, 1) := dk_42 (dk_at dksX4_areMet_0 20 rfl rfl)
theorem dX4_areMet_21 : decode cX4_areMet 21 = .ok (.iload_n 1, 1) := dk_27 (dk_at dksX4_areMet_0 21 rfl rfl)
theorem dX4_areMet_22 : decode cX4_areMet 22 = .ok (.invokevirtual 37, 3) := dk_182 0 37 (dk_at dksX4_areMet_1 0 rfl rfl)
theorem dX4_areMet_25 : decode cX4_areMet 25 = .ok (.if_icmp .ge 7, 3) := dk_162 0 7 (dk_at dksX4_areMet_1 3 rfl rfl)
theorem dX4_areMet_28 : decode cX4_areMet 28 = .ok (.iconst 1, 1) := dk_4 (dk_at dksX4_areMet_1 6 rfl rfl)
theorem dX4_areMet_29 : decode cX4_areMet 29 = .ok (.goto 4, 3) := dk_167 0 4 (dk_at dksX4_areMet_1 7 rfl rfl)
theorem dX4_areMet_32 : decode cX4_areMet 32 = .ok (.iconst 0, 1) := dk_3 (dk_at dksX4_areMet_1 10 rfl rfl)
theorem dX4_areMet_33 : decode cX4_areMet 33 = .ok (.ireturn, 1) := dk_172 (dk_at dksX4_areMet_1 11 rfl rfl)
abbrev cX4_end : ByteArray := prog_15_method_4_code
def yX4_end : MethodName := ⟨RX4, "end", "(I)I"⟩
def dkwX4_end_0 : List UInt8 := [42, 180, 0, 18, 27, 46, 42, 180, 0, 24, 27, 46, 96, 172]
abbrev dktX4_end_0 : List UInt8 := dkwX4_end_0 ++ []
theorem dksX4_end_0 : cX4_end.data.toList.drop 0 = dktX4_end_0 := by decide +kernel
theorem dX4_end_0 : decode cX4_end 0 = .ok (.aload_n 0, 1) := dk_42 (dk_at dksX4_end_0 0 rfl rfl)
theorem dX4_end_1 : decode cX4_end 1 = .ok (.getfield 18, 3) := dk_180 0 18 (dk_at dksX4_end_0 1 rfl rfl)
theorem dX4_end_4 : decode cX4_end 4 = .ok (.iload_n 1, 1) := dk_27 (dk_at dksX4_end_0 4 rfl rfl)
theorem dX4_end_5 : decode cX4_end 5 = .ok (.iaload, 1) := dk_46 (dk_at dksX4_end_0 5 rfl rfl)
theorem dX4_end_6 : decode cX4_end 6 = .ok (.aload_n 0, 1) := dk_42 (dk_at dksX4_end_0 6 rfl rfl)
theorem dX4_end_7 : decode cX4_end 7 = .ok (.getfield 24, 3) := dk_180 0 24 (dk_at dksX4_end_0 7 rfl rfl)
theorem dX4_end_10 : decode cX4_end 10 = .ok (.iload_n 1, 1) := dk_27 (dk_at dksX4_end_0 10 rfl rfl)
theorem dX4_end_11 : decode cX4_end 11 = .ok (.iaload, 1) := dk_46 (dk_at dksX4_end_0 11 rfl rfl)
theorem dX4_end_12 : decode cX4_end 12 = .ok (.iadd, 1) := dk_96 (dk_at dksX4_end_0 12 rfl rfl)
theorem dX4_end_13 : decode cX4_end 13 = .ok (.ireturn, 1) := dk_172 (dk_at dksX4_end_0 13 rfl rfl)
abbrev cX4_had : ByteArray := prog_15_method_6_code
def yX4_had : MethodName := ⟨RX4, "had", "(III)I"⟩
def dkwX4_had_2 : List UInt8 := [3, 96, 54, 4, 132, 5, 1, 167, 255, 209, 21, 4, 172]
abbrev dktX4_had_2 : List UInt8 := dkwX4_had_2 ++ []
def dkwX4_had_1 : List UInt8 := [160, 0, 24, 42, 180, 0, 15, 21, 5, 46, 28, 160, 0, 13, 42, 180, 0, 24, 21, 5, 46, 167, 0, 4]
abbrev dktX4_had_1 : List UInt8 := dkwX4_had_1 ++ dktX4_had_2
def dkwX4_had_0 : List UInt8 := [3, 54, 4, 3, 54, 5, 21, 5, 29, 162, 0, 47, 21, 4, 42, 180, 0, 9, 21, 5, 46, 27]
abbrev dktX4_had_0 : List UInt8 := dkwX4_had_0 ++ dktX4_had_1
theorem dksX4_had_0 : cX4_had.data.toList.drop 0 = dktX4_had_0 := by decide +kernel
theorem dksX4_had_1 : cX4_had.data.toList.drop 22 = dktX4_had_1 := dk_seg dksX4_had_0 22 rfl rfl
theorem dksX4_had_2 : cX4_had.data.toList.drop 46 = dktX4_had_2 := dk_seg dksX4_had_1 24 rfl rfl
theorem dX4_had_0 : decode cX4_had 0 = .ok (.iconst 0, 1) := dk_3 (dk_at dksX4_had_0 0 rfl rfl)
theorem dX4_had_1 : decode cX4_had 1 = .ok (.istore 4, 2) := dk_54 4 (dk_at dksX4_had_0 1 rfl rfl)
theorem dX4_had_3 : decode cX4_had 3 = .ok (.iconst 0, 1) := dk_3 (dk_at dksX4_had_0 3 rfl rfl)
theorem dX4_had_4 : decode cX4_had 4 = .ok (.istore 5, 2) := dk_54 5 (dk_at dksX4_had_0 4 rfl rfl)
theorem dX4_had_6 : decode cX4_had 6 = .ok (.iload 5, 2) := dk_21 5 (dk_at dksX4_had_0 6 rfl rfl)
theorem dX4_had_8 : decode cX4_had 8 = .ok (.iload_n 3, 1) := dk_29 (dk_at dksX4_had_0 8 rfl rfl)
theorem dX4_had_9 : decode cX4_had 9 = .ok (.if_icmp .ge 47, 3) := dk_162 0 47 (dk_at dksX4_had_0 9 rfl rfl)
theorem dX4_had_12 : decode cX4_had 12 = .ok (.iload 4, 2) := dk_21 4 (dk_at dksX4_had_0 12 rfl rfl)
theorem dX4_had_14 : decode cX4_had 14 = .ok (.aload_n 0, 1) := dk_42 (dk_at dksX4_had_0 14 rfl rfl)
theorem dX4_had_15 : decode cX4_had 15 = .ok (.getfield 9, 3) := dk_180 0 9 (dk_at dksX4_had_0 15 rfl rfl)
theorem dX4_had_18 : decode cX4_had 18 = .ok (.iload 5, 2) := dk_21 5 (dk_at dksX4_had_0 18 rfl rfl)
theorem dX4_had_20 : decode cX4_had 20 = .ok (.iaload, 1) := dk_46 (dk_at dksX4_had_0 20 rfl rfl)
theorem dX4_had_21 : decode cX4_had 21 = .ok (.iload_n 1, 1) := dk_27 (dk_at dksX4_had_0 21 rfl rfl)
theorem dX4_had_22 : decode cX4_had 22 = .ok (.if_icmp .ne 24, 3) := dk_160 0 24 (dk_at dksX4_had_1 0 rfl rfl)
theorem dX4_had_25 : decode cX4_had 25 = .ok (.aload_n 0, 1) := dk_42 (dk_at dksX4_had_1 3 rfl rfl)
theorem dX4_had_26 : decode cX4_had 26 = .ok (.getfield 15, 3) := dk_180 0 15 (dk_at dksX4_had_1 4 rfl rfl)
theorem dX4_had_29 : decode cX4_had 29 = .ok (.iload 5, 2) := dk_21 5 (dk_at dksX4_had_1 7 rfl rfl)
theorem dX4_had_31 : decode cX4_had 31 = .ok (.iaload, 1) := dk_46 (dk_at dksX4_had_1 9 rfl rfl)
theorem dX4_had_32 : decode cX4_had 32 = .ok (.iload_n 2, 1) := dk_28 (dk_at dksX4_had_1 10 rfl rfl)
theorem dX4_had_33 : decode cX4_had 33 = .ok (.if_icmp .ne 13, 3) := dk_160 0 13 (dk_at dksX4_had_1 11 rfl rfl)
theorem dX4_had_36 : decode cX4_had 36 = .ok (.aload_n 0, 1) := dk_42 (dk_at dksX4_had_1 14 rfl rfl)
theorem dX4_had_37 : decode cX4_had 37 = .ok (.getfield 24, 3) := dk_180 0 24 (dk_at dksX4_had_1 15 rfl rfl)
theorem dX4_had_40 : decode cX4_had 40 = .ok (.iload 5, 2) := dk_21 5 (dk_at dksX4_had_1 18 rfl rfl)
theorem dX4_had_42 : decode cX4_had 42 = .ok (.iaload, 1) := dk_46 (dk_at dksX4_had_1 20 rfl rfl)
theorem dX4_had_43 : decode cX4_had 43 = .ok (.goto 4, 3) := dk_167 0 4 (dk_at dksX4_had_1 21 rfl rfl)
theorem dX4_had_46 : decode cX4_had 46 = .ok (.iconst 0, 1) := dk_3 (dk_at dksX4_had_2 0 rfl rfl)
theorem dX4_had_47 : decode cX4_had 47 = .ok (.iadd, 1) := dk_96 (dk_at dksX4_had_2 1 rfl rfl)
theorem dX4_had_48 : decode cX4_had 48 = .ok (.istore 4, 2) := dk_54 4 (dk_at dksX4_had_2 2 rfl rfl)
theorem dX4_had_50 : decode cX4_had 50 = .ok (.iinc 5 1, 3) := dk_132 5 1 (dk_at dksX4_had_2 4 rfl rfl)
theorem dX4_had_53 : decode cX4_had 53 = .ok (.goto (-47), 3) := dk_167 255 209 (dk_at dksX4_had_2 7 rfl rfl)
theorem dX4_had_56 : decode cX4_had 56 = .ok (.iload 4, 2) := dk_21 4 (dk_at dksX4_had_2 10 rfl rfl)
theorem dX4_had_58 : decode cX4_had 58 = .ok (.ireturn, 1) := dk_172 (dk_at dksX4_had_2 12 rfl rfl)
abbrev cX4_ends : ByteArray := prog_15_method_5_code
def yX4_ends : MethodName := ⟨RX4, "ends", "()I"⟩
def dkwX4_ends_1 : List UInt8 := [132, 2, 1, 167, 255, 235, 27, 172]
abbrev dktX4_ends_1 : List UInt8 := dkwX4_ends_1 ++ []
def dkwX4_ends_0 : List UInt8 := [3, 60, 3, 61, 28, 42, 180, 0, 27, 162, 0, 19, 27, 42, 28, 182, 0, 37, 184, 0, 41, 60]
abbrev dktX4_ends_0 : List UInt8 := dkwX4_ends_0 ++ dktX4_ends_1
theorem dksX4_ends_0 : cX4_ends.data.toList.drop 0 = dktX4_ends_0 := by decide +kernel
theorem dksX4_ends_1 : cX4_ends.data.toList.drop 22 = dktX4_ends_1 := dk_seg dksX4_ends_0 22 rfl rfl
theorem dX4_ends_0 : decode cX4_ends 0 = .ok (.iconst 0, 1) := dk_3 (dk_at dksX4_ends_0 0 rfl rfl)
theorem dX4_ends_1 : decode cX4_ends 1 = .ok (.istore_n 1, 1) := dk_60 (dk_at dksX4_ends_0 1 rfl rfl)
theorem dX4_ends_2 : decode cX4_ends 2 = .ok (.iconst 0, 1) := dk_3 (dk_at dksX4_ends_0 2 rfl rfl)
theorem dX4_ends_3 : decode cX4_ends 3 = .ok (.istore_n 2, 1) := dk_61 (dk_at dksX4_ends_0 3 rfl rfl)
theorem dX4_ends_4 : decode cX4_ends 4 = .ok (.iload_n 2, 1) := dk_28 (dk_at dksX4_ends_0 4 rfl rfl)
theorem dX4_ends_5 : decode cX4_ends 5 = .ok (.aload_n 0, 1) := dk_42 (dk_at dksX4_ends_0 5 rfl rfl)
theorem dX4_ends_6 : decode cX4_ends 6 = .ok (.getfield 27, 3) := dk_180 0 27 (dk_at dksX4_ends_0 6 rfl rfl)
theorem dX4_ends_9 : decode cX4_ends 9 = .ok (.if_icmp .ge 19, 3) := dk_162 0 19 (dk_at dksX4_ends_0 9 rfl rfl)
theorem dX4_ends_12 : decode cX4_ends 12 = .ok (.iload_n 1, 1) := dk_27 (dk_at dksX4_ends_0 12 rfl rfl)
theorem dX4_ends_13 : decode cX4_ends 13 = .ok (.aload_n 0, 1) := dk_42 (dk_at dksX4_ends_0 13 rfl rfl)
theorem dX4_ends_14 : decode cX4_ends 14 = .ok (.iload_n 2, 1) := dk_28 (dk_at dksX4_ends_0 14 rfl rfl)
theorem dX4_ends_15 : decode cX4_ends 15 = .ok (.invokevirtual 37, 3) := dk_182 0 37 (dk_at dksX4_ends_0 15 rfl rfl)
theorem dX4_ends_18 : decode cX4_ends 18 = .ok (.invokestatic 41, 3) := dk_184 0 41 (dk_at dksX4_ends_0 18 rfl rfl)
theorem dX4_ends_21 : decode cX4_ends 21 = .ok (.istore_n 1, 1) := dk_60 (dk_at dksX4_ends_0 21 rfl rfl)
theorem dX4_ends_22 : decode cX4_ends 22 = .ok (.iinc 2 1, 3) := dk_132 2 1 (dk_at dksX4_ends_1 0 rfl rfl)
theorem dX4_ends_25 : decode cX4_ends 25 = .ok (.goto (-21), 3) := dk_167 255 235 (dk_at dksX4_ends_1 3 rfl rfl)
theorem dX4_ends_28 : decode cX4_ends 28 = .ok (.iload_n 1, 1) := dk_27 (dk_at dksX4_ends_1 6 rfl rfl)
theorem dX4_ends_29 : decode cX4_ends 29 = .ok (.ireturn, 1) := dk_172 (dk_at dksX4_ends_1 7 rfl rfl)
abbrev cX4_isDone : ByteArray := prog_15_method_14_code
def yX4_isDone : MethodName := ⟨RX4, "isDone", "(LPanSlices$Kitchen;I)Z"⟩
def dkwX4_isDone_1 : List UInt8 := [3, 172]
abbrev dktX4_isDone_1 : List UInt8 := dkwX4_isDone_1 ++ []
def dkwX4_isDone_0 : List UInt8 := [42, 43, 28, 3, 182, 0, 67, 157, 0, 17, 42, 43, 28, 4, 182, 0, 67, 157, 0, 7, 4, 167, 0, 4]
abbrev dktX4_isDone_0 : List UInt8 := dkwX4_isDone_0 ++ dktX4_isDone_1
theorem dksX4_isDone_0 : cX4_isDone.data.toList.drop 0 = dktX4_isDone_0 := by decide +kernel
theorem dksX4_isDone_1 : cX4_isDone.data.toList.drop 24 = dktX4_isDone_1 := dk_seg dksX4_isDone_0 24 rfl rfl
theorem dX4_isDone_0 : decode cX4_isDone 0 = .ok (.aload_n 0, 1) := dk_42 (dk_at dksX4_isDone_0 0 rfl rfl)
theorem dX4_isDone_1 : decode cX4_isDone 1 = .ok (.aload_n 1, 1) := dk_43 (dk_at dksX4_isDone_0 1 rfl rfl)
theorem dX4_isDone_2 : decode cX4_isDone 2 = .ok (.iload_n 2, 1) := dk_28 (dk_at dksX4_isDone_0 2 rfl rfl)
theorem dX4_isDone_3 : decode cX4_isDone 3 = .ok (.iconst 0, 1) := dk_3 (dk_at dksX4_isDone_0 3 rfl rfl)
theorem dX4_isDone_4 : decode cX4_isDone 4 = .ok (.invokevirtual 67, 3) := dk_182 0 67 (dk_at dksX4_isDone_0 4 rfl rfl)
theorem dX4_isDone_7 : decode cX4_isDone 7 = .ok (.ifCond .gt 17, 3) := dk_157 0 17 (dk_at dksX4_isDone_0 7 rfl rfl)
theorem dX4_isDone_10 : decode cX4_isDone 10 = .ok (.aload_n 0, 1) := dk_42 (dk_at dksX4_isDone_0 10 rfl rfl)
theorem dX4_isDone_11 : decode cX4_isDone 11 = .ok (.aload_n 1, 1) := dk_43 (dk_at dksX4_isDone_0 11 rfl rfl)
theorem dX4_isDone_12 : decode cX4_isDone 12 = .ok (.iload_n 2, 1) := dk_28 (dk_at dksX4_isDone_0 12 rfl rfl)
theorem dX4_isDone_13 : decode cX4_isDone 13 = .ok (.iconst 1, 1) := dk_4 (dk_at dksX4_isDone_0 13 rfl rfl)
theorem dX4_isDone_14 : decode cX4_isDone 14 = .ok (.invokevirtual 67, 3) := dk_182 0 67 (dk_at dksX4_isDone_0 14 rfl rfl)
theorem dX4_isDone_17 : decode cX4_isDone 17 = .ok (.ifCond .gt 7, 3) := dk_157 0 7 (dk_at dksX4_isDone_0 17 rfl rfl)
theorem dX4_isDone_20 : decode cX4_isDone 20 = .ok (.iconst 1, 1) := dk_4 (dk_at dksX4_isDone_0 20 rfl rfl)
theorem dX4_isDone_21 : decode cX4_isDone 21 = .ok (.goto 4, 3) := dk_167 0 4 (dk_at dksX4_isDone_0 21 rfl rfl)
theorem dX4_isDone_24 : decode cX4_isDone 24 = .ok (.iconst 0, 1) := dk_3 (dk_at dksX4_isDone_1 0 rfl rfl)
theorem dX4_isDone_25 : decode cX4_isDone 25 = .ok (.ireturn, 1) := dk_172 (dk_at dksX4_isDone_1 1 rfl rfl)
abbrev cX4_left : ByteArray := prog_15_method_13_code
def yX4_left : MethodName := ⟨RX4, "left", "(LPanSlices$Kitchen;II)I"⟩
def dkwX4_left_0 : List UInt8 := [43, 180, 0, 55, 5, 28, 104, 29, 96, 46, 42, 28, 29, 42, 180, 0, 27, 182, 0, 51, 100, 172]
abbrev dktX4_left_0 : List UInt8 := dkwX4_left_0 ++ []
theorem dksX4_left_0 : cX4_left.data.toList.drop 0 = dktX4_left_0 := by decide +kernel
theorem dX4_left_0 : decode cX4_left 0 = .ok (.aload_n 1, 1) := dk_43 (dk_at dksX4_left_0 0 rfl rfl)
theorem dX4_left_1 : decode cX4_left 1 = .ok (.getfield 55, 3) := dk_180 0 55 (dk_at dksX4_left_0 1 rfl rfl)
theorem dX4_left_4 : decode cX4_left 4 = .ok (.iconst 2, 1) := dk_5 (dk_at dksX4_left_0 4 rfl rfl)
theorem dX4_left_5 : decode cX4_left 5 = .ok (.iload_n 2, 1) := dk_28 (dk_at dksX4_left_0 5 rfl rfl)
theorem dX4_left_6 : decode cX4_left 6 = .ok (.imul, 1) := dk_104 (dk_at dksX4_left_0 6 rfl rfl)
theorem dX4_left_7 : decode cX4_left 7 = .ok (.iload_n 3, 1) := dk_29 (dk_at dksX4_left_0 7 rfl rfl)
theorem dX4_left_8 : decode cX4_left 8 = .ok (.iadd, 1) := dk_96 (dk_at dksX4_left_0 8 rfl rfl)
theorem dX4_left_9 : decode cX4_left 9 = .ok (.iaload, 1) := dk_46 (dk_at dksX4_left_0 9 rfl rfl)
theorem dX4_left_10 : decode cX4_left 10 = .ok (.aload_n 0, 1) := dk_42 (dk_at dksX4_left_0 10 rfl rfl)
theorem dX4_left_11 : decode cX4_left 11 = .ok (.iload_n 2, 1) := dk_28 (dk_at dksX4_left_0 11 rfl rfl)
theorem dX4_left_12 : decode cX4_left 12 = .ok (.iload_n 3, 1) := dk_29 (dk_at dksX4_left_0 12 rfl rfl)
theorem dX4_left_13 : decode cX4_left 13 = .ok (.aload_n 0, 1) := dk_42 (dk_at dksX4_left_0 13 rfl rfl)
theorem dX4_left_14 : decode cX4_left 14 = .ok (.getfield 27, 3) := dk_180 0 27 (dk_at dksX4_left_0 14 rfl rfl)
theorem dX4_left_17 : decode cX4_left 17 = .ok (.invokevirtual 51, 3) := dk_182 0 51 (dk_at dksX4_left_0 17 rfl rfl)
theorem dX4_left_20 : decode cX4_left 20 = .ok (.isub, 1) := dk_100 (dk_at dksX4_left_0 20 rfl rfl)
theorem dX4_left_21 : decode cX4_left 21 = .ok (.ireturn, 1) := dk_172 (dk_at dksX4_left_0 21 rfl rfl)
abbrev cX4_drop : ByteArray := prog_15_method_7_code
def yX4_drop : MethodName := ⟨RX4, "drop", "(I)V"⟩
def dkwX4_drop_4 : List UInt8 := [177]
abbrev dktX4_drop_4 : List UInt8 := dkwX4_drop_4 ++ []
def dkwX4_drop_3 : List UInt8 := [4, 96, 46, 79, 42, 180, 0, 24, 28, 42, 180, 0, 24, 28, 4, 96, 46, 79, 132, 2, 1, 167, 255, 175]
abbrev dktX4_drop_3 : List UInt8 := dkwX4_drop_3 ++ dktX4_drop_4
def dkwX4_drop_2 : List UInt8 := [42, 180, 0, 18, 28, 42, 180, 0, 18, 28, 4, 96, 46, 79, 42, 180, 0, 21, 28, 42, 180, 0, 21, 28]
abbrev dktX4_drop_2 : List UInt8 := dkwX4_drop_2 ++ dktX4_drop_3
def dkwX4_drop_1 : List UInt8 := [28, 42, 180, 0, 9, 28, 4, 96, 46, 79, 42, 180, 0, 15, 28, 42, 180, 0, 15, 28, 4, 96, 46, 79]
abbrev dktX4_drop_1 : List UInt8 := dkwX4_drop_1 ++ dktX4_drop_2
def dkwX4_drop_0 : List UInt8 := [42, 89, 180, 0, 27, 4, 100, 181, 0, 27, 27, 61, 28, 42, 180, 0, 27, 162, 0, 79, 42, 180, 0, 9]
abbrev dktX4_drop_0 : List UInt8 := dkwX4_drop_0 ++ dktX4_drop_1
theorem dksX4_drop_0 : cX4_drop.data.toList.drop 0 = dktX4_drop_0 := by decide +kernel
theorem dksX4_drop_1 : cX4_drop.data.toList.drop 24 = dktX4_drop_1 := dk_seg dksX4_drop_0 24 rfl rfl
theorem dksX4_drop_2 : cX4_drop.data.toList.drop 48 = dktX4_drop_2 := dk_seg dksX4_drop_1 24 rfl rfl
theorem dksX4_drop_3 : cX4_drop.data.toList.drop 72 = dktX4_drop_3 := dk_seg dksX4_drop_2 24 rfl rfl
theorem dksX4_drop_4 : cX4_drop.data.toList.drop 96 = dktX4_drop_4 := dk_seg dksX4_drop_3 24 rfl rfl
theorem dX4_drop_0 : decode cX4_drop 0 = .ok (.aload_n 0, 1) := dk_42 (dk_at dksX4_drop_0 0 rfl rfl)
theorem dX4_drop_1 : decode cX4_drop 1 = .ok (.dup, 1) := dk_89 (dk_at dksX4_drop_0 1 rfl rfl)
theorem dX4_drop_2 : decode cX4_drop 2 = .ok (.getfield 27, 3) := dk_180 0 27 (dk_at dksX4_drop_0 2 rfl rfl)
theorem dX4_drop_5 : decode cX4_drop 5 = .ok (.iconst 1, 1) := dk_4 (dk_at dksX4_drop_0 5 rfl rfl)
theorem dX4_drop_6 : decode cX4_drop 6 = .ok (.isub, 1) := dk_100 (dk_at dksX4_drop_0 6 rfl rfl)
theorem dX4_drop_7 : decode cX4_drop 7 = .ok (.putfield 27, 3) := dk_181 0 27 (dk_at dksX4_drop_0 7 rfl rfl)
theorem dX4_drop_10 : decode cX4_drop 10 = .ok (.iload_n 1, 1) := dk_27 (dk_at dksX4_drop_0 10 rfl rfl)
theorem dX4_drop_11 : decode cX4_drop 11 = .ok (.istore_n 2, 1) := dk_61 (dk_at dksX4_drop_0 11 rfl rfl)
theorem dX4_drop_12 : decode cX4_drop 12 = .ok (.iload_n 2, 1) := dk_28 (dk_at dksX4_drop_0 12 rfl rfl)
theorem dX4_drop_13 : decode cX4_drop 13 = .ok (.aload_n 0, 1) := dk_42 (dk_at dksX4_drop_0 13 rfl rfl)
theorem dX4_drop_14 : decode cX4_drop 14 = .ok (.getfield 27, 3) := dk_180 0 27 (dk_at dksX4_drop_0 14 rfl rfl)
theorem dX4_drop_17 : decode cX4_drop 17 = .ok (.if_icmp .ge 79, 3) := dk_162 0 79 (dk_at dksX4_drop_0 17 rfl rfl)
theorem dX4_drop_20 : decode cX4_drop 20 = .ok (.aload_n 0, 1) := dk_42 (dk_at dksX4_drop_0 20 rfl rfl)
theorem dX4_drop_21 : decode cX4_drop 21 = .ok (.getfield 9, 3) := dk_180 0 9 (dk_at dksX4_drop_0 21 rfl rfl)
theorem dX4_drop_24 : decode cX4_drop 24 = .ok (.iload_n 2, 1) := dk_28 (dk_at dksX4_drop_1 0 rfl rfl)
theorem dX4_drop_25 : decode cX4_drop 25 = .ok (.aload_n 0, 1) := dk_42 (dk_at dksX4_drop_1 1 rfl rfl)
theorem dX4_drop_26 : decode cX4_drop 26 = .ok (.getfield 9, 3) := dk_180 0 9 (dk_at dksX4_drop_1 2 rfl rfl)
theorem dX4_drop_29 : decode cX4_drop 29 = .ok (.iload_n 2, 1) := dk_28 (dk_at dksX4_drop_1 5 rfl rfl)
theorem dX4_drop_30 : decode cX4_drop 30 = .ok (.iconst 1, 1) := dk_4 (dk_at dksX4_drop_1 6 rfl rfl)
theorem dX4_drop_31 : decode cX4_drop 31 = .ok (.iadd, 1) := dk_96 (dk_at dksX4_drop_1 7 rfl rfl)
theorem dX4_drop_32 : decode cX4_drop 32 = .ok (.iaload, 1) := dk_46 (dk_at dksX4_drop_1 8 rfl rfl)
theorem dX4_drop_33 : decode cX4_drop 33 = .ok (.iastore, 1) := dk_79 (dk_at dksX4_drop_1 9 rfl rfl)
theorem dX4_drop_34 : decode cX4_drop 34 = .ok (.aload_n 0, 1) := dk_42 (dk_at dksX4_drop_1 10 rfl rfl)
theorem dX4_drop_35 : decode cX4_drop 35 = .ok (.getfield 15, 3) := dk_180 0 15 (dk_at dksX4_drop_1 11 rfl rfl)
theorem dX4_drop_38 : decode cX4_drop 38 = .ok (.iload_n 2, 1) := dk_28 (dk_at dksX4_drop_1 14 rfl rfl)
theorem dX4_drop_39 : decode cX4_drop 39 = .ok (.aload_n 0, 1) := dk_42 (dk_at dksX4_drop_1 15 rfl rfl)
theorem dX4_drop_40 : decode cX4_drop 40 = .ok (.getfield 15, 3) := dk_180 0 15 (dk_at dksX4_drop_1 16 rfl rfl)
theorem dX4_drop_43 : decode cX4_drop 43 = .ok (.iload_n 2, 1) := dk_28 (dk_at dksX4_drop_1 19 rfl rfl)
theorem dX4_drop_44 : decode cX4_drop 44 = .ok (.iconst 1, 1) := dk_4 (dk_at dksX4_drop_1 20 rfl rfl)
theorem dX4_drop_45 : decode cX4_drop 45 = .ok (.iadd, 1) := dk_96 (dk_at dksX4_drop_1 21 rfl rfl)
theorem dX4_drop_46 : decode cX4_drop 46 = .ok (.iaload, 1) := dk_46 (dk_at dksX4_drop_1 22 rfl rfl)
theorem dX4_drop_47 : decode cX4_drop 47 = .ok (.iastore, 1) := dk_79 (dk_at dksX4_drop_1 23 rfl rfl)
theorem dX4_drop_48 : decode cX4_drop 48 = .ok (.aload_n 0, 1) := dk_42 (dk_at dksX4_drop_2 0 rfl rfl)
theorem dX4_drop_49 : decode cX4_drop 49 = .ok (.getfield 18, 3) := dk_180 0 18 (dk_at dksX4_drop_2 1 rfl rfl)
theorem dX4_drop_52 : decode cX4_drop 52 = .ok (.iload_n 2, 1) := dk_28 (dk_at dksX4_drop_2 4 rfl rfl)
theorem dX4_drop_53 : decode cX4_drop 53 = .ok (.aload_n 0, 1) := dk_42 (dk_at dksX4_drop_2 5 rfl rfl)
theorem dX4_drop_54 : decode cX4_drop 54 = .ok (.getfield 18, 3) := dk_180 0 18 (dk_at dksX4_drop_2 6 rfl rfl)
theorem dX4_drop_57 : decode cX4_drop 57 = .ok (.iload_n 2, 1) := dk_28 (dk_at dksX4_drop_2 9 rfl rfl)
theorem dX4_drop_58 : decode cX4_drop 58 = .ok (.iconst 1, 1) := dk_4 (dk_at dksX4_drop_2 10 rfl rfl)
theorem dX4_drop_59 : decode cX4_drop 59 = .ok (.iadd, 1) := dk_96 (dk_at dksX4_drop_2 11 rfl rfl)
theorem dX4_drop_60 : decode cX4_drop 60 = .ok (.iaload, 1) := dk_46 (dk_at dksX4_drop_2 12 rfl rfl)
theorem dX4_drop_61 : decode cX4_drop 61 = .ok (.iastore, 1) := dk_79 (dk_at dksX4_drop_2 13 rfl rfl)
theorem dX4_drop_62 : decode cX4_drop 62 = .ok (.aload_n 0, 1) := dk_42 (dk_at dksX4_drop_2 14 rfl rfl)
theorem dX4_drop_63 : decode cX4_drop 63 = .ok (.getfield 21, 3) := dk_180 0 21 (dk_at dksX4_drop_2 15 rfl rfl)
theorem dX4_drop_66 : decode cX4_drop 66 = .ok (.iload_n 2, 1) := dk_28 (dk_at dksX4_drop_2 18 rfl rfl)
theorem dX4_drop_67 : decode cX4_drop 67 = .ok (.aload_n 0, 1) := dk_42 (dk_at dksX4_drop_2 19 rfl rfl)
theorem dX4_drop_68 : decode cX4_drop 68 = .ok (.getfield 21, 3) := dk_180 0 21 (dk_at dksX4_drop_2 20 rfl rfl)
theorem dX4_drop_71 : decode cX4_drop 71 = .ok (.iload_n 2, 1) := dk_28 (dk_at dksX4_drop_2 23 rfl rfl)
theorem dX4_drop_72 : decode cX4_drop 72 = .ok (.iconst 1, 1) := dk_4 (dk_at dksX4_drop_3 0 rfl rfl)
theorem dX4_drop_73 : decode cX4_drop 73 = .ok (.iadd, 1) := dk_96 (dk_at dksX4_drop_3 1 rfl rfl)
theorem dX4_drop_74 : decode cX4_drop 74 = .ok (.iaload, 1) := dk_46 (dk_at dksX4_drop_3 2 rfl rfl)
theorem dX4_drop_75 : decode cX4_drop 75 = .ok (.iastore, 1) := dk_79 (dk_at dksX4_drop_3 3 rfl rfl)
theorem dX4_drop_76 : decode cX4_drop 76 = .ok (.aload_n 0, 1) := dk_42 (dk_at dksX4_drop_3 4 rfl rfl)
theorem dX4_drop_77 : decode cX4_drop 77 = .ok (.getfield 24, 3) := dk_180 0 24 (dk_at dksX4_drop_3 5 rfl rfl)
theorem dX4_drop_80 : decode cX4_drop 80 = .ok (.iload_n 2, 1) := dk_28 (dk_at dksX4_drop_3 8 rfl rfl)
theorem dX4_drop_81 : decode cX4_drop 81 = .ok (.aload_n 0, 1) := dk_42 (dk_at dksX4_drop_3 9 rfl rfl)
theorem dX4_drop_82 : decode cX4_drop 82 = .ok (.getfield 24, 3) := dk_180 0 24 (dk_at dksX4_drop_3 10 rfl rfl)
theorem dX4_drop_85 : decode cX4_drop 85 = .ok (.iload_n 2, 1) := dk_28 (dk_at dksX4_drop_3 13 rfl rfl)
theorem dX4_drop_86 : decode cX4_drop 86 = .ok (.iconst 1, 1) := dk_4 (dk_at dksX4_drop_3 14 rfl rfl)
theorem dX4_drop_87 : decode cX4_drop 87 = .ok (.iadd, 1) := dk_96 (dk_at dksX4_drop_3 15 rfl rfl)
theorem dX4_drop_88 : decode cX4_drop 88 = .ok (.iaload, 1) := dk_46 (dk_at dksX4_drop_3 16 rfl rfl)
theorem dX4_drop_89 : decode cX4_drop 89 = .ok (.iastore, 1) := dk_79 (dk_at dksX4_drop_3 17 rfl rfl)
theorem dX4_drop_90 : decode cX4_drop 90 = .ok (.iinc 2 1, 3) := dk_132 2 1 (dk_at dksX4_drop_3 18 rfl rfl)
theorem dX4_drop_93 : decode cX4_drop 93 = .ok (.goto (-81), 3) := dk_167 255 175 (dk_at dksX4_drop_3 21 rfl rfl)
theorem dX4_drop_96 : decode cX4_drop 96 = .ok (.return_, 1) := dk_177 (dk_at dksX4_drop_4 0 rfl rfl)
abbrev cX4_isTaken : ByteArray := prog_15_method_8_code
def yX4_isTaken : MethodName := ⟨RX4, "isTaken", "(II)Z"⟩
def dkwX4_isTaken_2 : List UInt8 := [172]
abbrev dktX4_isTaken_2 : List UInt8 := dkwX4_isTaken_2 ++ []
def dkwX4_isTaken_1 : List UInt8 := [29, 46, 28, 163, 0, 14, 28, 42, 29, 182, 0, 37, 162, 0, 5, 4, 172, 132, 3, 1, 167, 255, 214, 3]
abbrev dktX4_isTaken_1 : List UInt8 := dkwX4_isTaken_1 ++ dktX4_isTaken_2
def dkwX4_isTaken_0 : List UInt8 := [3, 62, 29, 42, 180, 0, 27, 162, 0, 40, 42, 180, 0, 21, 29, 46, 27, 160, 0, 24, 42, 180, 0, 18]
abbrev dktX4_isTaken_0 : List UInt8 := dkwX4_isTaken_0 ++ dktX4_isTaken_1
theorem dksX4_isTaken_0 : cX4_isTaken.data.toList.drop 0 = dktX4_isTaken_0 := by decide +kernel
theorem dksX4_isTaken_1 : cX4_isTaken.data.toList.drop 24 = dktX4_isTaken_1 := dk_seg dksX4_isTaken_0 24 rfl rfl
theorem dksX4_isTaken_2 : cX4_isTaken.data.toList.drop 48 = dktX4_isTaken_2 := dk_seg dksX4_isTaken_1 24 rfl rfl
theorem dX4_isTaken_0 : decode cX4_isTaken 0 = .ok (.iconst 0, 1) := dk_3 (dk_at dksX4_isTaken_0 0 rfl rfl)
theorem dX4_isTaken_1 : decode cX4_isTaken 1 = .ok (.istore_n 3, 1) := dk_62 (dk_at dksX4_isTaken_0 1 rfl rfl)
theorem dX4_isTaken_2 : decode cX4_isTaken 2 = .ok (.iload_n 3, 1) := dk_29 (dk_at dksX4_isTaken_0 2 rfl rfl)
theorem dX4_isTaken_3 : decode cX4_isTaken 3 = .ok (.aload_n 0, 1) := dk_42 (dk_at dksX4_isTaken_0 3 rfl rfl)
theorem dX4_isTaken_4 : decode cX4_isTaken 4 = .ok (.getfield 27, 3) := dk_180 0 27 (dk_at dksX4_isTaken_0 4 rfl rfl)
theorem dX4_isTaken_7 : decode cX4_isTaken 7 = .ok (.if_icmp .ge 40, 3) := dk_162 0 40 (dk_at dksX4_isTaken_0 7 rfl rfl)
theorem dX4_isTaken_10 : decode cX4_isTaken 10 = .ok (.aload_n 0, 1) := dk_42 (dk_at dksX4_isTaken_0 10 rfl rfl)
theorem dX4_isTaken_11 : decode cX4_isTaken 11 = .ok (.getfield 21, 3) := dk_180 0 21 (dk_at dksX4_isTaken_0 11 rfl rfl)
theorem dX4_isTaken_14 : decode cX4_isTaken 14 = .ok (.iload_n 3, 1) := dk_29 (dk_at dksX4_isTaken_0 14 rfl rfl)
theorem dX4_isTaken_15 : decode cX4_isTaken 15 = .ok (.iaload, 1) := dk_46 (dk_at dksX4_isTaken_0 15 rfl rfl)
theorem dX4_isTaken_16 : decode cX4_isTaken 16 = .ok (.iload_n 1, 1) := dk_27 (dk_at dksX4_isTaken_0 16 rfl rfl)
theorem dX4_isTaken_17 : decode cX4_isTaken 17 = .ok (.if_icmp .ne 24, 3) := dk_160 0 24 (dk_at dksX4_isTaken_0 17 rfl rfl)
theorem dX4_isTaken_20 : decode cX4_isTaken 20 = .ok (.aload_n 0, 1) := dk_42 (dk_at dksX4_isTaken_0 20 rfl rfl)
theorem dX4_isTaken_21 : decode cX4_isTaken 21 = .ok (.getfield 18, 3) := dk_180 0 18 (dk_at dksX4_isTaken_0 21 rfl rfl)
theorem dX4_isTaken_24 : decode cX4_isTaken 24 = .ok (.iload_n 3, 1) := dk_29 (dk_at dksX4_isTaken_1 0 rfl rfl)
theorem dX4_isTaken_25 : decode cX4_isTaken 25 = .ok (.iaload, 1) := dk_46 (dk_at dksX4_isTaken_1 1 rfl rfl)
theorem dX4_isTaken_26 : decode cX4_isTaken 26 = .ok (.iload_n 2, 1) := dk_28 (dk_at dksX4_isTaken_1 2 rfl rfl)
theorem dX4_isTaken_27 : decode cX4_isTaken 27 = .ok (.if_icmp .gt 14, 3) := dk_163 0 14 (dk_at dksX4_isTaken_1 3 rfl rfl)
theorem dX4_isTaken_30 : decode cX4_isTaken 30 = .ok (.iload_n 2, 1) := dk_28 (dk_at dksX4_isTaken_1 6 rfl rfl)
theorem dX4_isTaken_31 : decode cX4_isTaken 31 = .ok (.aload_n 0, 1) := dk_42 (dk_at dksX4_isTaken_1 7 rfl rfl)
theorem dX4_isTaken_32 : decode cX4_isTaken 32 = .ok (.iload_n 3, 1) := dk_29 (dk_at dksX4_isTaken_1 8 rfl rfl)
theorem dX4_isTaken_33 : decode cX4_isTaken 33 = .ok (.invokevirtual 37, 3) := dk_182 0 37 (dk_at dksX4_isTaken_1 9 rfl rfl)
theorem dX4_isTaken_36 : decode cX4_isTaken 36 = .ok (.if_icmp .ge 5, 3) := dk_162 0 5 (dk_at dksX4_isTaken_1 12 rfl rfl)
theorem dX4_isTaken_39 : decode cX4_isTaken 39 = .ok (.iconst 1, 1) := dk_4 (dk_at dksX4_isTaken_1 15 rfl rfl)
theorem dX4_isTaken_40 : decode cX4_isTaken 40 = .ok (.ireturn, 1) := dk_172 (dk_at dksX4_isTaken_1 16 rfl rfl)
theorem dX4_isTaken_41 : decode cX4_isTaken 41 = .ok (.iinc 3 1, 3) := dk_132 3 1 (dk_at dksX4_isTaken_1 17 rfl rfl)
theorem dX4_isTaken_44 : decode cX4_isTaken 44 = .ok (.goto (-42), 3) := dk_167 255 214 (dk_at dksX4_isTaken_1 20 rfl rfl)
theorem dX4_isTaken_47 : decode cX4_isTaken 47 = .ok (.iconst 0, 1) := dk_3 (dk_at dksX4_isTaken_1 23 rfl rfl)
theorem dX4_isTaken_48 : decode cX4_isTaken 48 = .ok (.ireturn, 1) := dk_172 (dk_at dksX4_isTaken_2 0 rfl rfl)
abbrev cX4_goesOf : ByteArray := prog_15_method_12_code
def yX4_goesOf : MethodName := ⟨RX4, "goesOf", "(I)I"⟩
def dkwX4_goesOf_1 : List UInt8 := [167, 0, 4, 3, 96, 61, 132, 3, 1, 167, 255, 227, 28, 172]
abbrev dktX4_goesOf_1 : List UInt8 := dkwX4_goesOf_1 ++ []
def dkwX4_goesOf_0 : List UInt8 := [3, 61, 3, 62, 29, 42, 180, 0, 27, 162, 0, 27, 28, 42, 180, 0, 9, 29, 46, 27, 160, 0, 7, 4]
abbrev dktX4_goesOf_0 : List UInt8 := dkwX4_goesOf_0 ++ dktX4_goesOf_1
theorem dksX4_goesOf_0 : cX4_goesOf.data.toList.drop 0 = dktX4_goesOf_0 := by decide +kernel
theorem dksX4_goesOf_1 : cX4_goesOf.data.toList.drop 24 = dktX4_goesOf_1 := dk_seg dksX4_goesOf_0 24 rfl rfl
theorem dX4_goesOf_0 : decode cX4_goesOf 0 = .ok (.iconst 0, 1) := dk_3 (dk_at dksX4_goesOf_0 0 rfl rfl)
theorem dX4_goesOf_1 : decode cX4_goesOf 1 = .ok (.istore_n 2, 1) := dk_61 (dk_at dksX4_goesOf_0 1 rfl rfl)
theorem dX4_goesOf_2 : decode cX4_goesOf 2 = .ok (.iconst 0, 1) := dk_3 (dk_at dksX4_goesOf_0 2 rfl rfl)
theorem dX4_goesOf_3 : decode cX4_goesOf 3 = .ok (.istore_n 3, 1) := dk_62 (dk_at dksX4_goesOf_0 3 rfl rfl)
theorem dX4_goesOf_4 : decode cX4_goesOf 4 = .ok (.iload_n 3, 1) := dk_29 (dk_at dksX4_goesOf_0 4 rfl rfl)
theorem dX4_goesOf_5 : decode cX4_goesOf 5 = .ok (.aload_n 0, 1) := dk_42 (dk_at dksX4_goesOf_0 5 rfl rfl)
theorem dX4_goesOf_6 : decode cX4_goesOf 6 = .ok (.getfield 27, 3) := dk_180 0 27 (dk_at dksX4_goesOf_0 6 rfl rfl)
theorem dX4_goesOf_9 : decode cX4_goesOf 9 = .ok (.if_icmp .ge 27, 3) := dk_162 0 27 (dk_at dksX4_goesOf_0 9 rfl rfl)
theorem dX4_goesOf_12 : decode cX4_goesOf 12 = .ok (.iload_n 2, 1) := dk_28 (dk_at dksX4_goesOf_0 12 rfl rfl)
theorem dX4_goesOf_13 : decode cX4_goesOf 13 = .ok (.aload_n 0, 1) := dk_42 (dk_at dksX4_goesOf_0 13 rfl rfl)
theorem dX4_goesOf_14 : decode cX4_goesOf 14 = .ok (.getfield 9, 3) := dk_180 0 9 (dk_at dksX4_goesOf_0 14 rfl rfl)
theorem dX4_goesOf_17 : decode cX4_goesOf 17 = .ok (.iload_n 3, 1) := dk_29 (dk_at dksX4_goesOf_0 17 rfl rfl)
theorem dX4_goesOf_18 : decode cX4_goesOf 18 = .ok (.iaload, 1) := dk_46 (dk_at dksX4_goesOf_0 18 rfl rfl)
theorem dX4_goesOf_19 : decode cX4_goesOf 19 = .ok (.iload_n 1, 1) := dk_27 (dk_at dksX4_goesOf_0 19 rfl rfl)
theorem dX4_goesOf_20 : decode cX4_goesOf 20 = .ok (.if_icmp .ne 7, 3) := dk_160 0 7 (dk_at dksX4_goesOf_0 20 rfl rfl)
theorem dX4_goesOf_23 : decode cX4_goesOf 23 = .ok (.iconst 1, 1) := dk_4 (dk_at dksX4_goesOf_0 23 rfl rfl)
theorem dX4_goesOf_24 : decode cX4_goesOf 24 = .ok (.goto 4, 3) := dk_167 0 4 (dk_at dksX4_goesOf_1 0 rfl rfl)
theorem dX4_goesOf_27 : decode cX4_goesOf 27 = .ok (.iconst 0, 1) := dk_3 (dk_at dksX4_goesOf_1 3 rfl rfl)
theorem dX4_goesOf_28 : decode cX4_goesOf 28 = .ok (.iadd, 1) := dk_96 (dk_at dksX4_goesOf_1 4 rfl rfl)
theorem dX4_goesOf_29 : decode cX4_goesOf 29 = .ok (.istore_n 2, 1) := dk_61 (dk_at dksX4_goesOf_1 5 rfl rfl)
theorem dX4_goesOf_30 : decode cX4_goesOf 30 = .ok (.iinc 3 1, 3) := dk_132 3 1 (dk_at dksX4_goesOf_1 6 rfl rfl)
theorem dX4_goesOf_33 : decode cX4_goesOf 33 = .ok (.goto (-29), 3) := dk_167 255 227 (dk_at dksX4_goesOf_1 9 rfl rfl)
theorem dX4_goesOf_36 : decode cX4_goesOf 36 = .ok (.iload_n 2, 1) := dk_28 (dk_at dksX4_goesOf_1 12 rfl rfl)
theorem dX4_goesOf_37 : decode cX4_goesOf 37 = .ok (.ireturn, 1) := dk_172 (dk_at dksX4_goesOf_1 13 rfl rfl)
abbrev cX4_ends_2 : ByteArray := prog_15_method_11_code
def yX4_ends_2 : MethodName := ⟨RX4, "ends", "(I)I"⟩
def dkwX4_ends_2_1 : List UInt8 := [29, 182, 0, 37, 184, 0, 41, 61, 132, 3, 1, 167, 255, 225, 28, 172]
abbrev dktX4_ends_2_1 : List UInt8 := dkwX4_ends_2_1 ++ []
def dkwX4_ends_2_0 : List UInt8 := [3, 61, 3, 62, 29, 42, 180, 0, 27, 162, 0, 29, 42, 180, 0, 9, 29, 46, 27, 160, 0, 13, 28, 42]
abbrev dktX4_ends_2_0 : List UInt8 := dkwX4_ends_2_0 ++ dktX4_ends_2_1
theorem dksX4_ends_2_0 : cX4_ends_2.data.toList.drop 0 = dktX4_ends_2_0 := by decide +kernel
theorem dksX4_ends_2_1 : cX4_ends_2.data.toList.drop 24 = dktX4_ends_2_1 := dk_seg dksX4_ends_2_0 24 rfl rfl
theorem dX4_ends_2_0 : decode cX4_ends_2 0 = .ok (.iconst 0, 1) := dk_3 (dk_at dksX4_ends_2_0 0 rfl rfl)
theorem dX4_ends_2_1 : decode cX4_ends_2 1 = .ok (.istore_n 2, 1) := dk_61 (dk_at dksX4_ends_2_0 1 rfl rfl)
theorem dX4_ends_2_2 : decode cX4_ends_2 2 = .ok (.iconst 0, 1) := dk_3 (dk_at dksX4_ends_2_0 2 rfl rfl)
theorem dX4_ends_2_3 : decode cX4_ends_2 3 = .ok (.istore_n 3, 1) := dk_62 (dk_at dksX4_ends_2_0 3 rfl rfl)
theorem dX4_ends_2_4 : decode cX4_ends_2 4 = .ok (.iload_n 3, 1) := dk_29 (dk_at dksX4_ends_2_0 4 rfl rfl)
theorem dX4_ends_2_5 : decode cX4_ends_2 5 = .ok (.aload_n 0, 1) := dk_42 (dk_at dksX4_ends_2_0 5 rfl rfl)
theorem dX4_ends_2_6 : decode cX4_ends_2 6 = .ok (.getfield 27, 3) := dk_180 0 27 (dk_at dksX4_ends_2_0 6 rfl rfl)
theorem dX4_ends_2_9 : decode cX4_ends_2 9 = .ok (.if_icmp .ge 29, 3) := dk_162 0 29 (dk_at dksX4_ends_2_0 9 rfl rfl)
theorem dX4_ends_2_12 : decode cX4_ends_2 12 = .ok (.aload_n 0, 1) := dk_42 (dk_at dksX4_ends_2_0 12 rfl rfl)
theorem dX4_ends_2_13 : decode cX4_ends_2 13 = .ok (.getfield 9, 3) := dk_180 0 9 (dk_at dksX4_ends_2_0 13 rfl rfl)
theorem dX4_ends_2_16 : decode cX4_ends_2 16 = .ok (.iload_n 3, 1) := dk_29 (dk_at dksX4_ends_2_0 16 rfl rfl)
theorem dX4_ends_2_17 : decode cX4_ends_2 17 = .ok (.iaload, 1) := dk_46 (dk_at dksX4_ends_2_0 17 rfl rfl)
theorem dX4_ends_2_18 : decode cX4_ends_2 18 = .ok (.iload_n 1, 1) := dk_27 (dk_at dksX4_ends_2_0 18 rfl rfl)
theorem dX4_ends_2_19 : decode cX4_ends_2 19 = .ok (.if_icmp .ne 13, 3) := dk_160 0 13 (dk_at dksX4_ends_2_0 19 rfl rfl)
theorem dX4_ends_2_22 : decode cX4_ends_2 22 = .ok (.iload_n 2, 1) := dk_28 (dk_at dksX4_ends_2_0 22 rfl rfl)
theorem dX4_ends_2_23 : decode cX4_ends_2 23 = .ok (.aload_n 0, 1) := dk_42 (dk_at dksX4_ends_2_0 23 rfl rfl)
theorem dX4_ends_2_24 : decode cX4_ends_2 24 = .ok (.iload_n 3, 1) := dk_29 (dk_at dksX4_ends_2_1 0 rfl rfl)
theorem dX4_ends_2_25 : decode cX4_ends_2 25 = .ok (.invokevirtual 37, 3) := dk_182 0 37 (dk_at dksX4_ends_2_1 1 rfl rfl)
theorem dX4_ends_2_28 : decode cX4_ends_2 28 = .ok (.invokestatic 41, 3) := dk_184 0 41 (dk_at dksX4_ends_2_1 4 rfl rfl)
theorem dX4_ends_2_31 : decode cX4_ends_2 31 = .ok (.istore_n 2, 1) := dk_61 (dk_at dksX4_ends_2_1 7 rfl rfl)
theorem dX4_ends_2_32 : decode cX4_ends_2 32 = .ok (.iinc 3 1, 3) := dk_132 3 1 (dk_at dksX4_ends_2_1 8 rfl rfl)
theorem dX4_ends_2_35 : decode cX4_ends_2 35 = .ok (.goto (-31), 3) := dk_167 255 225 (dk_at dksX4_ends_2_1 11 rfl rfl)
theorem dX4_ends_2_38 : decode cX4_ends_2 38 = .ok (.iload_n 2, 1) := dk_28 (dk_at dksX4_ends_2_1 14 rfl rfl)
theorem dX4_ends_2_39 : decode cX4_ends_2 39 = .ok (.ireturn, 1) := dk_172 (dk_at dksX4_ends_2_1 15 rfl rfl)
theorem q112 : (Jvm.Cond.initialized "PanSlices$Plan") ∈ lw_all := lw_g (lw_at lw_m1 6 rfl) rfl
theorem q248 : (Jvm.Cond.fieldLinkNest "PanSlices$Plan" (55 : Nat) "PanSlices$Kitchen" "minutes" "[I" "PanSlices") ∈ lw_tbl := lw_at lw_m1 142 rfl
theorem q265 : (Jvm.Cond.fieldLinkNest "PanSlices$Plan" (60 : Nat) "PanSlices$Kitchen" "once" "[Z" "PanSlices") ∈ lw_tbl := lw_at lw_m1 159 rfl
theorem q280 : (Jvm.Cond.fieldLinkNest "PanSlices$Plan" (64 : Nat) "PanSlices$Kitchen" "rest" "I" "PanSlices") ∈ lw_tbl := lw_at lw_m1 174 rfl
theorem q327 : (Jvm.Cond.instantiable "PanSlices$Plan" (6 : Nat)) ∈ lw_all := lw_g (lw_at lw_m1 221 rfl) rfl
theorem q329 : (Jvm.Cond.instanceMethod ({ cls := "PanSlices$Plan", name := "<init>", desc := "()V" } : Jvm.MethodName)) ∈ lw_all := lw_g (lw_at lw_m1 223 rfl) rfl
theorem q330 : (Jvm.Cond.code ({ cls := "PanSlices$Plan", name := "<init>", desc := "()V" } : Jvm.MethodName) prog_15_method_1_code (1 : Nat) (Option.none : Option Jvm.ClassFile.FieldType)) ∈ lw_all := lw_g (lw_at lw_m1 224 rfl) rfl
theorem q331 : (Jvm.Cond.methodLink "PanSlices$Plan" (3 : Nat) ({ cls := "java/lang/Object", name := "<init>", desc := "()V" } : Jvm.MethodName)) ∈ lw_all := lw_g (lw_at lw_m1 225 rfl) rfl
theorem q332 : (Jvm.Cond.fieldLink "PanSlices$Plan" (9 : Nat) "PanSlices$Plan" "slice" "[I") ∈ lw_all := lw_g (lw_at lw_m1 226 rfl) rfl
theorem q334 : (Jvm.Cond.fieldLink "PanSlices$Plan" (15 : Nat) "PanSlices$Plan" "side" "[I") ∈ lw_all := lw_g (lw_at lw_m1 228 rfl) rfl
theorem q336 : (Jvm.Cond.fieldLink "PanSlices$Plan" (18 : Nat) "PanSlices$Plan" "from" "[I") ∈ lw_all := lw_g (lw_at lw_m1 230 rfl) rfl
theorem q338 : (Jvm.Cond.fieldLink "PanSlices$Plan" (21 : Nat) "PanSlices$Plan" "place" "[I") ∈ lw_all := lw_g (lw_at lw_m1 232 rfl) rfl
theorem q340 : (Jvm.Cond.fieldLink "PanSlices$Plan" (24 : Nat) "PanSlices$Plan" "many" "[I") ∈ lw_all := lw_g (lw_at lw_m1 234 rfl) rfl
theorem q343 : (Jvm.Cond.fieldLink "PanSlices$Plan" (27 : Nat) "PanSlices$Plan" "goes" "I") ∈ lw_all := lw_g (lw_at lw_m1 237 rfl) rfl
theorem q345 : (Jvm.Cond.laysFinal "PanSlices$Plan" "PanSlices$Plan" "slice" "[I") ∈ lw_all := lw_g (lw_at lw_m1 239 rfl) rfl
theorem q346 : (Jvm.Cond.soleField "PanSlices$Plan" "slice") ∈ lw_all := lw_g (lw_at lw_m2 0 rfl) rfl
theorem q347 : (Jvm.Cond.laysFinal "PanSlices$Plan" "PanSlices$Plan" "side" "[I") ∈ lw_all := lw_g (lw_at lw_m2 1 rfl) rfl
theorem q348 : (Jvm.Cond.soleField "PanSlices$Plan" "side") ∈ lw_all := lw_g (lw_at lw_m2 2 rfl) rfl
theorem q349 : (Jvm.Cond.laysFinal "PanSlices$Plan" "PanSlices$Plan" "from" "[I") ∈ lw_all := lw_g (lw_at lw_m2 3 rfl) rfl
theorem q350 : (Jvm.Cond.soleField "PanSlices$Plan" "from") ∈ lw_all := lw_g (lw_at lw_m2 4 rfl) rfl
theorem q351 : (Jvm.Cond.laysFinal "PanSlices$Plan" "PanSlices$Plan" "place" "[I") ∈ lw_all := lw_g (lw_at lw_m2 5 rfl) rfl
theorem q352 : (Jvm.Cond.soleField "PanSlices$Plan" "place") ∈ lw_all := lw_g (lw_at lw_m2 6 rfl) rfl
theorem q353 : (Jvm.Cond.laysFinal "PanSlices$Plan" "PanSlices$Plan" "many" "[I") ∈ lw_all := lw_g (lw_at lw_m2 7 rfl) rfl
theorem q354 : (Jvm.Cond.soleField "PanSlices$Plan" "many") ∈ lw_all := lw_g (lw_at lw_m2 8 rfl) rfl
theorem q355 : (Jvm.Cond.lays "PanSlices$Plan" "PanSlices$Plan" "goes" "I") ∈ lw_all := lw_g (lw_at lw_m2 9 rfl) rfl
theorem q356 : (Jvm.Cond.soleField "PanSlices$Plan" "goes") ∈ lw_all := lw_g (lw_at lw_m2 10 rfl) rfl
theorem q357 : (Jvm.Cond.superclass "PanSlices$Plan" "java/lang/Object") ∈ lw_all := lw_g (lw_at lw_m2 11 rfl) rfl
theorem q855 : (Jvm.Cond.instanceMethod ({ cls := "PanSlices$Plan", name := "go", desc := "(IIIII)I" } : Jvm.MethodName)) ∈ lw_all := lw_g (lw_at lw_m4 29 rfl) rfl
theorem q856 : (Jvm.Cond.selects "PanSlices$Plan" ({ cls := "PanSlices$Plan", name := "go", desc := "(IIIII)I" } : Jvm.MethodName) ({ cls := "PanSlices$Plan", name := "go", desc := "(IIIII)I" } : Jvm.MethodName)) ∈ lw_all := lw_g (lw_at lw_m4 30 rfl) rfl
theorem q857 : (Jvm.Cond.code ({ cls := "PanSlices$Plan", name := "go", desc := "(IIIII)I" } : Jvm.MethodName) prog_15_method_3_code (6 : Nat) (Option.some Jvm.ClassFile.FieldType.int)) ∈ lw_all := lw_g (lw_at lw_m4 31 rfl) rfl
theorem q866 : (Jvm.Cond.instanceMethod ({ cls := "PanSlices$Plan", name := "be", desc := "(LPanSlices$Plan;)V" } : Jvm.MethodName)) ∈ lw_all := lw_g (lw_at lw_m4 40 rfl) rfl
theorem q867 : (Jvm.Cond.selects "PanSlices$Plan" ({ cls := "PanSlices$Plan", name := "be", desc := "(LPanSlices$Plan;)V" } : Jvm.MethodName) ({ cls := "PanSlices$Plan", name := "be", desc := "(LPanSlices$Plan;)V" } : Jvm.MethodName)) ∈ lw_all := lw_g (lw_at lw_m4 41 rfl) rfl
theorem q868 : (Jvm.Cond.code ({ cls := "PanSlices$Plan", name := "be", desc := "(LPanSlices$Plan;)V" } : Jvm.MethodName) prog_15_method_2_code (2 : Nat) (Option.none : Option Jvm.ClassFile.FieldType)) ∈ lw_all := lw_g (lw_at lw_m4 42 rfl) rfl
theorem q869 : (Jvm.Cond.methodLink "PanSlices$Plan" (31 : Nat) ({ cls := "java/lang/System", name := "arraycopy", desc := "(Ljava/lang/Object;ILjava/lang/Object;II)V" } : Jvm.MethodName)) ∈ lw_all := lw_g (lw_at lw_m4 43 rfl) rfl
theorem q875 : (Jvm.Cond.instanceMethod ({ cls := "PanSlices$Plan", name := "why", desc := "(LPanSlices$Kitchen;I)I" } : Jvm.MethodName)) ∈ lw_all := lw_g (lw_at lw_m4 49 rfl) rfl
theorem q876 : (Jvm.Cond.selects "PanSlices$Plan" ({ cls := "PanSlices$Plan", name := "why", desc := "(LPanSlices$Kitchen;I)I" } : Jvm.MethodName) ({ cls := "PanSlices$Plan", name := "why", desc := "(LPanSlices$Kitchen;I)I" } : Jvm.MethodName)) ∈ lw_all := lw_g (lw_at lw_m4 50 rfl) rfl
theorem q877 : (Jvm.Cond.code ({ cls := "PanSlices$Plan", name := "why", desc := "(LPanSlices$Kitchen;I)I" } : Jvm.MethodName) prog_15_method_10_code (6 : Nat) (Option.some Jvm.ClassFile.FieldType.int)) ∈ lw_all := lw_g (lw_at lw_m4 51 rfl) rfl
theorem q878 : (Jvm.Cond.methodLink "PanSlices$Plan" (47 : Nat) ({ cls := "PanSlices$Plan", name := "areMet", desc := "(II)Z" } : Jvm.MethodName)) ∈ lw_all := lw_g (lw_at lw_m4 52 rfl) rfl
theorem q879 : (Jvm.Cond.instanceMethod ({ cls := "PanSlices$Plan", name := "areMet", desc := "(II)Z" } : Jvm.MethodName)) ∈ lw_all := lw_g (lw_at lw_m4 53 rfl) rfl
theorem q880 : (Jvm.Cond.selects "PanSlices$Plan" ({ cls := "PanSlices$Plan", name := "areMet", desc := "(II)Z" } : Jvm.MethodName) ({ cls := "PanSlices$Plan", name := "areMet", desc := "(II)Z" } : Jvm.MethodName)) ∈ lw_all := lw_g (lw_at lw_m4 54 rfl) rfl
theorem q881 : (Jvm.Cond.code ({ cls := "PanSlices$Plan", name := "areMet", desc := "(II)Z" } : Jvm.MethodName) prog_15_method_9_code (3 : Nat) (Option.some Jvm.ClassFile.FieldType.boolean)) ∈ lw_all := lw_g (lw_at lw_m4 55 rfl) rfl
theorem q882 : (Jvm.Cond.methodLink "PanSlices$Plan" (37 : Nat) ({ cls := "PanSlices$Plan", name := "end", desc := "(I)I" } : Jvm.MethodName)) ∈ lw_all := lw_g (lw_at lw_m4 56 rfl) rfl
theorem q883 : (Jvm.Cond.instanceMethod ({ cls := "PanSlices$Plan", name := "end", desc := "(I)I" } : Jvm.MethodName)) ∈ lw_all := lw_g (lw_at lw_m4 57 rfl) rfl
theorem q884 : (Jvm.Cond.selects "PanSlices$Plan" ({ cls := "PanSlices$Plan", name := "end", desc := "(I)I" } : Jvm.MethodName) ({ cls := "PanSlices$Plan", name := "end", desc := "(I)I" } : Jvm.MethodName)) ∈ lw_all := lw_g (lw_at lw_m4 58 rfl) rfl
theorem q885 : (Jvm.Cond.code ({ cls := "PanSlices$Plan", name := "end", desc := "(I)I" } : Jvm.MethodName) prog_15_method_4_code (2 : Nat) (Option.some Jvm.ClassFile.FieldType.int)) ∈ lw_all := lw_g (lw_at lw_m4 59 rfl) rfl
theorem q886 : (Jvm.Cond.methodLink "PanSlices$Plan" (51 : Nat) ({ cls := "PanSlices$Plan", name := "had", desc := "(III)I" } : Jvm.MethodName)) ∈ lw_all := lw_g (lw_at lw_m4 60 rfl) rfl
theorem q887 : (Jvm.Cond.instanceMethod ({ cls := "PanSlices$Plan", name := "had", desc := "(III)I" } : Jvm.MethodName)) ∈ lw_all := lw_g (lw_at lw_m4 61 rfl) rfl
theorem q888 : (Jvm.Cond.selects "PanSlices$Plan" ({ cls := "PanSlices$Plan", name := "had", desc := "(III)I" } : Jvm.MethodName) ({ cls := "PanSlices$Plan", name := "had", desc := "(III)I" } : Jvm.MethodName)) ∈ lw_all := lw_g (lw_at lw_m4 62 rfl) rfl
theorem q889 : (Jvm.Cond.code ({ cls := "PanSlices$Plan", name := "had", desc := "(III)I" } : Jvm.MethodName) prog_15_method_6_code (6 : Nat) (Option.some Jvm.ClassFile.FieldType.int)) ∈ lw_all := lw_g (lw_at lw_m4 63 rfl) rfl
theorem q904 : (Jvm.Cond.instanceMethod ({ cls := "PanSlices$Plan", name := "ends", desc := "()I" } : Jvm.MethodName)) ∈ lw_all := lw_g (lw_at lw_m4 78 rfl) rfl
theorem q905 : (Jvm.Cond.selects "PanSlices$Plan" ({ cls := "PanSlices$Plan", name := "ends", desc := "()I" } : Jvm.MethodName) ({ cls := "PanSlices$Plan", name := "ends", desc := "()I" } : Jvm.MethodName)) ∈ lw_all := lw_g (lw_at lw_m4 79 rfl) rfl
theorem q906 : (Jvm.Cond.code ({ cls := "PanSlices$Plan", name := "ends", desc := "()I" } : Jvm.MethodName) prog_15_method_5_code (3 : Nat) (Option.some Jvm.ClassFile.FieldType.int)) ∈ lw_all := lw_g (lw_at lw_m4 80 rfl) rfl
theorem q907 : (Jvm.Cond.methodLink "PanSlices$Plan" (41 : Nat) ({ cls := "java/lang/Math", name := "max", desc := "(II)I" } : Jvm.MethodName)) ∈ lw_all := lw_g (lw_at lw_m4 81 rfl) rfl
theorem q915 : (Jvm.Cond.instanceMethod ({ cls := "PanSlices$Plan", name := "isDone", desc := "(LPanSlices$Kitchen;I)Z" } : Jvm.MethodName)) ∈ lw_all := lw_g (lw_at lw_m4 89 rfl) rfl
theorem q916 : (Jvm.Cond.selects "PanSlices$Plan" ({ cls := "PanSlices$Plan", name := "isDone", desc := "(LPanSlices$Kitchen;I)Z" } : Jvm.MethodName) ({ cls := "PanSlices$Plan", name := "isDone", desc := "(LPanSlices$Kitchen;I)Z" } : Jvm.MethodName)) ∈ lw_all := lw_g (lw_at lw_m4 90 rfl) rfl
theorem q917 : (Jvm.Cond.code ({ cls := "PanSlices$Plan", name := "isDone", desc := "(LPanSlices$Kitchen;I)Z" } : Jvm.MethodName) prog_15_method_14_code (3 : Nat) (Option.some Jvm.ClassFile.FieldType.boolean)) ∈ lw_all := lw_g (lw_at lw_m4 91 rfl) rfl
theorem q918 : (Jvm.Cond.methodLink "PanSlices$Plan" (67 : Nat) ({ cls := "PanSlices$Plan", name := "left", desc := "(LPanSlices$Kitchen;II)I" } : Jvm.MethodName)) ∈ lw_all := lw_g (lw_at lw_m4 92 rfl) rfl
theorem q919 : (Jvm.Cond.instanceMethod ({ cls := "PanSlices$Plan", name := "left", desc := "(LPanSlices$Kitchen;II)I" } : Jvm.MethodName)) ∈ lw_all := lw_g (lw_at lw_m4 93 rfl) rfl
theorem q920 : (Jvm.Cond.selects "PanSlices$Plan" ({ cls := "PanSlices$Plan", name := "left", desc := "(LPanSlices$Kitchen;II)I" } : Jvm.MethodName) ({ cls := "PanSlices$Plan", name := "left", desc := "(LPanSlices$Kitchen;II)I" } : Jvm.MethodName)) ∈ lw_all := lw_g (lw_at lw_m4 94 rfl) rfl
theorem q921 : (Jvm.Cond.code ({ cls := "PanSlices$Plan", name := "left", desc := "(LPanSlices$Kitchen;II)I" } : Jvm.MethodName) prog_15_method_13_code (4 : Nat) (Option.some Jvm.ClassFile.FieldType.int)) ∈ lw_all := lw_g (lw_at lw_m4 95 rfl) rfl
theorem q970 : (Jvm.Cond.instanceMethod ({ cls := "PanSlices$Plan", name := "drop", desc := "(I)V" } : Jvm.MethodName)) ∈ lw_all := lw_g (lw_at lw_m4 144 rfl) rfl
theorem q971 : (Jvm.Cond.selects "PanSlices$Plan" ({ cls := "PanSlices$Plan", name := "drop", desc := "(I)V" } : Jvm.MethodName) ({ cls := "PanSlices$Plan", name := "drop", desc := "(I)V" } : Jvm.MethodName)) ∈ lw_all := lw_g (lw_at lw_m4 145 rfl) rfl
theorem q972 : (Jvm.Cond.code ({ cls := "PanSlices$Plan", name := "drop", desc := "(I)V" } : Jvm.MethodName) prog_15_method_7_code (3 : Nat) (Option.none : Option Jvm.ClassFile.FieldType)) ∈ lw_all := lw_g (lw_at lw_m4 146 rfl) rfl
theorem q990 : (Jvm.Cond.instanceMethod ({ cls := "PanSlices$Plan", name := "isTaken", desc := "(II)Z" } : Jvm.MethodName)) ∈ lw_all := lw_g (lw_at lw_m4 164 rfl) rfl
theorem q991 : (Jvm.Cond.selects "PanSlices$Plan" ({ cls := "PanSlices$Plan", name := "isTaken", desc := "(II)Z" } : Jvm.MethodName) ({ cls := "PanSlices$Plan", name := "isTaken", desc := "(II)Z" } : Jvm.MethodName)) ∈ lw_all := lw_g (lw_at lw_m4 165 rfl) rfl
theorem q992 : (Jvm.Cond.code ({ cls := "PanSlices$Plan", name := "isTaken", desc := "(II)Z" } : Jvm.MethodName) prog_15_method_8_code (4 : Nat) (Option.some Jvm.ClassFile.FieldType.boolean)) ∈ lw_all := lw_g (lw_at lw_m4 166 rfl) rfl
theorem q1308 : (Jvm.Cond.instanceMethod ({ cls := "PanSlices$Plan", name := "goesOf", desc := "(I)I" } : Jvm.MethodName)) ∈ lw_all := lw_g (lw_at lw_m6 2 rfl) rfl
theorem q1309 : (Jvm.Cond.selects "PanSlices$Plan" ({ cls := "PanSlices$Plan", name := "goesOf", desc := "(I)I" } : Jvm.MethodName) ({ cls := "PanSlices$Plan", name := "goesOf", desc := "(I)I" } : Jvm.MethodName)) ∈ lw_all := lw_g (lw_at lw_m6 3 rfl) rfl
theorem q1310 : (Jvm.Cond.code ({ cls := "PanSlices$Plan", name := "goesOf", desc := "(I)I" } : Jvm.MethodName) prog_15_method_12_code (4 : Nat) (Option.some Jvm.ClassFile.FieldType.int)) ∈ lw_all := lw_g (lw_at lw_m6 4 rfl) rfl
theorem q1312 : (Jvm.Cond.instanceMethod ({ cls := "PanSlices$Plan", name := "ends", desc := "(I)I" } : Jvm.MethodName)) ∈ lw_all := lw_g (lw_at lw_m6 6 rfl) rfl
theorem q1313 : (Jvm.Cond.selects "PanSlices$Plan" ({ cls := "PanSlices$Plan", name := "ends", desc := "(I)I" } : Jvm.MethodName) ({ cls := "PanSlices$Plan", name := "ends", desc := "(I)I" } : Jvm.MethodName)) ∈ lw_all := lw_g (lw_at lw_m6 7 rfl) rfl
theorem q1314 : (Jvm.Cond.code ({ cls := "PanSlices$Plan", name := "ends", desc := "(I)I" } : Jvm.MethodName) prog_15_method_11_code (4 : Nat) (Option.some Jvm.ClassFile.FieldType.int)) ∈ lw_all := lw_g (lw_at lw_m6 8 rfl) rfl
theorem q2159 : (Jvm.Cond.castable "PanSlices$Plan" "java/lang/Object") ∈ lw_tbl := lw_at lw_m9 133 rfl
theorem in_X4 : ∀ w ∈ wsX40, w ∈ lw_all := lw_in wsX40 [345, 347, 349, 351, 353, 355] (by decide +kernel) (by decide +kernel)
/-! PanSlices$Reader -/
set_option maxRecDepth 100000
def RX5 : String := "PanSlices$Reader"
abbrev cX5_init : ByteArray := prog_17_method_1_code
def yX5_init : MethodName := ⟨RX5, "<init>", "(LPanSlices;I)V"⟩
def dkwX5_init_0 : List UInt8 := [42, 43, 181, 0, 3, 42, 183, 0, 9, 42, 28, 181, 0, 15, 177]
abbrev dktX5_init_0 : List UInt8 := dkwX5_init_0 ++ []
theorem dksX5_init_0 : cX5_init.data.toList.drop 0 = dktX5_init_0 := by decide +kernel
theorem dX5_init_0 : decode cX5_init 0 = .ok (.aload_n 0, 1) := dk_42 (dk_at dksX5_init_0 0 rfl rfl)
theorem dX5_init_1 : decode cX5_init 1 = .ok (.aload_n 1, 1) := dk_43 (dk_at dksX5_init_0 1 rfl rfl)
theorem dX5_init_2 : decode cX5_init 2 = .ok (.putfield 3, 3) := dk_181 0 3 (dk_at dksX5_init_0 2 rfl rfl)
theorem dX5_init_5 : decode cX5_init 5 = .ok (.aload_n 0, 1) := dk_42 (dk_at dksX5_init_0 5 rfl rfl)
theorem dX5_init_6 : decode cX5_init 6 = .ok (.invokespecial 9, 3) := dk_183 0 9 (dk_at dksX5_init_0 6 rfl rfl)
theorem dX5_init_9 : decode cX5_init 9 = .ok (.aload_n 0, 1) := dk_42 (dk_at dksX5_init_0 9 rfl rfl)
theorem dX5_init_10 : decode cX5_init 10 = .ok (.iload_n 2, 1) := dk_28 (dk_at dksX5_init_0 10 rfl rfl)
theorem dX5_init_11 : decode cX5_init 11 = .ok (.putfield 15, 3) := dk_181 0 15 (dk_at dksX5_init_0 11 rfl rfl)
theorem dX5_init_14 : decode cX5_init 14 = .ok (.return_, 1) := dk_177 (dk_at dksX5_init_0 14 rfl rfl)
abbrev cX5_begin : ByteArray := prog_17_method_2_code
def yX5_begin : MethodName := ⟨RX5, "begin", "()V"⟩
def dkwX5_begin_0 : List UInt8 := [42, 3, 181, 0, 19, 42, 182, 0, 22, 177]
abbrev dktX5_begin_0 : List UInt8 := dkwX5_begin_0 ++ []
theorem dksX5_begin_0 : cX5_begin.data.toList.drop 0 = dktX5_begin_0 := by decide +kernel
theorem dX5_begin_0 : decode cX5_begin 0 = .ok (.aload_n 0, 1) := dk_42 (dk_at dksX5_begin_0 0 rfl rfl)
theorem dX5_begin_1 : decode cX5_begin 1 = .ok (.iconst 0, 1) := dk_3 (dk_at dksX5_begin_0 1 rfl rfl)
theorem dX5_begin_2 : decode cX5_begin 2 = .ok (.putfield 19, 3) := dk_181 0 19 (dk_at dksX5_begin_0 2 rfl rfl)
theorem dX5_begin_5 : decode cX5_begin 5 = .ok (.aload_n 0, 1) := dk_42 (dk_at dksX5_begin_0 5 rfl rfl)
theorem dX5_begin_6 : decode cX5_begin 6 = .ok (.invokevirtual 22, 3) := dk_182 0 22 (dk_at dksX5_begin_0 6 rfl rfl)
theorem dX5_begin_9 : decode cX5_begin 9 = .ok (.return_, 1) := dk_177 (dk_at dksX5_begin_0 9 rfl rfl)
abbrev cX5_next : ByteArray := prog_17_method_6_code
def yX5_next : MethodName := ⟨RX5, "next", "()V"⟩
def dkwX5_next_7 : List UInt8 := [42, 27, 181, 0, 57, 42, 89, 180, 0, 19, 4, 96, 181, 0, 19, 177]
abbrev dktX5_next_7 : List UInt8 := dkwX5_next_7 ++ []
def dkwX5_next_6 : List UInt8 := [16, 41, 159, 0, 14, 27, 16, 60, 16, 62, 184, 0, 32, 153, 0, 7, 6, 167, 0, 4, 7, 181, 0, 43]
abbrev dktX5_next_6 : List UInt8 := dkwX5_next_6 ++ dktX5_next_7
def dkwX5_next_5 : List UInt8 := [182, 0, 46, 182, 0, 53, 167, 0, 56, 42, 27, 16, 59, 159, 0, 26, 27, 16, 40, 159, 0, 20, 27]
abbrev dktX5_next_5 : List UInt8 := dkwX5_next_5 ++ dktX5_next_6
def dkwX5_next_4 : List UInt8 := [167, 0, 84, 42, 27, 182, 0, 46, 154, 0, 11, 42, 27, 182, 0, 50, 153, 0, 15, 42, 42, 27]
abbrev dktX5_next_4 : List UInt8 := dkwX5_next_4 ++ dktX5_next_5
def dkwX5_next_3 : List UInt8 := [181, 0, 40, 42, 7, 181, 0, 43, 177, 42, 182, 0, 36, 60, 27, 156, 0, 11, 42, 3, 181, 0, 43]
abbrev dktX5_next_3 : List UInt8 := dkwX5_next_3 ++ dktX5_next_4
def dkwX5_next_2 : List UInt8 := [180, 0, 15, 164, 0, 28, 42, 180, 0, 19, 42, 180, 0, 15, 161, 0, 17, 42, 42, 180, 0, 15]
abbrev dktX5_next_2 : List UInt8 := dkwX5_next_2 ++ dktX5_next_3
def dkwX5_next_1 : List UInt8 := [96, 181, 0, 19, 167, 255, 228, 42, 42, 180, 0, 19, 181, 0, 40, 42, 180, 0, 3, 180, 0, 25, 42]
abbrev dktX5_next_1 : List UInt8 := dkwX5_next_1 ++ dktX5_next_2
def dkwX5_next_0 : List UInt8 := [42, 182, 0, 36, 16, 32, 159, 0, 12, 42, 182, 0, 36, 16, 10, 160, 0, 16, 42, 89, 180, 0, 19, 4]
abbrev dktX5_next_0 : List UInt8 := dkwX5_next_0 ++ dktX5_next_1
theorem dksX5_next_0 : cX5_next.data.toList.drop 0 = dktX5_next_0 := by decide +kernel
theorem dksX5_next_1 : cX5_next.data.toList.drop 24 = dktX5_next_1 := dk_seg dksX5_next_0 24 rfl rfl
theorem dksX5_next_2 : cX5_next.data.toList.drop 47 = dktX5_next_2 := dk_seg dksX5_next_1 23 rfl rfl
theorem dksX5_next_3 : cX5_next.data.toList.drop 69 = dktX5_next_3 := dk_seg dksX5_next_2 22 rfl rfl
theorem dksX5_next_4 : cX5_next.data.toList.drop 92 = dktX5_next_4 := dk_seg dksX5_next_3 23 rfl rfl
theorem dksX5_next_5 : cX5_next.data.toList.drop 114 = dktX5_next_5 := dk_seg dksX5_next_4 22 rfl rfl
theorem dksX5_next_6 : cX5_next.data.toList.drop 137 = dktX5_next_6 := dk_seg dksX5_next_5 23 rfl rfl
theorem dksX5_next_7 : cX5_next.data.toList.drop 161 = dktX5_next_7 := dk_seg dksX5_next_6 24 rfl rfl
theorem dX5_next_0 : decode cX5_next 0 = .ok (.aload_n 0, 1) := dk_42 (dk_at dksX5_next_0 0 rfl rfl)
theorem dX5_next_1 : decode cX5_next 1 = .ok (.invokevirtual 36, 3) := dk_182 0 36 (dk_at dksX5_next_0 1 rfl rfl)
theorem dX5_next_4 : decode cX5_next 4 = .ok (.bipush 32, 2) := dk_16 32 (dk_at dksX5_next_0 4 rfl rfl)
theorem dX5_next_6 : decode cX5_next 6 = .ok (.if_icmp .eq 12, 3) := dk_159 0 12 (dk_at dksX5_next_0 6 rfl rfl)
theorem dX5_next_9 : decode cX5_next 9 = .ok (.aload_n 0, 1) := dk_42 (dk_at dksX5_next_0 9 rfl rfl)
theorem dX5_next_10 : decode cX5_next 10 = .ok (.invokevirtual 36, 3) := dk_182 0 36 (dk_at dksX5_next_0 10 rfl rfl)
theorem dX5_next_13 : decode cX5_next 13 = .ok (.bipush 10, 2) := dk_16 10 (dk_at dksX5_next_0 13 rfl rfl)
theorem dX5_next_15 : decode cX5_next 15 = .ok (.if_icmp .ne 16, 3) := dk_160 0 16 (dk_at dksX5_next_0 15 rfl rfl)
theorem dX5_next_18 : decode cX5_next 18 = .ok (.aload_n 0, 1) := dk_42 (dk_at dksX5_next_0 18 rfl rfl)
theorem dX5_next_19 : decode cX5_next 19 = .ok (.dup, 1) := dk_89 (dk_at dksX5_next_0 19 rfl rfl)
theorem dX5_next_20 : decode cX5_next 20 = .ok (.getfield 19, 3) := dk_180 0 19 (dk_at dksX5_next_0 20 rfl rfl)
theorem dX5_next_23 : decode cX5_next 23 = .ok (.iconst 1, 1) := dk_4 (dk_at dksX5_next_0 23 rfl rfl)
theorem dX5_next_24 : decode cX5_next 24 = .ok (.iadd, 1) := dk_96 (dk_at dksX5_next_1 0 rfl rfl)
theorem dX5_next_25 : decode cX5_next 25 = .ok (.putfield 19, 3) := dk_181 0 19 (dk_at dksX5_next_1 1 rfl rfl)
theorem dX5_next_28 : decode cX5_next 28 = .ok (.goto (-28), 3) := dk_167 255 228 (dk_at dksX5_next_1 4 rfl rfl)
theorem dX5_next_31 : decode cX5_next 31 = .ok (.aload_n 0, 1) := dk_42 (dk_at dksX5_next_1 7 rfl rfl)
theorem dX5_next_32 : decode cX5_next 32 = .ok (.aload_n 0, 1) := dk_42 (dk_at dksX5_next_1 8 rfl rfl)
theorem dX5_next_33 : decode cX5_next 33 = .ok (.getfield 19, 3) := dk_180 0 19 (dk_at dksX5_next_1 9 rfl rfl)
theorem dX5_next_36 : decode cX5_next 36 = .ok (.putfield 40, 3) := dk_181 0 40 (dk_at dksX5_next_1 12 rfl rfl)
theorem dX5_next_39 : decode cX5_next 39 = .ok (.aload_n 0, 1) := dk_42 (dk_at dksX5_next_1 15 rfl rfl)
theorem dX5_next_40 : decode cX5_next 40 = .ok (.getfield 3, 3) := dk_180 0 3 (dk_at dksX5_next_1 16 rfl rfl)
theorem dX5_next_43 : decode cX5_next 43 = .ok (.getfield 25, 3) := dk_180 0 25 (dk_at dksX5_next_1 19 rfl rfl)
theorem dX5_next_46 : decode cX5_next 46 = .ok (.aload_n 0, 1) := dk_42 (dk_at dksX5_next_1 22 rfl rfl)
theorem dX5_next_47 : decode cX5_next 47 = .ok (.getfield 15, 3) := dk_180 0 15 (dk_at dksX5_next_2 0 rfl rfl)
theorem dX5_next_50 : decode cX5_next 50 = .ok (.if_icmp .le 28, 3) := dk_164 0 28 (dk_at dksX5_next_2 3 rfl rfl)
theorem dX5_next_53 : decode cX5_next 53 = .ok (.aload_n 0, 1) := dk_42 (dk_at dksX5_next_2 6 rfl rfl)
theorem dX5_next_54 : decode cX5_next 54 = .ok (.getfield 19, 3) := dk_180 0 19 (dk_at dksX5_next_2 7 rfl rfl)
theorem dX5_next_57 : decode cX5_next 57 = .ok (.aload_n 0, 1) := dk_42 (dk_at dksX5_next_2 10 rfl rfl)
theorem dX5_next_58 : decode cX5_next 58 = .ok (.getfield 15, 3) := dk_180 0 15 (dk_at dksX5_next_2 11 rfl rfl)
theorem dX5_next_61 : decode cX5_next 61 = .ok (.if_icmp .lt 17, 3) := dk_161 0 17 (dk_at dksX5_next_2 14 rfl rfl)
theorem dX5_next_64 : decode cX5_next 64 = .ok (.aload_n 0, 1) := dk_42 (dk_at dksX5_next_2 17 rfl rfl)
theorem dX5_next_65 : decode cX5_next 65 = .ok (.aload_n 0, 1) := dk_42 (dk_at dksX5_next_2 18 rfl rfl)
theorem dX5_next_66 : decode cX5_next 66 = .ok (.getfield 15, 3) := dk_180 0 15 (dk_at dksX5_next_2 19 rfl rfl)
theorem dX5_next_69 : decode cX5_next 69 = .ok (.putfield 40, 3) := dk_181 0 40 (dk_at dksX5_next_3 0 rfl rfl)
theorem dX5_next_72 : decode cX5_next 72 = .ok (.aload_n 0, 1) := dk_42 (dk_at dksX5_next_3 3 rfl rfl)
theorem dX5_next_73 : decode cX5_next 73 = .ok (.iconst 4, 1) := dk_7 (dk_at dksX5_next_3 4 rfl rfl)
theorem dX5_next_74 : decode cX5_next 74 = .ok (.putfield 43, 3) := dk_181 0 43 (dk_at dksX5_next_3 5 rfl rfl)
theorem dX5_next_77 : decode cX5_next 77 = .ok (.return_, 1) := dk_177 (dk_at dksX5_next_3 8 rfl rfl)
theorem dX5_next_78 : decode cX5_next 78 = .ok (.aload_n 0, 1) := dk_42 (dk_at dksX5_next_3 9 rfl rfl)
theorem dX5_next_79 : decode cX5_next 79 = .ok (.invokevirtual 36, 3) := dk_182 0 36 (dk_at dksX5_next_3 10 rfl rfl)
theorem dX5_next_82 : decode cX5_next 82 = .ok (.istore_n 1, 1) := dk_60 (dk_at dksX5_next_3 13 rfl rfl)
theorem dX5_next_83 : decode cX5_next 83 = .ok (.iload_n 1, 1) := dk_27 (dk_at dksX5_next_3 14 rfl rfl)
theorem dX5_next_84 : decode cX5_next 84 = .ok (.ifCond .ge 11, 3) := dk_156 0 11 (dk_at dksX5_next_3 15 rfl rfl)
theorem dX5_next_87 : decode cX5_next 87 = .ok (.aload_n 0, 1) := dk_42 (dk_at dksX5_next_3 18 rfl rfl)
theorem dX5_next_88 : decode cX5_next 88 = .ok (.iconst 0, 1) := dk_3 (dk_at dksX5_next_3 19 rfl rfl)
theorem dX5_next_89 : decode cX5_next 89 = .ok (.putfield 43, 3) := dk_181 0 43 (dk_at dksX5_next_3 20 rfl rfl)
theorem dX5_next_92 : decode cX5_next 92 = .ok (.goto 84, 3) := dk_167 0 84 (dk_at dksX5_next_4 0 rfl rfl)
theorem dX5_next_95 : decode cX5_next 95 = .ok (.aload_n 0, 1) := dk_42 (dk_at dksX5_next_4 3 rfl rfl)
theorem dX5_next_96 : decode cX5_next 96 = .ok (.iload_n 1, 1) := dk_27 (dk_at dksX5_next_4 4 rfl rfl)
theorem dX5_next_97 : decode cX5_next 97 = .ok (.invokevirtual 46, 3) := dk_182 0 46 (dk_at dksX5_next_4 5 rfl rfl)
theorem dX5_next_100 : decode cX5_next 100 = .ok (.ifCond .ne 11, 3) := dk_154 0 11 (dk_at dksX5_next_4 8 rfl rfl)
theorem dX5_next_103 : decode cX5_next 103 = .ok (.aload_n 0, 1) := dk_42 (dk_at dksX5_next_4 11 rfl rfl)
theorem dX5_next_104 : decode cX5_next 104 = .ok (.iload_n 1, 1) := dk_27 (dk_at dksX5_next_4 12 rfl rfl)
theorem dX5_next_105 : decode cX5_next 105 = .ok (.invokevirtual 50, 3) := dk_182 0 50 (dk_at dksX5_next_4 13 rfl rfl)
theorem dX5_next_108 : decode cX5_next 108 = .ok (.ifCond .eq 15, 3) := dk_153 0 15 (dk_at dksX5_next_4 16 rfl rfl)
theorem dX5_next_111 : decode cX5_next 111 = .ok (.aload_n 0, 1) := dk_42 (dk_at dksX5_next_4 19 rfl rfl)
theorem dX5_next_112 : decode cX5_next 112 = .ok (.aload_n 0, 1) := dk_42 (dk_at dksX5_next_4 20 rfl rfl)
theorem dX5_next_113 : decode cX5_next 113 = .ok (.iload_n 1, 1) := dk_27 (dk_at dksX5_next_4 21 rfl rfl)
theorem dX5_next_114 : decode cX5_next 114 = .ok (.invokevirtual 46, 3) := dk_182 0 46 (dk_at dksX5_next_5 0 rfl rfl)
theorem dX5_next_117 : decode cX5_next 117 = .ok (.invokevirtual 53, 3) := dk_182 0 53 (dk_at dksX5_next_5 3 rfl rfl)
theorem dX5_next_120 : decode cX5_next 120 = .ok (.goto 56, 3) := dk_167 0 56 (dk_at dksX5_next_5 6 rfl rfl)
theorem dX5_next_123 : decode cX5_next 123 = .ok (.aload_n 0, 1) := dk_42 (dk_at dksX5_next_5 9 rfl rfl)
theorem dX5_next_124 : decode cX5_next 124 = .ok (.iload_n 1, 1) := dk_27 (dk_at dksX5_next_5 10 rfl rfl)
theorem dX5_next_125 : decode cX5_next 125 = .ok (.bipush 59, 2) := dk_16 59 (dk_at dksX5_next_5 11 rfl rfl)
theorem dX5_next_127 : decode cX5_next 127 = .ok (.if_icmp .eq 26, 3) := dk_159 0 26 (dk_at dksX5_next_5 13 rfl rfl)
theorem dX5_next_130 : decode cX5_next 130 = .ok (.iload_n 1, 1) := dk_27 (dk_at dksX5_next_5 16 rfl rfl)
theorem dX5_next_131 : decode cX5_next 131 = .ok (.bipush 40, 2) := dk_16 40 (dk_at dksX5_next_5 17 rfl rfl)
theorem dX5_next_133 : decode cX5_next 133 = .ok (.if_icmp .eq 20, 3) := dk_159 0 20 (dk_at dksX5_next_5 19 rfl rfl)
theorem dX5_next_136 : decode cX5_next 136 = .ok (.iload_n 1, 1) := dk_27 (dk_at dksX5_next_5 22 rfl rfl)
theorem dX5_next_137 : decode cX5_next 137 = .ok (.bipush 41, 2) := dk_16 41 (dk_at dksX5_next_6 0 rfl rfl)
theorem dX5_next_139 : decode cX5_next 139 = .ok (.if_icmp .eq 14, 3) := dk_159 0 14 (dk_at dksX5_next_6 2 rfl rfl)
theorem dX5_next_142 : decode cX5_next 142 = .ok (.iload_n 1, 1) := dk_27 (dk_at dksX5_next_6 5 rfl rfl)
theorem dX5_next_143 : decode cX5_next 143 = .ok (.bipush 60, 2) := dk_16 60 (dk_at dksX5_next_6 6 rfl rfl)
theorem dX5_next_145 : decode cX5_next 145 = .ok (.bipush 62, 2) := dk_16 62 (dk_at dksX5_next_6 8 rfl rfl)
theorem dX5_next_147 : decode cX5_next 147 = .ok (.invokestatic 32, 3) := dk_184 0 32 (dk_at dksX5_next_6 10 rfl rfl)
theorem dX5_next_150 : decode cX5_next 150 = .ok (.ifCond .eq 7, 3) := dk_153 0 7 (dk_at dksX5_next_6 13 rfl rfl)
theorem dX5_next_153 : decode cX5_next 153 = .ok (.iconst 3, 1) := dk_6 (dk_at dksX5_next_6 16 rfl rfl)
theorem dX5_next_154 : decode cX5_next 154 = .ok (.goto 4, 3) := dk_167 0 4 (dk_at dksX5_next_6 17 rfl rfl)
theorem dX5_next_157 : decode cX5_next 157 = .ok (.iconst 4, 1) := dk_7 (dk_at dksX5_next_6 20 rfl rfl)
theorem dX5_next_158 : decode cX5_next 158 = .ok (.putfield 43, 3) := dk_181 0 43 (dk_at dksX5_next_6 21 rfl rfl)
theorem dX5_next_161 : decode cX5_next 161 = .ok (.aload_n 0, 1) := dk_42 (dk_at dksX5_next_7 0 rfl rfl)
theorem dX5_next_162 : decode cX5_next 162 = .ok (.iload_n 1, 1) := dk_27 (dk_at dksX5_next_7 1 rfl rfl)
theorem dX5_next_163 : decode cX5_next 163 = .ok (.putfield 57, 3) := dk_181 0 57 (dk_at dksX5_next_7 2 rfl rfl)
theorem dX5_next_166 : decode cX5_next 166 = .ok (.aload_n 0, 1) := dk_42 (dk_at dksX5_next_7 5 rfl rfl)
theorem dX5_next_167 : decode cX5_next 167 = .ok (.dup, 1) := dk_89 (dk_at dksX5_next_7 6 rfl rfl)
theorem dX5_next_168 : decode cX5_next 168 = .ok (.getfield 19, 3) := dk_180 0 19 (dk_at dksX5_next_7 7 rfl rfl)
theorem dX5_next_171 : decode cX5_next 171 = .ok (.iconst 1, 1) := dk_4 (dk_at dksX5_next_7 10 rfl rfl)
theorem dX5_next_172 : decode cX5_next 172 = .ok (.iadd, 1) := dk_96 (dk_at dksX5_next_7 11 rfl rfl)
theorem dX5_next_173 : decode cX5_next 173 = .ok (.putfield 19, 3) := dk_181 0 19 (dk_at dksX5_next_7 12 rfl rfl)
theorem dX5_next_176 : decode cX5_next 176 = .ok (.return_, 1) := dk_177 (dk_at dksX5_next_7 15 rfl rfl)
abbrev cX5_peek : ByteArray := prog_17_method_3_code
def yX5_peek : MethodName := ⟨RX5, "peek", "()I"⟩
def dkwX5_peek_1 : List UInt8 := [180, 0, 19, 51, 17, 0, 255, 126, 167, 0, 4, 2, 172]
abbrev dktX5_peek_1 : List UInt8 := dkwX5_peek_1 ++ []
def dkwX5_peek_0 : List UInt8 := [42, 180, 0, 19, 42, 180, 0, 3, 180, 0, 25, 162, 0, 22, 42, 180, 0, 3, 180, 0, 28, 42]
abbrev dktX5_peek_0 : List UInt8 := dkwX5_peek_0 ++ dktX5_peek_1
theorem dksX5_peek_0 : cX5_peek.data.toList.drop 0 = dktX5_peek_0 := by decide +kernel
theorem dksX5_peek_1 : cX5_peek.data.toList.drop 22 = dktX5_peek_1 := dk_seg dksX5_peek_0 22 rfl rfl
theorem dX5_peek_0 : decode cX5_peek 0 = .ok (.aload_n 0, 1) := dk_42 (dk_at dksX5_peek_0 0 rfl rfl)
theorem dX5_peek_1 : decode cX5_peek 1 = .ok (.getfield 19, 3) := dk_180 0 19 (dk_at dksX5_peek_0 1 rfl rfl)
theorem dX5_peek_4 : decode cX5_peek 4 = .ok (.aload_n 0, 1) := dk_42 (dk_at dksX5_peek_0 4 rfl rfl)
theorem dX5_peek_5 : decode cX5_peek 5 = .ok (.getfield 3, 3) := dk_180 0 3 (dk_at dksX5_peek_0 5 rfl rfl)
theorem dX5_peek_8 : decode cX5_peek 8 = .ok (.getfield 25, 3) := dk_180 0 25 (dk_at dksX5_peek_0 8 rfl rfl)
theorem dX5_peek_11 : decode cX5_peek 11 = .ok (.if_icmp .ge 22, 3) := dk_162 0 22 (dk_at dksX5_peek_0 11 rfl rfl)
theorem dX5_peek_14 : decode cX5_peek 14 = .ok (.aload_n 0, 1) := dk_42 (dk_at dksX5_peek_0 14 rfl rfl)
theorem dX5_peek_15 : decode cX5_peek 15 = .ok (.getfield 3, 3) := dk_180 0 3 (dk_at dksX5_peek_0 15 rfl rfl)
theorem dX5_peek_18 : decode cX5_peek 18 = .ok (.getfield 28, 3) := dk_180 0 28 (dk_at dksX5_peek_0 18 rfl rfl)
theorem dX5_peek_21 : decode cX5_peek 21 = .ok (.aload_n 0, 1) := dk_42 (dk_at dksX5_peek_0 21 rfl rfl)
theorem dX5_peek_22 : decode cX5_peek 22 = .ok (.getfield 19, 3) := dk_180 0 19 (dk_at dksX5_peek_1 0 rfl rfl)
theorem dX5_peek_25 : decode cX5_peek 25 = .ok (.baload, 1) := dk_51 (dk_at dksX5_peek_1 3 rfl rfl)
theorem dX5_peek_26 : decode cX5_peek 26 = .ok (.sipush 255, 3) := dk_17 0 255 (dk_at dksX5_peek_1 4 rfl rfl)
theorem dX5_peek_29 : decode cX5_peek 29 = .ok (.iand, 1) := dk_126 (dk_at dksX5_peek_1 7 rfl rfl)
theorem dX5_peek_30 : decode cX5_peek 30 = .ok (.goto 4, 3) := dk_167 0 4 (dk_at dksX5_peek_1 8 rfl rfl)
theorem dX5_peek_33 : decode cX5_peek 33 = .ok (.iconst (-1), 1) := dk_2 (dk_at dksX5_peek_1 11 rfl rfl)
theorem dX5_peek_34 : decode cX5_peek 34 = .ok (.ireturn, 1) := dk_172 (dk_at dksX5_peek_1 12 rfl rfl)
abbrev cX5_isLetter : ByteArray := prog_17_method_4_code
def yX5_isLetter : MethodName := ⟨RX5, "isLetter", "(I)Z"⟩
def dkwX5_isLetter_0 : List UInt8 := [27, 16, 97, 16, 122, 184, 0, 32, 172]
abbrev dktX5_isLetter_0 : List UInt8 := dkwX5_isLetter_0 ++ []
theorem dksX5_isLetter_0 : cX5_isLetter.data.toList.drop 0 = dktX5_isLetter_0 := by decide +kernel
theorem dX5_isLetter_0 : decode cX5_isLetter 0 = .ok (.iload_n 1, 1) := dk_27 (dk_at dksX5_isLetter_0 0 rfl rfl)
theorem dX5_isLetter_1 : decode cX5_isLetter 1 = .ok (.bipush 97, 2) := dk_16 97 (dk_at dksX5_isLetter_0 1 rfl rfl)
theorem dX5_isLetter_3 : decode cX5_isLetter 3 = .ok (.bipush 122, 2) := dk_16 122 (dk_at dksX5_isLetter_0 3 rfl rfl)
theorem dX5_isLetter_5 : decode cX5_isLetter 5 = .ok (.invokestatic 32, 3) := dk_184 0 32 (dk_at dksX5_isLetter_0 5 rfl rfl)
theorem dX5_isLetter_8 : decode cX5_isLetter 8 = .ok (.ireturn, 1) := dk_172 (dk_at dksX5_isLetter_0 8 rfl rfl)
abbrev cX5_isDigit : ByteArray := prog_17_method_5_code
def yX5_isDigit : MethodName := ⟨RX5, "isDigit", "(I)Z"⟩
def dkwX5_isDigit_0 : List UInt8 := [27, 16, 48, 16, 57, 184, 0, 32, 172]
abbrev dktX5_isDigit_0 : List UInt8 := dkwX5_isDigit_0 ++ []
theorem dksX5_isDigit_0 : cX5_isDigit.data.toList.drop 0 = dktX5_isDigit_0 := by decide +kernel
theorem dX5_isDigit_0 : decode cX5_isDigit 0 = .ok (.iload_n 1, 1) := dk_27 (dk_at dksX5_isDigit_0 0 rfl rfl)
theorem dX5_isDigit_1 : decode cX5_isDigit 1 = .ok (.bipush 48, 2) := dk_16 48 (dk_at dksX5_isDigit_0 1 rfl rfl)
theorem dX5_isDigit_3 : decode cX5_isDigit 3 = .ok (.bipush 57, 2) := dk_16 57 (dk_at dksX5_isDigit_0 3 rfl rfl)
theorem dX5_isDigit_5 : decode cX5_isDigit 5 = .ok (.invokestatic 32, 3) := dk_184 0 32 (dk_at dksX5_isDigit_0 5 rfl rfl)
theorem dX5_isDigit_8 : decode cX5_isDigit 8 = .ok (.ireturn, 1) := dk_172 (dk_at dksX5_isDigit_0 8 rfl rfl)
abbrev cX5_run : ByteArray := prog_17_method_7_code
def yX5_run : MethodName := ⟨RX5, "run", "(Z)V"⟩
def dkwX5_run_7 : List UInt8 := [164, 0, 7, 7, 167, 0, 12, 27, 153, 0, 7, 4, 167, 0, 4, 5, 181, 0, 43, 177]
abbrev dktX5_run_7 : List UInt8 := dkwX5_run_7 ++ []
def dkwX5_run_6 : List UInt8 := [181, 0, 64, 42, 28, 153, 0, 20, 42, 180, 0, 64, 27, 153, 0, 8, 16, 6, 167, 0, 4, 6]
abbrev dktX5_run_6 : List UInt8 := dkwX5_run_6 ++ dktX5_run_7
def dkwX5_run_5 : List UInt8 := [42, 89, 180, 0, 19, 4, 96, 181, 0, 19, 167, 255, 139, 42, 42, 180, 0, 19, 42, 180, 0, 40, 100]
abbrev dktX5_run_5 : List UInt8 := dkwX5_run_5 ++ dktX5_run_6
def dkwX5_run_4 : List UInt8 := [100, 6, 162, 0, 22, 42, 16, 10, 42, 180, 0, 57, 104, 42, 182, 0, 36, 96, 16, 48, 100, 181, 0, 57]
abbrev dktX5_run_4 : List UInt8 := dkwX5_run_4 ++ dktX5_run_5
def dkwX5_run_3 : List UInt8 := [42, 180, 0, 60, 16, 8, 121, 42, 182, 0, 36, 133, 129, 181, 0, 60, 42, 180, 0, 19, 42, 180, 0, 40]
abbrev dktX5_run_3 : List UInt8 := dkwX5_run_3 ++ dktX5_run_4
def dkwX5_run_2 : List UInt8 := [160, 0, 7, 4, 167, 0, 4, 3, 61, 42, 180, 0, 19, 42, 180, 0, 40, 100, 16, 6, 162, 0, 20, 42]
abbrev dktX5_run_2 : List UInt8 := dkwX5_run_2 ++ dktX5_run_3
def dkwX5_run_1 : List UInt8 := [42, 182, 0, 36, 182, 0, 50, 153, 0, 101, 28, 153, 0, 19, 42, 42, 182, 0, 36, 182, 0, 46, 27]
abbrev dktX5_run_1 : List UInt8 := dkwX5_run_1 ++ dktX5_run_2
def dkwX5_run_0 : List UInt8 := [4, 61, 42, 3, 181, 0, 57, 42, 9, 181, 0, 60, 42, 42, 182, 0, 36, 182, 0, 46, 154, 0, 14, 42]
abbrev dktX5_run_0 : List UInt8 := dkwX5_run_0 ++ dktX5_run_1
theorem dksX5_run_0 : cX5_run.data.toList.drop 0 = dktX5_run_0 := by decide +kernel
theorem dksX5_run_1 : cX5_run.data.toList.drop 24 = dktX5_run_1 := dk_seg dksX5_run_0 24 rfl rfl
theorem dksX5_run_2 : cX5_run.data.toList.drop 47 = dktX5_run_2 := dk_seg dksX5_run_1 23 rfl rfl
theorem dksX5_run_3 : cX5_run.data.toList.drop 71 = dktX5_run_3 := dk_seg dksX5_run_2 24 rfl rfl
theorem dksX5_run_4 : cX5_run.data.toList.drop 95 = dktX5_run_4 := dk_seg dksX5_run_3 24 rfl rfl
theorem dksX5_run_5 : cX5_run.data.toList.drop 119 = dktX5_run_5 := dk_seg dksX5_run_4 24 rfl rfl
theorem dksX5_run_6 : cX5_run.data.toList.drop 142 = dktX5_run_6 := dk_seg dksX5_run_5 23 rfl rfl
theorem dksX5_run_7 : cX5_run.data.toList.drop 164 = dktX5_run_7 := dk_seg dksX5_run_6 22 rfl rfl
theorem dX5_run_0 : decode cX5_run 0 = .ok (.iconst 1, 1) := dk_4 (dk_at dksX5_run_0 0 rfl rfl)
theorem dX5_run_1 : decode cX5_run 1 = .ok (.istore_n 2, 1) := dk_61 (dk_at dksX5_run_0 1 rfl rfl)
theorem dX5_run_2 : decode cX5_run 2 = .ok (.aload_n 0, 1) := dk_42 (dk_at dksX5_run_0 2 rfl rfl)
theorem dX5_run_3 : decode cX5_run 3 = .ok (.iconst 0, 1) := dk_3 (dk_at dksX5_run_0 3 rfl rfl)
theorem dX5_run_4 : decode cX5_run 4 = .ok (.putfield 57, 3) := dk_181 0 57 (dk_at dksX5_run_0 4 rfl rfl)
theorem dX5_run_7 : decode cX5_run 7 = .ok (.aload_n 0, 1) := dk_42 (dk_at dksX5_run_0 7 rfl rfl)
theorem dX5_run_8 : decode cX5_run 8 = .ok (.lconst 0, 1) := dk_9 (dk_at dksX5_run_0 8 rfl rfl)
theorem dX5_run_9 : decode cX5_run 9 = .ok (.putfield 60, 3) := dk_181 0 60 (dk_at dksX5_run_0 9 rfl rfl)
theorem dX5_run_12 : decode cX5_run 12 = .ok (.aload_n 0, 1) := dk_42 (dk_at dksX5_run_0 12 rfl rfl)
theorem dX5_run_13 : decode cX5_run 13 = .ok (.aload_n 0, 1) := dk_42 (dk_at dksX5_run_0 13 rfl rfl)
theorem dX5_run_14 : decode cX5_run 14 = .ok (.invokevirtual 36, 3) := dk_182 0 36 (dk_at dksX5_run_0 14 rfl rfl)
theorem dX5_run_17 : decode cX5_run 17 = .ok (.invokevirtual 46, 3) := dk_182 0 46 (dk_at dksX5_run_0 17 rfl rfl)
theorem dX5_run_20 : decode cX5_run 20 = .ok (.ifCond .ne 14, 3) := dk_154 0 14 (dk_at dksX5_run_0 20 rfl rfl)
theorem dX5_run_23 : decode cX5_run 23 = .ok (.aload_n 0, 1) := dk_42 (dk_at dksX5_run_0 23 rfl rfl)
theorem dX5_run_24 : decode cX5_run 24 = .ok (.aload_n 0, 1) := dk_42 (dk_at dksX5_run_1 0 rfl rfl)
theorem dX5_run_25 : decode cX5_run 25 = .ok (.invokevirtual 36, 3) := dk_182 0 36 (dk_at dksX5_run_1 1 rfl rfl)
theorem dX5_run_28 : decode cX5_run 28 = .ok (.invokevirtual 50, 3) := dk_182 0 50 (dk_at dksX5_run_1 4 rfl rfl)
theorem dX5_run_31 : decode cX5_run 31 = .ok (.ifCond .eq 101, 3) := dk_153 0 101 (dk_at dksX5_run_1 7 rfl rfl)
theorem dX5_run_34 : decode cX5_run 34 = .ok (.iload_n 2, 1) := dk_28 (dk_at dksX5_run_1 10 rfl rfl)
theorem dX5_run_35 : decode cX5_run 35 = .ok (.ifCond .eq 19, 3) := dk_153 0 19 (dk_at dksX5_run_1 11 rfl rfl)
theorem dX5_run_38 : decode cX5_run 38 = .ok (.aload_n 0, 1) := dk_42 (dk_at dksX5_run_1 14 rfl rfl)
theorem dX5_run_39 : decode cX5_run 39 = .ok (.aload_n 0, 1) := dk_42 (dk_at dksX5_run_1 15 rfl rfl)
theorem dX5_run_40 : decode cX5_run 40 = .ok (.invokevirtual 36, 3) := dk_182 0 36 (dk_at dksX5_run_1 16 rfl rfl)
theorem dX5_run_43 : decode cX5_run 43 = .ok (.invokevirtual 46, 3) := dk_182 0 46 (dk_at dksX5_run_1 19 rfl rfl)
theorem dX5_run_46 : decode cX5_run 46 = .ok (.iload_n 1, 1) := dk_27 (dk_at dksX5_run_1 22 rfl rfl)
theorem dX5_run_47 : decode cX5_run 47 = .ok (.if_icmp .ne 7, 3) := dk_160 0 7 (dk_at dksX5_run_2 0 rfl rfl)
theorem dX5_run_50 : decode cX5_run 50 = .ok (.iconst 1, 1) := dk_4 (dk_at dksX5_run_2 3 rfl rfl)
theorem dX5_run_51 : decode cX5_run 51 = .ok (.goto 4, 3) := dk_167 0 4 (dk_at dksX5_run_2 4 rfl rfl)
theorem dX5_run_54 : decode cX5_run 54 = .ok (.iconst 0, 1) := dk_3 (dk_at dksX5_run_2 7 rfl rfl)
theorem dX5_run_55 : decode cX5_run 55 = .ok (.istore_n 2, 1) := dk_61 (dk_at dksX5_run_2 8 rfl rfl)
theorem dX5_run_56 : decode cX5_run 56 = .ok (.aload_n 0, 1) := dk_42 (dk_at dksX5_run_2 9 rfl rfl)
theorem dX5_run_57 : decode cX5_run 57 = .ok (.getfield 19, 3) := dk_180 0 19 (dk_at dksX5_run_2 10 rfl rfl)
theorem dX5_run_60 : decode cX5_run 60 = .ok (.aload_n 0, 1) := dk_42 (dk_at dksX5_run_2 13 rfl rfl)
theorem dX5_run_61 : decode cX5_run 61 = .ok (.getfield 40, 3) := dk_180 0 40 (dk_at dksX5_run_2 14 rfl rfl)
theorem dX5_run_64 : decode cX5_run 64 = .ok (.isub, 1) := dk_100 (dk_at dksX5_run_2 17 rfl rfl)
theorem dX5_run_65 : decode cX5_run 65 = .ok (.bipush 6, 2) := dk_16 6 (dk_at dksX5_run_2 18 rfl rfl)
theorem dX5_run_67 : decode cX5_run 67 = .ok (.if_icmp .ge 20, 3) := dk_162 0 20 (dk_at dksX5_run_2 20 rfl rfl)
theorem dX5_run_70 : decode cX5_run 70 = .ok (.aload_n 0, 1) := dk_42 (dk_at dksX5_run_2 23 rfl rfl)
theorem dX5_run_71 : decode cX5_run 71 = .ok (.aload_n 0, 1) := dk_42 (dk_at dksX5_run_3 0 rfl rfl)
theorem dX5_run_72 : decode cX5_run 72 = .ok (.getfield 60, 3) := dk_180 0 60 (dk_at dksX5_run_3 1 rfl rfl)
theorem dX5_run_75 : decode cX5_run 75 = .ok (.bipush 8, 2) := dk_16 8 (dk_at dksX5_run_3 4 rfl rfl)
theorem dX5_run_77 : decode cX5_run 77 = .ok (.lshl, 1) := dk_121 (dk_at dksX5_run_3 6 rfl rfl)
theorem dX5_run_78 : decode cX5_run 78 = .ok (.aload_n 0, 1) := dk_42 (dk_at dksX5_run_3 7 rfl rfl)
theorem dX5_run_79 : decode cX5_run 79 = .ok (.invokevirtual 36, 3) := dk_182 0 36 (dk_at dksX5_run_3 8 rfl rfl)
theorem dX5_run_82 : decode cX5_run 82 = .ok (.i2l, 1) := dk_133 (dk_at dksX5_run_3 11 rfl rfl)
theorem dX5_run_83 : decode cX5_run 83 = .ok (.lor, 1) := dk_129 (dk_at dksX5_run_3 12 rfl rfl)
theorem dX5_run_84 : decode cX5_run 84 = .ok (.putfield 60, 3) := dk_181 0 60 (dk_at dksX5_run_3 13 rfl rfl)
theorem dX5_run_87 : decode cX5_run 87 = .ok (.aload_n 0, 1) := dk_42 (dk_at dksX5_run_3 16 rfl rfl)
theorem dX5_run_88 : decode cX5_run 88 = .ok (.getfield 19, 3) := dk_180 0 19 (dk_at dksX5_run_3 17 rfl rfl)
theorem dX5_run_91 : decode cX5_run 91 = .ok (.aload_n 0, 1) := dk_42 (dk_at dksX5_run_3 20 rfl rfl)
theorem dX5_run_92 : decode cX5_run 92 = .ok (.getfield 40, 3) := dk_180 0 40 (dk_at dksX5_run_3 21 rfl rfl)
theorem dX5_run_95 : decode cX5_run 95 = .ok (.isub, 1) := dk_100 (dk_at dksX5_run_4 0 rfl rfl)
theorem dX5_run_96 : decode cX5_run 96 = .ok (.iconst 3, 1) := dk_6 (dk_at dksX5_run_4 1 rfl rfl)
theorem dX5_run_97 : decode cX5_run 97 = .ok (.if_icmp .ge 22, 3) := dk_162 0 22 (dk_at dksX5_run_4 2 rfl rfl)
theorem dX5_run_100 : decode cX5_run 100 = .ok (.aload_n 0, 1) := dk_42 (dk_at dksX5_run_4 5 rfl rfl)
theorem dX5_run_101 : decode cX5_run 101 = .ok (.bipush 10, 2) := dk_16 10 (dk_at dksX5_run_4 6 rfl rfl)
theorem dX5_run_103 : decode cX5_run 103 = .ok (.aload_n 0, 1) := dk_42 (dk_at dksX5_run_4 8 rfl rfl)
theorem dX5_run_104 : decode cX5_run 104 = .ok (.getfield 57, 3) := dk_180 0 57 (dk_at dksX5_run_4 9 rfl rfl)
theorem dX5_run_107 : decode cX5_run 107 = .ok (.imul, 1) := dk_104 (dk_at dksX5_run_4 12 rfl rfl)
theorem dX5_run_108 : decode cX5_run 108 = .ok (.aload_n 0, 1) := dk_42 (dk_at dksX5_run_4 13 rfl rfl)
theorem dX5_run_109 : decode cX5_run 109 = .ok (.invokevirtual 36, 3) := dk_182 0 36 (dk_at dksX5_run_4 14 rfl rfl)
theorem dX5_run_112 : decode cX5_run 112 = .ok (.iadd, 1) := dk_96 (dk_at dksX5_run_4 17 rfl rfl)
theorem dX5_run_113 : decode cX5_run 113 = .ok (.bipush 48, 2) := dk_16 48 (dk_at dksX5_run_4 18 rfl rfl)
theorem dX5_run_115 : decode cX5_run 115 = .ok (.isub, 1) := dk_100 (dk_at dksX5_run_4 20 rfl rfl)
theorem dX5_run_116 : decode cX5_run 116 = .ok (.putfield 57, 3) := dk_181 0 57 (dk_at dksX5_run_4 21 rfl rfl)
theorem dX5_run_119 : decode cX5_run 119 = .ok (.aload_n 0, 1) := dk_42 (dk_at dksX5_run_5 0 rfl rfl)
theorem dX5_run_120 : decode cX5_run 120 = .ok (.dup, 1) := dk_89 (dk_at dksX5_run_5 1 rfl rfl)
theorem dX5_run_121 : decode cX5_run 121 = .ok (.getfield 19, 3) := dk_180 0 19 (dk_at dksX5_run_5 2 rfl rfl)
theorem dX5_run_124 : decode cX5_run 124 = .ok (.iconst 1, 1) := dk_4 (dk_at dksX5_run_5 5 rfl rfl)
theorem dX5_run_125 : decode cX5_run 125 = .ok (.iadd, 1) := dk_96 (dk_at dksX5_run_5 6 rfl rfl)
theorem dX5_run_126 : decode cX5_run 126 = .ok (.putfield 19, 3) := dk_181 0 19 (dk_at dksX5_run_5 7 rfl rfl)
theorem dX5_run_129 : decode cX5_run 129 = .ok (.goto (-117), 3) := dk_167 255 139 (dk_at dksX5_run_5 10 rfl rfl)
theorem dX5_run_132 : decode cX5_run 132 = .ok (.aload_n 0, 1) := dk_42 (dk_at dksX5_run_5 13 rfl rfl)
theorem dX5_run_133 : decode cX5_run 133 = .ok (.aload_n 0, 1) := dk_42 (dk_at dksX5_run_5 14 rfl rfl)
theorem dX5_run_134 : decode cX5_run 134 = .ok (.getfield 19, 3) := dk_180 0 19 (dk_at dksX5_run_5 15 rfl rfl)
theorem dX5_run_137 : decode cX5_run 137 = .ok (.aload_n 0, 1) := dk_42 (dk_at dksX5_run_5 18 rfl rfl)
theorem dX5_run_138 : decode cX5_run 138 = .ok (.getfield 40, 3) := dk_180 0 40 (dk_at dksX5_run_5 19 rfl rfl)
theorem dX5_run_141 : decode cX5_run 141 = .ok (.isub, 1) := dk_100 (dk_at dksX5_run_5 22 rfl rfl)
theorem dX5_run_142 : decode cX5_run 142 = .ok (.putfield 64, 3) := dk_181 0 64 (dk_at dksX5_run_6 0 rfl rfl)
theorem dX5_run_145 : decode cX5_run 145 = .ok (.aload_n 0, 1) := dk_42 (dk_at dksX5_run_6 3 rfl rfl)
theorem dX5_run_146 : decode cX5_run 146 = .ok (.iload_n 2, 1) := dk_28 (dk_at dksX5_run_6 4 rfl rfl)
theorem dX5_run_147 : decode cX5_run 147 = .ok (.ifCond .eq 20, 3) := dk_153 0 20 (dk_at dksX5_run_6 5 rfl rfl)
theorem dX5_run_150 : decode cX5_run 150 = .ok (.aload_n 0, 1) := dk_42 (dk_at dksX5_run_6 8 rfl rfl)
theorem dX5_run_151 : decode cX5_run 151 = .ok (.getfield 64, 3) := dk_180 0 64 (dk_at dksX5_run_6 9 rfl rfl)
theorem dX5_run_154 : decode cX5_run 154 = .ok (.iload_n 1, 1) := dk_27 (dk_at dksX5_run_6 12 rfl rfl)
theorem dX5_run_155 : decode cX5_run 155 = .ok (.ifCond .eq 8, 3) := dk_153 0 8 (dk_at dksX5_run_6 13 rfl rfl)
theorem dX5_run_158 : decode cX5_run 158 = .ok (.bipush 6, 2) := dk_16 6 (dk_at dksX5_run_6 16 rfl rfl)
theorem dX5_run_160 : decode cX5_run 160 = .ok (.goto 4, 3) := dk_167 0 4 (dk_at dksX5_run_6 18 rfl rfl)
theorem dX5_run_163 : decode cX5_run 163 = .ok (.iconst 3, 1) := dk_6 (dk_at dksX5_run_6 21 rfl rfl)
theorem dX5_run_164 : decode cX5_run 164 = .ok (.if_icmp .le 7, 3) := dk_164 0 7 (dk_at dksX5_run_7 0 rfl rfl)
theorem dX5_run_167 : decode cX5_run 167 = .ok (.iconst 4, 1) := dk_7 (dk_at dksX5_run_7 3 rfl rfl)
theorem dX5_run_168 : decode cX5_run 168 = .ok (.goto 12, 3) := dk_167 0 12 (dk_at dksX5_run_7 4 rfl rfl)
theorem dX5_run_171 : decode cX5_run 171 = .ok (.iload_n 1, 1) := dk_27 (dk_at dksX5_run_7 7 rfl rfl)
theorem dX5_run_172 : decode cX5_run 172 = .ok (.ifCond .eq 7, 3) := dk_153 0 7 (dk_at dksX5_run_7 8 rfl rfl)
theorem dX5_run_175 : decode cX5_run 175 = .ok (.iconst 1, 1) := dk_4 (dk_at dksX5_run_7 11 rfl rfl)
theorem dX5_run_176 : decode cX5_run 176 = .ok (.goto 4, 3) := dk_167 0 4 (dk_at dksX5_run_7 12 rfl rfl)
theorem dX5_run_179 : decode cX5_run 179 = .ok (.iconst 2, 1) := dk_5 (dk_at dksX5_run_7 15 rfl rfl)
theorem dX5_run_180 : decode cX5_run 180 = .ok (.putfield 43, 3) := dk_181 0 43 (dk_at dksX5_run_7 16 rfl rfl)
theorem dX5_run_183 : decode cX5_run 183 = .ok (.return_, 1) := dk_177 (dk_at dksX5_run_7 19 rfl rfl)
abbrev cX5_find : ByteArray := prog_17_method_10_code
def yX5_find : MethodName := ⟨RX5, "find", "([Ljava/lang/String;)I"⟩
def dkwX5_find_1 : List UInt8 := [167, 255, 235, 2, 172]
abbrev dktX5_find_1 : List UInt8 := dkwX5_find_1 ++ []
def dkwX5_find_0 : List UInt8 := [3, 61, 28, 43, 190, 162, 0, 21, 42, 43, 28, 50, 182, 0, 76, 153, 0, 5, 28, 172, 132, 2, 1]
abbrev dktX5_find_0 : List UInt8 := dkwX5_find_0 ++ dktX5_find_1
theorem dksX5_find_0 : cX5_find.data.toList.drop 0 = dktX5_find_0 := by decide +kernel
theorem dksX5_find_1 : cX5_find.data.toList.drop 23 = dktX5_find_1 := dk_seg dksX5_find_0 23 rfl rfl
theorem dX5_find_0 : decode cX5_find 0 = .ok (.iconst 0, 1) := dk_3 (dk_at dksX5_find_0 0 rfl rfl)
theorem dX5_find_1 : decode cX5_find 1 = .ok (.istore_n 2, 1) := dk_61 (dk_at dksX5_find_0 1 rfl rfl)
theorem dX5_find_2 : decode cX5_find 2 = .ok (.iload_n 2, 1) := dk_28 (dk_at dksX5_find_0 2 rfl rfl)
theorem dX5_find_3 : decode cX5_find 3 = .ok (.aload_n 1, 1) := dk_43 (dk_at dksX5_find_0 3 rfl rfl)
theorem dX5_find_4 : decode cX5_find 4 = .ok (.arraylength, 1) := dk_190 (dk_at dksX5_find_0 4 rfl rfl)
theorem dX5_find_5 : decode cX5_find 5 = .ok (.if_icmp .ge 21, 3) := dk_162 0 21 (dk_at dksX5_find_0 5 rfl rfl)
theorem dX5_find_8 : decode cX5_find 8 = .ok (.aload_n 0, 1) := dk_42 (dk_at dksX5_find_0 8 rfl rfl)
theorem dX5_find_9 : decode cX5_find 9 = .ok (.aload_n 1, 1) := dk_43 (dk_at dksX5_find_0 9 rfl rfl)
theorem dX5_find_10 : decode cX5_find 10 = .ok (.iload_n 2, 1) := dk_28 (dk_at dksX5_find_0 10 rfl rfl)
theorem dX5_find_11 : decode cX5_find 11 = .ok (.aaload, 1) := dk_50 (dk_at dksX5_find_0 11 rfl rfl)
theorem dX5_find_12 : decode cX5_find 12 = .ok (.invokevirtual 76, 3) := dk_182 0 76 (dk_at dksX5_find_0 12 rfl rfl)
theorem dX5_find_15 : decode cX5_find 15 = .ok (.ifCond .eq 5, 3) := dk_153 0 5 (dk_at dksX5_find_0 15 rfl rfl)
theorem dX5_find_18 : decode cX5_find 18 = .ok (.iload_n 2, 1) := dk_28 (dk_at dksX5_find_0 18 rfl rfl)
theorem dX5_find_19 : decode cX5_find 19 = .ok (.ireturn, 1) := dk_172 (dk_at dksX5_find_0 19 rfl rfl)
theorem dX5_find_20 : decode cX5_find 20 = .ok (.iinc 2 1, 3) := dk_132 2 1 (dk_at dksX5_find_0 20 rfl rfl)
theorem dX5_find_23 : decode cX5_find 23 = .ok (.goto (-21), 3) := dk_167 255 235 (dk_at dksX5_find_1 0 rfl rfl)
theorem dX5_find_26 : decode cX5_find 26 = .ok (.iconst (-1), 1) := dk_2 (dk_at dksX5_find_1 3 rfl rfl)
theorem dX5_find_27 : decode cX5_find 27 = .ok (.ireturn, 1) := dk_172 (dk_at dksX5_find_1 4 rfl rfl)
abbrev cX5_is : ByteArray := prog_17_method_8_code
def yX5_is : MethodName := ⟨RX5, "is", "(Ljava/lang/String;)Z"⟩
def dkwX5_is_2 : List UInt8 := [182, 0, 72, 159, 0, 5, 3, 172, 132, 2, 1, 167, 255, 221, 4, 172]
abbrev dktX5_is_2 : List UInt8 := dkwX5_is_2 ++ []
def dkwX5_is_1 : List UInt8 := [42, 180, 0, 64, 162, 0, 33, 42, 180, 0, 3, 180, 0, 28, 42, 180, 0, 40, 28, 96, 51, 43, 28]
abbrev dktX5_is_1 : List UInt8 := dkwX5_is_1 ++ dktX5_is_2
def dkwX5_is_0 : List UInt8 := [42, 180, 0, 43, 4, 160, 0, 14, 42, 180, 0, 64, 43, 182, 0, 67, 159, 0, 5, 3, 172, 3, 61, 28]
abbrev dktX5_is_0 : List UInt8 := dkwX5_is_0 ++ dktX5_is_1
theorem dksX5_is_0 : cX5_is.data.toList.drop 0 = dktX5_is_0 := by decide +kernel
theorem dksX5_is_1 : cX5_is.data.toList.drop 24 = dktX5_is_1 := dk_seg dksX5_is_0 24 rfl rfl
theorem dksX5_is_2 : cX5_is.data.toList.drop 47 = dktX5_is_2 := dk_seg dksX5_is_1 23 rfl rfl
theorem dX5_is_0 : decode cX5_is 0 = .ok (.aload_n 0, 1) := dk_42 (dk_at dksX5_is_0 0 rfl rfl)
theorem dX5_is_1 : decode cX5_is 1 = .ok (.getfield 43, 3) := dk_180 0 43 (dk_at dksX5_is_0 1 rfl rfl)
theorem dX5_is_4 : decode cX5_is 4 = .ok (.iconst 1, 1) := dk_4 (dk_at dksX5_is_0 4 rfl rfl)
theorem dX5_is_5 : decode cX5_is 5 = .ok (.if_icmp .ne 14, 3) := dk_160 0 14 (dk_at dksX5_is_0 5 rfl rfl)
theorem dX5_is_8 : decode cX5_is 8 = .ok (.aload_n 0, 1) := dk_42 (dk_at dksX5_is_0 8 rfl rfl)
theorem dX5_is_9 : decode cX5_is 9 = .ok (.getfield 64, 3) := dk_180 0 64 (dk_at dksX5_is_0 9 rfl rfl)
theorem dX5_is_12 : decode cX5_is 12 = .ok (.aload_n 1, 1) := dk_43 (dk_at dksX5_is_0 12 rfl rfl)
theorem dX5_is_13 : decode cX5_is 13 = .ok (.invokevirtual 67, 3) := dk_182 0 67 (dk_at dksX5_is_0 13 rfl rfl)
theorem dX5_is_16 : decode cX5_is 16 = .ok (.if_icmp .eq 5, 3) := dk_159 0 5 (dk_at dksX5_is_0 16 rfl rfl)
theorem dX5_is_19 : decode cX5_is 19 = .ok (.iconst 0, 1) := dk_3 (dk_at dksX5_is_0 19 rfl rfl)
theorem dX5_is_20 : decode cX5_is 20 = .ok (.ireturn, 1) := dk_172 (dk_at dksX5_is_0 20 rfl rfl)
theorem dX5_is_21 : decode cX5_is 21 = .ok (.iconst 0, 1) := dk_3 (dk_at dksX5_is_0 21 rfl rfl)
theorem dX5_is_22 : decode cX5_is 22 = .ok (.istore_n 2, 1) := dk_61 (dk_at dksX5_is_0 22 rfl rfl)
theorem dX5_is_23 : decode cX5_is 23 = .ok (.iload_n 2, 1) := dk_28 (dk_at dksX5_is_0 23 rfl rfl)
theorem dX5_is_24 : decode cX5_is 24 = .ok (.aload_n 0, 1) := dk_42 (dk_at dksX5_is_1 0 rfl rfl)
theorem dX5_is_25 : decode cX5_is 25 = .ok (.getfield 64, 3) := dk_180 0 64 (dk_at dksX5_is_1 1 rfl rfl)
theorem dX5_is_28 : decode cX5_is 28 = .ok (.if_icmp .ge 33, 3) := dk_162 0 33 (dk_at dksX5_is_1 4 rfl rfl)
theorem dX5_is_31 : decode cX5_is 31 = .ok (.aload_n 0, 1) := dk_42 (dk_at dksX5_is_1 7 rfl rfl)
theorem dX5_is_32 : decode cX5_is 32 = .ok (.getfield 3, 3) := dk_180 0 3 (dk_at dksX5_is_1 8 rfl rfl)
theorem dX5_is_35 : decode cX5_is 35 = .ok (.getfield 28, 3) := dk_180 0 28 (dk_at dksX5_is_1 11 rfl rfl)
theorem dX5_is_38 : decode cX5_is 38 = .ok (.aload_n 0, 1) := dk_42 (dk_at dksX5_is_1 14 rfl rfl)
theorem dX5_is_39 : decode cX5_is 39 = .ok (.getfield 40, 3) := dk_180 0 40 (dk_at dksX5_is_1 15 rfl rfl)
theorem dX5_is_42 : decode cX5_is 42 = .ok (.iload_n 2, 1) := dk_28 (dk_at dksX5_is_1 18 rfl rfl)
theorem dX5_is_43 : decode cX5_is 43 = .ok (.iadd, 1) := dk_96 (dk_at dksX5_is_1 19 rfl rfl)
theorem dX5_is_44 : decode cX5_is 44 = .ok (.baload, 1) := dk_51 (dk_at dksX5_is_1 20 rfl rfl)
theorem dX5_is_45 : decode cX5_is 45 = .ok (.aload_n 1, 1) := dk_43 (dk_at dksX5_is_1 21 rfl rfl)
theorem dX5_is_46 : decode cX5_is 46 = .ok (.iload_n 2, 1) := dk_28 (dk_at dksX5_is_1 22 rfl rfl)
theorem dX5_is_47 : decode cX5_is 47 = .ok (.invokevirtual 72, 3) := dk_182 0 72 (dk_at dksX5_is_2 0 rfl rfl)
theorem dX5_is_50 : decode cX5_is 50 = .ok (.if_icmp .eq 5, 3) := dk_159 0 5 (dk_at dksX5_is_2 3 rfl rfl)
theorem dX5_is_53 : decode cX5_is 53 = .ok (.iconst 0, 1) := dk_3 (dk_at dksX5_is_2 6 rfl rfl)
theorem dX5_is_54 : decode cX5_is 54 = .ok (.ireturn, 1) := dk_172 (dk_at dksX5_is_2 7 rfl rfl)
theorem dX5_is_55 : decode cX5_is 55 = .ok (.iinc 2 1, 3) := dk_132 2 1 (dk_at dksX5_is_2 8 rfl rfl)
theorem dX5_is_58 : decode cX5_is 58 = .ok (.goto (-35), 3) := dk_167 255 221 (dk_at dksX5_is_2 11 rfl rfl)
theorem dX5_is_61 : decode cX5_is 61 = .ok (.iconst 1, 1) := dk_4 (dk_at dksX5_is_2 14 rfl rfl)
theorem dX5_is_62 : decode cX5_is 62 = .ok (.ireturn, 1) := dk_172 (dk_at dksX5_is_2 15 rfl rfl)
abbrev cX5_must : ByteArray := prog_17_method_13_code
def yX5_must : MethodName := ⟨RX5, "must", "(ZI)V"⟩
def dkwX5_must_0 : List UInt8 := [27, 154, 0, 9, 42, 28, 182, 0, 103, 191, 177]
abbrev dktX5_must_0 : List UInt8 := dkwX5_must_0 ++ []
theorem dksX5_must_0 : cX5_must.data.toList.drop 0 = dktX5_must_0 := by decide +kernel
theorem dX5_must_0 : decode cX5_must 0 = .ok (.iload_n 1, 1) := dk_27 (dk_at dksX5_must_0 0 rfl rfl)
theorem dX5_must_1 : decode cX5_must 1 = .ok (.ifCond .ne 9, 3) := dk_154 0 9 (dk_at dksX5_must_0 1 rfl rfl)
theorem dX5_must_4 : decode cX5_must 4 = .ok (.aload_n 0, 1) := dk_42 (dk_at dksX5_must_0 4 rfl rfl)
theorem dX5_must_5 : decode cX5_must 5 = .ok (.iload_n 2, 1) := dk_28 (dk_at dksX5_must_0 5 rfl rfl)
theorem dX5_must_6 : decode cX5_must 6 = .ok (.invokevirtual 103, 3) := dk_182 0 103 (dk_at dksX5_must_0 6 rfl rfl)
theorem dX5_must_9 : decode cX5_must 9 = .ok (.athrow, 1) := dk_191 (dk_at dksX5_must_0 9 rfl rfl)
theorem dX5_must_10 : decode cX5_must 10 = .ok (.return_, 1) := dk_177 (dk_at dksX5_must_0 10 rfl rfl)
abbrev cX5_wrong : ByteArray := prog_17_method_12_code
def yX5_wrong : MethodName := ⟨RX5, "wrong", "(I)LPanSlices$Fault;"⟩
def dkwX5_wrong_1 : List UInt8 := [181, 0, 100, 42, 180, 0, 3, 180, 0, 91, 176]
abbrev dktX5_wrong_1 : List UInt8 := dkwX5_wrong_1 ++ []
def dkwX5_wrong_0 : List UInt8 := [42, 180, 0, 3, 180, 0, 91, 27, 181, 0, 95, 42, 180, 0, 3, 180, 0, 91, 42, 180, 0, 40]
abbrev dktX5_wrong_0 : List UInt8 := dkwX5_wrong_0 ++ dktX5_wrong_1
theorem dksX5_wrong_0 : cX5_wrong.data.toList.drop 0 = dktX5_wrong_0 := by decide +kernel
theorem dksX5_wrong_1 : cX5_wrong.data.toList.drop 22 = dktX5_wrong_1 := dk_seg dksX5_wrong_0 22 rfl rfl
theorem dX5_wrong_0 : decode cX5_wrong 0 = .ok (.aload_n 0, 1) := dk_42 (dk_at dksX5_wrong_0 0 rfl rfl)
theorem dX5_wrong_1 : decode cX5_wrong 1 = .ok (.getfield 3, 3) := dk_180 0 3 (dk_at dksX5_wrong_0 1 rfl rfl)
theorem dX5_wrong_4 : decode cX5_wrong 4 = .ok (.getfield 91, 3) := dk_180 0 91 (dk_at dksX5_wrong_0 4 rfl rfl)
theorem dX5_wrong_7 : decode cX5_wrong 7 = .ok (.iload_n 1, 1) := dk_27 (dk_at dksX5_wrong_0 7 rfl rfl)
theorem dX5_wrong_8 : decode cX5_wrong 8 = .ok (.putfield 95, 3) := dk_181 0 95 (dk_at dksX5_wrong_0 8 rfl rfl)
theorem dX5_wrong_11 : decode cX5_wrong 11 = .ok (.aload_n 0, 1) := dk_42 (dk_at dksX5_wrong_0 11 rfl rfl)
theorem dX5_wrong_12 : decode cX5_wrong 12 = .ok (.getfield 3, 3) := dk_180 0 3 (dk_at dksX5_wrong_0 12 rfl rfl)
theorem dX5_wrong_15 : decode cX5_wrong 15 = .ok (.getfield 91, 3) := dk_180 0 91 (dk_at dksX5_wrong_0 15 rfl rfl)
theorem dX5_wrong_18 : decode cX5_wrong 18 = .ok (.aload_n 0, 1) := dk_42 (dk_at dksX5_wrong_0 18 rfl rfl)
theorem dX5_wrong_19 : decode cX5_wrong 19 = .ok (.getfield 40, 3) := dk_180 0 40 (dk_at dksX5_wrong_0 19 rfl rfl)
theorem dX5_wrong_22 : decode cX5_wrong 22 = .ok (.putfield 100, 3) := dk_181 0 100 (dk_at dksX5_wrong_1 0 rfl rfl)
theorem dX5_wrong_25 : decode cX5_wrong 25 = .ok (.aload_n 0, 1) := dk_42 (dk_at dksX5_wrong_1 3 rfl rfl)
theorem dX5_wrong_26 : decode cX5_wrong 26 = .ok (.getfield 3, 3) := dk_180 0 3 (dk_at dksX5_wrong_1 4 rfl rfl)
theorem dX5_wrong_29 : decode cX5_wrong 29 = .ok (.getfield 91, 3) := dk_180 0 91 (dk_at dksX5_wrong_1 7 rfl rfl)
theorem dX5_wrong_32 : decode cX5_wrong 32 = .ok (.areturn, 1) := dk_176 (dk_at dksX5_wrong_1 10 rfl rfl)
abbrev cX5_number : ByteArray := prog_17_method_15_code
def yX5_number : MethodName := ⟨RX5, "number", "(II)I"⟩
def dkwX5_number_1 : List UInt8 := [28, 184, 0, 32, 5, 182, 0, 109, 42, 180, 0, 57, 62, 42, 182, 0, 22, 29, 172]
abbrev dktX5_number_1 : List UInt8 := dkwX5_number_1 ++ []
def dkwX5_number_0 : List UInt8 := [42, 42, 180, 0, 43, 5, 160, 0, 7, 4, 167, 0, 4, 3, 4, 182, 0, 109, 42, 42, 180, 0, 57, 27]
abbrev dktX5_number_0 : List UInt8 := dkwX5_number_0 ++ dktX5_number_1
theorem dksX5_number_0 : cX5_number.data.toList.drop 0 = dktX5_number_0 := by decide +kernel
theorem dksX5_number_1 : cX5_number.data.toList.drop 24 = dktX5_number_1 := dk_seg dksX5_number_0 24 rfl rfl
theorem dX5_number_0 : decode cX5_number 0 = .ok (.aload_n 0, 1) := dk_42 (dk_at dksX5_number_0 0 rfl rfl)
theorem dX5_number_1 : decode cX5_number 1 = .ok (.aload_n 0, 1) := dk_42 (dk_at dksX5_number_0 1 rfl rfl)
theorem dX5_number_2 : decode cX5_number 2 = .ok (.getfield 43, 3) := dk_180 0 43 (dk_at dksX5_number_0 2 rfl rfl)
theorem dX5_number_5 : decode cX5_number 5 = .ok (.iconst 2, 1) := dk_5 (dk_at dksX5_number_0 5 rfl rfl)
theorem dX5_number_6 : decode cX5_number 6 = .ok (.if_icmp .ne 7, 3) := dk_160 0 7 (dk_at dksX5_number_0 6 rfl rfl)
theorem dX5_number_9 : decode cX5_number 9 = .ok (.iconst 1, 1) := dk_4 (dk_at dksX5_number_0 9 rfl rfl)
theorem dX5_number_10 : decode cX5_number 10 = .ok (.goto 4, 3) := dk_167 0 4 (dk_at dksX5_number_0 10 rfl rfl)
theorem dX5_number_13 : decode cX5_number 13 = .ok (.iconst 0, 1) := dk_3 (dk_at dksX5_number_0 13 rfl rfl)
theorem dX5_number_14 : decode cX5_number 14 = .ok (.iconst 1, 1) := dk_4 (dk_at dksX5_number_0 14 rfl rfl)
theorem dX5_number_15 : decode cX5_number 15 = .ok (.invokevirtual 109, 3) := dk_182 0 109 (dk_at dksX5_number_0 15 rfl rfl)
theorem dX5_number_18 : decode cX5_number 18 = .ok (.aload_n 0, 1) := dk_42 (dk_at dksX5_number_0 18 rfl rfl)
theorem dX5_number_19 : decode cX5_number 19 = .ok (.aload_n 0, 1) := dk_42 (dk_at dksX5_number_0 19 rfl rfl)
theorem dX5_number_20 : decode cX5_number 20 = .ok (.getfield 57, 3) := dk_180 0 57 (dk_at dksX5_number_0 20 rfl rfl)
theorem dX5_number_23 : decode cX5_number 23 = .ok (.iload_n 1, 1) := dk_27 (dk_at dksX5_number_0 23 rfl rfl)
theorem dX5_number_24 : decode cX5_number 24 = .ok (.iload_n 2, 1) := dk_28 (dk_at dksX5_number_1 0 rfl rfl)
theorem dX5_number_25 : decode cX5_number 25 = .ok (.invokestatic 32, 3) := dk_184 0 32 (dk_at dksX5_number_1 1 rfl rfl)
theorem dX5_number_28 : decode cX5_number 28 = .ok (.iconst 2, 1) := dk_5 (dk_at dksX5_number_1 4 rfl rfl)
theorem dX5_number_29 : decode cX5_number 29 = .ok (.invokevirtual 109, 3) := dk_182 0 109 (dk_at dksX5_number_1 5 rfl rfl)
theorem dX5_number_32 : decode cX5_number 32 = .ok (.aload_n 0, 1) := dk_42 (dk_at dksX5_number_1 8 rfl rfl)
theorem dX5_number_33 : decode cX5_number 33 = .ok (.getfield 57, 3) := dk_180 0 57 (dk_at dksX5_number_1 9 rfl rfl)
theorem dX5_number_36 : decode cX5_number 36 = .ok (.istore_n 3, 1) := dk_62 (dk_at dksX5_number_1 12 rfl rfl)
theorem dX5_number_37 : decode cX5_number 37 = .ok (.aload_n 0, 1) := dk_42 (dk_at dksX5_number_1 13 rfl rfl)
theorem dX5_number_38 : decode cX5_number 38 = .ok (.invokevirtual 22, 3) := dk_182 0 22 (dk_at dksX5_number_1 14 rfl rfl)
theorem dX5_number_41 : decode cX5_number 41 = .ok (.iload_n 3, 1) := dk_29 (dk_at dksX5_number_1 17 rfl rfl)
theorem dX5_number_42 : decode cX5_number 42 = .ok (.ireturn, 1) := dk_172 (dk_at dksX5_number_1 18 rfl rfl)
abbrev cX5_isName : ByteArray := prog_17_method_11_code
def yX5_isName : MethodName := ⟨RX5, "isName", "()Z"⟩
def dkwX5_isName_1 : List UInt8 := [42, 180, 0, 3, 180, 0, 88, 182, 0, 84, 2, 160, 0, 7, 4, 167, 0, 4, 3, 172]
abbrev dktX5_isName_1 : List UInt8 := dkwX5_isName_1 ++ []
def dkwX5_isName_0 : List UInt8 := [42, 180, 0, 43, 4, 160, 0, 37, 42, 42, 180, 0, 3, 180, 0, 80, 182, 0, 84, 2, 160, 0, 22, 42]
abbrev dktX5_isName_0 : List UInt8 := dkwX5_isName_0 ++ dktX5_isName_1
theorem dksX5_isName_0 : cX5_isName.data.toList.drop 0 = dktX5_isName_0 := by decide +kernel
theorem dksX5_isName_1 : cX5_isName.data.toList.drop 24 = dktX5_isName_1 := dk_seg dksX5_isName_0 24 rfl rfl
theorem dX5_isName_0 : decode cX5_isName 0 = .ok (.aload_n 0, 1) := dk_42 (dk_at dksX5_isName_0 0 rfl rfl)
theorem dX5_isName_1 : decode cX5_isName 1 = .ok (.getfield 43, 3) := dk_180 0 43 (dk_at dksX5_isName_0 1 rfl rfl)
theorem dX5_isName_4 : decode cX5_isName 4 = .ok (.iconst 1, 1) := dk_4 (dk_at dksX5_isName_0 4 rfl rfl)
theorem dX5_isName_5 : decode cX5_isName 5 = .ok (.if_icmp .ne 37, 3) := dk_160 0 37 (dk_at dksX5_isName_0 5 rfl rfl)
theorem dX5_isName_8 : decode cX5_isName 8 = .ok (.aload_n 0, 1) := dk_42 (dk_at dksX5_isName_0 8 rfl rfl)
theorem dX5_isName_9 : decode cX5_isName 9 = .ok (.aload_n 0, 1) := dk_42 (dk_at dksX5_isName_0 9 rfl rfl)
theorem dX5_isName_10 : decode cX5_isName 10 = .ok (.getfield 3, 3) := dk_180 0 3 (dk_at dksX5_isName_0 10 rfl rfl)
theorem dX5_isName_13 : decode cX5_isName 13 = .ok (.getfield 80, 3) := dk_180 0 80 (dk_at dksX5_isName_0 13 rfl rfl)
theorem dX5_isName_16 : decode cX5_isName 16 = .ok (.invokevirtual 84, 3) := dk_182 0 84 (dk_at dksX5_isName_0 16 rfl rfl)
theorem dX5_isName_19 : decode cX5_isName 19 = .ok (.iconst (-1), 1) := dk_2 (dk_at dksX5_isName_0 19 rfl rfl)
theorem dX5_isName_20 : decode cX5_isName 20 = .ok (.if_icmp .ne 22, 3) := dk_160 0 22 (dk_at dksX5_isName_0 20 rfl rfl)
theorem dX5_isName_23 : decode cX5_isName 23 = .ok (.aload_n 0, 1) := dk_42 (dk_at dksX5_isName_0 23 rfl rfl)
theorem dX5_isName_24 : decode cX5_isName 24 = .ok (.aload_n 0, 1) := dk_42 (dk_at dksX5_isName_1 0 rfl rfl)
theorem dX5_isName_25 : decode cX5_isName 25 = .ok (.getfield 3, 3) := dk_180 0 3 (dk_at dksX5_isName_1 1 rfl rfl)
theorem dX5_isName_28 : decode cX5_isName 28 = .ok (.getfield 88, 3) := dk_180 0 88 (dk_at dksX5_isName_1 4 rfl rfl)
theorem dX5_isName_31 : decode cX5_isName 31 = .ok (.invokevirtual 84, 3) := dk_182 0 84 (dk_at dksX5_isName_1 7 rfl rfl)
theorem dX5_isName_34 : decode cX5_isName 34 = .ok (.iconst (-1), 1) := dk_2 (dk_at dksX5_isName_1 10 rfl rfl)
theorem dX5_isName_35 : decode cX5_isName 35 = .ok (.if_icmp .ne 7, 3) := dk_160 0 7 (dk_at dksX5_isName_1 11 rfl rfl)
theorem dX5_isName_38 : decode cX5_isName 38 = .ok (.iconst 1, 1) := dk_4 (dk_at dksX5_isName_1 14 rfl rfl)
theorem dX5_isName_39 : decode cX5_isName 39 = .ok (.goto 4, 3) := dk_167 0 4 (dk_at dksX5_isName_1 15 rfl rfl)
theorem dX5_isName_42 : decode cX5_isName 42 = .ok (.iconst 0, 1) := dk_3 (dk_at dksX5_isName_1 18 rfl rfl)
theorem dX5_isName_43 : decode cX5_isName 43 = .ok (.ireturn, 1) := dk_172 (dk_at dksX5_isName_1 19 rfl rfl)
abbrev cX5_of : ByteArray := prog_17_method_16_code
def yX5_of : MethodName := ⟨RX5, "of", "([JI)I"⟩
def dkwX5_of_1 : List UInt8 := [167, 255, 235, 2, 172]
abbrev dktX5_of_1 : List UInt8 := dkwX5_of_1 ++ []
def dkwX5_of_0 : List UInt8 := [3, 62, 29, 28, 162, 0, 22, 43, 29, 47, 42, 180, 0, 60, 148, 154, 0, 5, 29, 172, 132, 3, 1]
abbrev dktX5_of_0 : List UInt8 := dkwX5_of_0 ++ dktX5_of_1
theorem dksX5_of_0 : cX5_of.data.toList.drop 0 = dktX5_of_0 := by decide +kernel
theorem dksX5_of_1 : cX5_of.data.toList.drop 23 = dktX5_of_1 := dk_seg dksX5_of_0 23 rfl rfl
theorem dX5_of_0 : decode cX5_of 0 = .ok (.iconst 0, 1) := dk_3 (dk_at dksX5_of_0 0 rfl rfl)
theorem dX5_of_1 : decode cX5_of 1 = .ok (.istore_n 3, 1) := dk_62 (dk_at dksX5_of_0 1 rfl rfl)
theorem dX5_of_2 : decode cX5_of 2 = .ok (.iload_n 3, 1) := dk_29 (dk_at dksX5_of_0 2 rfl rfl)
theorem dX5_of_3 : decode cX5_of 3 = .ok (.iload_n 2, 1) := dk_28 (dk_at dksX5_of_0 3 rfl rfl)
theorem dX5_of_4 : decode cX5_of 4 = .ok (.if_icmp .ge 22, 3) := dk_162 0 22 (dk_at dksX5_of_0 4 rfl rfl)
theorem dX5_of_7 : decode cX5_of 7 = .ok (.aload_n 1, 1) := dk_43 (dk_at dksX5_of_0 7 rfl rfl)
theorem dX5_of_8 : decode cX5_of 8 = .ok (.iload_n 3, 1) := dk_29 (dk_at dksX5_of_0 8 rfl rfl)
theorem dX5_of_9 : decode cX5_of 9 = .ok (.laload, 1) := dk_47 (dk_at dksX5_of_0 9 rfl rfl)
theorem dX5_of_10 : decode cX5_of 10 = .ok (.aload_n 0, 1) := dk_42 (dk_at dksX5_of_0 10 rfl rfl)
theorem dX5_of_11 : decode cX5_of 11 = .ok (.getfield 60, 3) := dk_180 0 60 (dk_at dksX5_of_0 11 rfl rfl)
theorem dX5_of_14 : decode cX5_of 14 = .ok (.lcmp, 1) := dk_148 (dk_at dksX5_of_0 14 rfl rfl)
theorem dX5_of_15 : decode cX5_of 15 = .ok (.ifCond .ne 5, 3) := dk_154 0 5 (dk_at dksX5_of_0 15 rfl rfl)
theorem dX5_of_18 : decode cX5_of 18 = .ok (.iload_n 3, 1) := dk_29 (dk_at dksX5_of_0 18 rfl rfl)
theorem dX5_of_19 : decode cX5_of 19 = .ok (.ireturn, 1) := dk_172 (dk_at dksX5_of_0 19 rfl rfl)
theorem dX5_of_20 : decode cX5_of 20 = .ok (.iinc 3 1, 3) := dk_132 3 1 (dk_at dksX5_of_0 20 rfl rfl)
theorem dX5_of_23 : decode cX5_of 23 = .ok (.goto (-21), 3) := dk_167 255 235 (dk_at dksX5_of_1 0 rfl rfl)
theorem dX5_of_26 : decode cX5_of 26 = .ok (.iconst (-1), 1) := dk_2 (dk_at dksX5_of_1 3 rfl rfl)
theorem dX5_of_27 : decode cX5_of 27 = .ok (.ireturn, 1) := dk_172 (dk_at dksX5_of_1 4 rfl rfl)
abbrev cX5_sign : ByteArray := prog_17_method_14_code
def yX5_sign : MethodName := ⟨RX5, "sign", "(I)V"⟩
def dkwX5_sign_0 : List UInt8 := [42, 42, 27, 182, 0, 107, 4, 182, 0, 109, 42, 182, 0, 22, 177]
abbrev dktX5_sign_0 : List UInt8 := dkwX5_sign_0 ++ []
theorem dksX5_sign_0 : cX5_sign.data.toList.drop 0 = dktX5_sign_0 := by decide +kernel
theorem dX5_sign_0 : decode cX5_sign 0 = .ok (.aload_n 0, 1) := dk_42 (dk_at dksX5_sign_0 0 rfl rfl)
theorem dX5_sign_1 : decode cX5_sign 1 = .ok (.aload_n 0, 1) := dk_42 (dk_at dksX5_sign_0 1 rfl rfl)
theorem dX5_sign_2 : decode cX5_sign 2 = .ok (.iload_n 1, 1) := dk_27 (dk_at dksX5_sign_0 2 rfl rfl)
theorem dX5_sign_3 : decode cX5_sign 3 = .ok (.invokevirtual 107, 3) := dk_182 0 107 (dk_at dksX5_sign_0 3 rfl rfl)
theorem dX5_sign_6 : decode cX5_sign 6 = .ok (.iconst 1, 1) := dk_4 (dk_at dksX5_sign_0 6 rfl rfl)
theorem dX5_sign_7 : decode cX5_sign 7 = .ok (.invokevirtual 109, 3) := dk_182 0 109 (dk_at dksX5_sign_0 7 rfl rfl)
theorem dX5_sign_10 : decode cX5_sign 10 = .ok (.aload_n 0, 1) := dk_42 (dk_at dksX5_sign_0 10 rfl rfl)
theorem dX5_sign_11 : decode cX5_sign 11 = .ok (.invokevirtual 22, 3) := dk_182 0 22 (dk_at dksX5_sign_0 11 rfl rfl)
theorem dX5_sign_14 : decode cX5_sign 14 = .ok (.return_, 1) := dk_177 (dk_at dksX5_sign_0 14 rfl rfl)
abbrev cX5_is_2 : ByteArray := prog_17_method_9_code
def yX5_is_2 : MethodName := ⟨RX5, "is", "(I)Z"⟩
def dkwX5_is_2_0 : List UInt8 := [42, 180, 0, 43, 6, 160, 0, 15, 42, 180, 0, 57, 27, 160, 0, 7, 4, 167, 0, 4, 3, 172]
abbrev dktX5_is_2_0 : List UInt8 := dkwX5_is_2_0 ++ []
theorem dksX5_is_2_0 : cX5_is_2.data.toList.drop 0 = dktX5_is_2_0 := by decide +kernel
theorem dX5_is_2_0 : decode cX5_is_2 0 = .ok (.aload_n 0, 1) := dk_42 (dk_at dksX5_is_2_0 0 rfl rfl)
theorem dX5_is_2_1 : decode cX5_is_2 1 = .ok (.getfield 43, 3) := dk_180 0 43 (dk_at dksX5_is_2_0 1 rfl rfl)
theorem dX5_is_2_4 : decode cX5_is_2 4 = .ok (.iconst 3, 1) := dk_6 (dk_at dksX5_is_2_0 4 rfl rfl)
theorem dX5_is_2_5 : decode cX5_is_2 5 = .ok (.if_icmp .ne 15, 3) := dk_160 0 15 (dk_at dksX5_is_2_0 5 rfl rfl)
theorem dX5_is_2_8 : decode cX5_is_2 8 = .ok (.aload_n 0, 1) := dk_42 (dk_at dksX5_is_2_0 8 rfl rfl)
theorem dX5_is_2_9 : decode cX5_is_2 9 = .ok (.getfield 57, 3) := dk_180 0 57 (dk_at dksX5_is_2_0 9 rfl rfl)
theorem dX5_is_2_12 : decode cX5_is_2 12 = .ok (.iload_n 1, 1) := dk_27 (dk_at dksX5_is_2_0 12 rfl rfl)
theorem dX5_is_2_13 : decode cX5_is_2 13 = .ok (.if_icmp .ne 7, 3) := dk_160 0 7 (dk_at dksX5_is_2_0 13 rfl rfl)
theorem dX5_is_2_16 : decode cX5_is_2 16 = .ok (.iconst 1, 1) := dk_4 (dk_at dksX5_is_2_0 16 rfl rfl)
theorem dX5_is_2_17 : decode cX5_is_2 17 = .ok (.goto 4, 3) := dk_167 0 4 (dk_at dksX5_is_2_0 17 rfl rfl)
theorem dX5_is_2_20 : decode cX5_is_2 20 = .ok (.iconst 0, 1) := dk_3 (dk_at dksX5_is_2_0 20 rfl rfl)
theorem dX5_is_2_21 : decode cX5_is_2 21 = .ok (.ireturn, 1) := dk_172 (dk_at dksX5_is_2_0 21 rfl rfl)
abbrev cX5_slice : ByteArray := prog_17_method_17_code
def yX5_slice : MethodName := ⟨RX5, "slice", "()I"⟩
def dkwX5_slice_2 : List UInt8 := [182, 0, 109, 27, 172]
abbrev dktX5_slice_2 : List UInt8 := dkwX5_slice_2 ++ []
def dkwX5_slice_1 : List UInt8 := [180, 0, 117, 180, 0, 127, 182, 0, 130, 60, 42, 27, 2, 159, 0, 7, 4, 167, 0, 4, 3, 6]
abbrev dktX5_slice_1 : List UInt8 := dkwX5_slice_1 ++ dktX5_slice_2
def dkwX5_slice_0 : List UInt8 := [42, 42, 182, 0, 113, 4, 182, 0, 109, 42, 42, 180, 0, 3, 180, 0, 117, 180, 0, 121, 42, 180, 0, 3]
abbrev dktX5_slice_0 : List UInt8 := dkwX5_slice_0 ++ dktX5_slice_1
theorem dksX5_slice_0 : cX5_slice.data.toList.drop 0 = dktX5_slice_0 := by decide +kernel
theorem dksX5_slice_1 : cX5_slice.data.toList.drop 24 = dktX5_slice_1 := dk_seg dksX5_slice_0 24 rfl rfl
theorem dksX5_slice_2 : cX5_slice.data.toList.drop 46 = dktX5_slice_2 := dk_seg dksX5_slice_1 22 rfl rfl
theorem dX5_slice_0 : decode cX5_slice 0 = .ok (.aload_n 0, 1) := dk_42 (dk_at dksX5_slice_0 0 rfl rfl)
theorem dX5_slice_1 : decode cX5_slice 1 = .ok (.aload_n 0, 1) := dk_42 (dk_at dksX5_slice_0 1 rfl rfl)
theorem dX5_slice_2 : decode cX5_slice 2 = .ok (.invokevirtual 113, 3) := dk_182 0 113 (dk_at dksX5_slice_0 2 rfl rfl)
theorem dX5_slice_5 : decode cX5_slice 5 = .ok (.iconst 1, 1) := dk_4 (dk_at dksX5_slice_0 5 rfl rfl)
theorem dX5_slice_6 : decode cX5_slice 6 = .ok (.invokevirtual 109, 3) := dk_182 0 109 (dk_at dksX5_slice_0 6 rfl rfl)
theorem dX5_slice_9 : decode cX5_slice 9 = .ok (.aload_n 0, 1) := dk_42 (dk_at dksX5_slice_0 9 rfl rfl)
theorem dX5_slice_10 : decode cX5_slice 10 = .ok (.aload_n 0, 1) := dk_42 (dk_at dksX5_slice_0 10 rfl rfl)
theorem dX5_slice_11 : decode cX5_slice 11 = .ok (.getfield 3, 3) := dk_180 0 3 (dk_at dksX5_slice_0 11 rfl rfl)
theorem dX5_slice_14 : decode cX5_slice 14 = .ok (.getfield 117, 3) := dk_180 0 117 (dk_at dksX5_slice_0 14 rfl rfl)
theorem dX5_slice_17 : decode cX5_slice 17 = .ok (.getfield 121, 3) := dk_180 0 121 (dk_at dksX5_slice_0 17 rfl rfl)
theorem dX5_slice_20 : decode cX5_slice 20 = .ok (.aload_n 0, 1) := dk_42 (dk_at dksX5_slice_0 20 rfl rfl)
theorem dX5_slice_21 : decode cX5_slice 21 = .ok (.getfield 3, 3) := dk_180 0 3 (dk_at dksX5_slice_0 21 rfl rfl)
theorem dX5_slice_24 : decode cX5_slice 24 = .ok (.getfield 117, 3) := dk_180 0 117 (dk_at dksX5_slice_1 0 rfl rfl)
theorem dX5_slice_27 : decode cX5_slice 27 = .ok (.getfield 127, 3) := dk_180 0 127 (dk_at dksX5_slice_1 3 rfl rfl)
theorem dX5_slice_30 : decode cX5_slice 30 = .ok (.invokevirtual 130, 3) := dk_182 0 130 (dk_at dksX5_slice_1 6 rfl rfl)
theorem dX5_slice_33 : decode cX5_slice 33 = .ok (.istore_n 1, 1) := dk_60 (dk_at dksX5_slice_1 9 rfl rfl)
theorem dX5_slice_34 : decode cX5_slice 34 = .ok (.aload_n 0, 1) := dk_42 (dk_at dksX5_slice_1 10 rfl rfl)
theorem dX5_slice_35 : decode cX5_slice 35 = .ok (.iload_n 1, 1) := dk_27 (dk_at dksX5_slice_1 11 rfl rfl)
theorem dX5_slice_36 : decode cX5_slice 36 = .ok (.iconst (-1), 1) := dk_2 (dk_at dksX5_slice_1 12 rfl rfl)
theorem dX5_slice_37 : decode cX5_slice 37 = .ok (.if_icmp .eq 7, 3) := dk_159 0 7 (dk_at dksX5_slice_1 13 rfl rfl)
theorem dX5_slice_40 : decode cX5_slice 40 = .ok (.iconst 1, 1) := dk_4 (dk_at dksX5_slice_1 16 rfl rfl)
theorem dX5_slice_41 : decode cX5_slice 41 = .ok (.goto 4, 3) := dk_167 0 4 (dk_at dksX5_slice_1 17 rfl rfl)
theorem dX5_slice_44 : decode cX5_slice 44 = .ok (.iconst 0, 1) := dk_3 (dk_at dksX5_slice_1 20 rfl rfl)
theorem dX5_slice_45 : decode cX5_slice 45 = .ok (.iconst 3, 1) := dk_6 (dk_at dksX5_slice_1 21 rfl rfl)
theorem dX5_slice_46 : decode cX5_slice 46 = .ok (.invokevirtual 109, 3) := dk_182 0 109 (dk_at dksX5_slice_2 0 rfl rfl)
theorem dX5_slice_49 : decode cX5_slice 49 = .ok (.iload_n 1, 1) := dk_27 (dk_at dksX5_slice_2 3 rfl rfl)
theorem dX5_slice_50 : decode cX5_slice 50 = .ok (.ireturn, 1) := dk_172 (dk_at dksX5_slice_2 4 rfl rfl)
theorem q113 : (Jvm.Cond.initialized "PanSlices$Reader") ∈ lw_all := lw_g (lw_at lw_m1 7 rfl) rfl
theorem q193 : (Jvm.Cond.fieldLink "PanSlices$Reader" (95 : Nat) "PanSlices$Fault" "kind" "I") ∈ lw_all := lw_g (lw_at lw_m1 87 rfl) rfl
theorem q195 : (Jvm.Cond.fieldLink "PanSlices$Reader" (100 : Nat) "PanSlices$Fault" "place" "I") ∈ lw_all := lw_g (lw_at lw_m1 89 rfl) rfl
theorem q241 : (Jvm.Cond.fieldLinkNest "PanSlices$Reader" (121 : Nat) "PanSlices$Kitchen" "names" "[J" "PanSlices") ∈ lw_tbl := lw_at lw_m1 135 rfl
theorem q270 : (Jvm.Cond.fieldLinkNest "PanSlices$Reader" (127 : Nat) "PanSlices$Kitchen" "slices" "I" "PanSlices") ∈ lw_tbl := lw_at lw_m1 164 rfl
theorem q364 : (Jvm.Cond.instanceMethod ({ cls := "PanSlices$Reader", name := "<init>", desc := "(LPanSlices;I)V" } : Jvm.MethodName)) ∈ lw_all := lw_g (lw_at lw_m2 18 rfl) rfl
theorem q365 : (Jvm.Cond.code ({ cls := "PanSlices$Reader", name := "<init>", desc := "(LPanSlices;I)V" } : Jvm.MethodName) prog_17_method_1_code (3 : Nat) (Option.none : Option Jvm.ClassFile.FieldType)) ∈ lw_all := lw_g (lw_at lw_m2 19 rfl) rfl
theorem q366 : (Jvm.Cond.methodLink "PanSlices$Reader" (9 : Nat) ({ cls := "java/lang/Object", name := "<init>", desc := "()V" } : Jvm.MethodName)) ∈ lw_all := lw_g (lw_at lw_m2 20 rfl) rfl
theorem q370 : (Jvm.Cond.fieldLink "PanSlices$Reader" (15 : Nat) "PanSlices$Reader" "most" "I") ∈ lw_all := lw_g (lw_at lw_m2 24 rfl) rfl
theorem q371 : (Jvm.Cond.fieldLink "PanSlices$Reader" (19 : Nat) "PanSlices$Reader" "p" "I") ∈ lw_all := lw_g (lw_at lw_m2 25 rfl) rfl
theorem q372 : (Jvm.Cond.fieldLink "PanSlices$Reader" (40 : Nat) "PanSlices$Reader" "at" "I") ∈ lw_all := lw_g (lw_at lw_m2 26 rfl) rfl
theorem q379 : (Jvm.Cond.fieldLink "PanSlices$Reader" (43 : Nat) "PanSlices$Reader" "token" "I") ∈ lw_all := lw_g (lw_at lw_m2 33 rfl) rfl
theorem q384 : (Jvm.Cond.fieldLink "PanSlices$Reader" (57 : Nat) "PanSlices$Reader" "value" "I") ∈ lw_all := lw_g (lw_at lw_m2 38 rfl) rfl
theorem q385 : (Jvm.Cond.fieldLink "PanSlices$Reader" (64 : Nat) "PanSlices$Reader" "many" "I") ∈ lw_all := lw_g (lw_at lw_m2 39 rfl) rfl
theorem q388 : (Jvm.Cond.fieldLink "PanSlices$Reader" (60 : Nat) "PanSlices$Reader" "name" "J") ∈ lw_all := lw_g (lw_at lw_m2 42 rfl) rfl
theorem q389 : (Jvm.Cond.fieldLink "PanSlices$Reader" (3 : Nat) "PanSlices$Reader" "this$0" "LPanSlices;") ∈ lw_all := lw_g (lw_at lw_m2 43 rfl) rfl
theorem q397 : (Jvm.Cond.soleField "PanSlices$Reader" "most") ∈ lw_all := lw_g (lw_at lw_m2 51 rfl) rfl
theorem q399 : (Jvm.Cond.soleField "PanSlices$Reader" "p") ∈ lw_all := lw_g (lw_at lw_m2 53 rfl) rfl
theorem q401 : (Jvm.Cond.soleField "PanSlices$Reader" "at") ∈ lw_all := lw_g (lw_at lw_m2 55 rfl) rfl
theorem q403 : (Jvm.Cond.soleField "PanSlices$Reader" "token") ∈ lw_all := lw_g (lw_at lw_m2 57 rfl) rfl
theorem q405 : (Jvm.Cond.soleField "PanSlices$Reader" "value") ∈ lw_all := lw_g (lw_at lw_m2 59 rfl) rfl
theorem q407 : (Jvm.Cond.soleField "PanSlices$Reader" "many") ∈ lw_all := lw_g (lw_at lw_m2 61 rfl) rfl
theorem q409 : (Jvm.Cond.soleField "PanSlices$Reader" "name") ∈ lw_all := lw_g (lw_at lw_m2 63 rfl) rfl
theorem q411 : (Jvm.Cond.soleField "PanSlices$Reader" "this$0") ∈ lw_all := lw_g (lw_at lw_m2 65 rfl) rfl
theorem q498 : (Jvm.Cond.fieldLinkNest "PanSlices$Reader" (28 : Nat) "PanSlices" "tape" "[B" "PanSlices") ∈ lw_tbl := lw_at lw_m2 152 rfl
theorem q500 : (Jvm.Cond.fieldLinkNest "PanSlices$Reader" (25 : Nat) "PanSlices" "size" "I" "PanSlices") ∈ lw_tbl := lw_at lw_m2 154 rfl
theorem q503 : (Jvm.Cond.fieldLinkNest "PanSlices$Reader" (91 : Nat) "PanSlices" "broken" "LPanSlices$Fault;" "PanSlices") ∈ lw_tbl := lw_at lw_m2 157 rfl
theorem q506 : (Jvm.Cond.fieldLinkNest "PanSlices$Reader" (80 : Nat) "PanSlices" "lines" "[Ljava/lang/String;" "PanSlices") ∈ lw_tbl := lw_at lw_m2 160 rfl
theorem q508 : (Jvm.Cond.fieldLinkNest "PanSlices$Reader" (88 : Nat) "PanSlices" "words" "[Ljava/lang/String;" "PanSlices") ∈ lw_tbl := lw_at lw_m2 162 rfl
theorem q511 : (Jvm.Cond.fieldLinkNest "PanSlices$Reader" (117 : Nat) "PanSlices" "kitchen" "LPanSlices$Kitchen;" "PanSlices") ∈ lw_tbl := lw_at lw_m2 165 rfl
theorem q657 : (Jvm.Cond.declares ({ cls := "PanSlices$Reader", name := "begin", desc := "()V" } : Jvm.MethodName)) ∈ lw_tbl := lw_at lw_m3 71 rfl
theorem q659 : (Jvm.Cond.instanceMethod ({ cls := "PanSlices$Reader", name := "begin", desc := "()V" } : Jvm.MethodName)) ∈ lw_all := lw_g (lw_at lw_m3 73 rfl) rfl
theorem q660 : (Jvm.Cond.code ({ cls := "PanSlices$Reader", name := "begin", desc := "()V" } : Jvm.MethodName) prog_17_method_2_code (1 : Nat) (Option.none : Option Jvm.ClassFile.FieldType)) ∈ lw_all := lw_g (lw_at lw_m3 74 rfl) rfl
theorem q661 : (Jvm.Cond.methodLink "PanSlices$Reader" (22 : Nat) ({ cls := "PanSlices$Reader", name := "next", desc := "()V" } : Jvm.MethodName)) ∈ lw_all := lw_g (lw_at lw_m3 75 rfl) rfl
theorem q662 : (Jvm.Cond.instanceMethod ({ cls := "PanSlices$Reader", name := "next", desc := "()V" } : Jvm.MethodName)) ∈ lw_all := lw_g (lw_at lw_m3 76 rfl) rfl
theorem q663 : (Jvm.Cond.sameMethod "PanSlices$Reader" "PanSlices$Reader" "next" "()V") ∈ lw_all := lw_g (lw_at lw_m3 77 rfl) rfl
theorem q667 : (Jvm.Cond.code ({ cls := "PanSlices$Reader", name := "next", desc := "()V" } : Jvm.MethodName) prog_17_method_6_code (2 : Nat) (Option.none : Option Jvm.ClassFile.FieldType)) ∈ lw_all := lw_g (lw_at lw_m3 81 rfl) rfl
theorem q668 : (Jvm.Cond.methodLink "PanSlices$Reader" (36 : Nat) ({ cls := "PanSlices$Reader", name := "peek", desc := "()I" } : Jvm.MethodName)) ∈ lw_all := lw_g (lw_at lw_m3 82 rfl) rfl
theorem q669 : (Jvm.Cond.privateMethod ({ cls := "PanSlices$Reader", name := "peek", desc := "()I" } : Jvm.MethodName)) ∈ lw_tbl := lw_at lw_m3 83 rfl
theorem q670 : (Jvm.Cond.instanceMethod ({ cls := "PanSlices$Reader", name := "peek", desc := "()I" } : Jvm.MethodName)) ∈ lw_all := lw_g (lw_at lw_m3 84 rfl) rfl
theorem q671 : (Jvm.Cond.code ({ cls := "PanSlices$Reader", name := "peek", desc := "()I" } : Jvm.MethodName) prog_17_method_3_code (1 : Nat) (Option.some Jvm.ClassFile.FieldType.int)) ∈ lw_all := lw_g (lw_at lw_m3 85 rfl) rfl
theorem q672 : (Jvm.Cond.methodLink "PanSlices$Reader" (46 : Nat) ({ cls := "PanSlices$Reader", name := "isLetter", desc := "(I)Z" } : Jvm.MethodName)) ∈ lw_all := lw_g (lw_at lw_m3 86 rfl) rfl
theorem q673 : (Jvm.Cond.privateMethod ({ cls := "PanSlices$Reader", name := "isLetter", desc := "(I)Z" } : Jvm.MethodName)) ∈ lw_tbl := lw_at lw_m3 87 rfl
theorem q674 : (Jvm.Cond.instanceMethod ({ cls := "PanSlices$Reader", name := "isLetter", desc := "(I)Z" } : Jvm.MethodName)) ∈ lw_all := lw_g (lw_at lw_m3 88 rfl) rfl
theorem q675 : (Jvm.Cond.code ({ cls := "PanSlices$Reader", name := "isLetter", desc := "(I)Z" } : Jvm.MethodName) prog_17_method_4_code (2 : Nat) (Option.some Jvm.ClassFile.FieldType.boolean)) ∈ lw_all := lw_g (lw_at lw_m3 89 rfl) rfl
theorem q676 : (Jvm.Cond.methodLinkNest "PanSlices$Reader" (32 : Nat) ({ cls := "PanSlices", name := "isIn", desc := "(III)Z" } : Jvm.MethodName) "PanSlices") ∈ lw_tbl := lw_at lw_m3 90 rfl
theorem q679 : (Jvm.Cond.methodLink "PanSlices$Reader" (50 : Nat) ({ cls := "PanSlices$Reader", name := "isDigit", desc := "(I)Z" } : Jvm.MethodName)) ∈ lw_all := lw_g (lw_at lw_m3 93 rfl) rfl
theorem q680 : (Jvm.Cond.privateMethod ({ cls := "PanSlices$Reader", name := "isDigit", desc := "(I)Z" } : Jvm.MethodName)) ∈ lw_tbl := lw_at lw_m3 94 rfl
theorem q681 : (Jvm.Cond.instanceMethod ({ cls := "PanSlices$Reader", name := "isDigit", desc := "(I)Z" } : Jvm.MethodName)) ∈ lw_all := lw_g (lw_at lw_m3 95 rfl) rfl
theorem q682 : (Jvm.Cond.code ({ cls := "PanSlices$Reader", name := "isDigit", desc := "(I)Z" } : Jvm.MethodName) prog_17_method_5_code (2 : Nat) (Option.some Jvm.ClassFile.FieldType.boolean)) ∈ lw_all := lw_g (lw_at lw_m3 96 rfl) rfl
theorem q683 : (Jvm.Cond.methodLink "PanSlices$Reader" (53 : Nat) ({ cls := "PanSlices$Reader", name := "run", desc := "(Z)V" } : Jvm.MethodName)) ∈ lw_all := lw_g (lw_at lw_m3 97 rfl) rfl
theorem q684 : (Jvm.Cond.privateMethod ({ cls := "PanSlices$Reader", name := "run", desc := "(Z)V" } : Jvm.MethodName)) ∈ lw_tbl := lw_at lw_m3 98 rfl
theorem q685 : (Jvm.Cond.instanceMethod ({ cls := "PanSlices$Reader", name := "run", desc := "(Z)V" } : Jvm.MethodName)) ∈ lw_all := lw_g (lw_at lw_m3 99 rfl) rfl
theorem q686 : (Jvm.Cond.code ({ cls := "PanSlices$Reader", name := "run", desc := "(Z)V" } : Jvm.MethodName) prog_17_method_7_code (3 : Nat) (Option.none : Option Jvm.ClassFile.FieldType)) ∈ lw_all := lw_g (lw_at lw_m3 100 rfl) rfl
theorem q689 : (Jvm.Cond.declares ({ cls := "PanSlices$Reader", name := "find", desc := "([Ljava/lang/String;)I" } : Jvm.MethodName)) ∈ lw_tbl := lw_at lw_m3 103 rfl
theorem q691 : (Jvm.Cond.instanceMethod ({ cls := "PanSlices$Reader", name := "find", desc := "([Ljava/lang/String;)I" } : Jvm.MethodName)) ∈ lw_all := lw_g (lw_at lw_m3 105 rfl) rfl
theorem q692 : (Jvm.Cond.code ({ cls := "PanSlices$Reader", name := "find", desc := "([Ljava/lang/String;)I" } : Jvm.MethodName) prog_17_method_10_code (3 : Nat) (Option.some Jvm.ClassFile.FieldType.int)) ∈ lw_all := lw_g (lw_at lw_m3 106 rfl) rfl
theorem q693 : (Jvm.Cond.methodLink "PanSlices$Reader" (76 : Nat) ({ cls := "PanSlices$Reader", name := "is", desc := "(Ljava/lang/String;)Z" } : Jvm.MethodName)) ∈ lw_all := lw_g (lw_at lw_m3 107 rfl) rfl
theorem q694 : (Jvm.Cond.instanceMethod ({ cls := "PanSlices$Reader", name := "is", desc := "(Ljava/lang/String;)Z" } : Jvm.MethodName)) ∈ lw_all := lw_g (lw_at lw_m3 108 rfl) rfl
theorem q695 : (Jvm.Cond.sameMethod "PanSlices$Reader" "PanSlices$Reader" "is" "(Ljava/lang/String;)Z") ∈ lw_all := lw_g (lw_at lw_m3 109 rfl) rfl
theorem q699 : (Jvm.Cond.code ({ cls := "PanSlices$Reader", name := "is", desc := "(Ljava/lang/String;)Z" } : Jvm.MethodName) prog_17_method_8_code (3 : Nat) (Option.some Jvm.ClassFile.FieldType.boolean)) ∈ lw_all := lw_g (lw_at lw_m3 113 rfl) rfl
theorem q700 : (Jvm.Cond.methodLink "PanSlices$Reader" (67 : Nat) ({ cls := "java/lang/String", name := "length", desc := "()I" } : Jvm.MethodName)) ∈ lw_all := lw_g (lw_at lw_m3 114 rfl) rfl
theorem q710 : (Jvm.Cond.methodLink "PanSlices$Reader" (72 : Nat) ({ cls := "java/lang/String", name := "charAt", desc := "(I)C" } : Jvm.MethodName)) ∈ lw_all := lw_g (lw_at lw_m3 124 rfl) rfl
theorem q750 : (Jvm.Cond.declares ({ cls := "PanSlices$Reader", name := "must", desc := "(ZI)V" } : Jvm.MethodName)) ∈ lw_tbl := lw_at lw_m3 164 rfl
theorem q752 : (Jvm.Cond.instanceMethod ({ cls := "PanSlices$Reader", name := "must", desc := "(ZI)V" } : Jvm.MethodName)) ∈ lw_all := lw_g (lw_at lw_m3 166 rfl) rfl
theorem q753 : (Jvm.Cond.code ({ cls := "PanSlices$Reader", name := "must", desc := "(ZI)V" } : Jvm.MethodName) prog_17_method_13_code (3 : Nat) (Option.none : Option Jvm.ClassFile.FieldType)) ∈ lw_all := lw_g (lw_at lw_m3 167 rfl) rfl
theorem q754 : (Jvm.Cond.methodLink "PanSlices$Reader" (103 : Nat) ({ cls := "PanSlices$Reader", name := "wrong", desc := "(I)LPanSlices$Fault;" } : Jvm.MethodName)) ∈ lw_all := lw_g (lw_at lw_m3 168 rfl) rfl
theorem q755 : (Jvm.Cond.instanceMethod ({ cls := "PanSlices$Reader", name := "wrong", desc := "(I)LPanSlices$Fault;" } : Jvm.MethodName)) ∈ lw_all := lw_g (lw_at lw_m3 169 rfl) rfl
theorem q756 : (Jvm.Cond.sameMethod "PanSlices$Reader" "PanSlices$Reader" "wrong" "(I)LPanSlices$Fault;") ∈ lw_all := lw_g (lw_at lw_m3 170 rfl) rfl
theorem q760 : (Jvm.Cond.code ({ cls := "PanSlices$Reader", name := "wrong", desc := "(I)LPanSlices$Fault;" } : Jvm.MethodName) prog_17_method_12_code (2 : Nat) (Option.some (Jvm.ClassFile.FieldType.object "PanSlices$Fault"))) ∈ lw_all := lw_g (lw_at lw_m3 174 rfl) rfl
theorem q766 : (Jvm.Cond.declares ({ cls := "PanSlices$Reader", name := "next", desc := "()V" } : Jvm.MethodName)) ∈ lw_tbl := lw_at lw_m3 180 rfl
theorem q774 : (Jvm.Cond.declares ({ cls := "PanSlices$Reader", name := "number", desc := "(II)I" } : Jvm.MethodName)) ∈ lw_tbl := lw_at lw_m3 188 rfl
theorem q776 : (Jvm.Cond.instanceMethod ({ cls := "PanSlices$Reader", name := "number", desc := "(II)I" } : Jvm.MethodName)) ∈ lw_all := lw_g (lw_at lw_m3 190 rfl) rfl
theorem q777 : (Jvm.Cond.code ({ cls := "PanSlices$Reader", name := "number", desc := "(II)I" } : Jvm.MethodName) prog_17_method_15_code (4 : Nat) (Option.some Jvm.ClassFile.FieldType.int)) ∈ lw_all := lw_g (lw_at lw_m3 191 rfl) rfl
theorem q778 : (Jvm.Cond.methodLink "PanSlices$Reader" (109 : Nat) ({ cls := "PanSlices$Reader", name := "must", desc := "(ZI)V" } : Jvm.MethodName)) ∈ lw_all := lw_g (lw_at lw_m3 192 rfl) rfl
theorem q785 : (Jvm.Cond.declares ({ cls := "PanSlices$Reader", name := "isName", desc := "()Z" } : Jvm.MethodName)) ∈ lw_tbl := lw_at lw_m3 199 rfl
theorem q787 : (Jvm.Cond.instanceMethod ({ cls := "PanSlices$Reader", name := "isName", desc := "()Z" } : Jvm.MethodName)) ∈ lw_all := lw_g (lw_at lw_m3 201 rfl) rfl
theorem q788 : (Jvm.Cond.code ({ cls := "PanSlices$Reader", name := "isName", desc := "()Z" } : Jvm.MethodName) prog_17_method_11_code (1 : Nat) (Option.some Jvm.ClassFile.FieldType.boolean)) ∈ lw_all := lw_g (lw_at lw_m3 202 rfl) rfl
theorem q789 : (Jvm.Cond.methodLink "PanSlices$Reader" (84 : Nat) ({ cls := "PanSlices$Reader", name := "find", desc := "([Ljava/lang/String;)I" } : Jvm.MethodName)) ∈ lw_all := lw_g (lw_at lw_m3 203 rfl) rfl
theorem q792 : (Jvm.Cond.declares ({ cls := "PanSlices$Reader", name := "of", desc := "([JI)I" } : Jvm.MethodName)) ∈ lw_tbl := lw_at lw_m3 206 rfl
theorem q794 : (Jvm.Cond.instanceMethod ({ cls := "PanSlices$Reader", name := "of", desc := "([JI)I" } : Jvm.MethodName)) ∈ lw_all := lw_g (lw_at lw_m3 208 rfl) rfl
theorem q795 : (Jvm.Cond.code ({ cls := "PanSlices$Reader", name := "of", desc := "([JI)I" } : Jvm.MethodName) prog_17_method_16_code (4 : Nat) (Option.some Jvm.ClassFile.FieldType.int)) ∈ lw_all := lw_g (lw_at lw_m3 209 rfl) rfl
theorem q799 : (Jvm.Cond.declares ({ cls := "PanSlices$Reader", name := "is", desc := "(Ljava/lang/String;)Z" } : Jvm.MethodName)) ∈ lw_tbl := lw_at lw_m3 213 rfl
theorem q803 : (Jvm.Cond.declares ({ cls := "PanSlices$Reader", name := "sign", desc := "(I)V" } : Jvm.MethodName)) ∈ lw_tbl := lw_at lw_m3 217 rfl
theorem q805 : (Jvm.Cond.instanceMethod ({ cls := "PanSlices$Reader", name := "sign", desc := "(I)V" } : Jvm.MethodName)) ∈ lw_all := lw_g (lw_at lw_m3 219 rfl) rfl
theorem q806 : (Jvm.Cond.code ({ cls := "PanSlices$Reader", name := "sign", desc := "(I)V" } : Jvm.MethodName) prog_17_method_14_code (2 : Nat) (Option.none : Option Jvm.ClassFile.FieldType)) ∈ lw_all := lw_g (lw_at lw_m3 220 rfl) rfl
theorem q807 : (Jvm.Cond.methodLink "PanSlices$Reader" (107 : Nat) ({ cls := "PanSlices$Reader", name := "is", desc := "(I)Z" } : Jvm.MethodName)) ∈ lw_all := lw_g (lw_at lw_m3 221 rfl) rfl
theorem q808 : (Jvm.Cond.instanceMethod ({ cls := "PanSlices$Reader", name := "is", desc := "(I)Z" } : Jvm.MethodName)) ∈ lw_all := lw_g (lw_at lw_m3 222 rfl) rfl
theorem q809 : (Jvm.Cond.sameMethod "PanSlices$Reader" "PanSlices$Reader" "is" "(I)Z") ∈ lw_all := lw_g (lw_at lw_m3 223 rfl) rfl
theorem q813 : (Jvm.Cond.code ({ cls := "PanSlices$Reader", name := "is", desc := "(I)Z" } : Jvm.MethodName) prog_17_method_9_code (2 : Nat) (Option.some Jvm.ClassFile.FieldType.boolean)) ∈ lw_all := lw_g (lw_at lw_m3 227 rfl) rfl
theorem q831 : (Jvm.Cond.declares ({ cls := "PanSlices$Reader", name := "slice", desc := "()I" } : Jvm.MethodName)) ∈ lw_tbl := lw_at lw_m4 5 rfl
theorem q833 : (Jvm.Cond.instanceMethod ({ cls := "PanSlices$Reader", name := "slice", desc := "()I" } : Jvm.MethodName)) ∈ lw_all := lw_g (lw_at lw_m4 7 rfl) rfl
theorem q834 : (Jvm.Cond.code ({ cls := "PanSlices$Reader", name := "slice", desc := "()I" } : Jvm.MethodName) prog_17_method_17_code (2 : Nat) (Option.some Jvm.ClassFile.FieldType.int)) ∈ lw_all := lw_g (lw_at lw_m4 8 rfl) rfl
theorem q835 : (Jvm.Cond.methodLink "PanSlices$Reader" (113 : Nat) ({ cls := "PanSlices$Reader", name := "isName", desc := "()Z" } : Jvm.MethodName)) ∈ lw_all := lw_g (lw_at lw_m4 9 rfl) rfl
theorem q836 : (Jvm.Cond.methodLink "PanSlices$Reader" (130 : Nat) ({ cls := "PanSlices$Reader", name := "of", desc := "([JI)I" } : Jvm.MethodName)) ∈ lw_all := lw_g (lw_at lw_m4 10 rfl) rfl
theorem q1204 : (Jvm.Cond.declares ({ cls := "PanSlices$Reader", name := "is", desc := "(I)Z" } : Jvm.MethodName)) ∈ lw_tbl := lw_at lw_m5 138 rfl
theorem q2136 : (Jvm.Cond.sameMethod "PanSlices$Reader" "PanSlices$Reader" "peek" "()I") ∈ lw_all := lw_g (lw_at lw_m9 110 rfl) rfl
theorem q2137 : (Jvm.Cond.sameMethod "PanSlices$Reader" "PanSlices$Reader" "isLetter" "(I)Z") ∈ lw_all := lw_g (lw_at lw_m9 111 rfl) rfl
theorem q2138 : (Jvm.Cond.sameMethod "PanSlices$Reader" "PanSlices$Reader" "isDigit" "(I)Z") ∈ lw_all := lw_g (lw_at lw_m9 112 rfl) rfl
theorem q2139 : (Jvm.Cond.sameMethod "PanSlices$Reader" "PanSlices$Reader" "run" "(Z)V") ∈ lw_all := lw_g (lw_at lw_m9 113 rfl) rfl
theorem q2140 : (Jvm.Cond.sameMethod "PanSlices$Reader" "PanSlices$Reader" "must" "(ZI)V") ∈ lw_all := lw_g (lw_at lw_m9 114 rfl) rfl
theorem q2144 : (Jvm.Cond.sameMethod "PanSlices$Reader" "PanSlices$Reader" "find" "([Ljava/lang/String;)I") ∈ lw_all := lw_g (lw_at lw_m9 118 rfl) rfl
theorem q2148 : (Jvm.Cond.sameMethod "PanSlices$Reader" "PanSlices$Reader" "isName" "()Z") ∈ lw_all := lw_g (lw_at lw_m9 122 rfl) rfl
theorem q2152 : (Jvm.Cond.sameMethod "PanSlices$Reader" "PanSlices$Reader" "of" "([JI)I") ∈ lw_all := lw_g (lw_at lw_m9 126 rfl) rfl
/-! PanSlices$KitchenReader -/
set_option maxRecDepth 100000
def RX6 : String := "PanSlices$KitchenReader"
def TX6 : u_T := fun k => match k with
  | 0 => ("PanSlices$Reader", "most", "I", true)
  | 1 => ("PanSlices$Reader", "p", "I", false)
  | 2 => ("PanSlices$Reader", "at", "I", false)
  | 3 => ("PanSlices$Reader", "token", "I", false)
  | 4 => ("PanSlices$Reader", "value", "I", false)
  | 5 => ("PanSlices$Reader", "many", "I", false)
  | 6 => ("PanSlices$Reader", "name", "J", false)
  | 7 => ("PanSlices$Reader", "this$0", "LPanSlices;", true)
  | 8 => ("PanSlices$KitchenReader", "x", "LPanSlices$Kitchen;", false)
  | 9 => ("PanSlices$KitchenReader", "had", "I", false)
  | _ => ("PanSlices$KitchenReader", "this$0", "LPanSlices;", true)
def tyX6 : Nat → FieldType := fun k => match k with
  | 0 => .int
  | 1 => .int
  | 2 => .int
  | 3 => .int
  | 4 => .int
  | 5 => .int
  | 6 => .long
  | 7 => .object "PanSlices"
  | 8 => .object "PanSlices$Kitchen"
  | 9 => .int
  | _ => .object "PanSlices"
abbrev wsX60 : List Cond := u_ws RX6 TX6 11
-- two fields of one name: no nmX6
theorem tyX6_ok : ∀ k, k < 11 → parseFieldDescriptor (TX6 k).2.2.1 = some (tyX6 k) := by decide +kernel
abbrev cX6_init : ByteArray := prog_10_method_1_code
def yX6_init : MethodName := ⟨RX6, "<init>", "(LPanSlices;)V"⟩
def dkwX6_init_0 : List UInt8 := [42, 43, 181, 0, 3, 42, 43, 17, 2, 88, 183, 0, 9, 177]
abbrev dktX6_init_0 : List UInt8 := dkwX6_init_0 ++ []
theorem dksX6_init_0 : cX6_init.data.toList.drop 0 = dktX6_init_0 := by decide +kernel
theorem dX6_init_0 : decode cX6_init 0 = .ok (.aload_n 0, 1) := dk_42 (dk_at dksX6_init_0 0 rfl rfl)
theorem dX6_init_1 : decode cX6_init 1 = .ok (.aload_n 1, 1) := dk_43 (dk_at dksX6_init_0 1 rfl rfl)
theorem dX6_init_2 : decode cX6_init 2 = .ok (.putfield 3, 3) := dk_181 0 3 (dk_at dksX6_init_0 2 rfl rfl)
theorem dX6_init_5 : decode cX6_init 5 = .ok (.aload_n 0, 1) := dk_42 (dk_at dksX6_init_0 5 rfl rfl)
theorem dX6_init_6 : decode cX6_init 6 = .ok (.aload_n 1, 1) := dk_43 (dk_at dksX6_init_0 6 rfl rfl)
theorem dX6_init_7 : decode cX6_init 7 = .ok (.sipush 600, 3) := dk_17 2 88 (dk_at dksX6_init_0 7 rfl rfl)
theorem dX6_init_10 : decode cX6_init 10 = .ok (.invokespecial 9, 3) := dk_183 0 9 (dk_at dksX6_init_0 10 rfl rfl)
theorem dX6_init_13 : decode cX6_init 13 = .ok (.return_, 1) := dk_177 (dk_at dksX6_init_0 13 rfl rfl)
abbrev cX6_read : ByteArray := prog_10_method_2_code
def yX6_read : MethodName := ⟨RX6, "read", "(LPanSlices$Kitchen;)I"⟩
def dkwX6_read_7 : List UInt8 := [42, 16, 59, 182, 0, 64, 132, 2, 1, 167, 255, 100, 28, 172]
abbrev dktX6_read_7 : List UInt8 := dkwX6_read_7 ++ []
def dkwX6_read_6 : List UInt8 := [182, 0, 38, 42, 89, 180, 0, 19, 4, 29, 120, 128, 181, 0, 19, 42, 182, 0, 57, 42, 29, 182, 0, 60]
abbrev dktX6_read_6 : List UInt8 := dkwX6_read_6 ++ dktX6_read_7
def dkwX6_read_5 : List UInt8 := [162, 0, 21, 167, 0, 14, 42, 180, 0, 15, 180, 0, 54, 8, 162, 0, 7, 4, 167, 0, 4, 3, 7]
abbrev dktX6_read_5 : List UInt8 := dkwX6_read_5 ++ dktX6_read_6
def dkwX6_read_4 : List UInt8 := [16, 8, 162, 0, 41, 167, 0, 34, 29, 8, 160, 0, 18, 42, 180, 0, 15, 180, 0, 51, 16, 8]
abbrev dktX6_read_4 : List UInt8 := dkwX6_read_4 ++ dktX6_read_5
def dkwX6_read_3 : List UInt8 := [3, 6, 182, 0, 38, 42, 29, 7, 161, 0, 54, 29, 7, 160, 0, 18, 42, 180, 0, 15, 180, 0, 46]
abbrev dktX6_read_3 : List UInt8 := dkwX6_read_3 ++ dktX6_read_4
def dkwX6_read_2 : List UInt8 := [182, 0, 38, 42, 29, 6, 163, 0, 14, 42, 180, 0, 19, 29, 184, 0, 42, 154, 0, 7, 4, 167, 0, 4]
abbrev dktX6_read_2 : List UInt8 := dkwX6_read_2 ++ dktX6_read_3
def dkwX6_read_1 : List UInt8 := [42, 180, 0, 3, 180, 0, 30, 182, 0, 34, 62, 42, 29, 2, 159, 0, 7, 4, 167, 0, 4, 3, 4]
abbrev dktX6_read_1 : List UInt8 := dkwX6_read_1 ++ dktX6_read_2
def dkwX6_read_0 : List UInt8 := [42, 43, 181, 0, 15, 42, 3, 181, 0, 19, 3, 61, 42, 182, 0, 23, 42, 180, 0, 27, 153, 0, 155, 42]
abbrev dktX6_read_0 : List UInt8 := dkwX6_read_0 ++ dktX6_read_1
theorem dksX6_read_0 : cX6_read.data.toList.drop 0 = dktX6_read_0 := by decide +kernel
theorem dksX6_read_1 : cX6_read.data.toList.drop 24 = dktX6_read_1 := dk_seg dksX6_read_0 24 rfl rfl
theorem dksX6_read_2 : cX6_read.data.toList.drop 47 = dktX6_read_2 := dk_seg dksX6_read_1 23 rfl rfl
theorem dksX6_read_3 : cX6_read.data.toList.drop 71 = dktX6_read_3 := dk_seg dksX6_read_2 24 rfl rfl
theorem dksX6_read_4 : cX6_read.data.toList.drop 94 = dktX6_read_4 := dk_seg dksX6_read_3 23 rfl rfl
theorem dksX6_read_5 : cX6_read.data.toList.drop 116 = dktX6_read_5 := dk_seg dksX6_read_4 22 rfl rfl
theorem dksX6_read_6 : cX6_read.data.toList.drop 139 = dktX6_read_6 := dk_seg dksX6_read_5 23 rfl rfl
theorem dksX6_read_7 : cX6_read.data.toList.drop 163 = dktX6_read_7 := dk_seg dksX6_read_6 24 rfl rfl
theorem dX6_read_0 : decode cX6_read 0 = .ok (.aload_n 0, 1) := dk_42 (dk_at dksX6_read_0 0 rfl rfl)
theorem dX6_read_1 : decode cX6_read 1 = .ok (.aload_n 1, 1) := dk_43 (dk_at dksX6_read_0 1 rfl rfl)
theorem dX6_read_2 : decode cX6_read 2 = .ok (.putfield 15, 3) := dk_181 0 15 (dk_at dksX6_read_0 2 rfl rfl)
theorem dX6_read_5 : decode cX6_read 5 = .ok (.aload_n 0, 1) := dk_42 (dk_at dksX6_read_0 5 rfl rfl)
theorem dX6_read_6 : decode cX6_read 6 = .ok (.iconst 0, 1) := dk_3 (dk_at dksX6_read_0 6 rfl rfl)
theorem dX6_read_7 : decode cX6_read 7 = .ok (.putfield 19, 3) := dk_181 0 19 (dk_at dksX6_read_0 7 rfl rfl)
theorem dX6_read_10 : decode cX6_read 10 = .ok (.iconst 0, 1) := dk_3 (dk_at dksX6_read_0 10 rfl rfl)
theorem dX6_read_11 : decode cX6_read 11 = .ok (.istore_n 2, 1) := dk_61 (dk_at dksX6_read_0 11 rfl rfl)
theorem dX6_read_12 : decode cX6_read 12 = .ok (.aload_n 0, 1) := dk_42 (dk_at dksX6_read_0 12 rfl rfl)
theorem dX6_read_13 : decode cX6_read 13 = .ok (.invokevirtual 23, 3) := dk_182 0 23 (dk_at dksX6_read_0 13 rfl rfl)
theorem dX6_read_16 : decode cX6_read 16 = .ok (.aload_n 0, 1) := dk_42 (dk_at dksX6_read_0 16 rfl rfl)
theorem dX6_read_17 : decode cX6_read 17 = .ok (.getfield 27, 3) := dk_180 0 27 (dk_at dksX6_read_0 17 rfl rfl)
theorem dX6_read_20 : decode cX6_read 20 = .ok (.ifCond .eq 155, 3) := dk_153 0 155 (dk_at dksX6_read_0 20 rfl rfl)
theorem dX6_read_23 : decode cX6_read 23 = .ok (.aload_n 0, 1) := dk_42 (dk_at dksX6_read_0 23 rfl rfl)
theorem dX6_read_24 : decode cX6_read 24 = .ok (.aload_n 0, 1) := dk_42 (dk_at dksX6_read_1 0 rfl rfl)
theorem dX6_read_25 : decode cX6_read 25 = .ok (.getfield 3, 3) := dk_180 0 3 (dk_at dksX6_read_1 1 rfl rfl)
theorem dX6_read_28 : decode cX6_read 28 = .ok (.getfield 30, 3) := dk_180 0 30 (dk_at dksX6_read_1 4 rfl rfl)
theorem dX6_read_31 : decode cX6_read 31 = .ok (.invokevirtual 34, 3) := dk_182 0 34 (dk_at dksX6_read_1 7 rfl rfl)
theorem dX6_read_34 : decode cX6_read 34 = .ok (.istore_n 3, 1) := dk_62 (dk_at dksX6_read_1 10 rfl rfl)
theorem dX6_read_35 : decode cX6_read 35 = .ok (.aload_n 0, 1) := dk_42 (dk_at dksX6_read_1 11 rfl rfl)
theorem dX6_read_36 : decode cX6_read 36 = .ok (.iload_n 3, 1) := dk_29 (dk_at dksX6_read_1 12 rfl rfl)
theorem dX6_read_37 : decode cX6_read 37 = .ok (.iconst (-1), 1) := dk_2 (dk_at dksX6_read_1 13 rfl rfl)
theorem dX6_read_38 : decode cX6_read 38 = .ok (.if_icmp .eq 7, 3) := dk_159 0 7 (dk_at dksX6_read_1 14 rfl rfl)
theorem dX6_read_41 : decode cX6_read 41 = .ok (.iconst 1, 1) := dk_4 (dk_at dksX6_read_1 17 rfl rfl)
theorem dX6_read_42 : decode cX6_read 42 = .ok (.goto 4, 3) := dk_167 0 4 (dk_at dksX6_read_1 18 rfl rfl)
theorem dX6_read_45 : decode cX6_read 45 = .ok (.iconst 0, 1) := dk_3 (dk_at dksX6_read_1 21 rfl rfl)
theorem dX6_read_46 : decode cX6_read 46 = .ok (.iconst 1, 1) := dk_4 (dk_at dksX6_read_1 22 rfl rfl)
theorem dX6_read_47 : decode cX6_read 47 = .ok (.invokevirtual 38, 3) := dk_182 0 38 (dk_at dksX6_read_2 0 rfl rfl)
theorem dX6_read_50 : decode cX6_read 50 = .ok (.aload_n 0, 1) := dk_42 (dk_at dksX6_read_2 3 rfl rfl)
theorem dX6_read_51 : decode cX6_read 51 = .ok (.iload_n 3, 1) := dk_29 (dk_at dksX6_read_2 4 rfl rfl)
theorem dX6_read_52 : decode cX6_read 52 = .ok (.iconst 3, 1) := dk_6 (dk_at dksX6_read_2 5 rfl rfl)
theorem dX6_read_53 : decode cX6_read 53 = .ok (.if_icmp .gt 14, 3) := dk_163 0 14 (dk_at dksX6_read_2 6 rfl rfl)
theorem dX6_read_56 : decode cX6_read 56 = .ok (.aload_n 0, 1) := dk_42 (dk_at dksX6_read_2 9 rfl rfl)
theorem dX6_read_57 : decode cX6_read 57 = .ok (.getfield 19, 3) := dk_180 0 19 (dk_at dksX6_read_2 10 rfl rfl)
theorem dX6_read_60 : decode cX6_read 60 = .ok (.iload_n 3, 1) := dk_29 (dk_at dksX6_read_2 13 rfl rfl)
theorem dX6_read_61 : decode cX6_read 61 = .ok (.invokestatic 42, 3) := dk_184 0 42 (dk_at dksX6_read_2 14 rfl rfl)
theorem dX6_read_64 : decode cX6_read 64 = .ok (.ifCond .ne 7, 3) := dk_154 0 7 (dk_at dksX6_read_2 17 rfl rfl)
theorem dX6_read_67 : decode cX6_read 67 = .ok (.iconst 1, 1) := dk_4 (dk_at dksX6_read_2 20 rfl rfl)
theorem dX6_read_68 : decode cX6_read 68 = .ok (.goto 4, 3) := dk_167 0 4 (dk_at dksX6_read_2 21 rfl rfl)
theorem dX6_read_71 : decode cX6_read 71 = .ok (.iconst 0, 1) := dk_3 (dk_at dksX6_read_3 0 rfl rfl)
theorem dX6_read_72 : decode cX6_read 72 = .ok (.iconst 3, 1) := dk_6 (dk_at dksX6_read_3 1 rfl rfl)
theorem dX6_read_73 : decode cX6_read 73 = .ok (.invokevirtual 38, 3) := dk_182 0 38 (dk_at dksX6_read_3 2 rfl rfl)
theorem dX6_read_76 : decode cX6_read 76 = .ok (.aload_n 0, 1) := dk_42 (dk_at dksX6_read_3 5 rfl rfl)
theorem dX6_read_77 : decode cX6_read 77 = .ok (.iload_n 3, 1) := dk_29 (dk_at dksX6_read_3 6 rfl rfl)
theorem dX6_read_78 : decode cX6_read 78 = .ok (.iconst 4, 1) := dk_7 (dk_at dksX6_read_3 7 rfl rfl)
theorem dX6_read_79 : decode cX6_read 79 = .ok (.if_icmp .lt 54, 3) := dk_161 0 54 (dk_at dksX6_read_3 8 rfl rfl)
theorem dX6_read_82 : decode cX6_read 82 = .ok (.iload_n 3, 1) := dk_29 (dk_at dksX6_read_3 11 rfl rfl)
theorem dX6_read_83 : decode cX6_read 83 = .ok (.iconst 4, 1) := dk_7 (dk_at dksX6_read_3 12 rfl rfl)
theorem dX6_read_84 : decode cX6_read 84 = .ok (.if_icmp .ne 18, 3) := dk_160 0 18 (dk_at dksX6_read_3 13 rfl rfl)
theorem dX6_read_87 : decode cX6_read 87 = .ok (.aload_n 0, 1) := dk_42 (dk_at dksX6_read_3 16 rfl rfl)
theorem dX6_read_88 : decode cX6_read 88 = .ok (.getfield 15, 3) := dk_180 0 15 (dk_at dksX6_read_3 17 rfl rfl)
theorem dX6_read_91 : decode cX6_read 91 = .ok (.getfield 46, 3) := dk_180 0 46 (dk_at dksX6_read_3 20 rfl rfl)
theorem dX6_read_94 : decode cX6_read 94 = .ok (.bipush 8, 2) := dk_16 8 (dk_at dksX6_read_4 0 rfl rfl)
theorem dX6_read_96 : decode cX6_read 96 = .ok (.if_icmp .ge 41, 3) := dk_162 0 41 (dk_at dksX6_read_4 2 rfl rfl)
theorem dX6_read_99 : decode cX6_read 99 = .ok (.goto 34, 3) := dk_167 0 34 (dk_at dksX6_read_4 5 rfl rfl)
theorem dX6_read_102 : decode cX6_read 102 = .ok (.iload_n 3, 1) := dk_29 (dk_at dksX6_read_4 8 rfl rfl)
theorem dX6_read_103 : decode cX6_read 103 = .ok (.iconst 5, 1) := dk_8 (dk_at dksX6_read_4 9 rfl rfl)
theorem dX6_read_104 : decode cX6_read 104 = .ok (.if_icmp .ne 18, 3) := dk_160 0 18 (dk_at dksX6_read_4 10 rfl rfl)
theorem dX6_read_107 : decode cX6_read 107 = .ok (.aload_n 0, 1) := dk_42 (dk_at dksX6_read_4 13 rfl rfl)
theorem dX6_read_108 : decode cX6_read 108 = .ok (.getfield 15, 3) := dk_180 0 15 (dk_at dksX6_read_4 14 rfl rfl)
theorem dX6_read_111 : decode cX6_read 111 = .ok (.getfield 51, 3) := dk_180 0 51 (dk_at dksX6_read_4 17 rfl rfl)
theorem dX6_read_114 : decode cX6_read 114 = .ok (.bipush 8, 2) := dk_16 8 (dk_at dksX6_read_4 20 rfl rfl)
theorem dX6_read_116 : decode cX6_read 116 = .ok (.if_icmp .ge 21, 3) := dk_162 0 21 (dk_at dksX6_read_5 0 rfl rfl)
theorem dX6_read_119 : decode cX6_read 119 = .ok (.goto 14, 3) := dk_167 0 14 (dk_at dksX6_read_5 3 rfl rfl)
theorem dX6_read_122 : decode cX6_read 122 = .ok (.aload_n 0, 1) := dk_42 (dk_at dksX6_read_5 6 rfl rfl)
theorem dX6_read_123 : decode cX6_read 123 = .ok (.getfield 15, 3) := dk_180 0 15 (dk_at dksX6_read_5 7 rfl rfl)
theorem dX6_read_126 : decode cX6_read 126 = .ok (.getfield 54, 3) := dk_180 0 54 (dk_at dksX6_read_5 10 rfl rfl)
theorem dX6_read_129 : decode cX6_read 129 = .ok (.iconst 5, 1) := dk_8 (dk_at dksX6_read_5 13 rfl rfl)
theorem dX6_read_130 : decode cX6_read 130 = .ok (.if_icmp .ge 7, 3) := dk_162 0 7 (dk_at dksX6_read_5 14 rfl rfl)
theorem dX6_read_133 : decode cX6_read 133 = .ok (.iconst 1, 1) := dk_4 (dk_at dksX6_read_5 17 rfl rfl)
theorem dX6_read_134 : decode cX6_read 134 = .ok (.goto 4, 3) := dk_167 0 4 (dk_at dksX6_read_5 18 rfl rfl)
theorem dX6_read_137 : decode cX6_read 137 = .ok (.iconst 0, 1) := dk_3 (dk_at dksX6_read_5 21 rfl rfl)
theorem dX6_read_138 : decode cX6_read 138 = .ok (.iconst 4, 1) := dk_7 (dk_at dksX6_read_5 22 rfl rfl)
theorem dX6_read_139 : decode cX6_read 139 = .ok (.invokevirtual 38, 3) := dk_182 0 38 (dk_at dksX6_read_6 0 rfl rfl)
theorem dX6_read_142 : decode cX6_read 142 = .ok (.aload_n 0, 1) := dk_42 (dk_at dksX6_read_6 3 rfl rfl)
theorem dX6_read_143 : decode cX6_read 143 = .ok (.dup, 1) := dk_89 (dk_at dksX6_read_6 4 rfl rfl)
theorem dX6_read_144 : decode cX6_read 144 = .ok (.getfield 19, 3) := dk_180 0 19 (dk_at dksX6_read_6 5 rfl rfl)
theorem dX6_read_147 : decode cX6_read 147 = .ok (.iconst 1, 1) := dk_4 (dk_at dksX6_read_6 8 rfl rfl)
theorem dX6_read_148 : decode cX6_read 148 = .ok (.iload_n 3, 1) := dk_29 (dk_at dksX6_read_6 9 rfl rfl)
theorem dX6_read_149 : decode cX6_read 149 = .ok (.ishl, 1) := dk_120 (dk_at dksX6_read_6 10 rfl rfl)
theorem dX6_read_150 : decode cX6_read 150 = .ok (.ior, 1) := dk_128 (dk_at dksX6_read_6 11 rfl rfl)
theorem dX6_read_151 : decode cX6_read 151 = .ok (.putfield 19, 3) := dk_181 0 19 (dk_at dksX6_read_6 12 rfl rfl)
theorem dX6_read_154 : decode cX6_read 154 = .ok (.aload_n 0, 1) := dk_42 (dk_at dksX6_read_6 15 rfl rfl)
theorem dX6_read_155 : decode cX6_read 155 = .ok (.invokevirtual 57, 3) := dk_182 0 57 (dk_at dksX6_read_6 16 rfl rfl)
theorem dX6_read_158 : decode cX6_read 158 = .ok (.aload_n 0, 1) := dk_42 (dk_at dksX6_read_6 19 rfl rfl)
theorem dX6_read_159 : decode cX6_read 159 = .ok (.iload_n 3, 1) := dk_29 (dk_at dksX6_read_6 20 rfl rfl)
theorem dX6_read_160 : decode cX6_read 160 = .ok (.invokevirtual 60, 3) := dk_182 0 60 (dk_at dksX6_read_6 21 rfl rfl)
theorem dX6_read_163 : decode cX6_read 163 = .ok (.aload_n 0, 1) := dk_42 (dk_at dksX6_read_7 0 rfl rfl)
theorem dX6_read_164 : decode cX6_read 164 = .ok (.bipush 59, 2) := dk_16 59 (dk_at dksX6_read_7 1 rfl rfl)
theorem dX6_read_166 : decode cX6_read 166 = .ok (.invokevirtual 64, 3) := dk_182 0 64 (dk_at dksX6_read_7 3 rfl rfl)
theorem dX6_read_169 : decode cX6_read 169 = .ok (.iinc 2 1, 3) := dk_132 2 1 (dk_at dksX6_read_7 6 rfl rfl)
theorem dX6_read_172 : decode cX6_read 172 = .ok (.goto (-156), 3) := dk_167 255 100 (dk_at dksX6_read_7 9 rfl rfl)
theorem dX6_read_175 : decode cX6_read 175 = .ok (.iload_n 2, 1) := dk_28 (dk_at dksX6_read_7 12 rfl rfl)
theorem dX6_read_176 : decode cX6_read 176 = .ok (.ireturn, 1) := dk_172 (dk_at dksX6_read_7 13 rfl rfl)
abbrev cX6_line : ByteArray := prog_10_method_4_code
def yX6_line : MethodName := ⟨RX6, "line", "(I)V"⟩
def dkwX6_line_17 : List UInt8 := [181, 0, 54, 177]
abbrev dktX6_line_17 : List UInt8 := dkwX6_line_17 ++ []
def dkwX6_line_16 : List UInt8 := [180, 0, 15, 180, 0, 54, 42, 4, 16, 99, 182, 0, 86, 79, 42, 180, 0, 15, 89, 180, 0, 54, 4, 96]
abbrev dktX6_line_16 : List UInt8 := dkwX6_line_16 ++ dktX6_line_17
def dkwX6_line_15 : List UInt8 := [180, 0, 15, 180, 0, 54, 42, 4, 16, 9, 182, 0, 86, 79, 42, 180, 0, 15, 180, 0, 134, 42]
abbrev dktX6_line_15 : List UInt8 := dkwX6_line_15 ++ dktX6_line_16
def dkwX6_line_14 : List UInt8 := [180, 0, 15, 89, 180, 0, 51, 4, 96, 181, 0, 51, 167, 0, 60, 42, 180, 0, 15, 180, 0, 131, 42]
abbrev dktX6_line_14 : List UInt8 := dkwX6_line_14 ++ dktX6_line_15
def dkwX6_line_13 : List UInt8 := [17, 0, 240, 182, 0, 86, 79, 42, 180, 0, 15, 180, 0, 128, 28, 42, 3, 16, 99, 182, 0, 86, 79, 42]
abbrev dktX6_line_13 : List UInt8 := dkwX6_line_13 ++ dktX6_line_14
def dkwX6_line_12 : List UInt8 := [180, 0, 15, 180, 0, 79, 28, 42, 182, 0, 108, 80, 42, 180, 0, 15, 180, 0, 125, 28, 42, 3]
abbrev dktX6_line_12 : List UInt8 := dkwX6_line_12 ++ dktX6_line_13
def dkwX6_line_11 : List UInt8 := [180, 0, 15, 89, 180, 0, 46, 4, 96, 181, 0, 46, 167, 0, 130, 42, 180, 0, 15, 180, 0, 51, 61, 42]
abbrev dktX6_line_11 : List UInt8 := dkwX6_line_11 ++ dktX6_line_12
def dkwX6_line_10 : List UInt8 := [42, 18, 116, 182, 0, 118, 153, 0, 17, 42, 180, 0, 15, 180, 0, 122, 28, 4, 84, 42, 182, 0, 57, 42]
abbrev dktX6_line_10 : List UInt8 := dkwX6_line_10 ++ dktX6_line_11
def dkwX6_line_9 : List UInt8 := [182, 0, 86, 79, 42, 180, 0, 15, 180, 0, 112, 5, 28, 104, 4, 96, 42, 4, 16, 20, 182, 0, 86, 79]
abbrev dktX6_line_9 : List UInt8 := dkwX6_line_9 ++ dktX6_line_10
def dkwX6_line_8 : List UInt8 := [180, 0, 71, 28, 42, 182, 0, 108, 80, 42, 180, 0, 15, 180, 0, 112, 5, 28, 104, 42, 4, 16, 20]
abbrev dktX6_line_8 : List UInt8 := dkwX6_line_8 ++ dktX6_line_9
def dkwX6_line_7 : List UInt8 := [16, 20, 182, 0, 86, 181, 0, 105, 167, 0, 228, 42, 180, 0, 15, 180, 0, 46, 61, 42, 180, 0, 15]
abbrev dktX6_line_7 : List UInt8 := dkwX6_line_7 ++ dktX6_line_8
def dkwX6_line_6 : List UInt8 := [180, 0, 99, 181, 0, 102, 42, 182, 0, 57, 42, 180, 0, 15, 42, 42, 180, 0, 15, 180, 0, 102, 4, 96]
abbrev dktX6_line_6 : List UInt8 := dkwX6_line_6 ++ dktX6_line_7
def dkwX6_line_5 : List UInt8 := [180, 0, 99, 16, 20, 162, 0, 7, 4, 167, 0, 4, 3, 5, 182, 0, 38, 42, 180, 0, 15, 42]
abbrev dktX6_line_5 : List UInt8 := dkwX6_line_5 ++ dktX6_line_6
def dkwX6_line_4 : List UInt8 := [167, 1, 49, 42, 42, 180, 0, 27, 5, 160, 0, 7, 4, 167, 0, 4, 3, 4, 182, 0, 38, 42, 42]
abbrev dktX6_line_4 : List UInt8 := dkwX6_line_4 ++ dktX6_line_5
def dkwX6_line_3 : List UInt8 := [182, 0, 86, 181, 0, 93, 167, 1, 66, 42, 180, 0, 15, 42, 3, 16, 99, 182, 0, 86, 181, 0, 96]
abbrev dktX6_line_3 : List UInt8 := dkwX6_line_3 ++ dktX6_line_4
def dkwX6_line_2 : List UInt8 := [42, 180, 0, 15, 42, 4, 7, 182, 0, 86, 181, 0, 90, 167, 1, 83, 42, 180, 0, 15, 42, 3, 16, 9]
abbrev dktX6_line_2 : List UInt8 := dkwX6_line_2 ++ dktX6_line_3
def dkwX6_line_1 : List UInt8 := [170, 0, 0, 0, 0, 1, 78, 0, 0, 0, 0, 0, 0, 0, 5, 0, 0, 0, 39, 0, 0, 0, 55, 0, 0, 0, 72, 0, 0, 0, 89, 0, 0, 0, 166, 0, 0, 1, 8]
abbrev dktX6_line_1 : List UInt8 := dkwX6_line_1 ++ dktX6_line_2
def dkwX6_line_0 : List UInt8 := [27]
abbrev dktX6_line_0 : List UInt8 := dkwX6_line_0 ++ dktX6_line_1
theorem dksX6_line_0 : cX6_line.data.toList.drop 0 = dktX6_line_0 := by decide +kernel
theorem dksX6_line_1 : cX6_line.data.toList.drop 1 = dktX6_line_1 := dk_seg dksX6_line_0 1 rfl rfl
theorem dksX6_line_2 : cX6_line.data.toList.drop 40 = dktX6_line_2 := dk_seg dksX6_line_1 39 rfl rfl
theorem dksX6_line_3 : cX6_line.data.toList.drop 64 = dktX6_line_3 := dk_seg dksX6_line_2 24 rfl rfl
theorem dksX6_line_4 : cX6_line.data.toList.drop 87 = dktX6_line_4 := dk_seg dksX6_line_3 23 rfl rfl
theorem dksX6_line_5 : cX6_line.data.toList.drop 110 = dktX6_line_5 := dk_seg dksX6_line_4 23 rfl rfl
theorem dksX6_line_6 : cX6_line.data.toList.drop 132 = dktX6_line_6 := dk_seg dksX6_line_5 22 rfl rfl
theorem dksX6_line_7 : cX6_line.data.toList.drop 156 = dktX6_line_7 := dk_seg dksX6_line_6 24 rfl rfl
theorem dksX6_line_8 : cX6_line.data.toList.drop 179 = dktX6_line_8 := dk_seg dksX6_line_7 23 rfl rfl
theorem dksX6_line_9 : cX6_line.data.toList.drop 202 = dktX6_line_9 := dk_seg dksX6_line_8 23 rfl rfl
theorem dksX6_line_10 : cX6_line.data.toList.drop 226 = dktX6_line_10 := dk_seg dksX6_line_9 24 rfl rfl
theorem dksX6_line_11 : cX6_line.data.toList.drop 250 = dktX6_line_11 := dk_seg dksX6_line_10 24 rfl rfl
theorem dksX6_line_12 : cX6_line.data.toList.drop 274 = dktX6_line_12 := dk_seg dksX6_line_11 24 rfl rfl
theorem dksX6_line_13 : cX6_line.data.toList.drop 296 = dktX6_line_13 := dk_seg dksX6_line_12 22 rfl rfl
theorem dksX6_line_14 : cX6_line.data.toList.drop 320 = dktX6_line_14 := dk_seg dksX6_line_13 24 rfl rfl
theorem dksX6_line_15 : cX6_line.data.toList.drop 343 = dktX6_line_15 := dk_seg dksX6_line_14 23 rfl rfl
theorem dksX6_line_16 : cX6_line.data.toList.drop 365 = dktX6_line_16 := dk_seg dksX6_line_15 22 rfl rfl
theorem dksX6_line_17 : cX6_line.data.toList.drop 389 = dktX6_line_17 := dk_seg dksX6_line_16 24 rfl rfl
theorem dX6_line_0 : decode cX6_line 0 = .ok (.iload_n 1, 1) := dk_27 (dk_at dksX6_line_0 0 rfl rfl)
theorem dX6_line_1 : decode cX6_line 1 = .ok (.tableswitch 334 0 5 #[39, 55, 72, 89, 166, 264], 39) := by decide +kernel
theorem dX6_line_40 : decode cX6_line 40 = .ok (.aload_n 0, 1) := dk_42 (dk_at dksX6_line_2 0 rfl rfl)
theorem dX6_line_41 : decode cX6_line 41 = .ok (.getfield 15, 3) := dk_180 0 15 (dk_at dksX6_line_2 1 rfl rfl)
theorem dX6_line_44 : decode cX6_line 44 = .ok (.aload_n 0, 1) := dk_42 (dk_at dksX6_line_2 4 rfl rfl)
theorem dX6_line_45 : decode cX6_line 45 = .ok (.iconst 1, 1) := dk_4 (dk_at dksX6_line_2 5 rfl rfl)
theorem dX6_line_46 : decode cX6_line 46 = .ok (.iconst 4, 1) := dk_7 (dk_at dksX6_line_2 6 rfl rfl)
theorem dX6_line_47 : decode cX6_line 47 = .ok (.invokevirtual 86, 3) := dk_182 0 86 (dk_at dksX6_line_2 7 rfl rfl)
theorem dX6_line_50 : decode cX6_line 50 = .ok (.putfield 90, 3) := dk_181 0 90 (dk_at dksX6_line_2 10 rfl rfl)
theorem dX6_line_53 : decode cX6_line 53 = .ok (.goto 339, 3) := dk_167 1 83 (dk_at dksX6_line_2 13 rfl rfl)
theorem dX6_line_56 : decode cX6_line 56 = .ok (.aload_n 0, 1) := dk_42 (dk_at dksX6_line_2 16 rfl rfl)
theorem dX6_line_57 : decode cX6_line 57 = .ok (.getfield 15, 3) := dk_180 0 15 (dk_at dksX6_line_2 17 rfl rfl)
theorem dX6_line_60 : decode cX6_line 60 = .ok (.aload_n 0, 1) := dk_42 (dk_at dksX6_line_2 20 rfl rfl)
theorem dX6_line_61 : decode cX6_line 61 = .ok (.iconst 0, 1) := dk_3 (dk_at dksX6_line_2 21 rfl rfl)
theorem dX6_line_62 : decode cX6_line 62 = .ok (.bipush 9, 2) := dk_16 9 (dk_at dksX6_line_2 22 rfl rfl)
theorem dX6_line_64 : decode cX6_line 64 = .ok (.invokevirtual 86, 3) := dk_182 0 86 (dk_at dksX6_line_3 0 rfl rfl)
theorem dX6_line_67 : decode cX6_line 67 = .ok (.putfield 93, 3) := dk_181 0 93 (dk_at dksX6_line_3 3 rfl rfl)
theorem dX6_line_70 : decode cX6_line 70 = .ok (.goto 322, 3) := dk_167 1 66 (dk_at dksX6_line_3 6 rfl rfl)
theorem dX6_line_73 : decode cX6_line 73 = .ok (.aload_n 0, 1) := dk_42 (dk_at dksX6_line_3 9 rfl rfl)
theorem dX6_line_74 : decode cX6_line 74 = .ok (.getfield 15, 3) := dk_180 0 15 (dk_at dksX6_line_3 10 rfl rfl)
theorem dX6_line_77 : decode cX6_line 77 = .ok (.aload_n 0, 1) := dk_42 (dk_at dksX6_line_3 13 rfl rfl)
theorem dX6_line_78 : decode cX6_line 78 = .ok (.iconst 0, 1) := dk_3 (dk_at dksX6_line_3 14 rfl rfl)
theorem dX6_line_79 : decode cX6_line 79 = .ok (.bipush 99, 2) := dk_16 99 (dk_at dksX6_line_3 15 rfl rfl)
theorem dX6_line_81 : decode cX6_line 81 = .ok (.invokevirtual 86, 3) := dk_182 0 86 (dk_at dksX6_line_3 17 rfl rfl)
theorem dX6_line_84 : decode cX6_line 84 = .ok (.putfield 96, 3) := dk_181 0 96 (dk_at dksX6_line_3 20 rfl rfl)
theorem dX6_line_87 : decode cX6_line 87 = .ok (.goto 305, 3) := dk_167 1 49 (dk_at dksX6_line_4 0 rfl rfl)
theorem dX6_line_90 : decode cX6_line 90 = .ok (.aload_n 0, 1) := dk_42 (dk_at dksX6_line_4 3 rfl rfl)
theorem dX6_line_91 : decode cX6_line 91 = .ok (.aload_n 0, 1) := dk_42 (dk_at dksX6_line_4 4 rfl rfl)
theorem dX6_line_92 : decode cX6_line 92 = .ok (.getfield 27, 3) := dk_180 0 27 (dk_at dksX6_line_4 5 rfl rfl)
theorem dX6_line_95 : decode cX6_line 95 = .ok (.iconst 2, 1) := dk_5 (dk_at dksX6_line_4 8 rfl rfl)
theorem dX6_line_96 : decode cX6_line 96 = .ok (.if_icmp .ne 7, 3) := dk_160 0 7 (dk_at dksX6_line_4 9 rfl rfl)
theorem dX6_line_99 : decode cX6_line 99 = .ok (.iconst 1, 1) := dk_4 (dk_at dksX6_line_4 12 rfl rfl)
theorem dX6_line_100 : decode cX6_line 100 = .ok (.goto 4, 3) := dk_167 0 4 (dk_at dksX6_line_4 13 rfl rfl)
theorem dX6_line_103 : decode cX6_line 103 = .ok (.iconst 0, 1) := dk_3 (dk_at dksX6_line_4 16 rfl rfl)
theorem dX6_line_104 : decode cX6_line 104 = .ok (.iconst 1, 1) := dk_4 (dk_at dksX6_line_4 17 rfl rfl)
theorem dX6_line_105 : decode cX6_line 105 = .ok (.invokevirtual 38, 3) := dk_182 0 38 (dk_at dksX6_line_4 18 rfl rfl)
theorem dX6_line_108 : decode cX6_line 108 = .ok (.aload_n 0, 1) := dk_42 (dk_at dksX6_line_4 21 rfl rfl)
theorem dX6_line_109 : decode cX6_line 109 = .ok (.aload_n 0, 1) := dk_42 (dk_at dksX6_line_4 22 rfl rfl)
theorem dX6_line_110 : decode cX6_line 110 = .ok (.getfield 99, 3) := dk_180 0 99 (dk_at dksX6_line_5 0 rfl rfl)
theorem dX6_line_113 : decode cX6_line 113 = .ok (.bipush 20, 2) := dk_16 20 (dk_at dksX6_line_5 3 rfl rfl)
theorem dX6_line_115 : decode cX6_line 115 = .ok (.if_icmp .ge 7, 3) := dk_162 0 7 (dk_at dksX6_line_5 5 rfl rfl)
theorem dX6_line_118 : decode cX6_line 118 = .ok (.iconst 1, 1) := dk_4 (dk_at dksX6_line_5 8 rfl rfl)
theorem dX6_line_119 : decode cX6_line 119 = .ok (.goto 4, 3) := dk_167 0 4 (dk_at dksX6_line_5 9 rfl rfl)
theorem dX6_line_122 : decode cX6_line 122 = .ok (.iconst 0, 1) := dk_3 (dk_at dksX6_line_5 12 rfl rfl)
theorem dX6_line_123 : decode cX6_line 123 = .ok (.iconst 2, 1) := dk_5 (dk_at dksX6_line_5 13 rfl rfl)
theorem dX6_line_124 : decode cX6_line 124 = .ok (.invokevirtual 38, 3) := dk_182 0 38 (dk_at dksX6_line_5 14 rfl rfl)
theorem dX6_line_127 : decode cX6_line 127 = .ok (.aload_n 0, 1) := dk_42 (dk_at dksX6_line_5 17 rfl rfl)
theorem dX6_line_128 : decode cX6_line 128 = .ok (.getfield 15, 3) := dk_180 0 15 (dk_at dksX6_line_5 18 rfl rfl)
theorem dX6_line_131 : decode cX6_line 131 = .ok (.aload_n 0, 1) := dk_42 (dk_at dksX6_line_5 21 rfl rfl)
theorem dX6_line_132 : decode cX6_line 132 = .ok (.getfield 99, 3) := dk_180 0 99 (dk_at dksX6_line_6 0 rfl rfl)
theorem dX6_line_135 : decode cX6_line 135 = .ok (.putfield 102, 3) := dk_181 0 102 (dk_at dksX6_line_6 3 rfl rfl)
theorem dX6_line_138 : decode cX6_line 138 = .ok (.aload_n 0, 1) := dk_42 (dk_at dksX6_line_6 6 rfl rfl)
theorem dX6_line_139 : decode cX6_line 139 = .ok (.invokevirtual 57, 3) := dk_182 0 57 (dk_at dksX6_line_6 7 rfl rfl)
theorem dX6_line_142 : decode cX6_line 142 = .ok (.aload_n 0, 1) := dk_42 (dk_at dksX6_line_6 10 rfl rfl)
theorem dX6_line_143 : decode cX6_line 143 = .ok (.getfield 15, 3) := dk_180 0 15 (dk_at dksX6_line_6 11 rfl rfl)
theorem dX6_line_146 : decode cX6_line 146 = .ok (.aload_n 0, 1) := dk_42 (dk_at dksX6_line_6 14 rfl rfl)
theorem dX6_line_147 : decode cX6_line 147 = .ok (.aload_n 0, 1) := dk_42 (dk_at dksX6_line_6 15 rfl rfl)
theorem dX6_line_148 : decode cX6_line 148 = .ok (.getfield 15, 3) := dk_180 0 15 (dk_at dksX6_line_6 16 rfl rfl)
theorem dX6_line_151 : decode cX6_line 151 = .ok (.getfield 102, 3) := dk_180 0 102 (dk_at dksX6_line_6 19 rfl rfl)
theorem dX6_line_154 : decode cX6_line 154 = .ok (.iconst 1, 1) := dk_4 (dk_at dksX6_line_6 22 rfl rfl)
theorem dX6_line_155 : decode cX6_line 155 = .ok (.iadd, 1) := dk_96 (dk_at dksX6_line_6 23 rfl rfl)
theorem dX6_line_156 : decode cX6_line 156 = .ok (.bipush 20, 2) := dk_16 20 (dk_at dksX6_line_7 0 rfl rfl)
theorem dX6_line_158 : decode cX6_line 158 = .ok (.invokevirtual 86, 3) := dk_182 0 86 (dk_at dksX6_line_7 2 rfl rfl)
theorem dX6_line_161 : decode cX6_line 161 = .ok (.putfield 105, 3) := dk_181 0 105 (dk_at dksX6_line_7 5 rfl rfl)
theorem dX6_line_164 : decode cX6_line 164 = .ok (.goto 228, 3) := dk_167 0 228 (dk_at dksX6_line_7 8 rfl rfl)
theorem dX6_line_167 : decode cX6_line 167 = .ok (.aload_n 0, 1) := dk_42 (dk_at dksX6_line_7 11 rfl rfl)
theorem dX6_line_168 : decode cX6_line 168 = .ok (.getfield 15, 3) := dk_180 0 15 (dk_at dksX6_line_7 12 rfl rfl)
theorem dX6_line_171 : decode cX6_line 171 = .ok (.getfield 46, 3) := dk_180 0 46 (dk_at dksX6_line_7 15 rfl rfl)
theorem dX6_line_174 : decode cX6_line 174 = .ok (.istore_n 2, 1) := dk_61 (dk_at dksX6_line_7 18 rfl rfl)
theorem dX6_line_175 : decode cX6_line 175 = .ok (.aload_n 0, 1) := dk_42 (dk_at dksX6_line_7 19 rfl rfl)
theorem dX6_line_176 : decode cX6_line 176 = .ok (.getfield 15, 3) := dk_180 0 15 (dk_at dksX6_line_7 20 rfl rfl)
theorem dX6_line_179 : decode cX6_line 179 = .ok (.getfield 71, 3) := dk_180 0 71 (dk_at dksX6_line_8 0 rfl rfl)
theorem dX6_line_182 : decode cX6_line 182 = .ok (.iload_n 2, 1) := dk_28 (dk_at dksX6_line_8 3 rfl rfl)
theorem dX6_line_183 : decode cX6_line 183 = .ok (.aload_n 0, 1) := dk_42 (dk_at dksX6_line_8 4 rfl rfl)
theorem dX6_line_184 : decode cX6_line 184 = .ok (.invokevirtual 108, 3) := dk_182 0 108 (dk_at dksX6_line_8 5 rfl rfl)
theorem dX6_line_187 : decode cX6_line 187 = .ok (.lastore, 1) := dk_80 (dk_at dksX6_line_8 8 rfl rfl)
theorem dX6_line_188 : decode cX6_line 188 = .ok (.aload_n 0, 1) := dk_42 (dk_at dksX6_line_8 9 rfl rfl)
theorem dX6_line_189 : decode cX6_line 189 = .ok (.getfield 15, 3) := dk_180 0 15 (dk_at dksX6_line_8 10 rfl rfl)
theorem dX6_line_192 : decode cX6_line 192 = .ok (.getfield 112, 3) := dk_180 0 112 (dk_at dksX6_line_8 13 rfl rfl)
theorem dX6_line_195 : decode cX6_line 195 = .ok (.iconst 2, 1) := dk_5 (dk_at dksX6_line_8 16 rfl rfl)
theorem dX6_line_196 : decode cX6_line 196 = .ok (.iload_n 2, 1) := dk_28 (dk_at dksX6_line_8 17 rfl rfl)
theorem dX6_line_197 : decode cX6_line 197 = .ok (.imul, 1) := dk_104 (dk_at dksX6_line_8 18 rfl rfl)
theorem dX6_line_198 : decode cX6_line 198 = .ok (.aload_n 0, 1) := dk_42 (dk_at dksX6_line_8 19 rfl rfl)
theorem dX6_line_199 : decode cX6_line 199 = .ok (.iconst 1, 1) := dk_4 (dk_at dksX6_line_8 20 rfl rfl)
theorem dX6_line_200 : decode cX6_line 200 = .ok (.bipush 20, 2) := dk_16 20 (dk_at dksX6_line_8 21 rfl rfl)
theorem dX6_line_202 : decode cX6_line 202 = .ok (.invokevirtual 86, 3) := dk_182 0 86 (dk_at dksX6_line_9 0 rfl rfl)
theorem dX6_line_205 : decode cX6_line 205 = .ok (.iastore, 1) := dk_79 (dk_at dksX6_line_9 3 rfl rfl)
theorem dX6_line_206 : decode cX6_line 206 = .ok (.aload_n 0, 1) := dk_42 (dk_at dksX6_line_9 4 rfl rfl)
theorem dX6_line_207 : decode cX6_line 207 = .ok (.getfield 15, 3) := dk_180 0 15 (dk_at dksX6_line_9 5 rfl rfl)
theorem dX6_line_210 : decode cX6_line 210 = .ok (.getfield 112, 3) := dk_180 0 112 (dk_at dksX6_line_9 8 rfl rfl)
theorem dX6_line_213 : decode cX6_line 213 = .ok (.iconst 2, 1) := dk_5 (dk_at dksX6_line_9 11 rfl rfl)
theorem dX6_line_214 : decode cX6_line 214 = .ok (.iload_n 2, 1) := dk_28 (dk_at dksX6_line_9 12 rfl rfl)
theorem dX6_line_215 : decode cX6_line 215 = .ok (.imul, 1) := dk_104 (dk_at dksX6_line_9 13 rfl rfl)
theorem dX6_line_216 : decode cX6_line 216 = .ok (.iconst 1, 1) := dk_4 (dk_at dksX6_line_9 14 rfl rfl)
theorem dX6_line_217 : decode cX6_line 217 = .ok (.iadd, 1) := dk_96 (dk_at dksX6_line_9 15 rfl rfl)
theorem dX6_line_218 : decode cX6_line 218 = .ok (.aload_n 0, 1) := dk_42 (dk_at dksX6_line_9 16 rfl rfl)
theorem dX6_line_219 : decode cX6_line 219 = .ok (.iconst 1, 1) := dk_4 (dk_at dksX6_line_9 17 rfl rfl)
theorem dX6_line_220 : decode cX6_line 220 = .ok (.bipush 20, 2) := dk_16 20 (dk_at dksX6_line_9 18 rfl rfl)
theorem dX6_line_222 : decode cX6_line 222 = .ok (.invokevirtual 86, 3) := dk_182 0 86 (dk_at dksX6_line_9 20 rfl rfl)
theorem dX6_line_225 : decode cX6_line 225 = .ok (.iastore, 1) := dk_79 (dk_at dksX6_line_9 23 rfl rfl)
theorem dX6_line_226 : decode cX6_line 226 = .ok (.aload_n 0, 1) := dk_42 (dk_at dksX6_line_10 0 rfl rfl)
theorem dX6_line_227 : decode cX6_line 227 = .ok (.ldc 116, 2) := dk_18 116 (dk_at dksX6_line_10 1 rfl rfl)
theorem dX6_line_229 : decode cX6_line 229 = .ok (.invokevirtual 118, 3) := dk_182 0 118 (dk_at dksX6_line_10 3 rfl rfl)
theorem dX6_line_232 : decode cX6_line 232 = .ok (.ifCond .eq 17, 3) := dk_153 0 17 (dk_at dksX6_line_10 6 rfl rfl)
theorem dX6_line_235 : decode cX6_line 235 = .ok (.aload_n 0, 1) := dk_42 (dk_at dksX6_line_10 9 rfl rfl)
theorem dX6_line_236 : decode cX6_line 236 = .ok (.getfield 15, 3) := dk_180 0 15 (dk_at dksX6_line_10 10 rfl rfl)
theorem dX6_line_239 : decode cX6_line 239 = .ok (.getfield 122, 3) := dk_180 0 122 (dk_at dksX6_line_10 13 rfl rfl)
theorem dX6_line_242 : decode cX6_line 242 = .ok (.iload_n 2, 1) := dk_28 (dk_at dksX6_line_10 16 rfl rfl)
theorem dX6_line_243 : decode cX6_line 243 = .ok (.iconst 1, 1) := dk_4 (dk_at dksX6_line_10 17 rfl rfl)
theorem dX6_line_244 : decode cX6_line 244 = .ok (.bastore, 1) := dk_84 (dk_at dksX6_line_10 18 rfl rfl)
theorem dX6_line_245 : decode cX6_line 245 = .ok (.aload_n 0, 1) := dk_42 (dk_at dksX6_line_10 19 rfl rfl)
theorem dX6_line_246 : decode cX6_line 246 = .ok (.invokevirtual 57, 3) := dk_182 0 57 (dk_at dksX6_line_10 20 rfl rfl)
theorem dX6_line_249 : decode cX6_line 249 = .ok (.aload_n 0, 1) := dk_42 (dk_at dksX6_line_10 23 rfl rfl)
theorem dX6_line_250 : decode cX6_line 250 = .ok (.getfield 15, 3) := dk_180 0 15 (dk_at dksX6_line_11 0 rfl rfl)
theorem dX6_line_253 : decode cX6_line 253 = .ok (.dup, 1) := dk_89 (dk_at dksX6_line_11 3 rfl rfl)
theorem dX6_line_254 : decode cX6_line 254 = .ok (.getfield 46, 3) := dk_180 0 46 (dk_at dksX6_line_11 4 rfl rfl)
theorem dX6_line_257 : decode cX6_line 257 = .ok (.iconst 1, 1) := dk_4 (dk_at dksX6_line_11 7 rfl rfl)
theorem dX6_line_258 : decode cX6_line 258 = .ok (.iadd, 1) := dk_96 (dk_at dksX6_line_11 8 rfl rfl)
theorem dX6_line_259 : decode cX6_line 259 = .ok (.putfield 46, 3) := dk_181 0 46 (dk_at dksX6_line_11 9 rfl rfl)
theorem dX6_line_262 : decode cX6_line 262 = .ok (.goto 130, 3) := dk_167 0 130 (dk_at dksX6_line_11 12 rfl rfl)
theorem dX6_line_265 : decode cX6_line 265 = .ok (.aload_n 0, 1) := dk_42 (dk_at dksX6_line_11 15 rfl rfl)
theorem dX6_line_266 : decode cX6_line 266 = .ok (.getfield 15, 3) := dk_180 0 15 (dk_at dksX6_line_11 16 rfl rfl)
theorem dX6_line_269 : decode cX6_line 269 = .ok (.getfield 51, 3) := dk_180 0 51 (dk_at dksX6_line_11 19 rfl rfl)
theorem dX6_line_272 : decode cX6_line 272 = .ok (.istore_n 2, 1) := dk_61 (dk_at dksX6_line_11 22 rfl rfl)
theorem dX6_line_273 : decode cX6_line 273 = .ok (.aload_n 0, 1) := dk_42 (dk_at dksX6_line_11 23 rfl rfl)
theorem dX6_line_274 : decode cX6_line 274 = .ok (.getfield 15, 3) := dk_180 0 15 (dk_at dksX6_line_12 0 rfl rfl)
theorem dX6_line_277 : decode cX6_line 277 = .ok (.getfield 79, 3) := dk_180 0 79 (dk_at dksX6_line_12 3 rfl rfl)
theorem dX6_line_280 : decode cX6_line 280 = .ok (.iload_n 2, 1) := dk_28 (dk_at dksX6_line_12 6 rfl rfl)
theorem dX6_line_281 : decode cX6_line 281 = .ok (.aload_n 0, 1) := dk_42 (dk_at dksX6_line_12 7 rfl rfl)
theorem dX6_line_282 : decode cX6_line 282 = .ok (.invokevirtual 108, 3) := dk_182 0 108 (dk_at dksX6_line_12 8 rfl rfl)
theorem dX6_line_285 : decode cX6_line 285 = .ok (.lastore, 1) := dk_80 (dk_at dksX6_line_12 11 rfl rfl)
theorem dX6_line_286 : decode cX6_line 286 = .ok (.aload_n 0, 1) := dk_42 (dk_at dksX6_line_12 12 rfl rfl)
theorem dX6_line_287 : decode cX6_line 287 = .ok (.getfield 15, 3) := dk_180 0 15 (dk_at dksX6_line_12 13 rfl rfl)
theorem dX6_line_290 : decode cX6_line 290 = .ok (.getfield 125, 3) := dk_180 0 125 (dk_at dksX6_line_12 16 rfl rfl)
theorem dX6_line_293 : decode cX6_line 293 = .ok (.iload_n 2, 1) := dk_28 (dk_at dksX6_line_12 19 rfl rfl)
theorem dX6_line_294 : decode cX6_line 294 = .ok (.aload_n 0, 1) := dk_42 (dk_at dksX6_line_12 20 rfl rfl)
theorem dX6_line_295 : decode cX6_line 295 = .ok (.iconst 0, 1) := dk_3 (dk_at dksX6_line_12 21 rfl rfl)
theorem dX6_line_296 : decode cX6_line 296 = .ok (.sipush 240, 3) := dk_17 0 240 (dk_at dksX6_line_13 0 rfl rfl)
theorem dX6_line_299 : decode cX6_line 299 = .ok (.invokevirtual 86, 3) := dk_182 0 86 (dk_at dksX6_line_13 3 rfl rfl)
theorem dX6_line_302 : decode cX6_line 302 = .ok (.iastore, 1) := dk_79 (dk_at dksX6_line_13 6 rfl rfl)
theorem dX6_line_303 : decode cX6_line 303 = .ok (.aload_n 0, 1) := dk_42 (dk_at dksX6_line_13 7 rfl rfl)
theorem dX6_line_304 : decode cX6_line 304 = .ok (.getfield 15, 3) := dk_180 0 15 (dk_at dksX6_line_13 8 rfl rfl)
theorem dX6_line_307 : decode cX6_line 307 = .ok (.getfield 128, 3) := dk_180 0 128 (dk_at dksX6_line_13 11 rfl rfl)
theorem dX6_line_310 : decode cX6_line 310 = .ok (.iload_n 2, 1) := dk_28 (dk_at dksX6_line_13 14 rfl rfl)
theorem dX6_line_311 : decode cX6_line 311 = .ok (.aload_n 0, 1) := dk_42 (dk_at dksX6_line_13 15 rfl rfl)
theorem dX6_line_312 : decode cX6_line 312 = .ok (.iconst 0, 1) := dk_3 (dk_at dksX6_line_13 16 rfl rfl)
theorem dX6_line_313 : decode cX6_line 313 = .ok (.bipush 99, 2) := dk_16 99 (dk_at dksX6_line_13 17 rfl rfl)
theorem dX6_line_315 : decode cX6_line 315 = .ok (.invokevirtual 86, 3) := dk_182 0 86 (dk_at dksX6_line_13 19 rfl rfl)
theorem dX6_line_318 : decode cX6_line 318 = .ok (.iastore, 1) := dk_79 (dk_at dksX6_line_13 22 rfl rfl)
theorem dX6_line_319 : decode cX6_line 319 = .ok (.aload_n 0, 1) := dk_42 (dk_at dksX6_line_13 23 rfl rfl)
theorem dX6_line_320 : decode cX6_line 320 = .ok (.getfield 15, 3) := dk_180 0 15 (dk_at dksX6_line_14 0 rfl rfl)
theorem dX6_line_323 : decode cX6_line 323 = .ok (.dup, 1) := dk_89 (dk_at dksX6_line_14 3 rfl rfl)
theorem dX6_line_324 : decode cX6_line 324 = .ok (.getfield 51, 3) := dk_180 0 51 (dk_at dksX6_line_14 4 rfl rfl)
theorem dX6_line_327 : decode cX6_line 327 = .ok (.iconst 1, 1) := dk_4 (dk_at dksX6_line_14 7 rfl rfl)
theorem dX6_line_328 : decode cX6_line 328 = .ok (.iadd, 1) := dk_96 (dk_at dksX6_line_14 8 rfl rfl)
theorem dX6_line_329 : decode cX6_line 329 = .ok (.putfield 51, 3) := dk_181 0 51 (dk_at dksX6_line_14 9 rfl rfl)
theorem dX6_line_332 : decode cX6_line 332 = .ok (.goto 60, 3) := dk_167 0 60 (dk_at dksX6_line_14 12 rfl rfl)
theorem dX6_line_335 : decode cX6_line 335 = .ok (.aload_n 0, 1) := dk_42 (dk_at dksX6_line_14 15 rfl rfl)
theorem dX6_line_336 : decode cX6_line 336 = .ok (.getfield 15, 3) := dk_180 0 15 (dk_at dksX6_line_14 16 rfl rfl)
theorem dX6_line_339 : decode cX6_line 339 = .ok (.getfield 131, 3) := dk_180 0 131 (dk_at dksX6_line_14 19 rfl rfl)
theorem dX6_line_342 : decode cX6_line 342 = .ok (.aload_n 0, 1) := dk_42 (dk_at dksX6_line_14 22 rfl rfl)
theorem dX6_line_343 : decode cX6_line 343 = .ok (.getfield 15, 3) := dk_180 0 15 (dk_at dksX6_line_15 0 rfl rfl)
theorem dX6_line_346 : decode cX6_line 346 = .ok (.getfield 54, 3) := dk_180 0 54 (dk_at dksX6_line_15 3 rfl rfl)
theorem dX6_line_349 : decode cX6_line 349 = .ok (.aload_n 0, 1) := dk_42 (dk_at dksX6_line_15 6 rfl rfl)
theorem dX6_line_350 : decode cX6_line 350 = .ok (.iconst 1, 1) := dk_4 (dk_at dksX6_line_15 7 rfl rfl)
theorem dX6_line_351 : decode cX6_line 351 = .ok (.bipush 9, 2) := dk_16 9 (dk_at dksX6_line_15 8 rfl rfl)
theorem dX6_line_353 : decode cX6_line 353 = .ok (.invokevirtual 86, 3) := dk_182 0 86 (dk_at dksX6_line_15 10 rfl rfl)
theorem dX6_line_356 : decode cX6_line 356 = .ok (.iastore, 1) := dk_79 (dk_at dksX6_line_15 13 rfl rfl)
theorem dX6_line_357 : decode cX6_line 357 = .ok (.aload_n 0, 1) := dk_42 (dk_at dksX6_line_15 14 rfl rfl)
theorem dX6_line_358 : decode cX6_line 358 = .ok (.getfield 15, 3) := dk_180 0 15 (dk_at dksX6_line_15 15 rfl rfl)
theorem dX6_line_361 : decode cX6_line 361 = .ok (.getfield 134, 3) := dk_180 0 134 (dk_at dksX6_line_15 18 rfl rfl)
theorem dX6_line_364 : decode cX6_line 364 = .ok (.aload_n 0, 1) := dk_42 (dk_at dksX6_line_15 21 rfl rfl)
theorem dX6_line_365 : decode cX6_line 365 = .ok (.getfield 15, 3) := dk_180 0 15 (dk_at dksX6_line_16 0 rfl rfl)
theorem dX6_line_368 : decode cX6_line 368 = .ok (.getfield 54, 3) := dk_180 0 54 (dk_at dksX6_line_16 3 rfl rfl)
theorem dX6_line_371 : decode cX6_line 371 = .ok (.aload_n 0, 1) := dk_42 (dk_at dksX6_line_16 6 rfl rfl)
theorem dX6_line_372 : decode cX6_line 372 = .ok (.iconst 1, 1) := dk_4 (dk_at dksX6_line_16 7 rfl rfl)
theorem dX6_line_373 : decode cX6_line 373 = .ok (.bipush 99, 2) := dk_16 99 (dk_at dksX6_line_16 8 rfl rfl)
theorem dX6_line_375 : decode cX6_line 375 = .ok (.invokevirtual 86, 3) := dk_182 0 86 (dk_at dksX6_line_16 10 rfl rfl)
theorem dX6_line_378 : decode cX6_line 378 = .ok (.iastore, 1) := dk_79 (dk_at dksX6_line_16 13 rfl rfl)
theorem dX6_line_379 : decode cX6_line 379 = .ok (.aload_n 0, 1) := dk_42 (dk_at dksX6_line_16 14 rfl rfl)
theorem dX6_line_380 : decode cX6_line 380 = .ok (.getfield 15, 3) := dk_180 0 15 (dk_at dksX6_line_16 15 rfl rfl)
theorem dX6_line_383 : decode cX6_line 383 = .ok (.dup, 1) := dk_89 (dk_at dksX6_line_16 18 rfl rfl)
theorem dX6_line_384 : decode cX6_line 384 = .ok (.getfield 54, 3) := dk_180 0 54 (dk_at dksX6_line_16 19 rfl rfl)
theorem dX6_line_387 : decode cX6_line 387 = .ok (.iconst 1, 1) := dk_4 (dk_at dksX6_line_16 22 rfl rfl)
theorem dX6_line_388 : decode cX6_line 388 = .ok (.iadd, 1) := dk_96 (dk_at dksX6_line_16 23 rfl rfl)
theorem dX6_line_389 : decode cX6_line 389 = .ok (.putfield 54, 3) := dk_181 0 54 (dk_at dksX6_line_17 0 rfl rfl)
theorem dX6_line_392 : decode cX6_line 392 = .ok (.return_, 1) := dk_177 (dk_at dksX6_line_17 3 rfl rfl)
abbrev cX6_fresh : ByteArray := prog_10_method_3_code
def yX6_fresh : MethodName := ⟨RX6, "fresh", "()J"⟩
def dkwX6_fresh_3 : List UInt8 := [42, 182, 0, 57, 31, 173]
abbrev dktX6_fresh_3 : List UInt8 := dkwX6_fresh_3 ++ []
def dkwX6_fresh_2 : List UInt8 := [180, 0, 51, 182, 0, 75, 2, 160, 0, 7, 4, 167, 0, 4, 3, 6, 182, 0, 38, 42, 180, 0, 82, 64]
abbrev dktX6_fresh_2 : List UInt8 := dkwX6_fresh_2 ++ dktX6_fresh_3
def dkwX6_fresh_1 : List UInt8 := [180, 0, 46, 182, 0, 75, 2, 160, 0, 29, 42, 42, 180, 0, 15, 180, 0, 79, 42, 180, 0, 15]
abbrev dktX6_fresh_1 : List UInt8 := dkwX6_fresh_1 ++ dktX6_fresh_2
def dkwX6_fresh_0 : List UInt8 := [42, 42, 182, 0, 67, 4, 182, 0, 38, 42, 42, 42, 180, 0, 15, 180, 0, 71, 42, 180, 0, 15]
abbrev dktX6_fresh_0 : List UInt8 := dkwX6_fresh_0 ++ dktX6_fresh_1
theorem dksX6_fresh_0 : cX6_fresh.data.toList.drop 0 = dktX6_fresh_0 := by decide +kernel
theorem dksX6_fresh_1 : cX6_fresh.data.toList.drop 22 = dktX6_fresh_1 := dk_seg dksX6_fresh_0 22 rfl rfl
theorem dksX6_fresh_2 : cX6_fresh.data.toList.drop 44 = dktX6_fresh_2 := dk_seg dksX6_fresh_1 22 rfl rfl
theorem dksX6_fresh_3 : cX6_fresh.data.toList.drop 68 = dktX6_fresh_3 := dk_seg dksX6_fresh_2 24 rfl rfl
theorem dX6_fresh_0 : decode cX6_fresh 0 = .ok (.aload_n 0, 1) := dk_42 (dk_at dksX6_fresh_0 0 rfl rfl)
theorem dX6_fresh_1 : decode cX6_fresh 1 = .ok (.aload_n 0, 1) := dk_42 (dk_at dksX6_fresh_0 1 rfl rfl)
theorem dX6_fresh_2 : decode cX6_fresh 2 = .ok (.invokevirtual 67, 3) := dk_182 0 67 (dk_at dksX6_fresh_0 2 rfl rfl)
theorem dX6_fresh_5 : decode cX6_fresh 5 = .ok (.iconst 1, 1) := dk_4 (dk_at dksX6_fresh_0 5 rfl rfl)
theorem dX6_fresh_6 : decode cX6_fresh 6 = .ok (.invokevirtual 38, 3) := dk_182 0 38 (dk_at dksX6_fresh_0 6 rfl rfl)
theorem dX6_fresh_9 : decode cX6_fresh 9 = .ok (.aload_n 0, 1) := dk_42 (dk_at dksX6_fresh_0 9 rfl rfl)
theorem dX6_fresh_10 : decode cX6_fresh 10 = .ok (.aload_n 0, 1) := dk_42 (dk_at dksX6_fresh_0 10 rfl rfl)
theorem dX6_fresh_11 : decode cX6_fresh 11 = .ok (.aload_n 0, 1) := dk_42 (dk_at dksX6_fresh_0 11 rfl rfl)
theorem dX6_fresh_12 : decode cX6_fresh 12 = .ok (.getfield 15, 3) := dk_180 0 15 (dk_at dksX6_fresh_0 12 rfl rfl)
theorem dX6_fresh_15 : decode cX6_fresh 15 = .ok (.getfield 71, 3) := dk_180 0 71 (dk_at dksX6_fresh_0 15 rfl rfl)
theorem dX6_fresh_18 : decode cX6_fresh 18 = .ok (.aload_n 0, 1) := dk_42 (dk_at dksX6_fresh_0 18 rfl rfl)
theorem dX6_fresh_19 : decode cX6_fresh 19 = .ok (.getfield 15, 3) := dk_180 0 15 (dk_at dksX6_fresh_0 19 rfl rfl)
theorem dX6_fresh_22 : decode cX6_fresh 22 = .ok (.getfield 46, 3) := dk_180 0 46 (dk_at dksX6_fresh_1 0 rfl rfl)
theorem dX6_fresh_25 : decode cX6_fresh 25 = .ok (.invokevirtual 75, 3) := dk_182 0 75 (dk_at dksX6_fresh_1 3 rfl rfl)
theorem dX6_fresh_28 : decode cX6_fresh 28 = .ok (.iconst (-1), 1) := dk_2 (dk_at dksX6_fresh_1 6 rfl rfl)
theorem dX6_fresh_29 : decode cX6_fresh 29 = .ok (.if_icmp .ne 29, 3) := dk_160 0 29 (dk_at dksX6_fresh_1 7 rfl rfl)
theorem dX6_fresh_32 : decode cX6_fresh 32 = .ok (.aload_n 0, 1) := dk_42 (dk_at dksX6_fresh_1 10 rfl rfl)
theorem dX6_fresh_33 : decode cX6_fresh 33 = .ok (.aload_n 0, 1) := dk_42 (dk_at dksX6_fresh_1 11 rfl rfl)
theorem dX6_fresh_34 : decode cX6_fresh 34 = .ok (.getfield 15, 3) := dk_180 0 15 (dk_at dksX6_fresh_1 12 rfl rfl)
theorem dX6_fresh_37 : decode cX6_fresh 37 = .ok (.getfield 79, 3) := dk_180 0 79 (dk_at dksX6_fresh_1 15 rfl rfl)
theorem dX6_fresh_40 : decode cX6_fresh 40 = .ok (.aload_n 0, 1) := dk_42 (dk_at dksX6_fresh_1 18 rfl rfl)
theorem dX6_fresh_41 : decode cX6_fresh 41 = .ok (.getfield 15, 3) := dk_180 0 15 (dk_at dksX6_fresh_1 19 rfl rfl)
theorem dX6_fresh_44 : decode cX6_fresh 44 = .ok (.getfield 51, 3) := dk_180 0 51 (dk_at dksX6_fresh_2 0 rfl rfl)
theorem dX6_fresh_47 : decode cX6_fresh 47 = .ok (.invokevirtual 75, 3) := dk_182 0 75 (dk_at dksX6_fresh_2 3 rfl rfl)
theorem dX6_fresh_50 : decode cX6_fresh 50 = .ok (.iconst (-1), 1) := dk_2 (dk_at dksX6_fresh_2 6 rfl rfl)
theorem dX6_fresh_51 : decode cX6_fresh 51 = .ok (.if_icmp .ne 7, 3) := dk_160 0 7 (dk_at dksX6_fresh_2 7 rfl rfl)
theorem dX6_fresh_54 : decode cX6_fresh 54 = .ok (.iconst 1, 1) := dk_4 (dk_at dksX6_fresh_2 10 rfl rfl)
theorem dX6_fresh_55 : decode cX6_fresh 55 = .ok (.goto 4, 3) := dk_167 0 4 (dk_at dksX6_fresh_2 11 rfl rfl)
theorem dX6_fresh_58 : decode cX6_fresh 58 = .ok (.iconst 0, 1) := dk_3 (dk_at dksX6_fresh_2 14 rfl rfl)
theorem dX6_fresh_59 : decode cX6_fresh 59 = .ok (.iconst 3, 1) := dk_6 (dk_at dksX6_fresh_2 15 rfl rfl)
theorem dX6_fresh_60 : decode cX6_fresh 60 = .ok (.invokevirtual 38, 3) := dk_182 0 38 (dk_at dksX6_fresh_2 16 rfl rfl)
theorem dX6_fresh_63 : decode cX6_fresh 63 = .ok (.aload_n 0, 1) := dk_42 (dk_at dksX6_fresh_2 19 rfl rfl)
theorem dX6_fresh_64 : decode cX6_fresh 64 = .ok (.getfield 82, 3) := dk_180 0 82 (dk_at dksX6_fresh_2 20 rfl rfl)
theorem dX6_fresh_67 : decode cX6_fresh 67 = .ok (.lstore_n 1, 1) := dk_64 (dk_at dksX6_fresh_2 23 rfl rfl)
theorem dX6_fresh_68 : decode cX6_fresh 68 = .ok (.aload_n 0, 1) := dk_42 (dk_at dksX6_fresh_3 0 rfl rfl)
theorem dX6_fresh_69 : decode cX6_fresh 69 = .ok (.invokevirtual 57, 3) := dk_182 0 57 (dk_at dksX6_fresh_3 1 rfl rfl)
theorem dX6_fresh_72 : decode cX6_fresh 72 = .ok (.lload_n 1, 1) := dk_31 (dk_at dksX6_fresh_3 4 rfl rfl)
theorem dX6_fresh_73 : decode cX6_fresh 73 = .ok (.lreturn, 1) := dk_173 (dk_at dksX6_fresh_3 5 rfl rfl)
theorem q114 : (Jvm.Cond.initialized "PanSlices$KitchenReader") ∈ lw_all := lw_g (lw_at lw_m1 8 rfl) rfl
theorem q240 : (Jvm.Cond.fieldLinkNest "PanSlices$KitchenReader" (71 : Nat) "PanSlices$Kitchen" "names" "[J" "PanSlices") ∈ lw_tbl := lw_at lw_m1 134 rfl
theorem q244 : (Jvm.Cond.fieldLinkNest "PanSlices$KitchenReader" (79 : Nat) "PanSlices$Kitchen" "guestNames" "[J" "PanSlices") ∈ lw_tbl := lw_at lw_m1 138 rfl
theorem q247 : (Jvm.Cond.fieldLinkNest "PanSlices$KitchenReader" (112 : Nat) "PanSlices$Kitchen" "minutes" "[I" "PanSlices") ∈ lw_tbl := lw_at lw_m1 141 rfl
theorem q251 : (Jvm.Cond.fieldLinkNest "PanSlices$KitchenReader" (125 : Nat) "PanSlices$Kitchen" "comes" "[I" "PanSlices") ∈ lw_tbl := lw_at lw_m1 145 rfl
theorem q254 : (Jvm.Cond.fieldLinkNest "PanSlices$KitchenReader" (128 : Nat) "PanSlices$Kitchen" "worth" "[I" "PanSlices") ∈ lw_tbl := lw_at lw_m1 148 rfl
theorem q257 : (Jvm.Cond.fieldLinkNest "PanSlices$KitchenReader" (131 : Nat) "PanSlices$Kitchen" "sortPlaces" "[I" "PanSlices") ∈ lw_tbl := lw_at lw_m1 151 rfl
theorem q260 : (Jvm.Cond.fieldLinkNest "PanSlices$KitchenReader" (134 : Nat) "PanSlices$Kitchen" "cost" "[I" "PanSlices") ∈ lw_tbl := lw_at lw_m1 154 rfl
theorem q264 : (Jvm.Cond.fieldLinkNest "PanSlices$KitchenReader" (122 : Nat) "PanSlices$Kitchen" "once" "[Z" "PanSlices") ∈ lw_tbl := lw_at lw_m1 158 rfl
theorem q267 : (Jvm.Cond.fieldLinkNest "PanSlices$KitchenReader" (46 : Nat) "PanSlices$Kitchen" "slices" "I" "PanSlices") ∈ lw_tbl := lw_at lw_m1 161 rfl
theorem q271 : (Jvm.Cond.fieldLinkNest "PanSlices$KitchenReader" (51 : Nat) "PanSlices$Kitchen" "guests" "I" "PanSlices") ∈ lw_tbl := lw_at lw_m1 165 rfl
theorem q273 : (Jvm.Cond.fieldLinkNest "PanSlices$KitchenReader" (54 : Nat) "PanSlices$Kitchen" "sorts" "I" "PanSlices") ∈ lw_tbl := lw_at lw_m1 167 rfl
theorem q277 : (Jvm.Cond.fieldLinkNest "PanSlices$KitchenReader" (90 : Nat) "PanSlices$Kitchen" "places" "I" "PanSlices") ∈ lw_tbl := lw_at lw_m1 171 rfl
theorem q279 : (Jvm.Cond.fieldLinkNest "PanSlices$KitchenReader" (93 : Nat) "PanSlices$Kitchen" "rest" "I" "PanSlices") ∈ lw_tbl := lw_at lw_m1 173 rfl
theorem q283 : (Jvm.Cond.fieldLinkNest "PanSlices$KitchenReader" (96 : Nat) "PanSlices$Kitchen" "cold" "I" "PanSlices") ∈ lw_tbl := lw_at lw_m1 177 rfl
theorem q285 : (Jvm.Cond.fieldLinkNest "PanSlices$KitchenReader" (102 : Nat) "PanSlices$Kitchen" "burns" "I" "PanSlices") ∈ lw_tbl := lw_at lw_m1 179 rfl
theorem q288 : (Jvm.Cond.fieldLinkNest "PanSlices$KitchenReader" (105 : Nat) "PanSlices$Kitchen" "by" "I" "PanSlices") ∈ lw_tbl := lw_at lw_m1 182 rfl
theorem q359 : (Jvm.Cond.instantiable "PanSlices$KitchenReader" (11 : Nat)) ∈ lw_all := lw_g (lw_at lw_m2 13 rfl) rfl
theorem q361 : (Jvm.Cond.instanceMethod ({ cls := "PanSlices$KitchenReader", name := "<init>", desc := "(LPanSlices;)V" } : Jvm.MethodName)) ∈ lw_all := lw_g (lw_at lw_m2 15 rfl) rfl
theorem q362 : (Jvm.Cond.code ({ cls := "PanSlices$KitchenReader", name := "<init>", desc := "(LPanSlices;)V" } : Jvm.MethodName) prog_10_method_1_code (2 : Nat) (Option.none : Option Jvm.ClassFile.FieldType)) ∈ lw_all := lw_g (lw_at lw_m2 16 rfl) rfl
theorem q363 : (Jvm.Cond.methodLink "PanSlices$KitchenReader" (9 : Nat) ({ cls := "PanSlices$Reader", name := "<init>", desc := "(LPanSlices;I)V" } : Jvm.MethodName)) ∈ lw_all := lw_g (lw_at lw_m2 17 rfl) rfl
theorem q367 : (Jvm.Cond.fieldLink "PanSlices$KitchenReader" (15 : Nat) "PanSlices$KitchenReader" "x" "LPanSlices$Kitchen;") ∈ lw_all := lw_g (lw_at lw_m2 21 rfl) rfl
theorem q368 : (Jvm.Cond.fieldLink "PanSlices$KitchenReader" (19 : Nat) "PanSlices$KitchenReader" "had" "I") ∈ lw_all := lw_g (lw_at lw_m2 22 rfl) rfl
theorem q369 : (Jvm.Cond.fieldLink "PanSlices$KitchenReader" (3 : Nat) "PanSlices$KitchenReader" "this$0" "LPanSlices;") ∈ lw_all := lw_g (lw_at lw_m2 23 rfl) rfl
theorem q375 : (Jvm.Cond.fieldLink "PanSlices$KitchenReader" (27 : Nat) "PanSlices$KitchenReader" "token" "I") ∈ lw_all := lw_g (lw_at lw_m2 29 rfl) rfl
theorem q376 : (Jvm.Cond.sameField "PanSlices$KitchenReader" "PanSlices$Reader" "token" "I") ∈ lw_all := lw_g (lw_at lw_m2 30 rfl) rfl
theorem q380 : (Jvm.Cond.fieldLink "PanSlices$KitchenReader" (99 : Nat) "PanSlices$KitchenReader" "value" "I") ∈ lw_all := lw_g (lw_at lw_m2 34 rfl) rfl
theorem q381 : (Jvm.Cond.sameField "PanSlices$KitchenReader" "PanSlices$Reader" "value" "I") ∈ lw_all := lw_g (lw_at lw_m2 35 rfl) rfl
theorem q386 : (Jvm.Cond.fieldLink "PanSlices$KitchenReader" (82 : Nat) "PanSlices$KitchenReader" "name" "J") ∈ lw_all := lw_g (lw_at lw_m2 40 rfl) rfl
theorem q387 : (Jvm.Cond.sameField "PanSlices$KitchenReader" "PanSlices$Reader" "name" "J") ∈ lw_all := lw_g (lw_at lw_m2 41 rfl) rfl
theorem q390 : (Jvm.Cond.lays "PanSlices$KitchenReader" "PanSlices$KitchenReader" "x" "LPanSlices$Kitchen;") ∈ lw_all := lw_g (lw_at lw_m2 44 rfl) rfl
theorem q391 : (Jvm.Cond.soleField "PanSlices$KitchenReader" "x") ∈ lw_all := lw_g (lw_at lw_m2 45 rfl) rfl
theorem q392 : (Jvm.Cond.lays "PanSlices$KitchenReader" "PanSlices$KitchenReader" "had" "I") ∈ lw_all := lw_g (lw_at lw_m2 46 rfl) rfl
theorem q393 : (Jvm.Cond.soleField "PanSlices$KitchenReader" "had") ∈ lw_all := lw_g (lw_at lw_m2 47 rfl) rfl
theorem q394 : (Jvm.Cond.laysFinal "PanSlices$KitchenReader" "PanSlices$KitchenReader" "this$0" "LPanSlices;") ∈ lw_all := lw_g (lw_at lw_m2 48 rfl) rfl
theorem q395 : (Jvm.Cond.soleField "PanSlices$KitchenReader" "this$0") ∈ lw_all := lw_g (lw_at lw_m2 49 rfl) rfl
theorem q396 : (Jvm.Cond.laysFinal "PanSlices$KitchenReader" "PanSlices$Reader" "most" "I") ∈ lw_all := lw_g (lw_at lw_m2 50 rfl) rfl
theorem q398 : (Jvm.Cond.lays "PanSlices$KitchenReader" "PanSlices$Reader" "p" "I") ∈ lw_all := lw_g (lw_at lw_m2 52 rfl) rfl
theorem q400 : (Jvm.Cond.lays "PanSlices$KitchenReader" "PanSlices$Reader" "at" "I") ∈ lw_all := lw_g (lw_at lw_m2 54 rfl) rfl
theorem q402 : (Jvm.Cond.lays "PanSlices$KitchenReader" "PanSlices$Reader" "token" "I") ∈ lw_all := lw_g (lw_at lw_m2 56 rfl) rfl
theorem q404 : (Jvm.Cond.lays "PanSlices$KitchenReader" "PanSlices$Reader" "value" "I") ∈ lw_all := lw_g (lw_at lw_m2 58 rfl) rfl
theorem q406 : (Jvm.Cond.lays "PanSlices$KitchenReader" "PanSlices$Reader" "many" "I") ∈ lw_all := lw_g (lw_at lw_m2 60 rfl) rfl
theorem q408 : (Jvm.Cond.lays "PanSlices$KitchenReader" "PanSlices$Reader" "name" "J") ∈ lw_all := lw_g (lw_at lw_m2 62 rfl) rfl
theorem q410 : (Jvm.Cond.laysFinal "PanSlices$KitchenReader" "PanSlices$Reader" "this$0" "LPanSlices;") ∈ lw_all := lw_g (lw_at lw_m2 64 rfl) rfl
theorem q412 : (Jvm.Cond.superclass "PanSlices$KitchenReader" "PanSlices$Reader") ∈ lw_all := lw_g (lw_at lw_m2 66 rfl) rfl
theorem q505 : (Jvm.Cond.fieldLinkNest "PanSlices$KitchenReader" (30 : Nat) "PanSlices" "lines" "[Ljava/lang/String;" "PanSlices") ∈ lw_tbl := lw_at lw_m2 159 rfl
theorem q652 : (Jvm.Cond.instanceMethod ({ cls := "PanSlices$KitchenReader", name := "read", desc := "(LPanSlices$Kitchen;)I" } : Jvm.MethodName)) ∈ lw_all := lw_g (lw_at lw_m3 66 rfl) rfl
theorem q653 : (Jvm.Cond.selects "PanSlices$KitchenReader" ({ cls := "PanSlices$KitchenReader", name := "read", desc := "(LPanSlices$Kitchen;)I" } : Jvm.MethodName) ({ cls := "PanSlices$KitchenReader", name := "read", desc := "(LPanSlices$Kitchen;)I" } : Jvm.MethodName)) ∈ lw_all := lw_g (lw_at lw_m3 67 rfl) rfl
theorem q654 : (Jvm.Cond.code ({ cls := "PanSlices$KitchenReader", name := "read", desc := "(LPanSlices$Kitchen;)I" } : Jvm.MethodName) prog_10_method_2_code (4 : Nat) (Option.some Jvm.ClassFile.FieldType.int)) ∈ lw_all := lw_g (lw_at lw_m3 68 rfl) rfl
theorem q655 : (Jvm.Cond.methodLink "PanSlices$KitchenReader" (23 : Nat) ({ cls := "PanSlices$KitchenReader", name := "begin", desc := "()V" } : Jvm.MethodName)) ∈ lw_all := lw_g (lw_at lw_m3 69 rfl) rfl
theorem q656 : (Jvm.Cond.sameMethod "PanSlices$KitchenReader" "PanSlices$Reader" "begin" "()V") ∈ lw_all := lw_g (lw_at lw_m3 70 rfl) rfl
theorem q658 : (Jvm.Cond.selects "PanSlices$KitchenReader" ({ cls := "PanSlices$KitchenReader", name := "begin", desc := "()V" } : Jvm.MethodName) ({ cls := "PanSlices$Reader", name := "begin", desc := "()V" } : Jvm.MethodName)) ∈ lw_all := lw_g (lw_at lw_m3 72 rfl) rfl
theorem q664 : (Jvm.Cond.selects "PanSlices$KitchenReader" ({ cls := "PanSlices$Reader", name := "next", desc := "()V" } : Jvm.MethodName) ({ cls := "PanSlices$Reader", name := "next", desc := "()V" } : Jvm.MethodName)) ∈ lw_all := lw_g (lw_at lw_m3 78 rfl) rfl
theorem q687 : (Jvm.Cond.methodLink "PanSlices$KitchenReader" (34 : Nat) ({ cls := "PanSlices$KitchenReader", name := "find", desc := "([Ljava/lang/String;)I" } : Jvm.MethodName)) ∈ lw_all := lw_g (lw_at lw_m3 101 rfl) rfl
theorem q688 : (Jvm.Cond.sameMethod "PanSlices$KitchenReader" "PanSlices$Reader" "find" "([Ljava/lang/String;)I") ∈ lw_all := lw_g (lw_at lw_m3 102 rfl) rfl
theorem q690 : (Jvm.Cond.selects "PanSlices$KitchenReader" ({ cls := "PanSlices$KitchenReader", name := "find", desc := "([Ljava/lang/String;)I" } : Jvm.MethodName) ({ cls := "PanSlices$Reader", name := "find", desc := "([Ljava/lang/String;)I" } : Jvm.MethodName)) ∈ lw_all := lw_g (lw_at lw_m3 104 rfl) rfl
theorem q696 : (Jvm.Cond.selects "PanSlices$KitchenReader" ({ cls := "PanSlices$Reader", name := "is", desc := "(Ljava/lang/String;)Z" } : Jvm.MethodName) ({ cls := "PanSlices$Reader", name := "is", desc := "(Ljava/lang/String;)Z" } : Jvm.MethodName)) ∈ lw_all := lw_g (lw_at lw_m3 110 rfl) rfl
theorem q748 : (Jvm.Cond.methodLink "PanSlices$KitchenReader" (38 : Nat) ({ cls := "PanSlices$KitchenReader", name := "must", desc := "(ZI)V" } : Jvm.MethodName)) ∈ lw_all := lw_g (lw_at lw_m3 162 rfl) rfl
theorem q749 : (Jvm.Cond.sameMethod "PanSlices$KitchenReader" "PanSlices$Reader" "must" "(ZI)V") ∈ lw_all := lw_g (lw_at lw_m3 163 rfl) rfl
theorem q751 : (Jvm.Cond.selects "PanSlices$KitchenReader" ({ cls := "PanSlices$KitchenReader", name := "must", desc := "(ZI)V" } : Jvm.MethodName) ({ cls := "PanSlices$Reader", name := "must", desc := "(ZI)V" } : Jvm.MethodName)) ∈ lw_all := lw_g (lw_at lw_m3 165 rfl) rfl
theorem q757 : (Jvm.Cond.selects "PanSlices$KitchenReader" ({ cls := "PanSlices$Reader", name := "wrong", desc := "(I)LPanSlices$Fault;" } : Jvm.MethodName) ({ cls := "PanSlices$Reader", name := "wrong", desc := "(I)LPanSlices$Fault;" } : Jvm.MethodName)) ∈ lw_all := lw_g (lw_at lw_m3 171 rfl) rfl
theorem q761 : (Jvm.Cond.methodLinkNest "PanSlices$KitchenReader" (42 : Nat) ({ cls := "PanSlices", name := "has", desc := "(II)Z" } : Jvm.MethodName) "PanSlices") ∈ lw_tbl := lw_at lw_m3 175 rfl
theorem q764 : (Jvm.Cond.methodLink "PanSlices$KitchenReader" (57 : Nat) ({ cls := "PanSlices$KitchenReader", name := "next", desc := "()V" } : Jvm.MethodName)) ∈ lw_all := lw_g (lw_at lw_m3 178 rfl) rfl
theorem q765 : (Jvm.Cond.sameMethod "PanSlices$KitchenReader" "PanSlices$Reader" "next" "()V") ∈ lw_all := lw_g (lw_at lw_m3 179 rfl) rfl
theorem q767 : (Jvm.Cond.selects "PanSlices$KitchenReader" ({ cls := "PanSlices$KitchenReader", name := "next", desc := "()V" } : Jvm.MethodName) ({ cls := "PanSlices$Reader", name := "next", desc := "()V" } : Jvm.MethodName)) ∈ lw_all := lw_g (lw_at lw_m3 181 rfl) rfl
theorem q768 : (Jvm.Cond.methodLink "PanSlices$KitchenReader" (60 : Nat) ({ cls := "PanSlices$KitchenReader", name := "line", desc := "(I)V" } : Jvm.MethodName)) ∈ lw_all := lw_g (lw_at lw_m3 182 rfl) rfl
theorem q769 : (Jvm.Cond.privateMethod ({ cls := "PanSlices$KitchenReader", name := "line", desc := "(I)V" } : Jvm.MethodName)) ∈ lw_tbl := lw_at lw_m3 183 rfl
theorem q770 : (Jvm.Cond.instanceMethod ({ cls := "PanSlices$KitchenReader", name := "line", desc := "(I)V" } : Jvm.MethodName)) ∈ lw_all := lw_g (lw_at lw_m3 184 rfl) rfl
theorem q771 : (Jvm.Cond.code ({ cls := "PanSlices$KitchenReader", name := "line", desc := "(I)V" } : Jvm.MethodName) prog_10_method_4_code (3 : Nat) (Option.none : Option Jvm.ClassFile.FieldType)) ∈ lw_all := lw_g (lw_at lw_m3 185 rfl) rfl
theorem q772 : (Jvm.Cond.methodLink "PanSlices$KitchenReader" (86 : Nat) ({ cls := "PanSlices$KitchenReader", name := "number", desc := "(II)I" } : Jvm.MethodName)) ∈ lw_all := lw_g (lw_at lw_m3 186 rfl) rfl
theorem q773 : (Jvm.Cond.sameMethod "PanSlices$KitchenReader" "PanSlices$Reader" "number" "(II)I") ∈ lw_all := lw_g (lw_at lw_m3 187 rfl) rfl
theorem q775 : (Jvm.Cond.selects "PanSlices$KitchenReader" ({ cls := "PanSlices$KitchenReader", name := "number", desc := "(II)I" } : Jvm.MethodName) ({ cls := "PanSlices$Reader", name := "number", desc := "(II)I" } : Jvm.MethodName)) ∈ lw_all := lw_g (lw_at lw_m3 189 rfl) rfl
theorem q779 : (Jvm.Cond.methodLink "PanSlices$KitchenReader" (108 : Nat) ({ cls := "PanSlices$KitchenReader", name := "fresh", desc := "()J" } : Jvm.MethodName)) ∈ lw_all := lw_g (lw_at lw_m3 193 rfl) rfl
theorem q780 : (Jvm.Cond.privateMethod ({ cls := "PanSlices$KitchenReader", name := "fresh", desc := "()J" } : Jvm.MethodName)) ∈ lw_tbl := lw_at lw_m3 194 rfl
theorem q781 : (Jvm.Cond.instanceMethod ({ cls := "PanSlices$KitchenReader", name := "fresh", desc := "()J" } : Jvm.MethodName)) ∈ lw_all := lw_g (lw_at lw_m3 195 rfl) rfl
theorem q782 : (Jvm.Cond.code ({ cls := "PanSlices$KitchenReader", name := "fresh", desc := "()J" } : Jvm.MethodName) prog_10_method_3_code (3 : Nat) (Option.some Jvm.ClassFile.FieldType.long)) ∈ lw_all := lw_g (lw_at lw_m3 196 rfl) rfl
theorem q783 : (Jvm.Cond.methodLink "PanSlices$KitchenReader" (67 : Nat) ({ cls := "PanSlices$KitchenReader", name := "isName", desc := "()Z" } : Jvm.MethodName)) ∈ lw_all := lw_g (lw_at lw_m3 197 rfl) rfl
theorem q784 : (Jvm.Cond.sameMethod "PanSlices$KitchenReader" "PanSlices$Reader" "isName" "()Z") ∈ lw_all := lw_g (lw_at lw_m3 198 rfl) rfl
theorem q786 : (Jvm.Cond.selects "PanSlices$KitchenReader" ({ cls := "PanSlices$KitchenReader", name := "isName", desc := "()Z" } : Jvm.MethodName) ({ cls := "PanSlices$Reader", name := "isName", desc := "()Z" } : Jvm.MethodName)) ∈ lw_all := lw_g (lw_at lw_m3 200 rfl) rfl
theorem q790 : (Jvm.Cond.methodLink "PanSlices$KitchenReader" (75 : Nat) ({ cls := "PanSlices$KitchenReader", name := "of", desc := "([JI)I" } : Jvm.MethodName)) ∈ lw_all := lw_g (lw_at lw_m3 204 rfl) rfl
theorem q791 : (Jvm.Cond.sameMethod "PanSlices$KitchenReader" "PanSlices$Reader" "of" "([JI)I") ∈ lw_all := lw_g (lw_at lw_m3 205 rfl) rfl
theorem q793 : (Jvm.Cond.selects "PanSlices$KitchenReader" ({ cls := "PanSlices$KitchenReader", name := "of", desc := "([JI)I" } : Jvm.MethodName) ({ cls := "PanSlices$Reader", name := "of", desc := "([JI)I" } : Jvm.MethodName)) ∈ lw_all := lw_g (lw_at lw_m3 207 rfl) rfl
theorem q796 : (Jvm.Cond.stringRef "PanSlices$KitchenReader" (116 : Nat) "once") ∈ lw_tbl := lw_at lw_m3 210 rfl
theorem q797 : (Jvm.Cond.methodLink "PanSlices$KitchenReader" (118 : Nat) ({ cls := "PanSlices$KitchenReader", name := "is", desc := "(Ljava/lang/String;)Z" } : Jvm.MethodName)) ∈ lw_all := lw_g (lw_at lw_m3 211 rfl) rfl
theorem q798 : (Jvm.Cond.sameMethod "PanSlices$KitchenReader" "PanSlices$Reader" "is" "(Ljava/lang/String;)Z") ∈ lw_all := lw_g (lw_at lw_m3 212 rfl) rfl
theorem q800 : (Jvm.Cond.selects "PanSlices$KitchenReader" ({ cls := "PanSlices$KitchenReader", name := "is", desc := "(Ljava/lang/String;)Z" } : Jvm.MethodName) ({ cls := "PanSlices$Reader", name := "is", desc := "(Ljava/lang/String;)Z" } : Jvm.MethodName)) ∈ lw_all := lw_g (lw_at lw_m3 214 rfl) rfl
theorem q801 : (Jvm.Cond.methodLink "PanSlices$KitchenReader" (64 : Nat) ({ cls := "PanSlices$KitchenReader", name := "sign", desc := "(I)V" } : Jvm.MethodName)) ∈ lw_all := lw_g (lw_at lw_m3 215 rfl) rfl
theorem q802 : (Jvm.Cond.sameMethod "PanSlices$KitchenReader" "PanSlices$Reader" "sign" "(I)V") ∈ lw_all := lw_g (lw_at lw_m3 216 rfl) rfl
theorem q804 : (Jvm.Cond.selects "PanSlices$KitchenReader" ({ cls := "PanSlices$KitchenReader", name := "sign", desc := "(I)V" } : Jvm.MethodName) ({ cls := "PanSlices$Reader", name := "sign", desc := "(I)V" } : Jvm.MethodName)) ∈ lw_all := lw_g (lw_at lw_m3 218 rfl) rfl
theorem q810 : (Jvm.Cond.selects "PanSlices$KitchenReader" ({ cls := "PanSlices$Reader", name := "is", desc := "(I)Z" } : Jvm.MethodName) ({ cls := "PanSlices$Reader", name := "is", desc := "(I)Z" } : Jvm.MethodName)) ∈ lw_all := lw_g (lw_at lw_m3 224 rfl) rfl
theorem q2141 : (Jvm.Cond.selects "PanSlices$KitchenReader" ({ cls := "PanSlices$Reader", name := "must", desc := "(ZI)V" } : Jvm.MethodName) ({ cls := "PanSlices$Reader", name := "must", desc := "(ZI)V" } : Jvm.MethodName)) ∈ lw_all := lw_g (lw_at lw_m9 115 rfl) rfl
theorem q2145 : (Jvm.Cond.selects "PanSlices$KitchenReader" ({ cls := "PanSlices$Reader", name := "find", desc := "([Ljava/lang/String;)I" } : Jvm.MethodName) ({ cls := "PanSlices$Reader", name := "find", desc := "([Ljava/lang/String;)I" } : Jvm.MethodName)) ∈ lw_all := lw_g (lw_at lw_m9 119 rfl) rfl
theorem q2149 : (Jvm.Cond.selects "PanSlices$KitchenReader" ({ cls := "PanSlices$Reader", name := "isName", desc := "()Z" } : Jvm.MethodName) ({ cls := "PanSlices$Reader", name := "isName", desc := "()Z" } : Jvm.MethodName)) ∈ lw_all := lw_g (lw_at lw_m9 123 rfl) rfl
theorem q2153 : (Jvm.Cond.selects "PanSlices$KitchenReader" ({ cls := "PanSlices$Reader", name := "of", desc := "([JI)I" } : Jvm.MethodName) ({ cls := "PanSlices$Reader", name := "of", desc := "([JI)I" } : Jvm.MethodName)) ∈ lw_all := lw_g (lw_at lw_m9 127 rfl) rfl
theorem q2160 : (Jvm.Cond.castable "PanSlices$KitchenReader" "java/lang/Object") ∈ lw_tbl := lw_at lw_m9 134 rfl
theorem in_X6 : ∀ w ∈ wsX60, w ∈ lw_all := lw_in wsX60 [396, 398, 400, 402, 404, 406, 408, 410, 390, 392, 394] (by decide +kernel) (by decide +kernel)
/-! PanSlices$PlanReader -/
set_option maxRecDepth 100000
def RX7 : String := "PanSlices$PlanReader"
def TX7 : u_T := fun k => match k with
  | 0 => ("PanSlices$Reader", "most", "I", true)
  | 1 => ("PanSlices$Reader", "p", "I", false)
  | 2 => ("PanSlices$Reader", "at", "I", false)
  | 3 => ("PanSlices$Reader", "token", "I", false)
  | 4 => ("PanSlices$Reader", "value", "I", false)
  | 5 => ("PanSlices$Reader", "many", "I", false)
  | 6 => ("PanSlices$Reader", "name", "J", false)
  | 7 => ("PanSlices$Reader", "this$0", "LPanSlices;", true)
  | _ => ("PanSlices$PlanReader", "this$0", "LPanSlices;", true)
def tyX7 : Nat → FieldType := fun k => match k with
  | 0 => .int
  | 1 => .int
  | 2 => .int
  | 3 => .int
  | 4 => .int
  | 5 => .int
  | 6 => .long
  | 7 => .object "PanSlices"
  | _ => .object "PanSlices"
abbrev wsX70 : List Cond := u_ws RX7 TX7 9
-- two fields of one name: no nmX7
theorem tyX7_ok : ∀ k, k < 9 → parseFieldDescriptor (TX7 k).2.2.1 = some (tyX7 k) := by decide +kernel
abbrev cX7_init : ByteArray := prog_16_method_1_code
def yX7_init : MethodName := ⟨RX7, "<init>", "(LPanSlices;)V"⟩
def dkwX7_init_0 : List UInt8 := [42, 43, 181, 0, 3, 42, 43, 17, 2, 88, 183, 0, 9, 177]
abbrev dktX7_init_0 : List UInt8 := dkwX7_init_0 ++ []
theorem dksX7_init_0 : cX7_init.data.toList.drop 0 = dktX7_init_0 := by decide +kernel
theorem dX7_init_0 : decode cX7_init 0 = .ok (.aload_n 0, 1) := dk_42 (dk_at dksX7_init_0 0 rfl rfl)
theorem dX7_init_1 : decode cX7_init 1 = .ok (.aload_n 1, 1) := dk_43 (dk_at dksX7_init_0 1 rfl rfl)
theorem dX7_init_2 : decode cX7_init 2 = .ok (.putfield 3, 3) := dk_181 0 3 (dk_at dksX7_init_0 2 rfl rfl)
theorem dX7_init_5 : decode cX7_init 5 = .ok (.aload_n 0, 1) := dk_42 (dk_at dksX7_init_0 5 rfl rfl)
theorem dX7_init_6 : decode cX7_init 6 = .ok (.aload_n 1, 1) := dk_43 (dk_at dksX7_init_0 6 rfl rfl)
theorem dX7_init_7 : decode cX7_init 7 = .ok (.sipush 600, 3) := dk_17 2 88 (dk_at dksX7_init_0 7 rfl rfl)
theorem dX7_init_10 : decode cX7_init 10 = .ok (.invokespecial 9, 3) := dk_183 0 9 (dk_at dksX7_init_0 10 rfl rfl)
theorem dX7_init_13 : decode cX7_init 13 = .ok (.return_, 1) := dk_177 (dk_at dksX7_init_0 13 rfl rfl)
abbrev cX7_read : ByteArray := prog_16_method_2_code
def yX7_read : MethodName := ⟨RX7, "read", "(LPanSlices$Plan;)V"⟩
def dkwX7_read_6 : List UInt8 := [21, 4, 21, 5, 21, 6, 182, 0, 64, 87, 167, 255, 117, 177]
abbrev dktX7_read_6 : List UInt8 := dkwX7_read_6 ++ []
def dkwX7_read_5 : List UInt8 := [182, 0, 47, 54, 5, 42, 4, 16, 20, 182, 0, 47, 54, 6, 42, 16, 59, 182, 0, 60, 43, 28, 29]
abbrev dktX7_read_5 : List UInt8 := dkwX7_read_5 ++ dktX7_read_6
def dkwX7_read_4 : List UInt8 := [17, 0, 240, 182, 0, 47, 54, 4, 42, 3, 42, 180, 0, 3, 180, 0, 51, 180, 0, 55, 4, 100]
abbrev dktX7_read_4 : List UInt8 := dkwX7_read_4 ++ dktX7_read_5
def dkwX7_read_3 : List UInt8 := [182, 0, 32, 42, 18, 39, 182, 0, 41, 153, 0, 7, 3, 167, 0, 4, 4, 62, 42, 182, 0, 36, 42, 3]
abbrev dktX7_read_3 : List UInt8 := dkwX7_read_3 ++ dktX7_read_4
def dkwX7_read_2 : List UInt8 := [18, 39, 182, 0, 41, 154, 0, 12, 42, 18, 45, 182, 0, 41, 153, 0, 7, 4, 167, 0, 4, 3, 4]
abbrev dktX7_read_2 : List UInt8 := dkwX7_read_2 ++ dktX7_read_3
def dkwX7_read_1 : List UInt8 := [180, 0, 15, 16, 30, 162, 0, 7, 4, 167, 0, 4, 3, 7, 182, 0, 32, 42, 182, 0, 36, 42, 42]
abbrev dktX7_read_1 : List UInt8 := dkwX7_read_1 ++ dktX7_read_2
def dkwX7_read_0 : List UInt8 := [43, 3, 181, 0, 15, 42, 182, 0, 21, 42, 180, 0, 25, 153, 0, 138, 42, 182, 0, 28, 61, 42, 43]
abbrev dktX7_read_0 : List UInt8 := dkwX7_read_0 ++ dktX7_read_1
theorem dksX7_read_0 : cX7_read.data.toList.drop 0 = dktX7_read_0 := by decide +kernel
theorem dksX7_read_1 : cX7_read.data.toList.drop 23 = dktX7_read_1 := dk_seg dksX7_read_0 23 rfl rfl
theorem dksX7_read_2 : cX7_read.data.toList.drop 46 = dktX7_read_2 := dk_seg dksX7_read_1 23 rfl rfl
theorem dksX7_read_3 : cX7_read.data.toList.drop 69 = dktX7_read_3 := dk_seg dksX7_read_2 23 rfl rfl
theorem dksX7_read_4 : cX7_read.data.toList.drop 93 = dktX7_read_4 := dk_seg dksX7_read_3 24 rfl rfl
theorem dksX7_read_5 : cX7_read.data.toList.drop 115 = dktX7_read_5 := dk_seg dksX7_read_4 22 rfl rfl
theorem dksX7_read_6 : cX7_read.data.toList.drop 138 = dktX7_read_6 := dk_seg dksX7_read_5 23 rfl rfl
theorem dX7_read_0 : decode cX7_read 0 = .ok (.aload_n 1, 1) := dk_43 (dk_at dksX7_read_0 0 rfl rfl)
theorem dX7_read_1 : decode cX7_read 1 = .ok (.iconst 0, 1) := dk_3 (dk_at dksX7_read_0 1 rfl rfl)
theorem dX7_read_2 : decode cX7_read 2 = .ok (.putfield 15, 3) := dk_181 0 15 (dk_at dksX7_read_0 2 rfl rfl)
theorem dX7_read_5 : decode cX7_read 5 = .ok (.aload_n 0, 1) := dk_42 (dk_at dksX7_read_0 5 rfl rfl)
theorem dX7_read_6 : decode cX7_read 6 = .ok (.invokevirtual 21, 3) := dk_182 0 21 (dk_at dksX7_read_0 6 rfl rfl)
theorem dX7_read_9 : decode cX7_read 9 = .ok (.aload_n 0, 1) := dk_42 (dk_at dksX7_read_0 9 rfl rfl)
theorem dX7_read_10 : decode cX7_read 10 = .ok (.getfield 25, 3) := dk_180 0 25 (dk_at dksX7_read_0 10 rfl rfl)
theorem dX7_read_13 : decode cX7_read 13 = .ok (.ifCond .eq 138, 3) := dk_153 0 138 (dk_at dksX7_read_0 13 rfl rfl)
theorem dX7_read_16 : decode cX7_read 16 = .ok (.aload_n 0, 1) := dk_42 (dk_at dksX7_read_0 16 rfl rfl)
theorem dX7_read_17 : decode cX7_read 17 = .ok (.invokevirtual 28, 3) := dk_182 0 28 (dk_at dksX7_read_0 17 rfl rfl)
theorem dX7_read_20 : decode cX7_read 20 = .ok (.istore_n 2, 1) := dk_61 (dk_at dksX7_read_0 20 rfl rfl)
theorem dX7_read_21 : decode cX7_read 21 = .ok (.aload_n 0, 1) := dk_42 (dk_at dksX7_read_0 21 rfl rfl)
theorem dX7_read_22 : decode cX7_read 22 = .ok (.aload_n 1, 1) := dk_43 (dk_at dksX7_read_0 22 rfl rfl)
theorem dX7_read_23 : decode cX7_read 23 = .ok (.getfield 15, 3) := dk_180 0 15 (dk_at dksX7_read_1 0 rfl rfl)
theorem dX7_read_26 : decode cX7_read 26 = .ok (.bipush 30, 2) := dk_16 30 (dk_at dksX7_read_1 3 rfl rfl)
theorem dX7_read_28 : decode cX7_read 28 = .ok (.if_icmp .ge 7, 3) := dk_162 0 7 (dk_at dksX7_read_1 5 rfl rfl)
theorem dX7_read_31 : decode cX7_read 31 = .ok (.iconst 1, 1) := dk_4 (dk_at dksX7_read_1 8 rfl rfl)
theorem dX7_read_32 : decode cX7_read 32 = .ok (.goto 4, 3) := dk_167 0 4 (dk_at dksX7_read_1 9 rfl rfl)
theorem dX7_read_35 : decode cX7_read 35 = .ok (.iconst 0, 1) := dk_3 (dk_at dksX7_read_1 12 rfl rfl)
theorem dX7_read_36 : decode cX7_read 36 = .ok (.iconst 4, 1) := dk_7 (dk_at dksX7_read_1 13 rfl rfl)
theorem dX7_read_37 : decode cX7_read 37 = .ok (.invokevirtual 32, 3) := dk_182 0 32 (dk_at dksX7_read_1 14 rfl rfl)
theorem dX7_read_40 : decode cX7_read 40 = .ok (.aload_n 0, 1) := dk_42 (dk_at dksX7_read_1 17 rfl rfl)
theorem dX7_read_41 : decode cX7_read 41 = .ok (.invokevirtual 36, 3) := dk_182 0 36 (dk_at dksX7_read_1 18 rfl rfl)
theorem dX7_read_44 : decode cX7_read 44 = .ok (.aload_n 0, 1) := dk_42 (dk_at dksX7_read_1 21 rfl rfl)
theorem dX7_read_45 : decode cX7_read 45 = .ok (.aload_n 0, 1) := dk_42 (dk_at dksX7_read_1 22 rfl rfl)
theorem dX7_read_46 : decode cX7_read 46 = .ok (.ldc 39, 2) := dk_18 39 (dk_at dksX7_read_2 0 rfl rfl)
theorem dX7_read_48 : decode cX7_read 48 = .ok (.invokevirtual 41, 3) := dk_182 0 41 (dk_at dksX7_read_2 2 rfl rfl)
theorem dX7_read_51 : decode cX7_read 51 = .ok (.ifCond .ne 12, 3) := dk_154 0 12 (dk_at dksX7_read_2 5 rfl rfl)
theorem dX7_read_54 : decode cX7_read 54 = .ok (.aload_n 0, 1) := dk_42 (dk_at dksX7_read_2 8 rfl rfl)
theorem dX7_read_55 : decode cX7_read 55 = .ok (.ldc 45, 2) := dk_18 45 (dk_at dksX7_read_2 9 rfl rfl)
theorem dX7_read_57 : decode cX7_read 57 = .ok (.invokevirtual 41, 3) := dk_182 0 41 (dk_at dksX7_read_2 11 rfl rfl)
theorem dX7_read_60 : decode cX7_read 60 = .ok (.ifCond .eq 7, 3) := dk_153 0 7 (dk_at dksX7_read_2 14 rfl rfl)
theorem dX7_read_63 : decode cX7_read 63 = .ok (.iconst 1, 1) := dk_4 (dk_at dksX7_read_2 17 rfl rfl)
theorem dX7_read_64 : decode cX7_read 64 = .ok (.goto 4, 3) := dk_167 0 4 (dk_at dksX7_read_2 18 rfl rfl)
theorem dX7_read_67 : decode cX7_read 67 = .ok (.iconst 0, 1) := dk_3 (dk_at dksX7_read_2 21 rfl rfl)
theorem dX7_read_68 : decode cX7_read 68 = .ok (.iconst 1, 1) := dk_4 (dk_at dksX7_read_2 22 rfl rfl)
theorem dX7_read_69 : decode cX7_read 69 = .ok (.invokevirtual 32, 3) := dk_182 0 32 (dk_at dksX7_read_3 0 rfl rfl)
theorem dX7_read_72 : decode cX7_read 72 = .ok (.aload_n 0, 1) := dk_42 (dk_at dksX7_read_3 3 rfl rfl)
theorem dX7_read_73 : decode cX7_read 73 = .ok (.ldc 39, 2) := dk_18 39 (dk_at dksX7_read_3 4 rfl rfl)
theorem dX7_read_75 : decode cX7_read 75 = .ok (.invokevirtual 41, 3) := dk_182 0 41 (dk_at dksX7_read_3 6 rfl rfl)
theorem dX7_read_78 : decode cX7_read 78 = .ok (.ifCond .eq 7, 3) := dk_153 0 7 (dk_at dksX7_read_3 9 rfl rfl)
theorem dX7_read_81 : decode cX7_read 81 = .ok (.iconst 0, 1) := dk_3 (dk_at dksX7_read_3 12 rfl rfl)
theorem dX7_read_82 : decode cX7_read 82 = .ok (.goto 4, 3) := dk_167 0 4 (dk_at dksX7_read_3 13 rfl rfl)
theorem dX7_read_85 : decode cX7_read 85 = .ok (.iconst 1, 1) := dk_4 (dk_at dksX7_read_3 16 rfl rfl)
theorem dX7_read_86 : decode cX7_read 86 = .ok (.istore_n 3, 1) := dk_62 (dk_at dksX7_read_3 17 rfl rfl)
theorem dX7_read_87 : decode cX7_read 87 = .ok (.aload_n 0, 1) := dk_42 (dk_at dksX7_read_3 18 rfl rfl)
theorem dX7_read_88 : decode cX7_read 88 = .ok (.invokevirtual 36, 3) := dk_182 0 36 (dk_at dksX7_read_3 19 rfl rfl)
theorem dX7_read_91 : decode cX7_read 91 = .ok (.aload_n 0, 1) := dk_42 (dk_at dksX7_read_3 22 rfl rfl)
theorem dX7_read_92 : decode cX7_read 92 = .ok (.iconst 0, 1) := dk_3 (dk_at dksX7_read_3 23 rfl rfl)
theorem dX7_read_93 : decode cX7_read 93 = .ok (.sipush 240, 3) := dk_17 0 240 (dk_at dksX7_read_4 0 rfl rfl)
theorem dX7_read_96 : decode cX7_read 96 = .ok (.invokevirtual 47, 3) := dk_182 0 47 (dk_at dksX7_read_4 3 rfl rfl)
theorem dX7_read_99 : decode cX7_read 99 = .ok (.istore 4, 2) := dk_54 4 (dk_at dksX7_read_4 6 rfl rfl)
theorem dX7_read_101 : decode cX7_read 101 = .ok (.aload_n 0, 1) := dk_42 (dk_at dksX7_read_4 8 rfl rfl)
theorem dX7_read_102 : decode cX7_read 102 = .ok (.iconst 0, 1) := dk_3 (dk_at dksX7_read_4 9 rfl rfl)
theorem dX7_read_103 : decode cX7_read 103 = .ok (.aload_n 0, 1) := dk_42 (dk_at dksX7_read_4 10 rfl rfl)
theorem dX7_read_104 : decode cX7_read 104 = .ok (.getfield 3, 3) := dk_180 0 3 (dk_at dksX7_read_4 11 rfl rfl)
theorem dX7_read_107 : decode cX7_read 107 = .ok (.getfield 51, 3) := dk_180 0 51 (dk_at dksX7_read_4 14 rfl rfl)
theorem dX7_read_110 : decode cX7_read 110 = .ok (.getfield 55, 3) := dk_180 0 55 (dk_at dksX7_read_4 17 rfl rfl)
theorem dX7_read_113 : decode cX7_read 113 = .ok (.iconst 1, 1) := dk_4 (dk_at dksX7_read_4 20 rfl rfl)
theorem dX7_read_114 : decode cX7_read 114 = .ok (.isub, 1) := dk_100 (dk_at dksX7_read_4 21 rfl rfl)
theorem dX7_read_115 : decode cX7_read 115 = .ok (.invokevirtual 47, 3) := dk_182 0 47 (dk_at dksX7_read_5 0 rfl rfl)
theorem dX7_read_118 : decode cX7_read 118 = .ok (.istore 5, 2) := dk_54 5 (dk_at dksX7_read_5 3 rfl rfl)
theorem dX7_read_120 : decode cX7_read 120 = .ok (.aload_n 0, 1) := dk_42 (dk_at dksX7_read_5 5 rfl rfl)
theorem dX7_read_121 : decode cX7_read 121 = .ok (.iconst 1, 1) := dk_4 (dk_at dksX7_read_5 6 rfl rfl)
theorem dX7_read_122 : decode cX7_read 122 = .ok (.bipush 20, 2) := dk_16 20 (dk_at dksX7_read_5 7 rfl rfl)
theorem dX7_read_124 : decode cX7_read 124 = .ok (.invokevirtual 47, 3) := dk_182 0 47 (dk_at dksX7_read_5 9 rfl rfl)
theorem dX7_read_127 : decode cX7_read 127 = .ok (.istore 6, 2) := dk_54 6 (dk_at dksX7_read_5 12 rfl rfl)
theorem dX7_read_129 : decode cX7_read 129 = .ok (.aload_n 0, 1) := dk_42 (dk_at dksX7_read_5 14 rfl rfl)
theorem dX7_read_130 : decode cX7_read 130 = .ok (.bipush 59, 2) := dk_16 59 (dk_at dksX7_read_5 15 rfl rfl)
theorem dX7_read_132 : decode cX7_read 132 = .ok (.invokevirtual 60, 3) := dk_182 0 60 (dk_at dksX7_read_5 17 rfl rfl)
theorem dX7_read_135 : decode cX7_read 135 = .ok (.aload_n 1, 1) := dk_43 (dk_at dksX7_read_5 20 rfl rfl)
theorem dX7_read_136 : decode cX7_read 136 = .ok (.iload_n 2, 1) := dk_28 (dk_at dksX7_read_5 21 rfl rfl)
theorem dX7_read_137 : decode cX7_read 137 = .ok (.iload_n 3, 1) := dk_29 (dk_at dksX7_read_5 22 rfl rfl)
theorem dX7_read_138 : decode cX7_read 138 = .ok (.iload 4, 2) := dk_21 4 (dk_at dksX7_read_6 0 rfl rfl)
theorem dX7_read_140 : decode cX7_read 140 = .ok (.iload 5, 2) := dk_21 5 (dk_at dksX7_read_6 2 rfl rfl)
theorem dX7_read_142 : decode cX7_read 142 = .ok (.iload 6, 2) := dk_21 6 (dk_at dksX7_read_6 4 rfl rfl)
theorem dX7_read_144 : decode cX7_read 144 = .ok (.invokevirtual 64, 3) := dk_182 0 64 (dk_at dksX7_read_6 6 rfl rfl)
theorem dX7_read_147 : decode cX7_read 147 = .ok (.pop, 1) := dk_87 (dk_at dksX7_read_6 9 rfl rfl)
theorem dX7_read_148 : decode cX7_read 148 = .ok (.goto (-139), 3) := dk_167 255 117 (dk_at dksX7_read_6 10 rfl rfl)
theorem dX7_read_151 : decode cX7_read 151 = .ok (.return_, 1) := dk_177 (dk_at dksX7_read_6 13 rfl rfl)
theorem q115 : (Jvm.Cond.initialized "PanSlices$PlanReader") ∈ lw_all := lw_g (lw_at lw_m1 9 rfl) rfl
theorem q276 : (Jvm.Cond.fieldLinkNest "PanSlices$PlanReader" (55 : Nat) "PanSlices$Kitchen" "places" "I" "PanSlices") ∈ lw_tbl := lw_at lw_m1 170 rfl
theorem q342 : (Jvm.Cond.fieldLinkNest "PanSlices$PlanReader" (15 : Nat) "PanSlices$Plan" "goes" "I" "PanSlices") ∈ lw_tbl := lw_at lw_m1 236 rfl
theorem q373 : (Jvm.Cond.fieldLink "PanSlices$PlanReader" (25 : Nat) "PanSlices$PlanReader" "token" "I") ∈ lw_all := lw_g (lw_at lw_m2 27 rfl) rfl
theorem q374 : (Jvm.Cond.sameField "PanSlices$PlanReader" "PanSlices$Reader" "token" "I") ∈ lw_all := lw_g (lw_at lw_m2 28 rfl) rfl
theorem q414 : (Jvm.Cond.instantiable "PanSlices$PlanReader" (9 : Nat)) ∈ lw_all := lw_g (lw_at lw_m2 68 rfl) rfl
theorem q416 : (Jvm.Cond.instanceMethod ({ cls := "PanSlices$PlanReader", name := "<init>", desc := "(LPanSlices;)V" } : Jvm.MethodName)) ∈ lw_all := lw_g (lw_at lw_m2 70 rfl) rfl
theorem q417 : (Jvm.Cond.code ({ cls := "PanSlices$PlanReader", name := "<init>", desc := "(LPanSlices;)V" } : Jvm.MethodName) prog_16_method_1_code (2 : Nat) (Option.none : Option Jvm.ClassFile.FieldType)) ∈ lw_all := lw_g (lw_at lw_m2 71 rfl) rfl
theorem q418 : (Jvm.Cond.methodLink "PanSlices$PlanReader" (9 : Nat) ({ cls := "PanSlices$Reader", name := "<init>", desc := "(LPanSlices;I)V" } : Jvm.MethodName)) ∈ lw_all := lw_g (lw_at lw_m2 72 rfl) rfl
theorem q419 : (Jvm.Cond.fieldLink "PanSlices$PlanReader" (3 : Nat) "PanSlices$PlanReader" "this$0" "LPanSlices;") ∈ lw_all := lw_g (lw_at lw_m2 73 rfl) rfl
theorem q420 : (Jvm.Cond.laysFinal "PanSlices$PlanReader" "PanSlices$PlanReader" "this$0" "LPanSlices;") ∈ lw_all := lw_g (lw_at lw_m2 74 rfl) rfl
theorem q421 : (Jvm.Cond.soleField "PanSlices$PlanReader" "this$0") ∈ lw_all := lw_g (lw_at lw_m2 75 rfl) rfl
theorem q422 : (Jvm.Cond.laysFinal "PanSlices$PlanReader" "PanSlices$Reader" "most" "I") ∈ lw_all := lw_g (lw_at lw_m2 76 rfl) rfl
theorem q423 : (Jvm.Cond.lays "PanSlices$PlanReader" "PanSlices$Reader" "p" "I") ∈ lw_all := lw_g (lw_at lw_m2 77 rfl) rfl
theorem q424 : (Jvm.Cond.lays "PanSlices$PlanReader" "PanSlices$Reader" "at" "I") ∈ lw_all := lw_g (lw_at lw_m2 78 rfl) rfl
theorem q425 : (Jvm.Cond.lays "PanSlices$PlanReader" "PanSlices$Reader" "token" "I") ∈ lw_all := lw_g (lw_at lw_m2 79 rfl) rfl
theorem q426 : (Jvm.Cond.lays "PanSlices$PlanReader" "PanSlices$Reader" "value" "I") ∈ lw_all := lw_g (lw_at lw_m2 80 rfl) rfl
theorem q427 : (Jvm.Cond.lays "PanSlices$PlanReader" "PanSlices$Reader" "many" "I") ∈ lw_all := lw_g (lw_at lw_m2 81 rfl) rfl
theorem q428 : (Jvm.Cond.lays "PanSlices$PlanReader" "PanSlices$Reader" "name" "J") ∈ lw_all := lw_g (lw_at lw_m2 82 rfl) rfl
theorem q429 : (Jvm.Cond.laysFinal "PanSlices$PlanReader" "PanSlices$Reader" "this$0" "LPanSlices;") ∈ lw_all := lw_g (lw_at lw_m2 83 rfl) rfl
theorem q430 : (Jvm.Cond.superclass "PanSlices$PlanReader" "PanSlices$Reader") ∈ lw_all := lw_g (lw_at lw_m2 84 rfl) rfl
theorem q510 : (Jvm.Cond.fieldLinkNest "PanSlices$PlanReader" (51 : Nat) "PanSlices" "kitchen" "LPanSlices$Kitchen;" "PanSlices") ∈ lw_tbl := lw_at lw_m2 164 rfl
theorem q665 : (Jvm.Cond.selects "PanSlices$PlanReader" ({ cls := "PanSlices$Reader", name := "next", desc := "()V" } : Jvm.MethodName) ({ cls := "PanSlices$Reader", name := "next", desc := "()V" } : Jvm.MethodName)) ∈ lw_all := lw_g (lw_at lw_m3 79 rfl) rfl
theorem q697 : (Jvm.Cond.selects "PanSlices$PlanReader" ({ cls := "PanSlices$Reader", name := "is", desc := "(Ljava/lang/String;)Z" } : Jvm.MethodName) ({ cls := "PanSlices$Reader", name := "is", desc := "(Ljava/lang/String;)Z" } : Jvm.MethodName)) ∈ lw_all := lw_g (lw_at lw_m3 111 rfl) rfl
theorem q758 : (Jvm.Cond.selects "PanSlices$PlanReader" ({ cls := "PanSlices$Reader", name := "wrong", desc := "(I)LPanSlices$Fault;" } : Jvm.MethodName) ({ cls := "PanSlices$Reader", name := "wrong", desc := "(I)LPanSlices$Fault;" } : Jvm.MethodName)) ∈ lw_all := lw_g (lw_at lw_m3 172 rfl) rfl
theorem q811 : (Jvm.Cond.selects "PanSlices$PlanReader" ({ cls := "PanSlices$Reader", name := "is", desc := "(I)Z" } : Jvm.MethodName) ({ cls := "PanSlices$Reader", name := "is", desc := "(I)Z" } : Jvm.MethodName)) ∈ lw_all := lw_g (lw_at lw_m3 225 rfl) rfl
theorem q823 : (Jvm.Cond.instanceMethod ({ cls := "PanSlices$PlanReader", name := "read", desc := "(LPanSlices$Plan;)V" } : Jvm.MethodName)) ∈ lw_all := lw_g (lw_at lw_m3 237 rfl) rfl
theorem q824 : (Jvm.Cond.selects "PanSlices$PlanReader" ({ cls := "PanSlices$PlanReader", name := "read", desc := "(LPanSlices$Plan;)V" } : Jvm.MethodName) ({ cls := "PanSlices$PlanReader", name := "read", desc := "(LPanSlices$Plan;)V" } : Jvm.MethodName)) ∈ lw_all := lw_g (lw_at lw_m3 238 rfl) rfl
theorem q825 : (Jvm.Cond.code ({ cls := "PanSlices$PlanReader", name := "read", desc := "(LPanSlices$Plan;)V" } : Jvm.MethodName) prog_16_method_2_code (7 : Nat) (Option.none : Option Jvm.ClassFile.FieldType)) ∈ lw_all := lw_g (lw_at lw_m3 239 rfl) rfl
theorem q826 : (Jvm.Cond.methodLink "PanSlices$PlanReader" (21 : Nat) ({ cls := "PanSlices$PlanReader", name := "begin", desc := "()V" } : Jvm.MethodName)) ∈ lw_all := lw_g (lw_at lw_m4 0 rfl) rfl
theorem q827 : (Jvm.Cond.sameMethod "PanSlices$PlanReader" "PanSlices$Reader" "begin" "()V") ∈ lw_all := lw_g (lw_at lw_m4 1 rfl) rfl
theorem q828 : (Jvm.Cond.selects "PanSlices$PlanReader" ({ cls := "PanSlices$PlanReader", name := "begin", desc := "()V" } : Jvm.MethodName) ({ cls := "PanSlices$Reader", name := "begin", desc := "()V" } : Jvm.MethodName)) ∈ lw_all := lw_g (lw_at lw_m4 2 rfl) rfl
theorem q829 : (Jvm.Cond.methodLink "PanSlices$PlanReader" (28 : Nat) ({ cls := "PanSlices$PlanReader", name := "slice", desc := "()I" } : Jvm.MethodName)) ∈ lw_all := lw_g (lw_at lw_m4 3 rfl) rfl
theorem q830 : (Jvm.Cond.sameMethod "PanSlices$PlanReader" "PanSlices$Reader" "slice" "()I") ∈ lw_all := lw_g (lw_at lw_m4 4 rfl) rfl
theorem q832 : (Jvm.Cond.selects "PanSlices$PlanReader" ({ cls := "PanSlices$PlanReader", name := "slice", desc := "()I" } : Jvm.MethodName) ({ cls := "PanSlices$Reader", name := "slice", desc := "()I" } : Jvm.MethodName)) ∈ lw_all := lw_g (lw_at lw_m4 6 rfl) rfl
theorem q837 : (Jvm.Cond.methodLink "PanSlices$PlanReader" (32 : Nat) ({ cls := "PanSlices$PlanReader", name := "must", desc := "(ZI)V" } : Jvm.MethodName)) ∈ lw_all := lw_g (lw_at lw_m4 11 rfl) rfl
theorem q838 : (Jvm.Cond.sameMethod "PanSlices$PlanReader" "PanSlices$Reader" "must" "(ZI)V") ∈ lw_all := lw_g (lw_at lw_m4 12 rfl) rfl
theorem q839 : (Jvm.Cond.selects "PanSlices$PlanReader" ({ cls := "PanSlices$PlanReader", name := "must", desc := "(ZI)V" } : Jvm.MethodName) ({ cls := "PanSlices$Reader", name := "must", desc := "(ZI)V" } : Jvm.MethodName)) ∈ lw_all := lw_g (lw_at lw_m4 13 rfl) rfl
theorem q840 : (Jvm.Cond.methodLink "PanSlices$PlanReader" (36 : Nat) ({ cls := "PanSlices$PlanReader", name := "next", desc := "()V" } : Jvm.MethodName)) ∈ lw_all := lw_g (lw_at lw_m4 14 rfl) rfl
theorem q841 : (Jvm.Cond.sameMethod "PanSlices$PlanReader" "PanSlices$Reader" "next" "()V") ∈ lw_all := lw_g (lw_at lw_m4 15 rfl) rfl
theorem q842 : (Jvm.Cond.selects "PanSlices$PlanReader" ({ cls := "PanSlices$PlanReader", name := "next", desc := "()V" } : Jvm.MethodName) ({ cls := "PanSlices$Reader", name := "next", desc := "()V" } : Jvm.MethodName)) ∈ lw_all := lw_g (lw_at lw_m4 16 rfl) rfl
theorem q843 : (Jvm.Cond.stringRef "PanSlices$PlanReader" (39 : Nat) "top") ∈ lw_tbl := lw_at lw_m4 17 rfl
theorem q844 : (Jvm.Cond.methodLink "PanSlices$PlanReader" (41 : Nat) ({ cls := "PanSlices$PlanReader", name := "is", desc := "(Ljava/lang/String;)Z" } : Jvm.MethodName)) ∈ lw_all := lw_g (lw_at lw_m4 18 rfl) rfl
theorem q845 : (Jvm.Cond.sameMethod "PanSlices$PlanReader" "PanSlices$Reader" "is" "(Ljava/lang/String;)Z") ∈ lw_all := lw_g (lw_at lw_m4 19 rfl) rfl
theorem q846 : (Jvm.Cond.selects "PanSlices$PlanReader" ({ cls := "PanSlices$PlanReader", name := "is", desc := "(Ljava/lang/String;)Z" } : Jvm.MethodName) ({ cls := "PanSlices$Reader", name := "is", desc := "(Ljava/lang/String;)Z" } : Jvm.MethodName)) ∈ lw_all := lw_g (lw_at lw_m4 20 rfl) rfl
theorem q847 : (Jvm.Cond.stringRef "PanSlices$PlanReader" (45 : Nat) "under") ∈ lw_tbl := lw_at lw_m4 21 rfl
theorem q848 : (Jvm.Cond.methodLink "PanSlices$PlanReader" (47 : Nat) ({ cls := "PanSlices$PlanReader", name := "number", desc := "(II)I" } : Jvm.MethodName)) ∈ lw_all := lw_g (lw_at lw_m4 22 rfl) rfl
theorem q849 : (Jvm.Cond.sameMethod "PanSlices$PlanReader" "PanSlices$Reader" "number" "(II)I") ∈ lw_all := lw_g (lw_at lw_m4 23 rfl) rfl
theorem q850 : (Jvm.Cond.selects "PanSlices$PlanReader" ({ cls := "PanSlices$PlanReader", name := "number", desc := "(II)I" } : Jvm.MethodName) ({ cls := "PanSlices$Reader", name := "number", desc := "(II)I" } : Jvm.MethodName)) ∈ lw_all := lw_g (lw_at lw_m4 24 rfl) rfl
theorem q851 : (Jvm.Cond.methodLink "PanSlices$PlanReader" (60 : Nat) ({ cls := "PanSlices$PlanReader", name := "sign", desc := "(I)V" } : Jvm.MethodName)) ∈ lw_all := lw_g (lw_at lw_m4 25 rfl) rfl
theorem q852 : (Jvm.Cond.sameMethod "PanSlices$PlanReader" "PanSlices$Reader" "sign" "(I)V") ∈ lw_all := lw_g (lw_at lw_m4 26 rfl) rfl
theorem q853 : (Jvm.Cond.selects "PanSlices$PlanReader" ({ cls := "PanSlices$PlanReader", name := "sign", desc := "(I)V" } : Jvm.MethodName) ({ cls := "PanSlices$Reader", name := "sign", desc := "(I)V" } : Jvm.MethodName)) ∈ lw_all := lw_g (lw_at lw_m4 27 rfl) rfl
theorem q854 : (Jvm.Cond.methodLink "PanSlices$PlanReader" (64 : Nat) ({ cls := "PanSlices$Plan", name := "go", desc := "(IIIII)I" } : Jvm.MethodName)) ∈ lw_all := lw_g (lw_at lw_m4 28 rfl) rfl
theorem q2142 : (Jvm.Cond.selects "PanSlices$PlanReader" ({ cls := "PanSlices$Reader", name := "must", desc := "(ZI)V" } : Jvm.MethodName) ({ cls := "PanSlices$Reader", name := "must", desc := "(ZI)V" } : Jvm.MethodName)) ∈ lw_all := lw_g (lw_at lw_m9 116 rfl) rfl
theorem q2146 : (Jvm.Cond.selects "PanSlices$PlanReader" ({ cls := "PanSlices$Reader", name := "find", desc := "([Ljava/lang/String;)I" } : Jvm.MethodName) ({ cls := "PanSlices$Reader", name := "find", desc := "([Ljava/lang/String;)I" } : Jvm.MethodName)) ∈ lw_all := lw_g (lw_at lw_m9 120 rfl) rfl
theorem q2150 : (Jvm.Cond.selects "PanSlices$PlanReader" ({ cls := "PanSlices$Reader", name := "isName", desc := "()Z" } : Jvm.MethodName) ({ cls := "PanSlices$Reader", name := "isName", desc := "()Z" } : Jvm.MethodName)) ∈ lw_all := lw_g (lw_at lw_m9 124 rfl) rfl
theorem q2154 : (Jvm.Cond.selects "PanSlices$PlanReader" ({ cls := "PanSlices$Reader", name := "of", desc := "([JI)I" } : Jvm.MethodName) ({ cls := "PanSlices$Reader", name := "of", desc := "([JI)I" } : Jvm.MethodName)) ∈ lw_all := lw_g (lw_at lw_m9 128 rfl) rfl
theorem q2161 : (Jvm.Cond.castable "PanSlices$PlanReader" "java/lang/Object") ∈ lw_tbl := lw_at lw_m9 135 rfl
theorem in_X7 : ∀ w ∈ wsX70, w ∈ lw_all := lw_in wsX70 [422, 423, 424, 425, 426, 427, 428, 429, 420] (by decide +kernel) (by decide +kernel)
/-! PanSlices$Cook -/
set_option maxRecDepth 100000
def RX8 : String := "PanSlices$Cook"
abbrev cX8_init : ByteArray := prog_5_method_1_code
def yX8_init : MethodName := ⟨RX8, "<init>", "()V"⟩
theorem dX8_init_0 : decode cX8_init 0 = .ok (.aload_n 0, 1) := by decide +kernel
theorem dX8_init_1 : decode cX8_init 1 = .ok (.invokespecial 1, 3) := by decide +kernel
theorem dX8_init_4 : decode cX8_init 4 = .ok (.return_, 1) := by decide +kernel
theorem q116 : (Jvm.Cond.initialized "PanSlices$Cook") ∈ lw_all := lw_g (lw_at lw_m1 10 rfl) rfl
theorem q440 : (Jvm.Cond.instanceMethod ({ cls := "PanSlices$Cook", name := "<init>", desc := "()V" } : Jvm.MethodName)) ∈ lw_all := lw_g (lw_at lw_m2 94 rfl) rfl
theorem q441 : (Jvm.Cond.code ({ cls := "PanSlices$Cook", name := "<init>", desc := "()V" } : Jvm.MethodName) prog_5_method_1_code (1 : Nat) (Option.none : Option Jvm.ClassFile.FieldType)) ∈ lw_all := lw_g (lw_at lw_m2 95 rfl) rfl
theorem q442 : (Jvm.Cond.methodLink "PanSlices$Cook" (1 : Nat) ({ cls := "java/lang/Object", name := "<init>", desc := "()V" } : Jvm.MethodName)) ∈ lw_all := lw_g (lw_at lw_m2 96 rfl) rfl
theorem q1082 : (Jvm.Cond.declares ({ cls := "PanSlices$Cook", name := "likes", desc := "(II)I" } : Jvm.MethodName)) ∈ lw_tbl := lw_at lw_m5 16 rfl
theorem q1083 : (Jvm.Cond.sameMethod "PanSlices$Cook" "PanSlices$Cook" "likes" "(II)I") ∈ lw_all := lw_g (lw_at lw_m5 17 rfl) rfl
/-! PanSlices$Next -/
set_option maxRecDepth 100000
def RX9 : String := "PanSlices$Next"
abbrev cX9_init : ByteArray := prog_13_method_1_code
def yX9_init : MethodName := ⟨RX9, "<init>", "()V"⟩
theorem dX9_init_0 : decode cX9_init 0 = .ok (.aload_n 0, 1) := by decide +kernel
theorem dX9_init_1 : decode cX9_init 1 = .ok (.invokespecial 1, 3) := by decide +kernel
theorem dX9_init_4 : decode cX9_init 4 = .ok (.return_, 1) := by decide +kernel
abbrev cX9_likes : ByteArray := prog_13_method_2_code
def yX9_likes : MethodName := ⟨RX9, "likes", "(II)I"⟩
theorem dX9_likes_0 : decode cX9_likes 0 = .ok (.iconst 0, 1) := by decide +kernel
theorem dX9_likes_1 : decode cX9_likes 1 = .ok (.ireturn, 1) := by decide +kernel
theorem q117 : (Jvm.Cond.initialized "PanSlices$Next") ∈ lw_all := lw_g (lw_at lw_m1 11 rfl) rfl
theorem q435 : (Jvm.Cond.instantiable "PanSlices$Next" (0 : Nat)) ∈ lw_all := lw_g (lw_at lw_m2 89 rfl) rfl
theorem q437 : (Jvm.Cond.instanceMethod ({ cls := "PanSlices$Next", name := "<init>", desc := "()V" } : Jvm.MethodName)) ∈ lw_all := lw_g (lw_at lw_m2 91 rfl) rfl
theorem q438 : (Jvm.Cond.code ({ cls := "PanSlices$Next", name := "<init>", desc := "()V" } : Jvm.MethodName) prog_13_method_1_code (1 : Nat) (Option.none : Option Jvm.ClassFile.FieldType)) ∈ lw_all := lw_g (lw_at lw_m2 92 rfl) rfl
theorem q439 : (Jvm.Cond.methodLinkNest "PanSlices$Next" (1 : Nat) ({ cls := "PanSlices$Cook", name := "<init>", desc := "()V" } : Jvm.MethodName) "PanSlices") ∈ lw_tbl := lw_at lw_m2 93 rfl
theorem q443 : (Jvm.Cond.superclass "PanSlices$Next" "PanSlices$Cook") ∈ lw_all := lw_g (lw_at lw_m2 97 rfl) rfl
theorem q1090 : (Jvm.Cond.selects "PanSlices$Next" ({ cls := "PanSlices$Cook", name := "likes", desc := "(II)I" } : Jvm.MethodName) ({ cls := "PanSlices$Next", name := "likes", desc := "(II)I" } : Jvm.MethodName)) ∈ lw_all := lw_g (lw_at lw_m5 24 rfl) rfl
theorem q1091 : (Jvm.Cond.instanceMethod ({ cls := "PanSlices$Next", name := "likes", desc := "(II)I" } : Jvm.MethodName)) ∈ lw_all := lw_g (lw_at lw_m5 25 rfl) rfl
theorem q1092 : (Jvm.Cond.code ({ cls := "PanSlices$Next", name := "likes", desc := "(II)I" } : Jvm.MethodName) prog_13_method_2_code (3 : Nat) (Option.some Jvm.ClassFile.FieldType.int)) ∈ lw_all := lw_g (lw_at lw_m5 26 rfl) rfl
theorem q2162 : (Jvm.Cond.castable "PanSlices$Next" "java/lang/Object") ∈ lw_tbl := lw_at lw_m9 136 rfl
theorem q2175 : (Jvm.Cond.castable "PanSlices$Next" "PanSlices$Cook") ∈ lw_tbl := lw_at lw_m9 149 rfl
/-! PanSlices$Longest -/
set_option maxRecDepth 100000
def RX10 : String := "PanSlices$Longest"
abbrev cX10_init : ByteArray := prog_11_method_1_code
def yX10_init : MethodName := ⟨RX10, "<init>", "()V"⟩
theorem dX10_init_0 : decode cX10_init 0 = .ok (.aload_n 0, 1) := by decide +kernel
theorem dX10_init_1 : decode cX10_init 1 = .ok (.invokespecial 1, 3) := by decide +kernel
theorem dX10_init_4 : decode cX10_init 4 = .ok (.return_, 1) := by decide +kernel
abbrev cX10_likes : ByteArray := prog_11_method_2_code
def yX10_likes : MethodName := ⟨RX10, "likes", "(II)I"⟩
def dkwX10_likes_0 : List UInt8 := [27, 28, 96, 172]
abbrev dktX10_likes_0 : List UInt8 := dkwX10_likes_0 ++ []
theorem dksX10_likes_0 : cX10_likes.data.toList.drop 0 = dktX10_likes_0 := by decide +kernel
theorem dX10_likes_0 : decode cX10_likes 0 = .ok (.iload_n 1, 1) := dk_27 (dk_at dksX10_likes_0 0 rfl rfl)
theorem dX10_likes_1 : decode cX10_likes 1 = .ok (.iload_n 2, 1) := dk_28 (dk_at dksX10_likes_0 1 rfl rfl)
theorem dX10_likes_2 : decode cX10_likes 2 = .ok (.iadd, 1) := dk_96 (dk_at dksX10_likes_0 2 rfl rfl)
theorem dX10_likes_3 : decode cX10_likes 3 = .ok (.ireturn, 1) := dk_172 (dk_at dksX10_likes_0 3 rfl rfl)
theorem q118 : (Jvm.Cond.initialized "PanSlices$Longest") ∈ lw_all := lw_g (lw_at lw_m1 12 rfl) rfl
theorem q445 : (Jvm.Cond.instantiable "PanSlices$Longest" (0 : Nat)) ∈ lw_all := lw_g (lw_at lw_m2 99 rfl) rfl
theorem q447 : (Jvm.Cond.instanceMethod ({ cls := "PanSlices$Longest", name := "<init>", desc := "()V" } : Jvm.MethodName)) ∈ lw_all := lw_g (lw_at lw_m2 101 rfl) rfl
theorem q448 : (Jvm.Cond.code ({ cls := "PanSlices$Longest", name := "<init>", desc := "()V" } : Jvm.MethodName) prog_11_method_1_code (1 : Nat) (Option.none : Option Jvm.ClassFile.FieldType)) ∈ lw_all := lw_g (lw_at lw_m2 102 rfl) rfl
theorem q449 : (Jvm.Cond.methodLinkNest "PanSlices$Longest" (1 : Nat) ({ cls := "PanSlices$Cook", name := "<init>", desc := "()V" } : Jvm.MethodName) "PanSlices") ∈ lw_tbl := lw_at lw_m2 103 rfl
theorem q450 : (Jvm.Cond.superclass "PanSlices$Longest" "PanSlices$Cook") ∈ lw_all := lw_g (lw_at lw_m2 104 rfl) rfl
theorem q1087 : (Jvm.Cond.selects "PanSlices$Longest" ({ cls := "PanSlices$Cook", name := "likes", desc := "(II)I" } : Jvm.MethodName) ({ cls := "PanSlices$Longest", name := "likes", desc := "(II)I" } : Jvm.MethodName)) ∈ lw_all := lw_g (lw_at lw_m5 21 rfl) rfl
theorem q1088 : (Jvm.Cond.instanceMethod ({ cls := "PanSlices$Longest", name := "likes", desc := "(II)I" } : Jvm.MethodName)) ∈ lw_all := lw_g (lw_at lw_m5 22 rfl) rfl
theorem q1089 : (Jvm.Cond.code ({ cls := "PanSlices$Longest", name := "likes", desc := "(II)I" } : Jvm.MethodName) prog_11_method_2_code (3 : Nat) (Option.some Jvm.ClassFile.FieldType.int)) ∈ lw_all := lw_g (lw_at lw_m5 23 rfl) rfl
theorem q2163 : (Jvm.Cond.castable "PanSlices$Longest" "java/lang/Object") ∈ lw_tbl := lw_at lw_m9 137 rfl
theorem q2176 : (Jvm.Cond.castable "PanSlices$Longest" "PanSlices$Cook") ∈ lw_tbl := lw_at lw_m9 150 rfl
/-! PanSlices$Half -/
set_option maxRecDepth 100000
def RX11 : String := "PanSlices$Half"
abbrev cX11_init : ByteArray := prog_8_method_1_code
def yX11_init : MethodName := ⟨RX11, "<init>", "()V"⟩
theorem dX11_init_0 : decode cX11_init 0 = .ok (.aload_n 0, 1) := by decide +kernel
theorem dX11_init_1 : decode cX11_init 1 = .ok (.invokespecial 1, 3) := by decide +kernel
theorem dX11_init_4 : decode cX11_init 4 = .ok (.return_, 1) := by decide +kernel
abbrev cX11_likes : ByteArray := prog_8_method_2_code
def yX11_likes : MethodName := ⟨RX11, "likes", "(II)I"⟩
def dkwX11_likes_0 : List UInt8 := [27, 153, 0, 7, 28, 154, 0, 7, 4, 167, 0, 4, 3, 172]
abbrev dktX11_likes_0 : List UInt8 := dkwX11_likes_0 ++ []
theorem dksX11_likes_0 : cX11_likes.data.toList.drop 0 = dktX11_likes_0 := by decide +kernel
theorem dX11_likes_0 : decode cX11_likes 0 = .ok (.iload_n 1, 1) := dk_27 (dk_at dksX11_likes_0 0 rfl rfl)
theorem dX11_likes_1 : decode cX11_likes 1 = .ok (.ifCond .eq 7, 3) := dk_153 0 7 (dk_at dksX11_likes_0 1 rfl rfl)
theorem dX11_likes_4 : decode cX11_likes 4 = .ok (.iload_n 2, 1) := dk_28 (dk_at dksX11_likes_0 4 rfl rfl)
theorem dX11_likes_5 : decode cX11_likes 5 = .ok (.ifCond .ne 7, 3) := dk_154 0 7 (dk_at dksX11_likes_0 5 rfl rfl)
theorem dX11_likes_8 : decode cX11_likes 8 = .ok (.iconst 1, 1) := dk_4 (dk_at dksX11_likes_0 8 rfl rfl)
theorem dX11_likes_9 : decode cX11_likes 9 = .ok (.goto 4, 3) := dk_167 0 4 (dk_at dksX11_likes_0 9 rfl rfl)
theorem dX11_likes_12 : decode cX11_likes 12 = .ok (.iconst 0, 1) := dk_3 (dk_at dksX11_likes_0 12 rfl rfl)
theorem dX11_likes_13 : decode cX11_likes 13 = .ok (.ireturn, 1) := dk_172 (dk_at dksX11_likes_0 13 rfl rfl)
theorem q119 : (Jvm.Cond.initialized "PanSlices$Half") ∈ lw_all := lw_g (lw_at lw_m1 13 rfl) rfl
theorem q452 : (Jvm.Cond.instantiable "PanSlices$Half" (0 : Nat)) ∈ lw_all := lw_g (lw_at lw_m2 106 rfl) rfl
theorem q454 : (Jvm.Cond.instanceMethod ({ cls := "PanSlices$Half", name := "<init>", desc := "()V" } : Jvm.MethodName)) ∈ lw_all := lw_g (lw_at lw_m2 108 rfl) rfl
theorem q455 : (Jvm.Cond.code ({ cls := "PanSlices$Half", name := "<init>", desc := "()V" } : Jvm.MethodName) prog_8_method_1_code (1 : Nat) (Option.none : Option Jvm.ClassFile.FieldType)) ∈ lw_all := lw_g (lw_at lw_m2 109 rfl) rfl
theorem q456 : (Jvm.Cond.methodLinkNest "PanSlices$Half" (1 : Nat) ({ cls := "PanSlices$Cook", name := "<init>", desc := "()V" } : Jvm.MethodName) "PanSlices") ∈ lw_tbl := lw_at lw_m2 110 rfl
theorem q457 : (Jvm.Cond.superclass "PanSlices$Half" "PanSlices$Cook") ∈ lw_all := lw_g (lw_at lw_m2 111 rfl) rfl
theorem q1084 : (Jvm.Cond.selects "PanSlices$Half" ({ cls := "PanSlices$Cook", name := "likes", desc := "(II)I" } : Jvm.MethodName) ({ cls := "PanSlices$Half", name := "likes", desc := "(II)I" } : Jvm.MethodName)) ∈ lw_all := lw_g (lw_at lw_m5 18 rfl) rfl
theorem q1085 : (Jvm.Cond.instanceMethod ({ cls := "PanSlices$Half", name := "likes", desc := "(II)I" } : Jvm.MethodName)) ∈ lw_all := lw_g (lw_at lw_m5 19 rfl) rfl
theorem q1086 : (Jvm.Cond.code ({ cls := "PanSlices$Half", name := "likes", desc := "(II)I" } : Jvm.MethodName) prog_8_method_2_code (3 : Nat) (Option.some Jvm.ClassFile.FieldType.int)) ∈ lw_all := lw_g (lw_at lw_m5 20 rfl) rfl
theorem q2164 : (Jvm.Cond.castable "PanSlices$Half" "java/lang/Object") ∈ lw_tbl := lw_at lw_m9 138 rfl
theorem q2177 : (Jvm.Cond.castable "PanSlices$Half" "PanSlices$Cook") ∈ lw_tbl := lw_at lw_m9 151 rfl
/-! PanSlices$SentenceReader -/
set_option maxRecDepth 100000
def RX12 : String := "PanSlices$SentenceReader"
def TX12 : u_T := fun k => match k with
  | 0 => ("PanSlices$Reader", "most", "I", true)
  | 1 => ("PanSlices$Reader", "p", "I", false)
  | 2 => ("PanSlices$Reader", "at", "I", false)
  | 3 => ("PanSlices$Reader", "token", "I", false)
  | 4 => ("PanSlices$Reader", "value", "I", false)
  | 5 => ("PanSlices$Reader", "many", "I", false)
  | 6 => ("PanSlices$Reader", "name", "J", false)
  | 7 => ("PanSlices$Reader", "this$0", "LPanSlices;", true)
  | 8 => ("PanSlices$SentenceReader", "marks", "[Ljava/lang/String;", true)
  | 9 => ("PanSlices$SentenceReader", "counts", "[Ljava/lang/String;", true)
  | 10 => ("PanSlices$SentenceReader", "ones", "I", false)
  | _ => ("PanSlices$SentenceReader", "this$0", "LPanSlices;", true)
def tyX12 : Nat → FieldType := fun k => match k with
  | 0 => .int
  | 1 => .int
  | 2 => .int
  | 3 => .int
  | 4 => .int
  | 5 => .int
  | 6 => .long
  | 7 => .object "PanSlices"
  | 8 => .array (.object "java/lang/String")
  | 9 => .array (.object "java/lang/String")
  | 10 => .int
  | _ => .object "PanSlices"
abbrev wsX120 : List Cond := u_ws RX12 TX12 12
-- two fields of one name: no nmX12
theorem tyX12_ok : ∀ k, k < 12 → parseFieldDescriptor (TX12 k).2.2.1 = some (tyX12 k) := by decide +kernel
abbrev cX12_init : ByteArray := prog_18_method_1_code
def yX12_init : MethodName := ⟨RX12, "<init>", "(LPanSlices;)V"⟩
def dkwX12_init_2 : List UInt8 := [18, 29, 83, 89, 5, 18, 31, 83, 89, 6, 18, 33, 83, 181, 0, 35, 177]
abbrev dktX12_init_2 : List UInt8 := dkwX12_init_2 ++ []
def dkwX12_init_1 : List UInt8 := [4, 18, 19, 83, 89, 5, 18, 21, 83, 181, 0, 23, 42, 7, 189, 0, 15, 89, 3, 18, 27, 83, 89, 4]
abbrev dktX12_init_1 : List UInt8 := dkwX12_init_1 ++ dktX12_init_2
def dkwX12_init_0 : List UInt8 := [42, 43, 181, 0, 3, 42, 43, 17, 0, 200, 183, 0, 9, 42, 6, 189, 0, 15, 89, 3, 18, 17, 83, 89]
abbrev dktX12_init_0 : List UInt8 := dkwX12_init_0 ++ dktX12_init_1
theorem dksX12_init_0 : cX12_init.data.toList.drop 0 = dktX12_init_0 := by decide +kernel
theorem dksX12_init_1 : cX12_init.data.toList.drop 24 = dktX12_init_1 := dk_seg dksX12_init_0 24 rfl rfl
theorem dksX12_init_2 : cX12_init.data.toList.drop 48 = dktX12_init_2 := dk_seg dksX12_init_1 24 rfl rfl
theorem dX12_init_0 : decode cX12_init 0 = .ok (.aload_n 0, 1) := dk_42 (dk_at dksX12_init_0 0 rfl rfl)
theorem dX12_init_1 : decode cX12_init 1 = .ok (.aload_n 1, 1) := dk_43 (dk_at dksX12_init_0 1 rfl rfl)
theorem dX12_init_2 : decode cX12_init 2 = .ok (.putfield 3, 3) := dk_181 0 3 (dk_at dksX12_init_0 2 rfl rfl)
theorem dX12_init_5 : decode cX12_init 5 = .ok (.aload_n 0, 1) := dk_42 (dk_at dksX12_init_0 5 rfl rfl)
theorem dX12_init_6 : decode cX12_init 6 = .ok (.aload_n 1, 1) := dk_43 (dk_at dksX12_init_0 6 rfl rfl)
theorem dX12_init_7 : decode cX12_init 7 = .ok (.sipush 200, 3) := dk_17 0 200 (dk_at dksX12_init_0 7 rfl rfl)
theorem dX12_init_10 : decode cX12_init 10 = .ok (.invokespecial 9, 3) := dk_183 0 9 (dk_at dksX12_init_0 10 rfl rfl)
theorem dX12_init_13 : decode cX12_init 13 = .ok (.aload_n 0, 1) := dk_42 (dk_at dksX12_init_0 13 rfl rfl)
theorem dX12_init_14 : decode cX12_init 14 = .ok (.iconst 3, 1) := dk_6 (dk_at dksX12_init_0 14 rfl rfl)
theorem dX12_init_15 : decode cX12_init 15 = .ok (.anewarray 15, 3) := dk_189 0 15 (dk_at dksX12_init_0 15 rfl rfl)
theorem dX12_init_18 : decode cX12_init 18 = .ok (.dup, 1) := dk_89 (dk_at dksX12_init_0 18 rfl rfl)
theorem dX12_init_19 : decode cX12_init 19 = .ok (.iconst 0, 1) := dk_3 (dk_at dksX12_init_0 19 rfl rfl)
theorem dX12_init_20 : decode cX12_init 20 = .ok (.ldc 17, 2) := dk_18 17 (dk_at dksX12_init_0 20 rfl rfl)
theorem dX12_init_22 : decode cX12_init 22 = .ok (.aastore, 1) := dk_83 (dk_at dksX12_init_0 22 rfl rfl)
theorem dX12_init_23 : decode cX12_init 23 = .ok (.dup, 1) := dk_89 (dk_at dksX12_init_0 23 rfl rfl)
theorem dX12_init_24 : decode cX12_init 24 = .ok (.iconst 1, 1) := dk_4 (dk_at dksX12_init_1 0 rfl rfl)
theorem dX12_init_25 : decode cX12_init 25 = .ok (.ldc 19, 2) := dk_18 19 (dk_at dksX12_init_1 1 rfl rfl)
theorem dX12_init_27 : decode cX12_init 27 = .ok (.aastore, 1) := dk_83 (dk_at dksX12_init_1 3 rfl rfl)
theorem dX12_init_28 : decode cX12_init 28 = .ok (.dup, 1) := dk_89 (dk_at dksX12_init_1 4 rfl rfl)
theorem dX12_init_29 : decode cX12_init 29 = .ok (.iconst 2, 1) := dk_5 (dk_at dksX12_init_1 5 rfl rfl)
theorem dX12_init_30 : decode cX12_init 30 = .ok (.ldc 21, 2) := dk_18 21 (dk_at dksX12_init_1 6 rfl rfl)
theorem dX12_init_32 : decode cX12_init 32 = .ok (.aastore, 1) := dk_83 (dk_at dksX12_init_1 8 rfl rfl)
theorem dX12_init_33 : decode cX12_init 33 = .ok (.putfield 23, 3) := dk_181 0 23 (dk_at dksX12_init_1 9 rfl rfl)
theorem dX12_init_36 : decode cX12_init 36 = .ok (.aload_n 0, 1) := dk_42 (dk_at dksX12_init_1 12 rfl rfl)
theorem dX12_init_37 : decode cX12_init 37 = .ok (.iconst 4, 1) := dk_7 (dk_at dksX12_init_1 13 rfl rfl)
theorem dX12_init_38 : decode cX12_init 38 = .ok (.anewarray 15, 3) := dk_189 0 15 (dk_at dksX12_init_1 14 rfl rfl)
theorem dX12_init_41 : decode cX12_init 41 = .ok (.dup, 1) := dk_89 (dk_at dksX12_init_1 17 rfl rfl)
theorem dX12_init_42 : decode cX12_init 42 = .ok (.iconst 0, 1) := dk_3 (dk_at dksX12_init_1 18 rfl rfl)
theorem dX12_init_43 : decode cX12_init 43 = .ok (.ldc 27, 2) := dk_18 27 (dk_at dksX12_init_1 19 rfl rfl)
theorem dX12_init_45 : decode cX12_init 45 = .ok (.aastore, 1) := dk_83 (dk_at dksX12_init_1 21 rfl rfl)
theorem dX12_init_46 : decode cX12_init 46 = .ok (.dup, 1) := dk_89 (dk_at dksX12_init_1 22 rfl rfl)
theorem dX12_init_47 : decode cX12_init 47 = .ok (.iconst 1, 1) := dk_4 (dk_at dksX12_init_1 23 rfl rfl)
theorem dX12_init_48 : decode cX12_init 48 = .ok (.ldc 29, 2) := dk_18 29 (dk_at dksX12_init_2 0 rfl rfl)
theorem dX12_init_50 : decode cX12_init 50 = .ok (.aastore, 1) := dk_83 (dk_at dksX12_init_2 2 rfl rfl)
theorem dX12_init_51 : decode cX12_init 51 = .ok (.dup, 1) := dk_89 (dk_at dksX12_init_2 3 rfl rfl)
theorem dX12_init_52 : decode cX12_init 52 = .ok (.iconst 2, 1) := dk_5 (dk_at dksX12_init_2 4 rfl rfl)
theorem dX12_init_53 : decode cX12_init 53 = .ok (.ldc 31, 2) := dk_18 31 (dk_at dksX12_init_2 5 rfl rfl)
theorem dX12_init_55 : decode cX12_init 55 = .ok (.aastore, 1) := dk_83 (dk_at dksX12_init_2 7 rfl rfl)
theorem dX12_init_56 : decode cX12_init 56 = .ok (.dup, 1) := dk_89 (dk_at dksX12_init_2 8 rfl rfl)
theorem dX12_init_57 : decode cX12_init 57 = .ok (.iconst 3, 1) := dk_6 (dk_at dksX12_init_2 9 rfl rfl)
theorem dX12_init_58 : decode cX12_init 58 = .ok (.ldc 33, 2) := dk_18 33 (dk_at dksX12_init_2 10 rfl rfl)
theorem dX12_init_60 : decode cX12_init 60 = .ok (.aastore, 1) := dk_83 (dk_at dksX12_init_2 12 rfl rfl)
theorem dX12_init_61 : decode cX12_init 61 = .ok (.putfield 35, 3) := dk_181 0 35 (dk_at dksX12_init_2 13 rfl rfl)
theorem dX12_init_64 : decode cX12_init 64 = .ok (.return_, 1) := dk_177 (dk_at dksX12_init_2 16 rfl rfl)
abbrev cX12_read : ByteArray := prog_18_method_2_code
def yX12_read : MethodName := ⟨RX12, "read", "()LPanSlices$Cond;"⟩
def dkwX12_read_1 : List UInt8 := [167, 0, 4, 3, 4, 182, 0, 53, 43, 176]
abbrev dktX12_read_1 : List UInt8 := dkwX12_read_1 ++ []
def dkwX12_read_0 : List UInt8 := [42, 3, 181, 0, 38, 42, 182, 0, 42, 42, 4, 182, 0, 46, 76, 42, 42, 180, 0, 50, 154, 0, 7, 4]
abbrev dktX12_read_0 : List UInt8 := dkwX12_read_0 ++ dktX12_read_1
theorem dksX12_read_0 : cX12_read.data.toList.drop 0 = dktX12_read_0 := by decide +kernel
theorem dksX12_read_1 : cX12_read.data.toList.drop 24 = dktX12_read_1 := dk_seg dksX12_read_0 24 rfl rfl
theorem dX12_read_0 : decode cX12_read 0 = .ok (.aload_n 0, 1) := dk_42 (dk_at dksX12_read_0 0 rfl rfl)
theorem dX12_read_1 : decode cX12_read 1 = .ok (.iconst 0, 1) := dk_3 (dk_at dksX12_read_0 1 rfl rfl)
theorem dX12_read_2 : decode cX12_read 2 = .ok (.putfield 38, 3) := dk_181 0 38 (dk_at dksX12_read_0 2 rfl rfl)
theorem dX12_read_5 : decode cX12_read 5 = .ok (.aload_n 0, 1) := dk_42 (dk_at dksX12_read_0 5 rfl rfl)
theorem dX12_read_6 : decode cX12_read 6 = .ok (.invokevirtual 42, 3) := dk_182 0 42 (dk_at dksX12_read_0 6 rfl rfl)
theorem dX12_read_9 : decode cX12_read 9 = .ok (.aload_n 0, 1) := dk_42 (dk_at dksX12_read_0 9 rfl rfl)
theorem dX12_read_10 : decode cX12_read 10 = .ok (.iconst 1, 1) := dk_4 (dk_at dksX12_read_0 10 rfl rfl)
theorem dX12_read_11 : decode cX12_read 11 = .ok (.invokevirtual 46, 3) := dk_182 0 46 (dk_at dksX12_read_0 11 rfl rfl)
theorem dX12_read_14 : decode cX12_read 14 = .ok (.astore_n 1, 1) := dk_76 (dk_at dksX12_read_0 14 rfl rfl)
theorem dX12_read_15 : decode cX12_read 15 = .ok (.aload_n 0, 1) := dk_42 (dk_at dksX12_read_0 15 rfl rfl)
theorem dX12_read_16 : decode cX12_read 16 = .ok (.aload_n 0, 1) := dk_42 (dk_at dksX12_read_0 16 rfl rfl)
theorem dX12_read_17 : decode cX12_read 17 = .ok (.getfield 50, 3) := dk_180 0 50 (dk_at dksX12_read_0 17 rfl rfl)
theorem dX12_read_20 : decode cX12_read 20 = .ok (.ifCond .ne 7, 3) := dk_154 0 7 (dk_at dksX12_read_0 20 rfl rfl)
theorem dX12_read_23 : decode cX12_read 23 = .ok (.iconst 1, 1) := dk_4 (dk_at dksX12_read_0 23 rfl rfl)
theorem dX12_read_24 : decode cX12_read 24 = .ok (.goto 4, 3) := dk_167 0 4 (dk_at dksX12_read_1 0 rfl rfl)
theorem dX12_read_27 : decode cX12_read 27 = .ok (.iconst 0, 1) := dk_3 (dk_at dksX12_read_1 3 rfl rfl)
theorem dX12_read_28 : decode cX12_read 28 = .ok (.iconst 1, 1) := dk_4 (dk_at dksX12_read_1 4 rfl rfl)
theorem dX12_read_29 : decode cX12_read 29 = .ok (.invokevirtual 53, 3) := dk_182 0 53 (dk_at dksX12_read_1 5 rfl rfl)
theorem dX12_read_32 : decode cX12_read 32 = .ok (.aload_n 1, 1) := dk_43 (dk_at dksX12_read_1 8 rfl rfl)
theorem dX12_read_33 : decode cX12_read 33 = .ok (.areturn, 1) := dk_176 (dk_at dksX12_read_1 9 rfl rfl)
abbrev cX12_any : ByteArray := prog_18_method_3_code
def yX12_any : MethodName := ⟨RX12, "any", "(I)LPanSlices$Cond;"⟩
def dkwX12_any_1 : List UInt8 := [42, 27, 182, 0, 57, 183, 0, 71, 77, 167, 255, 229, 44, 176]
abbrev dktX12_any_1 : List UInt8 := dkwX12_any_1 ++ []
def dkwX12_any_0 : List UInt8 := [42, 27, 182, 0, 57, 77, 42, 18, 60, 182, 0, 62, 153, 0, 24, 42, 182, 0, 66, 187, 0, 69, 89, 44]
abbrev dktX12_any_0 : List UInt8 := dkwX12_any_0 ++ dktX12_any_1
theorem dksX12_any_0 : cX12_any.data.toList.drop 0 = dktX12_any_0 := by decide +kernel
theorem dksX12_any_1 : cX12_any.data.toList.drop 24 = dktX12_any_1 := dk_seg dksX12_any_0 24 rfl rfl
theorem dX12_any_0 : decode cX12_any 0 = .ok (.aload_n 0, 1) := dk_42 (dk_at dksX12_any_0 0 rfl rfl)
theorem dX12_any_1 : decode cX12_any 1 = .ok (.iload_n 1, 1) := dk_27 (dk_at dksX12_any_0 1 rfl rfl)
theorem dX12_any_2 : decode cX12_any 2 = .ok (.invokevirtual 57, 3) := dk_182 0 57 (dk_at dksX12_any_0 2 rfl rfl)
theorem dX12_any_5 : decode cX12_any 5 = .ok (.astore_n 2, 1) := dk_77 (dk_at dksX12_any_0 5 rfl rfl)
theorem dX12_any_6 : decode cX12_any 6 = .ok (.aload_n 0, 1) := dk_42 (dk_at dksX12_any_0 6 rfl rfl)
theorem dX12_any_7 : decode cX12_any 7 = .ok (.ldc 60, 2) := dk_18 60 (dk_at dksX12_any_0 7 rfl rfl)
theorem dX12_any_9 : decode cX12_any 9 = .ok (.invokevirtual 62, 3) := dk_182 0 62 (dk_at dksX12_any_0 9 rfl rfl)
theorem dX12_any_12 : decode cX12_any 12 = .ok (.ifCond .eq 24, 3) := dk_153 0 24 (dk_at dksX12_any_0 12 rfl rfl)
theorem dX12_any_15 : decode cX12_any 15 = .ok (.aload_n 0, 1) := dk_42 (dk_at dksX12_any_0 15 rfl rfl)
theorem dX12_any_16 : decode cX12_any 16 = .ok (.invokevirtual 66, 3) := dk_182 0 66 (dk_at dksX12_any_0 16 rfl rfl)
theorem dX12_any_19 : decode cX12_any 19 = .ok (.new 69, 3) := dk_187 0 69 (dk_at dksX12_any_0 19 rfl rfl)
theorem dX12_any_22 : decode cX12_any 22 = .ok (.dup, 1) := dk_89 (dk_at dksX12_any_0 22 rfl rfl)
theorem dX12_any_23 : decode cX12_any 23 = .ok (.aload_n 2, 1) := dk_44 (dk_at dksX12_any_0 23 rfl rfl)
theorem dX12_any_24 : decode cX12_any 24 = .ok (.aload_n 0, 1) := dk_42 (dk_at dksX12_any_1 0 rfl rfl)
theorem dX12_any_25 : decode cX12_any 25 = .ok (.iload_n 1, 1) := dk_27 (dk_at dksX12_any_1 1 rfl rfl)
theorem dX12_any_26 : decode cX12_any 26 = .ok (.invokevirtual 57, 3) := dk_182 0 57 (dk_at dksX12_any_1 2 rfl rfl)
theorem dX12_any_29 : decode cX12_any 29 = .ok (.invokespecial 71, 3) := dk_183 0 71 (dk_at dksX12_any_1 5 rfl rfl)
theorem dX12_any_32 : decode cX12_any 32 = .ok (.astore_n 2, 1) := dk_77 (dk_at dksX12_any_1 8 rfl rfl)
theorem dX12_any_33 : decode cX12_any 33 = .ok (.goto (-27), 3) := dk_167 255 229 (dk_at dksX12_any_1 9 rfl rfl)
theorem dX12_any_36 : decode cX12_any 36 = .ok (.aload_n 2, 1) := dk_44 (dk_at dksX12_any_1 12 rfl rfl)
theorem dX12_any_37 : decode cX12_any 37 = .ok (.areturn, 1) := dk_176 (dk_at dksX12_any_1 13 rfl rfl)
abbrev cX12_both : ByteArray := prog_18_method_4_code
def yX12_both : MethodName := ⟨RX12, "both", "(I)LPanSlices$Cond;"⟩
def dkwX12_both_1 : List UInt8 := [42, 27, 182, 0, 74, 183, 0, 81, 77, 167, 255, 229, 44, 176]
abbrev dktX12_both_1 : List UInt8 := dkwX12_both_1 ++ []
def dkwX12_both_0 : List UInt8 := [42, 27, 182, 0, 74, 77, 42, 18, 77, 182, 0, 62, 153, 0, 24, 42, 182, 0, 66, 187, 0, 79, 89, 44]
abbrev dktX12_both_0 : List UInt8 := dkwX12_both_0 ++ dktX12_both_1
theorem dksX12_both_0 : cX12_both.data.toList.drop 0 = dktX12_both_0 := by decide +kernel
theorem dksX12_both_1 : cX12_both.data.toList.drop 24 = dktX12_both_1 := dk_seg dksX12_both_0 24 rfl rfl
theorem dX12_both_0 : decode cX12_both 0 = .ok (.aload_n 0, 1) := dk_42 (dk_at dksX12_both_0 0 rfl rfl)
theorem dX12_both_1 : decode cX12_both 1 = .ok (.iload_n 1, 1) := dk_27 (dk_at dksX12_both_0 1 rfl rfl)
theorem dX12_both_2 : decode cX12_both 2 = .ok (.invokevirtual 74, 3) := dk_182 0 74 (dk_at dksX12_both_0 2 rfl rfl)
theorem dX12_both_5 : decode cX12_both 5 = .ok (.astore_n 2, 1) := dk_77 (dk_at dksX12_both_0 5 rfl rfl)
theorem dX12_both_6 : decode cX12_both 6 = .ok (.aload_n 0, 1) := dk_42 (dk_at dksX12_both_0 6 rfl rfl)
theorem dX12_both_7 : decode cX12_both 7 = .ok (.ldc 77, 2) := dk_18 77 (dk_at dksX12_both_0 7 rfl rfl)
theorem dX12_both_9 : decode cX12_both 9 = .ok (.invokevirtual 62, 3) := dk_182 0 62 (dk_at dksX12_both_0 9 rfl rfl)
theorem dX12_both_12 : decode cX12_both 12 = .ok (.ifCond .eq 24, 3) := dk_153 0 24 (dk_at dksX12_both_0 12 rfl rfl)
theorem dX12_both_15 : decode cX12_both 15 = .ok (.aload_n 0, 1) := dk_42 (dk_at dksX12_both_0 15 rfl rfl)
theorem dX12_both_16 : decode cX12_both 16 = .ok (.invokevirtual 66, 3) := dk_182 0 66 (dk_at dksX12_both_0 16 rfl rfl)
theorem dX12_both_19 : decode cX12_both 19 = .ok (.new 79, 3) := dk_187 0 79 (dk_at dksX12_both_0 19 rfl rfl)
theorem dX12_both_22 : decode cX12_both 22 = .ok (.dup, 1) := dk_89 (dk_at dksX12_both_0 22 rfl rfl)
theorem dX12_both_23 : decode cX12_both 23 = .ok (.aload_n 2, 1) := dk_44 (dk_at dksX12_both_0 23 rfl rfl)
theorem dX12_both_24 : decode cX12_both 24 = .ok (.aload_n 0, 1) := dk_42 (dk_at dksX12_both_1 0 rfl rfl)
theorem dX12_both_25 : decode cX12_both 25 = .ok (.iload_n 1, 1) := dk_27 (dk_at dksX12_both_1 1 rfl rfl)
theorem dX12_both_26 : decode cX12_both 26 = .ok (.invokevirtual 74, 3) := dk_182 0 74 (dk_at dksX12_both_1 2 rfl rfl)
theorem dX12_both_29 : decode cX12_both 29 = .ok (.invokespecial 81, 3) := dk_183 0 81 (dk_at dksX12_both_1 5 rfl rfl)
theorem dX12_both_32 : decode cX12_both 32 = .ok (.astore_n 2, 1) := dk_77 (dk_at dksX12_both_1 8 rfl rfl)
theorem dX12_both_33 : decode cX12_both 33 = .ok (.goto (-27), 3) := dk_167 255 229 (dk_at dksX12_both_1 9 rfl rfl)
theorem dX12_both_36 : decode cX12_both 36 = .ok (.aload_n 2, 1) := dk_44 (dk_at dksX12_both_1 12 rfl rfl)
theorem dX12_both_37 : decode cX12_both 37 = .ok (.areturn, 1) := dk_176 (dk_at dksX12_both_1 13 rfl rfl)
abbrev cX12_single : ByteArray := prog_18_method_5_code
def yX12_single : MethodName := ⟨RX12, "single", "(I)LPanSlices$Cond;"⟩
def dkwX12_single_11 : List UInt8 := [180, 0, 109, 54, 7, 42, 182, 0, 66, 187, 0, 112, 89, 21, 5, 21, 6, 21, 7, 183, 0, 114, 176]
abbrev dktX12_single_11 : List UInt8 := dkwX12_single_11 ++ []
def dkwX12_single_10 : List UInt8 := [42, 182, 0, 66, 42, 42, 180, 0, 50, 5, 160, 0, 7, 4, 167, 0, 4, 3, 4, 182, 0, 53, 42]
abbrev dktX12_single_10 : List UInt8 := dkwX12_single_10 ++ dktX12_single_11
def dkwX12_single_9 : List UInt8 := [42, 16, 62, 182, 0, 84, 153, 0, 7, 4, 167, 0, 4, 3, 4, 182, 0, 53, 42, 180, 0, 109, 54, 6]
abbrev dktX12_single_9 : List UInt8 := dkwX12_single_9 ++ dktX12_single_10
def dkwX12_single_8 : List UInt8 := [2, 183, 0, 106, 176, 42, 42, 16, 60, 182, 0, 84, 154, 0, 21, 42, 16, 61, 182, 0, 84, 154, 0, 12]
abbrev dktX12_single_8 : List UInt8 := dkwX12_single_8 ++ dktX12_single_9
def dkwX12_single_7 : List UInt8 := [187, 0, 104, 89, 21, 4, 21, 6, 183, 0, 106, 176, 21, 4, 2, 159, 0, 14, 187, 0, 104, 89, 21, 4]
abbrev dktX12_single_7 : List UInt8 := dkwX12_single_7 ++ dktX12_single_8
def dkwX12_single_6 : List UInt8 := [182, 0, 96, 25, 6, 176, 21, 4, 5, 160, 0, 25, 42, 182, 0, 100, 54, 6, 42, 182, 0, 66]
abbrev dktX12_single_6 : List UInt8 := dkwX12_single_6 ++ dktX12_single_7
def dkwX12_single_5 : List UInt8 := [182, 0, 74, 183, 0, 93, 176, 29, 153, 0, 21, 42, 27, 4, 96, 182, 0, 46, 58, 6, 42, 16, 41]
abbrev dktX12_single_5 : List UInt8 := dkwX12_single_5 ++ dktX12_single_6
def dkwX12_single_4 : List UInt8 := [180, 0, 38, 4, 96, 181, 0, 38, 42, 182, 0, 66, 28, 153, 0, 18, 187, 0, 91, 89, 42, 27, 4, 96]
abbrev dktX12_single_4 : List UInt8 := dkwX12_single_4 ++ dktX12_single_5
def dkwX12_single_3 : List UInt8 := [16, 20, 162, 0, 13, 27, 16, 8, 163, 0, 7, 4, 167, 0, 4, 3, 7, 182, 0, 53, 42, 89]
abbrev dktX12_single_3 : List UInt8 := dkwX12_single_3 ++ dktX12_single_4
def dkwX12_single_2 : List UInt8 := [160, 0, 9, 21, 5, 2, 159, 0, 7, 4, 167, 0, 4, 3, 4, 182, 0, 53, 42, 42, 180, 0, 38]
abbrev dktX12_single_2 : List UInt8 := dkwX12_single_2 ++ dktX12_single_3
def dkwX12_single_1 : List UInt8 := [42, 42, 180, 0, 35, 182, 0, 87, 54, 5, 42, 28, 154, 0, 19, 29, 154, 0, 15, 21, 4, 2]
abbrev dktX12_single_1 : List UInt8 := dkwX12_single_1 ++ dktX12_single_2
def dkwX12_single_0 : List UInt8 := [42, 18, 82, 182, 0, 62, 61, 42, 16, 40, 182, 0, 84, 62, 42, 42, 180, 0, 23, 182, 0, 87, 54, 4]
abbrev dktX12_single_0 : List UInt8 := dkwX12_single_0 ++ dktX12_single_1
theorem dksX12_single_0 : cX12_single.data.toList.drop 0 = dktX12_single_0 := by decide +kernel
theorem dksX12_single_1 : cX12_single.data.toList.drop 24 = dktX12_single_1 := dk_seg dksX12_single_0 24 rfl rfl
theorem dksX12_single_2 : cX12_single.data.toList.drop 46 = dktX12_single_2 := dk_seg dksX12_single_1 22 rfl rfl
theorem dksX12_single_3 : cX12_single.data.toList.drop 69 = dktX12_single_3 := dk_seg dksX12_single_2 23 rfl rfl
theorem dksX12_single_4 : cX12_single.data.toList.drop 91 = dktX12_single_4 := dk_seg dksX12_single_3 22 rfl rfl
theorem dksX12_single_5 : cX12_single.data.toList.drop 115 = dktX12_single_5 := dk_seg dksX12_single_4 24 rfl rfl
theorem dksX12_single_6 : cX12_single.data.toList.drop 138 = dktX12_single_6 := dk_seg dksX12_single_5 23 rfl rfl
theorem dksX12_single_7 : cX12_single.data.toList.drop 160 = dktX12_single_7 := dk_seg dksX12_single_6 22 rfl rfl
theorem dksX12_single_8 : cX12_single.data.toList.drop 184 = dktX12_single_8 := dk_seg dksX12_single_7 24 rfl rfl
theorem dksX12_single_9 : cX12_single.data.toList.drop 208 = dktX12_single_9 := dk_seg dksX12_single_8 24 rfl rfl
theorem dksX12_single_10 : cX12_single.data.toList.drop 232 = dktX12_single_10 := dk_seg dksX12_single_9 24 rfl rfl
theorem dksX12_single_11 : cX12_single.data.toList.drop 255 = dktX12_single_11 := dk_seg dksX12_single_10 23 rfl rfl
theorem dX12_single_0 : decode cX12_single 0 = .ok (.aload_n 0, 1) := dk_42 (dk_at dksX12_single_0 0 rfl rfl)
theorem dX12_single_1 : decode cX12_single 1 = .ok (.ldc 82, 2) := dk_18 82 (dk_at dksX12_single_0 1 rfl rfl)
theorem dX12_single_3 : decode cX12_single 3 = .ok (.invokevirtual 62, 3) := dk_182 0 62 (dk_at dksX12_single_0 3 rfl rfl)
theorem dX12_single_6 : decode cX12_single 6 = .ok (.istore_n 2, 1) := dk_61 (dk_at dksX12_single_0 6 rfl rfl)
theorem dX12_single_7 : decode cX12_single 7 = .ok (.aload_n 0, 1) := dk_42 (dk_at dksX12_single_0 7 rfl rfl)
theorem dX12_single_8 : decode cX12_single 8 = .ok (.bipush 40, 2) := dk_16 40 (dk_at dksX12_single_0 8 rfl rfl)
theorem dX12_single_10 : decode cX12_single 10 = .ok (.invokevirtual 84, 3) := dk_182 0 84 (dk_at dksX12_single_0 10 rfl rfl)
theorem dX12_single_13 : decode cX12_single 13 = .ok (.istore_n 3, 1) := dk_62 (dk_at dksX12_single_0 13 rfl rfl)
theorem dX12_single_14 : decode cX12_single 14 = .ok (.aload_n 0, 1) := dk_42 (dk_at dksX12_single_0 14 rfl rfl)
theorem dX12_single_15 : decode cX12_single 15 = .ok (.aload_n 0, 1) := dk_42 (dk_at dksX12_single_0 15 rfl rfl)
theorem dX12_single_16 : decode cX12_single 16 = .ok (.getfield 23, 3) := dk_180 0 23 (dk_at dksX12_single_0 16 rfl rfl)
theorem dX12_single_19 : decode cX12_single 19 = .ok (.invokevirtual 87, 3) := dk_182 0 87 (dk_at dksX12_single_0 19 rfl rfl)
theorem dX12_single_22 : decode cX12_single 22 = .ok (.istore 4, 2) := dk_54 4 (dk_at dksX12_single_0 22 rfl rfl)
theorem dX12_single_24 : decode cX12_single 24 = .ok (.aload_n 0, 1) := dk_42 (dk_at dksX12_single_1 0 rfl rfl)
theorem dX12_single_25 : decode cX12_single 25 = .ok (.aload_n 0, 1) := dk_42 (dk_at dksX12_single_1 1 rfl rfl)
theorem dX12_single_26 : decode cX12_single 26 = .ok (.getfield 35, 3) := dk_180 0 35 (dk_at dksX12_single_1 2 rfl rfl)
theorem dX12_single_29 : decode cX12_single 29 = .ok (.invokevirtual 87, 3) := dk_182 0 87 (dk_at dksX12_single_1 5 rfl rfl)
theorem dX12_single_32 : decode cX12_single 32 = .ok (.istore 5, 2) := dk_54 5 (dk_at dksX12_single_1 8 rfl rfl)
theorem dX12_single_34 : decode cX12_single 34 = .ok (.aload_n 0, 1) := dk_42 (dk_at dksX12_single_1 10 rfl rfl)
theorem dX12_single_35 : decode cX12_single 35 = .ok (.iload_n 2, 1) := dk_28 (dk_at dksX12_single_1 11 rfl rfl)
theorem dX12_single_36 : decode cX12_single 36 = .ok (.ifCond .ne 19, 3) := dk_154 0 19 (dk_at dksX12_single_1 12 rfl rfl)
theorem dX12_single_39 : decode cX12_single 39 = .ok (.iload_n 3, 1) := dk_29 (dk_at dksX12_single_1 15 rfl rfl)
theorem dX12_single_40 : decode cX12_single 40 = .ok (.ifCond .ne 15, 3) := dk_154 0 15 (dk_at dksX12_single_1 16 rfl rfl)
theorem dX12_single_43 : decode cX12_single 43 = .ok (.iload 4, 2) := dk_21 4 (dk_at dksX12_single_1 19 rfl rfl)
theorem dX12_single_45 : decode cX12_single 45 = .ok (.iconst (-1), 1) := dk_2 (dk_at dksX12_single_1 21 rfl rfl)
theorem dX12_single_46 : decode cX12_single 46 = .ok (.if_icmp .ne 9, 3) := dk_160 0 9 (dk_at dksX12_single_2 0 rfl rfl)
theorem dX12_single_49 : decode cX12_single 49 = .ok (.iload 5, 2) := dk_21 5 (dk_at dksX12_single_2 3 rfl rfl)
theorem dX12_single_51 : decode cX12_single 51 = .ok (.iconst (-1), 1) := dk_2 (dk_at dksX12_single_2 5 rfl rfl)
theorem dX12_single_52 : decode cX12_single 52 = .ok (.if_icmp .eq 7, 3) := dk_159 0 7 (dk_at dksX12_single_2 6 rfl rfl)
theorem dX12_single_55 : decode cX12_single 55 = .ok (.iconst 1, 1) := dk_4 (dk_at dksX12_single_2 9 rfl rfl)
theorem dX12_single_56 : decode cX12_single 56 = .ok (.goto 4, 3) := dk_167 0 4 (dk_at dksX12_single_2 10 rfl rfl)
theorem dX12_single_59 : decode cX12_single 59 = .ok (.iconst 0, 1) := dk_3 (dk_at dksX12_single_2 13 rfl rfl)
theorem dX12_single_60 : decode cX12_single 60 = .ok (.iconst 1, 1) := dk_4 (dk_at dksX12_single_2 14 rfl rfl)
theorem dX12_single_61 : decode cX12_single 61 = .ok (.invokevirtual 53, 3) := dk_182 0 53 (dk_at dksX12_single_2 15 rfl rfl)
theorem dX12_single_64 : decode cX12_single 64 = .ok (.aload_n 0, 1) := dk_42 (dk_at dksX12_single_2 18 rfl rfl)
theorem dX12_single_65 : decode cX12_single 65 = .ok (.aload_n 0, 1) := dk_42 (dk_at dksX12_single_2 19 rfl rfl)
theorem dX12_single_66 : decode cX12_single 66 = .ok (.getfield 38, 3) := dk_180 0 38 (dk_at dksX12_single_2 20 rfl rfl)
theorem dX12_single_69 : decode cX12_single 69 = .ok (.bipush 20, 2) := dk_16 20 (dk_at dksX12_single_3 0 rfl rfl)
theorem dX12_single_71 : decode cX12_single 71 = .ok (.if_icmp .ge 13, 3) := dk_162 0 13 (dk_at dksX12_single_3 2 rfl rfl)
theorem dX12_single_74 : decode cX12_single 74 = .ok (.iload_n 1, 1) := dk_27 (dk_at dksX12_single_3 5 rfl rfl)
theorem dX12_single_75 : decode cX12_single 75 = .ok (.bipush 8, 2) := dk_16 8 (dk_at dksX12_single_3 6 rfl rfl)
theorem dX12_single_77 : decode cX12_single 77 = .ok (.if_icmp .gt 7, 3) := dk_163 0 7 (dk_at dksX12_single_3 8 rfl rfl)
theorem dX12_single_80 : decode cX12_single 80 = .ok (.iconst 1, 1) := dk_4 (dk_at dksX12_single_3 11 rfl rfl)
theorem dX12_single_81 : decode cX12_single 81 = .ok (.goto 4, 3) := dk_167 0 4 (dk_at dksX12_single_3 12 rfl rfl)
theorem dX12_single_84 : decode cX12_single 84 = .ok (.iconst 0, 1) := dk_3 (dk_at dksX12_single_3 15 rfl rfl)
theorem dX12_single_85 : decode cX12_single 85 = .ok (.iconst 4, 1) := dk_7 (dk_at dksX12_single_3 16 rfl rfl)
theorem dX12_single_86 : decode cX12_single 86 = .ok (.invokevirtual 53, 3) := dk_182 0 53 (dk_at dksX12_single_3 17 rfl rfl)
theorem dX12_single_89 : decode cX12_single 89 = .ok (.aload_n 0, 1) := dk_42 (dk_at dksX12_single_3 20 rfl rfl)
theorem dX12_single_90 : decode cX12_single 90 = .ok (.dup, 1) := dk_89 (dk_at dksX12_single_3 21 rfl rfl)
theorem dX12_single_91 : decode cX12_single 91 = .ok (.getfield 38, 3) := dk_180 0 38 (dk_at dksX12_single_4 0 rfl rfl)
theorem dX12_single_94 : decode cX12_single 94 = .ok (.iconst 1, 1) := dk_4 (dk_at dksX12_single_4 3 rfl rfl)
theorem dX12_single_95 : decode cX12_single 95 = .ok (.iadd, 1) := dk_96 (dk_at dksX12_single_4 4 rfl rfl)
theorem dX12_single_96 : decode cX12_single 96 = .ok (.putfield 38, 3) := dk_181 0 38 (dk_at dksX12_single_4 5 rfl rfl)
theorem dX12_single_99 : decode cX12_single 99 = .ok (.aload_n 0, 1) := dk_42 (dk_at dksX12_single_4 8 rfl rfl)
theorem dX12_single_100 : decode cX12_single 100 = .ok (.invokevirtual 66, 3) := dk_182 0 66 (dk_at dksX12_single_4 9 rfl rfl)
theorem dX12_single_103 : decode cX12_single 103 = .ok (.iload_n 2, 1) := dk_28 (dk_at dksX12_single_4 12 rfl rfl)
theorem dX12_single_104 : decode cX12_single 104 = .ok (.ifCond .eq 18, 3) := dk_153 0 18 (dk_at dksX12_single_4 13 rfl rfl)
theorem dX12_single_107 : decode cX12_single 107 = .ok (.new 91, 3) := dk_187 0 91 (dk_at dksX12_single_4 16 rfl rfl)
theorem dX12_single_110 : decode cX12_single 110 = .ok (.dup, 1) := dk_89 (dk_at dksX12_single_4 19 rfl rfl)
theorem dX12_single_111 : decode cX12_single 111 = .ok (.aload_n 0, 1) := dk_42 (dk_at dksX12_single_4 20 rfl rfl)
theorem dX12_single_112 : decode cX12_single 112 = .ok (.iload_n 1, 1) := dk_27 (dk_at dksX12_single_4 21 rfl rfl)
theorem dX12_single_113 : decode cX12_single 113 = .ok (.iconst 1, 1) := dk_4 (dk_at dksX12_single_4 22 rfl rfl)
theorem dX12_single_114 : decode cX12_single 114 = .ok (.iadd, 1) := dk_96 (dk_at dksX12_single_4 23 rfl rfl)
theorem dX12_single_115 : decode cX12_single 115 = .ok (.invokevirtual 74, 3) := dk_182 0 74 (dk_at dksX12_single_5 0 rfl rfl)
theorem dX12_single_118 : decode cX12_single 118 = .ok (.invokespecial 93, 3) := dk_183 0 93 (dk_at dksX12_single_5 3 rfl rfl)
theorem dX12_single_121 : decode cX12_single 121 = .ok (.areturn, 1) := dk_176 (dk_at dksX12_single_5 6 rfl rfl)
theorem dX12_single_122 : decode cX12_single 122 = .ok (.iload_n 3, 1) := dk_29 (dk_at dksX12_single_5 7 rfl rfl)
theorem dX12_single_123 : decode cX12_single 123 = .ok (.ifCond .eq 21, 3) := dk_153 0 21 (dk_at dksX12_single_5 8 rfl rfl)
theorem dX12_single_126 : decode cX12_single 126 = .ok (.aload_n 0, 1) := dk_42 (dk_at dksX12_single_5 11 rfl rfl)
theorem dX12_single_127 : decode cX12_single 127 = .ok (.iload_n 1, 1) := dk_27 (dk_at dksX12_single_5 12 rfl rfl)
theorem dX12_single_128 : decode cX12_single 128 = .ok (.iconst 1, 1) := dk_4 (dk_at dksX12_single_5 13 rfl rfl)
theorem dX12_single_129 : decode cX12_single 129 = .ok (.iadd, 1) := dk_96 (dk_at dksX12_single_5 14 rfl rfl)
theorem dX12_single_130 : decode cX12_single 130 = .ok (.invokevirtual 46, 3) := dk_182 0 46 (dk_at dksX12_single_5 15 rfl rfl)
theorem dX12_single_133 : decode cX12_single 133 = .ok (.astore 6, 2) := dk_58 6 (dk_at dksX12_single_5 18 rfl rfl)
theorem dX12_single_135 : decode cX12_single 135 = .ok (.aload_n 0, 1) := dk_42 (dk_at dksX12_single_5 20 rfl rfl)
theorem dX12_single_136 : decode cX12_single 136 = .ok (.bipush 41, 2) := dk_16 41 (dk_at dksX12_single_5 21 rfl rfl)
theorem dX12_single_138 : decode cX12_single 138 = .ok (.invokevirtual 96, 3) := dk_182 0 96 (dk_at dksX12_single_6 0 rfl rfl)
theorem dX12_single_141 : decode cX12_single 141 = .ok (.aload 6, 2) := dk_25 6 (dk_at dksX12_single_6 3 rfl rfl)
theorem dX12_single_143 : decode cX12_single 143 = .ok (.areturn, 1) := dk_176 (dk_at dksX12_single_6 5 rfl rfl)
theorem dX12_single_144 : decode cX12_single 144 = .ok (.iload 4, 2) := dk_21 4 (dk_at dksX12_single_6 6 rfl rfl)
theorem dX12_single_146 : decode cX12_single 146 = .ok (.iconst 2, 1) := dk_5 (dk_at dksX12_single_6 8 rfl rfl)
theorem dX12_single_147 : decode cX12_single 147 = .ok (.if_icmp .ne 25, 3) := dk_160 0 25 (dk_at dksX12_single_6 9 rfl rfl)
theorem dX12_single_150 : decode cX12_single 150 = .ok (.aload_n 0, 1) := dk_42 (dk_at dksX12_single_6 12 rfl rfl)
theorem dX12_single_151 : decode cX12_single 151 = .ok (.invokevirtual 100, 3) := dk_182 0 100 (dk_at dksX12_single_6 13 rfl rfl)
theorem dX12_single_154 : decode cX12_single 154 = .ok (.istore 6, 2) := dk_54 6 (dk_at dksX12_single_6 16 rfl rfl)
theorem dX12_single_156 : decode cX12_single 156 = .ok (.aload_n 0, 1) := dk_42 (dk_at dksX12_single_6 18 rfl rfl)
theorem dX12_single_157 : decode cX12_single 157 = .ok (.invokevirtual 66, 3) := dk_182 0 66 (dk_at dksX12_single_6 19 rfl rfl)
theorem dX12_single_160 : decode cX12_single 160 = .ok (.new 104, 3) := dk_187 0 104 (dk_at dksX12_single_7 0 rfl rfl)
theorem dX12_single_163 : decode cX12_single 163 = .ok (.dup, 1) := dk_89 (dk_at dksX12_single_7 3 rfl rfl)
theorem dX12_single_164 : decode cX12_single 164 = .ok (.iload 4, 2) := dk_21 4 (dk_at dksX12_single_7 4 rfl rfl)
theorem dX12_single_166 : decode cX12_single 166 = .ok (.iload 6, 2) := dk_21 6 (dk_at dksX12_single_7 6 rfl rfl)
theorem dX12_single_168 : decode cX12_single 168 = .ok (.invokespecial 106, 3) := dk_183 0 106 (dk_at dksX12_single_7 8 rfl rfl)
theorem dX12_single_171 : decode cX12_single 171 = .ok (.areturn, 1) := dk_176 (dk_at dksX12_single_7 11 rfl rfl)
theorem dX12_single_172 : decode cX12_single 172 = .ok (.iload 4, 2) := dk_21 4 (dk_at dksX12_single_7 12 rfl rfl)
theorem dX12_single_174 : decode cX12_single 174 = .ok (.iconst (-1), 1) := dk_2 (dk_at dksX12_single_7 14 rfl rfl)
theorem dX12_single_175 : decode cX12_single 175 = .ok (.if_icmp .eq 14, 3) := dk_159 0 14 (dk_at dksX12_single_7 15 rfl rfl)
theorem dX12_single_178 : decode cX12_single 178 = .ok (.new 104, 3) := dk_187 0 104 (dk_at dksX12_single_7 18 rfl rfl)
theorem dX12_single_181 : decode cX12_single 181 = .ok (.dup, 1) := dk_89 (dk_at dksX12_single_7 21 rfl rfl)
theorem dX12_single_182 : decode cX12_single 182 = .ok (.iload 4, 2) := dk_21 4 (dk_at dksX12_single_7 22 rfl rfl)
theorem dX12_single_184 : decode cX12_single 184 = .ok (.iconst (-1), 1) := dk_2 (dk_at dksX12_single_8 0 rfl rfl)
theorem dX12_single_185 : decode cX12_single 185 = .ok (.invokespecial 106, 3) := dk_183 0 106 (dk_at dksX12_single_8 1 rfl rfl)
theorem dX12_single_188 : decode cX12_single 188 = .ok (.areturn, 1) := dk_176 (dk_at dksX12_single_8 4 rfl rfl)
theorem dX12_single_189 : decode cX12_single 189 = .ok (.aload_n 0, 1) := dk_42 (dk_at dksX12_single_8 5 rfl rfl)
theorem dX12_single_190 : decode cX12_single 190 = .ok (.aload_n 0, 1) := dk_42 (dk_at dksX12_single_8 6 rfl rfl)
theorem dX12_single_191 : decode cX12_single 191 = .ok (.bipush 60, 2) := dk_16 60 (dk_at dksX12_single_8 7 rfl rfl)
theorem dX12_single_193 : decode cX12_single 193 = .ok (.invokevirtual 84, 3) := dk_182 0 84 (dk_at dksX12_single_8 9 rfl rfl)
theorem dX12_single_196 : decode cX12_single 196 = .ok (.ifCond .ne 21, 3) := dk_154 0 21 (dk_at dksX12_single_8 12 rfl rfl)
theorem dX12_single_199 : decode cX12_single 199 = .ok (.aload_n 0, 1) := dk_42 (dk_at dksX12_single_8 15 rfl rfl)
theorem dX12_single_200 : decode cX12_single 200 = .ok (.bipush 61, 2) := dk_16 61 (dk_at dksX12_single_8 16 rfl rfl)
theorem dX12_single_202 : decode cX12_single 202 = .ok (.invokevirtual 84, 3) := dk_182 0 84 (dk_at dksX12_single_8 18 rfl rfl)
theorem dX12_single_205 : decode cX12_single 205 = .ok (.ifCond .ne 12, 3) := dk_154 0 12 (dk_at dksX12_single_8 21 rfl rfl)
theorem dX12_single_208 : decode cX12_single 208 = .ok (.aload_n 0, 1) := dk_42 (dk_at dksX12_single_9 0 rfl rfl)
theorem dX12_single_209 : decode cX12_single 209 = .ok (.bipush 62, 2) := dk_16 62 (dk_at dksX12_single_9 1 rfl rfl)
theorem dX12_single_211 : decode cX12_single 211 = .ok (.invokevirtual 84, 3) := dk_182 0 84 (dk_at dksX12_single_9 3 rfl rfl)
theorem dX12_single_214 : decode cX12_single 214 = .ok (.ifCond .eq 7, 3) := dk_153 0 7 (dk_at dksX12_single_9 6 rfl rfl)
theorem dX12_single_217 : decode cX12_single 217 = .ok (.iconst 1, 1) := dk_4 (dk_at dksX12_single_9 9 rfl rfl)
theorem dX12_single_218 : decode cX12_single 218 = .ok (.goto 4, 3) := dk_167 0 4 (dk_at dksX12_single_9 10 rfl rfl)
theorem dX12_single_221 : decode cX12_single 221 = .ok (.iconst 0, 1) := dk_3 (dk_at dksX12_single_9 13 rfl rfl)
theorem dX12_single_222 : decode cX12_single 222 = .ok (.iconst 1, 1) := dk_4 (dk_at dksX12_single_9 14 rfl rfl)
theorem dX12_single_223 : decode cX12_single 223 = .ok (.invokevirtual 53, 3) := dk_182 0 53 (dk_at dksX12_single_9 15 rfl rfl)
theorem dX12_single_226 : decode cX12_single 226 = .ok (.aload_n 0, 1) := dk_42 (dk_at dksX12_single_9 18 rfl rfl)
theorem dX12_single_227 : decode cX12_single 227 = .ok (.getfield 109, 3) := dk_180 0 109 (dk_at dksX12_single_9 19 rfl rfl)
theorem dX12_single_230 : decode cX12_single 230 = .ok (.istore 6, 2) := dk_54 6 (dk_at dksX12_single_9 22 rfl rfl)
theorem dX12_single_232 : decode cX12_single 232 = .ok (.aload_n 0, 1) := dk_42 (dk_at dksX12_single_10 0 rfl rfl)
theorem dX12_single_233 : decode cX12_single 233 = .ok (.invokevirtual 66, 3) := dk_182 0 66 (dk_at dksX12_single_10 1 rfl rfl)
theorem dX12_single_236 : decode cX12_single 236 = .ok (.aload_n 0, 1) := dk_42 (dk_at dksX12_single_10 4 rfl rfl)
theorem dX12_single_237 : decode cX12_single 237 = .ok (.aload_n 0, 1) := dk_42 (dk_at dksX12_single_10 5 rfl rfl)
theorem dX12_single_238 : decode cX12_single 238 = .ok (.getfield 50, 3) := dk_180 0 50 (dk_at dksX12_single_10 6 rfl rfl)
theorem dX12_single_241 : decode cX12_single 241 = .ok (.iconst 2, 1) := dk_5 (dk_at dksX12_single_10 9 rfl rfl)
theorem dX12_single_242 : decode cX12_single 242 = .ok (.if_icmp .ne 7, 3) := dk_160 0 7 (dk_at dksX12_single_10 10 rfl rfl)
theorem dX12_single_245 : decode cX12_single 245 = .ok (.iconst 1, 1) := dk_4 (dk_at dksX12_single_10 13 rfl rfl)
theorem dX12_single_246 : decode cX12_single 246 = .ok (.goto 4, 3) := dk_167 0 4 (dk_at dksX12_single_10 14 rfl rfl)
theorem dX12_single_249 : decode cX12_single 249 = .ok (.iconst 0, 1) := dk_3 (dk_at dksX12_single_10 17 rfl rfl)
theorem dX12_single_250 : decode cX12_single 250 = .ok (.iconst 1, 1) := dk_4 (dk_at dksX12_single_10 18 rfl rfl)
theorem dX12_single_251 : decode cX12_single 251 = .ok (.invokevirtual 53, 3) := dk_182 0 53 (dk_at dksX12_single_10 19 rfl rfl)
theorem dX12_single_254 : decode cX12_single 254 = .ok (.aload_n 0, 1) := dk_42 (dk_at dksX12_single_10 22 rfl rfl)
theorem dX12_single_255 : decode cX12_single 255 = .ok (.getfield 109, 3) := dk_180 0 109 (dk_at dksX12_single_11 0 rfl rfl)
theorem dX12_single_258 : decode cX12_single 258 = .ok (.istore 7, 2) := dk_54 7 (dk_at dksX12_single_11 3 rfl rfl)
theorem dX12_single_260 : decode cX12_single 260 = .ok (.aload_n 0, 1) := dk_42 (dk_at dksX12_single_11 5 rfl rfl)
theorem dX12_single_261 : decode cX12_single 261 = .ok (.invokevirtual 66, 3) := dk_182 0 66 (dk_at dksX12_single_11 6 rfl rfl)
theorem dX12_single_264 : decode cX12_single 264 = .ok (.new 112, 3) := dk_187 0 112 (dk_at dksX12_single_11 9 rfl rfl)
theorem dX12_single_267 : decode cX12_single 267 = .ok (.dup, 1) := dk_89 (dk_at dksX12_single_11 12 rfl rfl)
theorem dX12_single_268 : decode cX12_single 268 = .ok (.iload 5, 2) := dk_21 5 (dk_at dksX12_single_11 13 rfl rfl)
theorem dX12_single_270 : decode cX12_single 270 = .ok (.iload 6, 2) := dk_21 6 (dk_at dksX12_single_11 15 rfl rfl)
theorem dX12_single_272 : decode cX12_single 272 = .ok (.iload 7, 2) := dk_21 7 (dk_at dksX12_single_11 17 rfl rfl)
theorem dX12_single_274 : decode cX12_single 274 = .ok (.invokespecial 114, 3) := dk_183 0 114 (dk_at dksX12_single_11 19 rfl rfl)
theorem dX12_single_277 : decode cX12_single 277 = .ok (.areturn, 1) := dk_176 (dk_at dksX12_single_11 22 rfl rfl)
theorem q120 : (Jvm.Cond.initialized "PanSlices$SentenceReader") ∈ lw_all := lw_g (lw_at lw_m1 14 rfl) rfl
theorem q377 : (Jvm.Cond.fieldLink "PanSlices$SentenceReader" (50 : Nat) "PanSlices$SentenceReader" "token" "I") ∈ lw_all := lw_g (lw_at lw_m2 31 rfl) rfl
theorem q378 : (Jvm.Cond.sameField "PanSlices$SentenceReader" "PanSlices$Reader" "token" "I") ∈ lw_all := lw_g (lw_at lw_m2 32 rfl) rfl
theorem q382 : (Jvm.Cond.fieldLink "PanSlices$SentenceReader" (109 : Nat) "PanSlices$SentenceReader" "value" "I") ∈ lw_all := lw_g (lw_at lw_m2 36 rfl) rfl
theorem q383 : (Jvm.Cond.sameField "PanSlices$SentenceReader" "PanSlices$Reader" "value" "I") ∈ lw_all := lw_g (lw_at lw_m2 37 rfl) rfl
theorem q459 : (Jvm.Cond.instantiable "PanSlices$SentenceReader" (12 : Nat)) ∈ lw_all := lw_g (lw_at lw_m2 113 rfl) rfl
theorem q461 : (Jvm.Cond.instanceMethod ({ cls := "PanSlices$SentenceReader", name := "<init>", desc := "(LPanSlices;)V" } : Jvm.MethodName)) ∈ lw_all := lw_g (lw_at lw_m2 115 rfl) rfl
theorem q462 : (Jvm.Cond.code ({ cls := "PanSlices$SentenceReader", name := "<init>", desc := "(LPanSlices;)V" } : Jvm.MethodName) prog_18_method_1_code (2 : Nat) (Option.none : Option Jvm.ClassFile.FieldType)) ∈ lw_all := lw_g (lw_at lw_m2 116 rfl) rfl
theorem q463 : (Jvm.Cond.methodLink "PanSlices$SentenceReader" (9 : Nat) ({ cls := "PanSlices$Reader", name := "<init>", desc := "(LPanSlices;I)V" } : Jvm.MethodName)) ∈ lw_all := lw_g (lw_at lw_m2 117 rfl) rfl
theorem q464 : (Jvm.Cond.classLink "PanSlices$SentenceReader" (15 : Nat) "java/lang/String") ∈ lw_all := lw_g (lw_at lw_m2 118 rfl) rfl
theorem q465 : (Jvm.Cond.stringRef "PanSlices$SentenceReader" (17 : Nat) "once") ∈ lw_tbl := lw_at lw_m2 119 rfl
theorem q466 : (Jvm.Cond.stringRef "PanSlices$SentenceReader" (19 : Nat) "done") ∈ lw_tbl := lw_at lw_m2 120 rfl
theorem q467 : (Jvm.Cond.stringRef "PanSlices$SentenceReader" (21 : Nat) "after") ∈ lw_tbl := lw_at lw_m2 121 rfl
theorem q468 : (Jvm.Cond.stringRef "PanSlices$SentenceReader" (27 : Nat) "top") ∈ lw_tbl := lw_at lw_m2 122 rfl
theorem q469 : (Jvm.Cond.stringRef "PanSlices$SentenceReader" (29 : Nat) "under") ∈ lw_tbl := lw_at lw_m2 123 rfl
theorem q470 : (Jvm.Cond.stringRef "PanSlices$SentenceReader" (31 : Nat) "goes") ∈ lw_tbl := lw_at lw_m2 124 rfl
theorem q471 : (Jvm.Cond.stringRef "PanSlices$SentenceReader" (33 : Nat) "ends") ∈ lw_tbl := lw_at lw_m2 125 rfl
theorem q472 : (Jvm.Cond.fieldLink "PanSlices$SentenceReader" (23 : Nat) "PanSlices$SentenceReader" "marks" "[Ljava/lang/String;") ∈ lw_all := lw_g (lw_at lw_m2 126 rfl) rfl
theorem q473 : (Jvm.Cond.fieldLink "PanSlices$SentenceReader" (35 : Nat) "PanSlices$SentenceReader" "counts" "[Ljava/lang/String;") ∈ lw_all := lw_g (lw_at lw_m2 127 rfl) rfl
theorem q474 : (Jvm.Cond.fieldLink "PanSlices$SentenceReader" (38 : Nat) "PanSlices$SentenceReader" "ones" "I") ∈ lw_all := lw_g (lw_at lw_m2 128 rfl) rfl
theorem q476 : (Jvm.Cond.fieldLink "PanSlices$SentenceReader" (3 : Nat) "PanSlices$SentenceReader" "this$0" "LPanSlices;") ∈ lw_all := lw_g (lw_at lw_m2 130 rfl) rfl
theorem q477 : (Jvm.Cond.laysFinal "PanSlices$SentenceReader" "PanSlices$SentenceReader" "marks" "[Ljava/lang/String;") ∈ lw_all := lw_g (lw_at lw_m2 131 rfl) rfl
theorem q478 : (Jvm.Cond.soleField "PanSlices$SentenceReader" "marks") ∈ lw_all := lw_g (lw_at lw_m2 132 rfl) rfl
theorem q479 : (Jvm.Cond.laysFinal "PanSlices$SentenceReader" "PanSlices$SentenceReader" "counts" "[Ljava/lang/String;") ∈ lw_all := lw_g (lw_at lw_m2 133 rfl) rfl
theorem q480 : (Jvm.Cond.soleField "PanSlices$SentenceReader" "counts") ∈ lw_all := lw_g (lw_at lw_m2 134 rfl) rfl
theorem q481 : (Jvm.Cond.lays "PanSlices$SentenceReader" "PanSlices$SentenceReader" "ones" "I") ∈ lw_all := lw_g (lw_at lw_m2 135 rfl) rfl
theorem q482 : (Jvm.Cond.soleField "PanSlices$SentenceReader" "ones") ∈ lw_all := lw_g (lw_at lw_m2 136 rfl) rfl
theorem q483 : (Jvm.Cond.laysFinal "PanSlices$SentenceReader" "PanSlices$SentenceReader" "this$0" "LPanSlices;") ∈ lw_all := lw_g (lw_at lw_m2 137 rfl) rfl
theorem q484 : (Jvm.Cond.soleField "PanSlices$SentenceReader" "this$0") ∈ lw_all := lw_g (lw_at lw_m2 138 rfl) rfl
theorem q485 : (Jvm.Cond.laysFinal "PanSlices$SentenceReader" "PanSlices$Reader" "most" "I") ∈ lw_all := lw_g (lw_at lw_m2 139 rfl) rfl
theorem q486 : (Jvm.Cond.lays "PanSlices$SentenceReader" "PanSlices$Reader" "p" "I") ∈ lw_all := lw_g (lw_at lw_m2 140 rfl) rfl
theorem q487 : (Jvm.Cond.lays "PanSlices$SentenceReader" "PanSlices$Reader" "at" "I") ∈ lw_all := lw_g (lw_at lw_m2 141 rfl) rfl
theorem q488 : (Jvm.Cond.lays "PanSlices$SentenceReader" "PanSlices$Reader" "token" "I") ∈ lw_all := lw_g (lw_at lw_m2 142 rfl) rfl
theorem q489 : (Jvm.Cond.lays "PanSlices$SentenceReader" "PanSlices$Reader" "value" "I") ∈ lw_all := lw_g (lw_at lw_m2 143 rfl) rfl
theorem q490 : (Jvm.Cond.lays "PanSlices$SentenceReader" "PanSlices$Reader" "many" "I") ∈ lw_all := lw_g (lw_at lw_m2 144 rfl) rfl
theorem q491 : (Jvm.Cond.lays "PanSlices$SentenceReader" "PanSlices$Reader" "name" "J") ∈ lw_all := lw_g (lw_at lw_m2 145 rfl) rfl
theorem q492 : (Jvm.Cond.laysFinal "PanSlices$SentenceReader" "PanSlices$Reader" "this$0" "LPanSlices;") ∈ lw_all := lw_g (lw_at lw_m2 146 rfl) rfl
theorem q493 : (Jvm.Cond.superclass "PanSlices$SentenceReader" "PanSlices$Reader") ∈ lw_all := lw_g (lw_at lw_m2 147 rfl) rfl
theorem q666 : (Jvm.Cond.selects "PanSlices$SentenceReader" ({ cls := "PanSlices$Reader", name := "next", desc := "()V" } : Jvm.MethodName) ({ cls := "PanSlices$Reader", name := "next", desc := "()V" } : Jvm.MethodName)) ∈ lw_all := lw_g (lw_at lw_m3 80 rfl) rfl
theorem q698 : (Jvm.Cond.selects "PanSlices$SentenceReader" ({ cls := "PanSlices$Reader", name := "is", desc := "(Ljava/lang/String;)Z" } : Jvm.MethodName) ({ cls := "PanSlices$Reader", name := "is", desc := "(Ljava/lang/String;)Z" } : Jvm.MethodName)) ∈ lw_all := lw_g (lw_at lw_m3 112 rfl) rfl
theorem q759 : (Jvm.Cond.selects "PanSlices$SentenceReader" ({ cls := "PanSlices$Reader", name := "wrong", desc := "(I)LPanSlices$Fault;" } : Jvm.MethodName) ({ cls := "PanSlices$Reader", name := "wrong", desc := "(I)LPanSlices$Fault;" } : Jvm.MethodName)) ∈ lw_all := lw_g (lw_at lw_m3 173 rfl) rfl
theorem q812 : (Jvm.Cond.selects "PanSlices$SentenceReader" ({ cls := "PanSlices$Reader", name := "is", desc := "(I)Z" } : Jvm.MethodName) ({ cls := "PanSlices$Reader", name := "is", desc := "(I)Z" } : Jvm.MethodName)) ∈ lw_all := lw_g (lw_at lw_m3 226 rfl) rfl
theorem q1180 : (Jvm.Cond.instanceMethod ({ cls := "PanSlices$SentenceReader", name := "read", desc := "()LPanSlices$Cond;" } : Jvm.MethodName)) ∈ lw_all := lw_g (lw_at lw_m5 114 rfl) rfl
theorem q1181 : (Jvm.Cond.selects "PanSlices$SentenceReader" ({ cls := "PanSlices$SentenceReader", name := "read", desc := "()LPanSlices$Cond;" } : Jvm.MethodName) ({ cls := "PanSlices$SentenceReader", name := "read", desc := "()LPanSlices$Cond;" } : Jvm.MethodName)) ∈ lw_all := lw_g (lw_at lw_m5 115 rfl) rfl
theorem q1182 : (Jvm.Cond.code ({ cls := "PanSlices$SentenceReader", name := "read", desc := "()LPanSlices$Cond;" } : Jvm.MethodName) prog_18_method_2_code (2 : Nat) (Option.some (Jvm.ClassFile.FieldType.object "PanSlices$Cond"))) ∈ lw_all := lw_g (lw_at lw_m5 116 rfl) rfl
theorem q1183 : (Jvm.Cond.methodLink "PanSlices$SentenceReader" (42 : Nat) ({ cls := "PanSlices$SentenceReader", name := "begin", desc := "()V" } : Jvm.MethodName)) ∈ lw_all := lw_g (lw_at lw_m5 117 rfl) rfl
theorem q1184 : (Jvm.Cond.sameMethod "PanSlices$SentenceReader" "PanSlices$Reader" "begin" "()V") ∈ lw_all := lw_g (lw_at lw_m5 118 rfl) rfl
theorem q1185 : (Jvm.Cond.selects "PanSlices$SentenceReader" ({ cls := "PanSlices$SentenceReader", name := "begin", desc := "()V" } : Jvm.MethodName) ({ cls := "PanSlices$Reader", name := "begin", desc := "()V" } : Jvm.MethodName)) ∈ lw_all := lw_g (lw_at lw_m5 119 rfl) rfl
theorem q1186 : (Jvm.Cond.methodLink "PanSlices$SentenceReader" (46 : Nat) ({ cls := "PanSlices$SentenceReader", name := "any", desc := "(I)LPanSlices$Cond;" } : Jvm.MethodName)) ∈ lw_all := lw_g (lw_at lw_m5 120 rfl) rfl
theorem q1187 : (Jvm.Cond.privateMethod ({ cls := "PanSlices$SentenceReader", name := "any", desc := "(I)LPanSlices$Cond;" } : Jvm.MethodName)) ∈ lw_tbl := lw_at lw_m5 121 rfl
theorem q1188 : (Jvm.Cond.instanceMethod ({ cls := "PanSlices$SentenceReader", name := "any", desc := "(I)LPanSlices$Cond;" } : Jvm.MethodName)) ∈ lw_all := lw_g (lw_at lw_m5 122 rfl) rfl
theorem q1189 : (Jvm.Cond.code ({ cls := "PanSlices$SentenceReader", name := "any", desc := "(I)LPanSlices$Cond;" } : Jvm.MethodName) prog_18_method_3_code (3 : Nat) (Option.some (Jvm.ClassFile.FieldType.object "PanSlices$Cond"))) ∈ lw_all := lw_g (lw_at lw_m5 123 rfl) rfl
theorem q1190 : (Jvm.Cond.methodLink "PanSlices$SentenceReader" (57 : Nat) ({ cls := "PanSlices$SentenceReader", name := "both", desc := "(I)LPanSlices$Cond;" } : Jvm.MethodName)) ∈ lw_all := lw_g (lw_at lw_m5 124 rfl) rfl
theorem q1191 : (Jvm.Cond.privateMethod ({ cls := "PanSlices$SentenceReader", name := "both", desc := "(I)LPanSlices$Cond;" } : Jvm.MethodName)) ∈ lw_tbl := lw_at lw_m5 125 rfl
theorem q1192 : (Jvm.Cond.instanceMethod ({ cls := "PanSlices$SentenceReader", name := "both", desc := "(I)LPanSlices$Cond;" } : Jvm.MethodName)) ∈ lw_all := lw_g (lw_at lw_m5 126 rfl) rfl
theorem q1193 : (Jvm.Cond.code ({ cls := "PanSlices$SentenceReader", name := "both", desc := "(I)LPanSlices$Cond;" } : Jvm.MethodName) prog_18_method_4_code (3 : Nat) (Option.some (Jvm.ClassFile.FieldType.object "PanSlices$Cond"))) ∈ lw_all := lw_g (lw_at lw_m5 127 rfl) rfl
theorem q1194 : (Jvm.Cond.methodLink "PanSlices$SentenceReader" (74 : Nat) ({ cls := "PanSlices$SentenceReader", name := "single", desc := "(I)LPanSlices$Cond;" } : Jvm.MethodName)) ∈ lw_all := lw_g (lw_at lw_m5 128 rfl) rfl
theorem q1195 : (Jvm.Cond.privateMethod ({ cls := "PanSlices$SentenceReader", name := "single", desc := "(I)LPanSlices$Cond;" } : Jvm.MethodName)) ∈ lw_tbl := lw_at lw_m5 129 rfl
theorem q1196 : (Jvm.Cond.instanceMethod ({ cls := "PanSlices$SentenceReader", name := "single", desc := "(I)LPanSlices$Cond;" } : Jvm.MethodName)) ∈ lw_all := lw_g (lw_at lw_m5 130 rfl) rfl
theorem q1197 : (Jvm.Cond.code ({ cls := "PanSlices$SentenceReader", name := "single", desc := "(I)LPanSlices$Cond;" } : Jvm.MethodName) prog_18_method_5_code (8 : Nat) (Option.some (Jvm.ClassFile.FieldType.object "PanSlices$Cond"))) ∈ lw_all := lw_g (lw_at lw_m5 131 rfl) rfl
theorem q1198 : (Jvm.Cond.stringRef "PanSlices$SentenceReader" (82 : Nat) "not") ∈ lw_tbl := lw_at lw_m5 132 rfl
theorem q1199 : (Jvm.Cond.methodLink "PanSlices$SentenceReader" (62 : Nat) ({ cls := "PanSlices$SentenceReader", name := "is", desc := "(Ljava/lang/String;)Z" } : Jvm.MethodName)) ∈ lw_all := lw_g (lw_at lw_m5 133 rfl) rfl
theorem q1200 : (Jvm.Cond.sameMethod "PanSlices$SentenceReader" "PanSlices$Reader" "is" "(Ljava/lang/String;)Z") ∈ lw_all := lw_g (lw_at lw_m5 134 rfl) rfl
theorem q1201 : (Jvm.Cond.selects "PanSlices$SentenceReader" ({ cls := "PanSlices$SentenceReader", name := "is", desc := "(Ljava/lang/String;)Z" } : Jvm.MethodName) ({ cls := "PanSlices$Reader", name := "is", desc := "(Ljava/lang/String;)Z" } : Jvm.MethodName)) ∈ lw_all := lw_g (lw_at lw_m5 135 rfl) rfl
theorem q1202 : (Jvm.Cond.methodLink "PanSlices$SentenceReader" (84 : Nat) ({ cls := "PanSlices$SentenceReader", name := "is", desc := "(I)Z" } : Jvm.MethodName)) ∈ lw_all := lw_g (lw_at lw_m5 136 rfl) rfl
theorem q1203 : (Jvm.Cond.sameMethod "PanSlices$SentenceReader" "PanSlices$Reader" "is" "(I)Z") ∈ lw_all := lw_g (lw_at lw_m5 137 rfl) rfl
theorem q1205 : (Jvm.Cond.selects "PanSlices$SentenceReader" ({ cls := "PanSlices$SentenceReader", name := "is", desc := "(I)Z" } : Jvm.MethodName) ({ cls := "PanSlices$Reader", name := "is", desc := "(I)Z" } : Jvm.MethodName)) ∈ lw_all := lw_g (lw_at lw_m5 139 rfl) rfl
theorem q1206 : (Jvm.Cond.methodLink "PanSlices$SentenceReader" (87 : Nat) ({ cls := "PanSlices$SentenceReader", name := "find", desc := "([Ljava/lang/String;)I" } : Jvm.MethodName)) ∈ lw_all := lw_g (lw_at lw_m5 140 rfl) rfl
theorem q1207 : (Jvm.Cond.sameMethod "PanSlices$SentenceReader" "PanSlices$Reader" "find" "([Ljava/lang/String;)I") ∈ lw_all := lw_g (lw_at lw_m5 141 rfl) rfl
theorem q1208 : (Jvm.Cond.selects "PanSlices$SentenceReader" ({ cls := "PanSlices$SentenceReader", name := "find", desc := "([Ljava/lang/String;)I" } : Jvm.MethodName) ({ cls := "PanSlices$Reader", name := "find", desc := "([Ljava/lang/String;)I" } : Jvm.MethodName)) ∈ lw_all := lw_g (lw_at lw_m5 142 rfl) rfl
theorem q1209 : (Jvm.Cond.methodLink "PanSlices$SentenceReader" (53 : Nat) ({ cls := "PanSlices$SentenceReader", name := "must", desc := "(ZI)V" } : Jvm.MethodName)) ∈ lw_all := lw_g (lw_at lw_m5 143 rfl) rfl
theorem q1210 : (Jvm.Cond.sameMethod "PanSlices$SentenceReader" "PanSlices$Reader" "must" "(ZI)V") ∈ lw_all := lw_g (lw_at lw_m5 144 rfl) rfl
theorem q1211 : (Jvm.Cond.selects "PanSlices$SentenceReader" ({ cls := "PanSlices$SentenceReader", name := "must", desc := "(ZI)V" } : Jvm.MethodName) ({ cls := "PanSlices$Reader", name := "must", desc := "(ZI)V" } : Jvm.MethodName)) ∈ lw_all := lw_g (lw_at lw_m5 145 rfl) rfl
theorem q1212 : (Jvm.Cond.methodLink "PanSlices$SentenceReader" (66 : Nat) ({ cls := "PanSlices$SentenceReader", name := "next", desc := "()V" } : Jvm.MethodName)) ∈ lw_all := lw_g (lw_at lw_m5 146 rfl) rfl
theorem q1213 : (Jvm.Cond.sameMethod "PanSlices$SentenceReader" "PanSlices$Reader" "next" "()V") ∈ lw_all := lw_g (lw_at lw_m5 147 rfl) rfl
theorem q1214 : (Jvm.Cond.selects "PanSlices$SentenceReader" ({ cls := "PanSlices$SentenceReader", name := "next", desc := "()V" } : Jvm.MethodName) ({ cls := "PanSlices$Reader", name := "next", desc := "()V" } : Jvm.MethodName)) ∈ lw_all := lw_g (lw_at lw_m5 148 rfl) rfl
theorem q1215 : (Jvm.Cond.classLink "PanSlices$SentenceReader" (91 : Nat) "PanSlices$Not") ∈ lw_all := lw_g (lw_at lw_m5 149 rfl) rfl
theorem q1217 : (Jvm.Cond.methodLink "PanSlices$SentenceReader" (93 : Nat) ({ cls := "PanSlices$Not", name := "<init>", desc := "(LPanSlices$Cond;)V" } : Jvm.MethodName)) ∈ lw_all := lw_g (lw_at lw_m5 151 rfl) rfl
theorem q1228 : (Jvm.Cond.methodLink "PanSlices$SentenceReader" (96 : Nat) ({ cls := "PanSlices$SentenceReader", name := "sign", desc := "(I)V" } : Jvm.MethodName)) ∈ lw_all := lw_g (lw_at lw_m5 162 rfl) rfl
theorem q1229 : (Jvm.Cond.sameMethod "PanSlices$SentenceReader" "PanSlices$Reader" "sign" "(I)V") ∈ lw_all := lw_g (lw_at lw_m5 163 rfl) rfl
theorem q1230 : (Jvm.Cond.selects "PanSlices$SentenceReader" ({ cls := "PanSlices$SentenceReader", name := "sign", desc := "(I)V" } : Jvm.MethodName) ({ cls := "PanSlices$Reader", name := "sign", desc := "(I)V" } : Jvm.MethodName)) ∈ lw_all := lw_g (lw_at lw_m5 164 rfl) rfl
theorem q1231 : (Jvm.Cond.methodLink "PanSlices$SentenceReader" (100 : Nat) ({ cls := "PanSlices$SentenceReader", name := "slice", desc := "()I" } : Jvm.MethodName)) ∈ lw_all := lw_g (lw_at lw_m5 165 rfl) rfl
theorem q1232 : (Jvm.Cond.sameMethod "PanSlices$SentenceReader" "PanSlices$Reader" "slice" "()I") ∈ lw_all := lw_g (lw_at lw_m5 166 rfl) rfl
theorem q1233 : (Jvm.Cond.selects "PanSlices$SentenceReader" ({ cls := "PanSlices$SentenceReader", name := "slice", desc := "()I" } : Jvm.MethodName) ({ cls := "PanSlices$Reader", name := "slice", desc := "()I" } : Jvm.MethodName)) ∈ lw_all := lw_g (lw_at lw_m5 167 rfl) rfl
theorem q1234 : (Jvm.Cond.classLink "PanSlices$SentenceReader" (104 : Nat) "PanSlices$Marks") ∈ lw_all := lw_g (lw_at lw_m5 168 rfl) rfl
theorem q1236 : (Jvm.Cond.methodLink "PanSlices$SentenceReader" (106 : Nat) ({ cls := "PanSlices$Marks", name := "<init>", desc := "(II)V" } : Jvm.MethodName)) ∈ lw_all := lw_g (lw_at lw_m5 170 rfl) rfl
theorem q1247 : (Jvm.Cond.classLink "PanSlices$SentenceReader" (112 : Nat) "PanSlices$Counts") ∈ lw_all := lw_g (lw_at lw_m5 181 rfl) rfl
theorem q1249 : (Jvm.Cond.methodLink "PanSlices$SentenceReader" (114 : Nat) ({ cls := "PanSlices$Counts", name := "<init>", desc := "(III)V" } : Jvm.MethodName)) ∈ lw_all := lw_g (lw_at lw_m5 183 rfl) rfl
theorem q1263 : (Jvm.Cond.stringRef "PanSlices$SentenceReader" (77 : Nat) "and") ∈ lw_tbl := lw_at lw_m5 197 rfl
theorem q1264 : (Jvm.Cond.classLink "PanSlices$SentenceReader" (79 : Nat) "PanSlices$Both") ∈ lw_all := lw_g (lw_at lw_m5 198 rfl) rfl
theorem q1266 : (Jvm.Cond.methodLink "PanSlices$SentenceReader" (81 : Nat) ({ cls := "PanSlices$Both", name := "<init>", desc := "(LPanSlices$Cond;LPanSlices$Cond;)V" } : Jvm.MethodName)) ∈ lw_all := lw_g (lw_at lw_m5 200 rfl) rfl
theorem q1277 : (Jvm.Cond.stringRef "PanSlices$SentenceReader" (60 : Nat) "or") ∈ lw_tbl := lw_at lw_m5 211 rfl
theorem q1278 : (Jvm.Cond.classLink "PanSlices$SentenceReader" (69 : Nat) "PanSlices$Any") ∈ lw_all := lw_g (lw_at lw_m5 212 rfl) rfl
theorem q1280 : (Jvm.Cond.methodLink "PanSlices$SentenceReader" (71 : Nat) ({ cls := "PanSlices$Any", name := "<init>", desc := "(LPanSlices$Cond;LPanSlices$Cond;)V" } : Jvm.MethodName)) ∈ lw_all := lw_g (lw_at lw_m5 214 rfl) rfl
theorem q2143 : (Jvm.Cond.selects "PanSlices$SentenceReader" ({ cls := "PanSlices$Reader", name := "must", desc := "(ZI)V" } : Jvm.MethodName) ({ cls := "PanSlices$Reader", name := "must", desc := "(ZI)V" } : Jvm.MethodName)) ∈ lw_all := lw_g (lw_at lw_m9 117 rfl) rfl
theorem q2147 : (Jvm.Cond.selects "PanSlices$SentenceReader" ({ cls := "PanSlices$Reader", name := "find", desc := "([Ljava/lang/String;)I" } : Jvm.MethodName) ({ cls := "PanSlices$Reader", name := "find", desc := "([Ljava/lang/String;)I" } : Jvm.MethodName)) ∈ lw_all := lw_g (lw_at lw_m9 121 rfl) rfl
theorem q2151 : (Jvm.Cond.selects "PanSlices$SentenceReader" ({ cls := "PanSlices$Reader", name := "isName", desc := "()Z" } : Jvm.MethodName) ({ cls := "PanSlices$Reader", name := "isName", desc := "()Z" } : Jvm.MethodName)) ∈ lw_all := lw_g (lw_at lw_m9 125 rfl) rfl
theorem q2155 : (Jvm.Cond.selects "PanSlices$SentenceReader" ({ cls := "PanSlices$Reader", name := "of", desc := "([JI)I" } : Jvm.MethodName) ({ cls := "PanSlices$Reader", name := "of", desc := "([JI)I" } : Jvm.MethodName)) ∈ lw_all := lw_g (lw_at lw_m9 129 rfl) rfl
theorem q2165 : (Jvm.Cond.castable "PanSlices$SentenceReader" "java/lang/Object") ∈ lw_tbl := lw_at lw_m9 139 rfl
theorem in_X12 : ∀ w ∈ wsX120, w ∈ lw_all := lw_in wsX120 [485, 486, 487, 488, 489, 490, 491, 492, 477, 479, 481, 483] (by decide +kernel) (by decide +kernel)
/-! PanSlices$Cond -/
set_option maxRecDepth 100000
def RX14 : String := "PanSlices$Cond"
abbrev cX14_init : ByteArray := prog_4_method_1_code
def yX14_init : MethodName := ⟨RX14, "<init>", "()V"⟩
theorem dX14_init_0 : decode cX14_init 0 = .ok (.aload_n 0, 1) := by decide +kernel
theorem dX14_init_1 : decode cX14_init 1 = .ok (.invokespecial 1, 3) := by decide +kernel
theorem dX14_init_4 : decode cX14_init 4 = .ok (.return_, 1) := by decide +kernel
theorem q131 : (Jvm.Cond.initialized "PanSlices$Cond") ∈ lw_all := lw_g (lw_at lw_m1 25 rfl) rfl
theorem q1221 : (Jvm.Cond.instanceMethod ({ cls := "PanSlices$Cond", name := "<init>", desc := "()V" } : Jvm.MethodName)) ∈ lw_all := lw_g (lw_at lw_m5 155 rfl) rfl
theorem q1222 : (Jvm.Cond.code ({ cls := "PanSlices$Cond", name := "<init>", desc := "()V" } : Jvm.MethodName) prog_4_method_1_code (1 : Nat) (Option.none : Option Jvm.ClassFile.FieldType)) ∈ lw_all := lw_g (lw_at lw_m5 156 rfl) rfl
theorem q1223 : (Jvm.Cond.methodLink "PanSlices$Cond" (1 : Nat) ({ cls := "java/lang/Object", name := "<init>", desc := "()V" } : Jvm.MethodName)) ∈ lw_all := lw_g (lw_at lw_m5 157 rfl) rfl
theorem q1296 : (Jvm.Cond.declares ({ cls := "PanSlices$Cond", name := "is", desc := "(LPanSlices$Kitchen;LPanSlices$Plan;I)Z" } : Jvm.MethodName)) ∈ lw_tbl := lw_at lw_m5 230 rfl
theorem q1297 : (Jvm.Cond.sameMethod "PanSlices$Cond" "PanSlices$Cond" "is" "(LPanSlices$Kitchen;LPanSlices$Plan;I)Z") ∈ lw_all := lw_g (lw_at lw_m5 231 rfl) rfl
/-! PanSlices$Not -/
set_option maxRecDepth 100000
def RX15 : String := "PanSlices$Not"
def TX15 : u_T := fun k => match k with
  | _ => ("PanSlices$Not", "a", "LPanSlices$Cond;", true)
def tyX15 : Nat → FieldType := fun k => match k with
  | _ => .object "PanSlices$Cond"
abbrev wsX150 : List Cond := u_ws RX15 TX15 1
theorem nmX15 : ∀ a, a < 1 → ∀ b, b < 1 → a ≠ b → (TX15 a).2.1 ≠ (TX15 b).2.1 := by decide +kernel
theorem tyX15_ok : ∀ k, k < 1 → parseFieldDescriptor (TX15 k).2.2.1 = some (tyX15 k) := by decide +kernel
abbrev cX15_init : ByteArray := prog_14_method_1_code
def yX15_init : MethodName := ⟨RX15, "<init>", "(LPanSlices$Cond;)V"⟩
def dkwX15_init_0 : List UInt8 := [42, 183, 0, 1, 42, 43, 181, 0, 7, 177]
abbrev dktX15_init_0 : List UInt8 := dkwX15_init_0 ++ []
theorem dksX15_init_0 : cX15_init.data.toList.drop 0 = dktX15_init_0 := by decide +kernel
theorem dX15_init_0 : decode cX15_init 0 = .ok (.aload_n 0, 1) := dk_42 (dk_at dksX15_init_0 0 rfl rfl)
theorem dX15_init_1 : decode cX15_init 1 = .ok (.invokespecial 1, 3) := dk_183 0 1 (dk_at dksX15_init_0 1 rfl rfl)
theorem dX15_init_4 : decode cX15_init 4 = .ok (.aload_n 0, 1) := dk_42 (dk_at dksX15_init_0 4 rfl rfl)
theorem dX15_init_5 : decode cX15_init 5 = .ok (.aload_n 1, 1) := dk_43 (dk_at dksX15_init_0 5 rfl rfl)
theorem dX15_init_6 : decode cX15_init 6 = .ok (.putfield 7, 3) := dk_181 0 7 (dk_at dksX15_init_0 6 rfl rfl)
theorem dX15_init_9 : decode cX15_init 9 = .ok (.return_, 1) := dk_177 (dk_at dksX15_init_0 9 rfl rfl)
abbrev cX15_is : ByteArray := prog_14_method_2_code
def yX15_is : MethodName := ⟨RX15, "is", "(LPanSlices$Kitchen;LPanSlices$Plan;I)Z"⟩
def dkwX15_is_0 : List UInt8 := [42, 180, 0, 7, 43, 44, 29, 182, 0, 13, 154, 0, 7, 4, 167, 0, 4, 3, 172]
abbrev dktX15_is_0 : List UInt8 := dkwX15_is_0 ++ []
theorem dksX15_is_0 : cX15_is.data.toList.drop 0 = dktX15_is_0 := by decide +kernel
theorem dX15_is_0 : decode cX15_is 0 = .ok (.aload_n 0, 1) := dk_42 (dk_at dksX15_is_0 0 rfl rfl)
theorem dX15_is_1 : decode cX15_is 1 = .ok (.getfield 7, 3) := dk_180 0 7 (dk_at dksX15_is_0 1 rfl rfl)
theorem dX15_is_4 : decode cX15_is 4 = .ok (.aload_n 1, 1) := dk_43 (dk_at dksX15_is_0 4 rfl rfl)
theorem dX15_is_5 : decode cX15_is 5 = .ok (.aload_n 2, 1) := dk_44 (dk_at dksX15_is_0 5 rfl rfl)
theorem dX15_is_6 : decode cX15_is 6 = .ok (.iload_n 3, 1) := dk_29 (dk_at dksX15_is_0 6 rfl rfl)
theorem dX15_is_7 : decode cX15_is 7 = .ok (.invokevirtual 13, 3) := dk_182 0 13 (dk_at dksX15_is_0 7 rfl rfl)
theorem dX15_is_10 : decode cX15_is 10 = .ok (.ifCond .ne 7, 3) := dk_154 0 7 (dk_at dksX15_is_0 10 rfl rfl)
theorem dX15_is_13 : decode cX15_is 13 = .ok (.iconst 1, 1) := dk_4 (dk_at dksX15_is_0 13 rfl rfl)
theorem dX15_is_14 : decode cX15_is 14 = .ok (.goto 4, 3) := dk_167 0 4 (dk_at dksX15_is_0 14 rfl rfl)
theorem dX15_is_17 : decode cX15_is 17 = .ok (.iconst 0, 1) := dk_3 (dk_at dksX15_is_0 17 rfl rfl)
theorem dX15_is_18 : decode cX15_is 18 = .ok (.ireturn, 1) := dk_172 (dk_at dksX15_is_0 18 rfl rfl)
theorem q132 : (Jvm.Cond.initialized "PanSlices$Not") ∈ lw_all := lw_g (lw_at lw_m1 26 rfl) rfl
theorem q1216 : (Jvm.Cond.instantiable "PanSlices$Not" (1 : Nat)) ∈ lw_all := lw_g (lw_at lw_m5 150 rfl) rfl
theorem q1218 : (Jvm.Cond.instanceMethod ({ cls := "PanSlices$Not", name := "<init>", desc := "(LPanSlices$Cond;)V" } : Jvm.MethodName)) ∈ lw_all := lw_g (lw_at lw_m5 152 rfl) rfl
theorem q1219 : (Jvm.Cond.code ({ cls := "PanSlices$Not", name := "<init>", desc := "(LPanSlices$Cond;)V" } : Jvm.MethodName) prog_14_method_1_code (2 : Nat) (Option.none : Option Jvm.ClassFile.FieldType)) ∈ lw_all := lw_g (lw_at lw_m5 153 rfl) rfl
theorem q1220 : (Jvm.Cond.methodLinkNest "PanSlices$Not" (1 : Nat) ({ cls := "PanSlices$Cond", name := "<init>", desc := "()V" } : Jvm.MethodName) "PanSlices") ∈ lw_tbl := lw_at lw_m5 154 rfl
theorem q1224 : (Jvm.Cond.fieldLink "PanSlices$Not" (7 : Nat) "PanSlices$Not" "a" "LPanSlices$Cond;") ∈ lw_all := lw_g (lw_at lw_m5 158 rfl) rfl
theorem q1225 : (Jvm.Cond.laysFinal "PanSlices$Not" "PanSlices$Not" "a" "LPanSlices$Cond;") ∈ lw_all := lw_g (lw_at lw_m5 159 rfl) rfl
theorem q1226 : (Jvm.Cond.soleField "PanSlices$Not" "a") ∈ lw_all := lw_g (lw_at lw_m5 160 rfl) rfl
theorem q1227 : (Jvm.Cond.superclass "PanSlices$Not" "PanSlices$Cond") ∈ lw_all := lw_g (lw_at lw_m5 161 rfl) rfl
theorem q1320 : (Jvm.Cond.instanceMethod ({ cls := "PanSlices$Not", name := "is", desc := "(LPanSlices$Kitchen;LPanSlices$Plan;I)Z" } : Jvm.MethodName)) ∈ lw_all := lw_g (lw_at lw_m6 14 rfl) rfl
theorem q1321 : (Jvm.Cond.code ({ cls := "PanSlices$Not", name := "is", desc := "(LPanSlices$Kitchen;LPanSlices$Plan;I)Z" } : Jvm.MethodName) prog_14_method_2_code (4 : Nat) (Option.some Jvm.ClassFile.FieldType.boolean)) ∈ lw_all := lw_g (lw_at lw_m6 15 rfl) rfl
theorem q1322 : (Jvm.Cond.methodLink "PanSlices$Not" (13 : Nat) ({ cls := "PanSlices$Cond", name := "is", desc := "(LPanSlices$Kitchen;LPanSlices$Plan;I)Z" } : Jvm.MethodName)) ∈ lw_all := lw_g (lw_at lw_m6 16 rfl) rfl
theorem q1326 : (Jvm.Cond.selects "PanSlices$Not" ({ cls := "PanSlices$Cond", name := "is", desc := "(LPanSlices$Kitchen;LPanSlices$Plan;I)Z" } : Jvm.MethodName) ({ cls := "PanSlices$Not", name := "is", desc := "(LPanSlices$Kitchen;LPanSlices$Plan;I)Z" } : Jvm.MethodName)) ∈ lw_all := lw_g (lw_at lw_m6 20 rfl) rfl
theorem q2168 : (Jvm.Cond.castable "PanSlices$Not" "java/lang/Object") ∈ lw_tbl := lw_at lw_m9 142 rfl
theorem q2178 : (Jvm.Cond.castable "PanSlices$Not" "PanSlices$Cond") ∈ lw_tbl := lw_at lw_m9 152 rfl
theorem in_X15 : ∀ w ∈ wsX150, w ∈ lw_all := lw_in wsX150 [1225] (by decide +kernel) (by decide +kernel)
/-! PanSlices$Marks -/
set_option maxRecDepth 100000
def RX16 : String := "PanSlices$Marks"
def TX16 : u_T := fun k => match k with
  | 0 => ("PanSlices$Marks", "what", "I", true)
  | _ => ("PanSlices$Marks", "other", "I", true)
def tyX16 : Nat → FieldType := fun k => match k with
  | 0 => .int
  | _ => .int
abbrev wsX160 : List Cond := u_ws RX16 TX16 2
theorem nmX16 : ∀ a, a < 2 → ∀ b, b < 2 → a ≠ b → (TX16 a).2.1 ≠ (TX16 b).2.1 := by decide +kernel
theorem tyX16_ok : ∀ k, k < 2 → parseFieldDescriptor (TX16 k).2.2.1 = some (tyX16 k) := by decide +kernel
abbrev cX16_init : ByteArray := prog_12_method_1_code
def yX16_init : MethodName := ⟨RX16, "<init>", "(II)V"⟩
def dkwX16_init_0 : List UInt8 := [42, 183, 0, 1, 42, 27, 181, 0, 7, 42, 28, 181, 0, 13, 177]
abbrev dktX16_init_0 : List UInt8 := dkwX16_init_0 ++ []
theorem dksX16_init_0 : cX16_init.data.toList.drop 0 = dktX16_init_0 := by decide +kernel
theorem dX16_init_0 : decode cX16_init 0 = .ok (.aload_n 0, 1) := dk_42 (dk_at dksX16_init_0 0 rfl rfl)
theorem dX16_init_1 : decode cX16_init 1 = .ok (.invokespecial 1, 3) := dk_183 0 1 (dk_at dksX16_init_0 1 rfl rfl)
theorem dX16_init_4 : decode cX16_init 4 = .ok (.aload_n 0, 1) := dk_42 (dk_at dksX16_init_0 4 rfl rfl)
theorem dX16_init_5 : decode cX16_init 5 = .ok (.iload_n 1, 1) := dk_27 (dk_at dksX16_init_0 5 rfl rfl)
theorem dX16_init_6 : decode cX16_init 6 = .ok (.putfield 7, 3) := dk_181 0 7 (dk_at dksX16_init_0 6 rfl rfl)
theorem dX16_init_9 : decode cX16_init 9 = .ok (.aload_n 0, 1) := dk_42 (dk_at dksX16_init_0 9 rfl rfl)
theorem dX16_init_10 : decode cX16_init 10 = .ok (.iload_n 2, 1) := dk_28 (dk_at dksX16_init_0 10 rfl rfl)
theorem dX16_init_11 : decode cX16_init 11 = .ok (.putfield 13, 3) := dk_181 0 13 (dk_at dksX16_init_0 11 rfl rfl)
theorem dX16_init_14 : decode cX16_init 14 = .ok (.return_, 1) := dk_177 (dk_at dksX16_init_0 14 rfl rfl)
abbrev cX16_is : ByteArray := prog_12_method_2_code
def yX16_is : MethodName := ⟨RX16, "is", "(LPanSlices$Kitchen;LPanSlices$Plan;I)Z"⟩
def dkwX16_is_2 : List UInt8 := [44, 29, 182, 0, 32, 44, 42, 180, 0, 13, 182, 0, 32, 164, 0, 7, 4, 167, 0, 4, 3, 172]
abbrev dktX16_is_2 : List UInt8 := dkwX16_is_2 ++ []
def dkwX16_is_1 : List UInt8 := [29, 182, 0, 22, 172, 44, 29, 182, 0, 28, 158, 0, 34, 44, 42, 180, 0, 13, 182, 0, 28, 158, 0, 23]
abbrev dktX16_is_1 : List UInt8 := dkwX16_is_1 ++ dktX16_is_2
def dkwX16_is_0 : List UInt8 := [42, 180, 0, 7, 154, 0, 10, 43, 180, 0, 16, 29, 51, 172, 42, 180, 0, 7, 4, 160, 0, 10, 44, 43]
abbrev dktX16_is_0 : List UInt8 := dkwX16_is_0 ++ dktX16_is_1
theorem dksX16_is_0 : cX16_is.data.toList.drop 0 = dktX16_is_0 := by decide +kernel
theorem dksX16_is_1 : cX16_is.data.toList.drop 24 = dktX16_is_1 := dk_seg dksX16_is_0 24 rfl rfl
theorem dksX16_is_2 : cX16_is.data.toList.drop 48 = dktX16_is_2 := dk_seg dksX16_is_1 24 rfl rfl
theorem dX16_is_0 : decode cX16_is 0 = .ok (.aload_n 0, 1) := dk_42 (dk_at dksX16_is_0 0 rfl rfl)
theorem dX16_is_1 : decode cX16_is 1 = .ok (.getfield 7, 3) := dk_180 0 7 (dk_at dksX16_is_0 1 rfl rfl)
theorem dX16_is_4 : decode cX16_is 4 = .ok (.ifCond .ne 10, 3) := dk_154 0 10 (dk_at dksX16_is_0 4 rfl rfl)
theorem dX16_is_7 : decode cX16_is 7 = .ok (.aload_n 1, 1) := dk_43 (dk_at dksX16_is_0 7 rfl rfl)
theorem dX16_is_8 : decode cX16_is 8 = .ok (.getfield 16, 3) := dk_180 0 16 (dk_at dksX16_is_0 8 rfl rfl)
theorem dX16_is_11 : decode cX16_is 11 = .ok (.iload_n 3, 1) := dk_29 (dk_at dksX16_is_0 11 rfl rfl)
theorem dX16_is_12 : decode cX16_is 12 = .ok (.baload, 1) := dk_51 (dk_at dksX16_is_0 12 rfl rfl)
theorem dX16_is_13 : decode cX16_is 13 = .ok (.ireturn, 1) := dk_172 (dk_at dksX16_is_0 13 rfl rfl)
theorem dX16_is_14 : decode cX16_is 14 = .ok (.aload_n 0, 1) := dk_42 (dk_at dksX16_is_0 14 rfl rfl)
theorem dX16_is_15 : decode cX16_is 15 = .ok (.getfield 7, 3) := dk_180 0 7 (dk_at dksX16_is_0 15 rfl rfl)
theorem dX16_is_18 : decode cX16_is 18 = .ok (.iconst 1, 1) := dk_4 (dk_at dksX16_is_0 18 rfl rfl)
theorem dX16_is_19 : decode cX16_is 19 = .ok (.if_icmp .ne 10, 3) := dk_160 0 10 (dk_at dksX16_is_0 19 rfl rfl)
theorem dX16_is_22 : decode cX16_is 22 = .ok (.aload_n 2, 1) := dk_44 (dk_at dksX16_is_0 22 rfl rfl)
theorem dX16_is_23 : decode cX16_is 23 = .ok (.aload_n 1, 1) := dk_43 (dk_at dksX16_is_0 23 rfl rfl)
theorem dX16_is_24 : decode cX16_is 24 = .ok (.iload_n 3, 1) := dk_29 (dk_at dksX16_is_1 0 rfl rfl)
theorem dX16_is_25 : decode cX16_is 25 = .ok (.invokevirtual 22, 3) := dk_182 0 22 (dk_at dksX16_is_1 1 rfl rfl)
theorem dX16_is_28 : decode cX16_is 28 = .ok (.ireturn, 1) := dk_172 (dk_at dksX16_is_1 4 rfl rfl)
theorem dX16_is_29 : decode cX16_is 29 = .ok (.aload_n 2, 1) := dk_44 (dk_at dksX16_is_1 5 rfl rfl)
theorem dX16_is_30 : decode cX16_is 30 = .ok (.iload_n 3, 1) := dk_29 (dk_at dksX16_is_1 6 rfl rfl)
theorem dX16_is_31 : decode cX16_is 31 = .ok (.invokevirtual 28, 3) := dk_182 0 28 (dk_at dksX16_is_1 7 rfl rfl)
theorem dX16_is_34 : decode cX16_is 34 = .ok (.ifCond .le 34, 3) := dk_158 0 34 (dk_at dksX16_is_1 10 rfl rfl)
theorem dX16_is_37 : decode cX16_is 37 = .ok (.aload_n 2, 1) := dk_44 (dk_at dksX16_is_1 13 rfl rfl)
theorem dX16_is_38 : decode cX16_is 38 = .ok (.aload_n 0, 1) := dk_42 (dk_at dksX16_is_1 14 rfl rfl)
theorem dX16_is_39 : decode cX16_is 39 = .ok (.getfield 13, 3) := dk_180 0 13 (dk_at dksX16_is_1 15 rfl rfl)
theorem dX16_is_42 : decode cX16_is 42 = .ok (.invokevirtual 28, 3) := dk_182 0 28 (dk_at dksX16_is_1 18 rfl rfl)
theorem dX16_is_45 : decode cX16_is 45 = .ok (.ifCond .le 23, 3) := dk_158 0 23 (dk_at dksX16_is_1 21 rfl rfl)
theorem dX16_is_48 : decode cX16_is 48 = .ok (.aload_n 2, 1) := dk_44 (dk_at dksX16_is_2 0 rfl rfl)
theorem dX16_is_49 : decode cX16_is 49 = .ok (.iload_n 3, 1) := dk_29 (dk_at dksX16_is_2 1 rfl rfl)
theorem dX16_is_50 : decode cX16_is 50 = .ok (.invokevirtual 32, 3) := dk_182 0 32 (dk_at dksX16_is_2 2 rfl rfl)
theorem dX16_is_53 : decode cX16_is 53 = .ok (.aload_n 2, 1) := dk_44 (dk_at dksX16_is_2 5 rfl rfl)
theorem dX16_is_54 : decode cX16_is 54 = .ok (.aload_n 0, 1) := dk_42 (dk_at dksX16_is_2 6 rfl rfl)
theorem dX16_is_55 : decode cX16_is 55 = .ok (.getfield 13, 3) := dk_180 0 13 (dk_at dksX16_is_2 7 rfl rfl)
theorem dX16_is_58 : decode cX16_is 58 = .ok (.invokevirtual 32, 3) := dk_182 0 32 (dk_at dksX16_is_2 10 rfl rfl)
theorem dX16_is_61 : decode cX16_is 61 = .ok (.if_icmp .le 7, 3) := dk_164 0 7 (dk_at dksX16_is_2 13 rfl rfl)
theorem dX16_is_64 : decode cX16_is 64 = .ok (.iconst 1, 1) := dk_4 (dk_at dksX16_is_2 16 rfl rfl)
theorem dX16_is_65 : decode cX16_is 65 = .ok (.goto 4, 3) := dk_167 0 4 (dk_at dksX16_is_2 17 rfl rfl)
theorem dX16_is_68 : decode cX16_is 68 = .ok (.iconst 0, 1) := dk_3 (dk_at dksX16_is_2 20 rfl rfl)
theorem dX16_is_69 : decode cX16_is 69 = .ok (.ireturn, 1) := dk_172 (dk_at dksX16_is_2 21 rfl rfl)
theorem q133 : (Jvm.Cond.initialized "PanSlices$Marks") ∈ lw_all := lw_g (lw_at lw_m1 27 rfl) rfl
theorem q263 : (Jvm.Cond.fieldLinkNest "PanSlices$Marks" (16 : Nat) "PanSlices$Kitchen" "once" "[Z" "PanSlices") ∈ lw_tbl := lw_at lw_m1 157 rfl
theorem q1235 : (Jvm.Cond.instantiable "PanSlices$Marks" (2 : Nat)) ∈ lw_all := lw_g (lw_at lw_m5 169 rfl) rfl
theorem q1237 : (Jvm.Cond.instanceMethod ({ cls := "PanSlices$Marks", name := "<init>", desc := "(II)V" } : Jvm.MethodName)) ∈ lw_all := lw_g (lw_at lw_m5 171 rfl) rfl
theorem q1238 : (Jvm.Cond.code ({ cls := "PanSlices$Marks", name := "<init>", desc := "(II)V" } : Jvm.MethodName) prog_12_method_1_code (3 : Nat) (Option.none : Option Jvm.ClassFile.FieldType)) ∈ lw_all := lw_g (lw_at lw_m5 172 rfl) rfl
theorem q1239 : (Jvm.Cond.methodLinkNest "PanSlices$Marks" (1 : Nat) ({ cls := "PanSlices$Cond", name := "<init>", desc := "()V" } : Jvm.MethodName) "PanSlices") ∈ lw_tbl := lw_at lw_m5 173 rfl
theorem q1240 : (Jvm.Cond.fieldLink "PanSlices$Marks" (7 : Nat) "PanSlices$Marks" "what" "I") ∈ lw_all := lw_g (lw_at lw_m5 174 rfl) rfl
theorem q1241 : (Jvm.Cond.fieldLink "PanSlices$Marks" (13 : Nat) "PanSlices$Marks" "other" "I") ∈ lw_all := lw_g (lw_at lw_m5 175 rfl) rfl
theorem q1242 : (Jvm.Cond.laysFinal "PanSlices$Marks" "PanSlices$Marks" "what" "I") ∈ lw_all := lw_g (lw_at lw_m5 176 rfl) rfl
theorem q1243 : (Jvm.Cond.soleField "PanSlices$Marks" "what") ∈ lw_all := lw_g (lw_at lw_m5 177 rfl) rfl
theorem q1244 : (Jvm.Cond.laysFinal "PanSlices$Marks" "PanSlices$Marks" "other" "I") ∈ lw_all := lw_g (lw_at lw_m5 178 rfl) rfl
theorem q1245 : (Jvm.Cond.soleField "PanSlices$Marks" "other") ∈ lw_all := lw_g (lw_at lw_m5 179 rfl) rfl
theorem q1246 : (Jvm.Cond.superclass "PanSlices$Marks" "PanSlices$Cond") ∈ lw_all := lw_g (lw_at lw_m5 180 rfl) rfl
theorem q1315 : (Jvm.Cond.instanceMethod ({ cls := "PanSlices$Marks", name := "is", desc := "(LPanSlices$Kitchen;LPanSlices$Plan;I)Z" } : Jvm.MethodName)) ∈ lw_all := lw_g (lw_at lw_m6 9 rfl) rfl
theorem q1316 : (Jvm.Cond.code ({ cls := "PanSlices$Marks", name := "is", desc := "(LPanSlices$Kitchen;LPanSlices$Plan;I)Z" } : Jvm.MethodName) prog_12_method_2_code (4 : Nat) (Option.some Jvm.ClassFile.FieldType.boolean)) ∈ lw_all := lw_g (lw_at lw_m6 10 rfl) rfl
theorem q1317 : (Jvm.Cond.methodLink "PanSlices$Marks" (22 : Nat) ({ cls := "PanSlices$Plan", name := "isDone", desc := "(LPanSlices$Kitchen;I)Z" } : Jvm.MethodName)) ∈ lw_all := lw_g (lw_at lw_m6 11 rfl) rfl
theorem q1318 : (Jvm.Cond.methodLink "PanSlices$Marks" (28 : Nat) ({ cls := "PanSlices$Plan", name := "goesOf", desc := "(I)I" } : Jvm.MethodName)) ∈ lw_all := lw_g (lw_at lw_m6 12 rfl) rfl
theorem q1319 : (Jvm.Cond.methodLink "PanSlices$Marks" (32 : Nat) ({ cls := "PanSlices$Plan", name := "ends", desc := "(I)I" } : Jvm.MethodName)) ∈ lw_all := lw_g (lw_at lw_m6 13 rfl) rfl
theorem q1325 : (Jvm.Cond.selects "PanSlices$Marks" ({ cls := "PanSlices$Cond", name := "is", desc := "(LPanSlices$Kitchen;LPanSlices$Plan;I)Z" } : Jvm.MethodName) ({ cls := "PanSlices$Marks", name := "is", desc := "(LPanSlices$Kitchen;LPanSlices$Plan;I)Z" } : Jvm.MethodName)) ∈ lw_all := lw_g (lw_at lw_m6 19 rfl) rfl
theorem q2169 : (Jvm.Cond.castable "PanSlices$Marks" "java/lang/Object") ∈ lw_tbl := lw_at lw_m9 143 rfl
theorem q2179 : (Jvm.Cond.castable "PanSlices$Marks" "PanSlices$Cond") ∈ lw_tbl := lw_at lw_m9 153 rfl
theorem in_X16 : ∀ w ∈ wsX160, w ∈ lw_all := lw_in wsX160 [1242, 1244] (by decide +kernel) (by decide +kernel)
/-! PanSlices$Counts -/
set_option maxRecDepth 100000
def RX17 : String := "PanSlices$Counts"
def TX17 : u_T := fun k => match k with
  | 0 => ("PanSlices$Counts", "what", "I", true)
  | 1 => ("PanSlices$Counts", "sign", "I", true)
  | _ => ("PanSlices$Counts", "number", "I", true)
def tyX17 : Nat → FieldType := fun k => match k with
  | 0 => .int
  | 1 => .int
  | _ => .int
abbrev wsX170 : List Cond := u_ws RX17 TX17 3
theorem nmX17 : ∀ a, a < 3 → ∀ b, b < 3 → a ≠ b → (TX17 a).2.1 ≠ (TX17 b).2.1 := by decide +kernel
theorem tyX17_ok : ∀ k, k < 3 → parseFieldDescriptor (TX17 k).2.2.1 = some (tyX17 k) := by decide +kernel
abbrev cX17_init : ByteArray := prog_6_method_1_code
def yX17_init : MethodName := ⟨RX17, "<init>", "(III)V"⟩
def dkwX17_init_0 : List UInt8 := [42, 183, 0, 1, 42, 27, 181, 0, 7, 42, 28, 181, 0, 13, 42, 29, 181, 0, 16, 177]
abbrev dktX17_init_0 : List UInt8 := dkwX17_init_0 ++ []
theorem dksX17_init_0 : cX17_init.data.toList.drop 0 = dktX17_init_0 := by decide +kernel
theorem dX17_init_0 : decode cX17_init 0 = .ok (.aload_n 0, 1) := dk_42 (dk_at dksX17_init_0 0 rfl rfl)
theorem dX17_init_1 : decode cX17_init 1 = .ok (.invokespecial 1, 3) := dk_183 0 1 (dk_at dksX17_init_0 1 rfl rfl)
theorem dX17_init_4 : decode cX17_init 4 = .ok (.aload_n 0, 1) := dk_42 (dk_at dksX17_init_0 4 rfl rfl)
theorem dX17_init_5 : decode cX17_init 5 = .ok (.iload_n 1, 1) := dk_27 (dk_at dksX17_init_0 5 rfl rfl)
theorem dX17_init_6 : decode cX17_init 6 = .ok (.putfield 7, 3) := dk_181 0 7 (dk_at dksX17_init_0 6 rfl rfl)
theorem dX17_init_9 : decode cX17_init 9 = .ok (.aload_n 0, 1) := dk_42 (dk_at dksX17_init_0 9 rfl rfl)
theorem dX17_init_10 : decode cX17_init 10 = .ok (.iload_n 2, 1) := dk_28 (dk_at dksX17_init_0 10 rfl rfl)
theorem dX17_init_11 : decode cX17_init 11 = .ok (.putfield 13, 3) := dk_181 0 13 (dk_at dksX17_init_0 11 rfl rfl)
theorem dX17_init_14 : decode cX17_init 14 = .ok (.aload_n 0, 1) := dk_42 (dk_at dksX17_init_0 14 rfl rfl)
theorem dX17_init_15 : decode cX17_init 15 = .ok (.iload_n 3, 1) := dk_29 (dk_at dksX17_init_0 15 rfl rfl)
theorem dX17_init_16 : decode cX17_init 16 = .ok (.putfield 16, 3) := dk_181 0 16 (dk_at dksX17_init_0 16 rfl rfl)
theorem dX17_init_19 : decode cX17_init 19 = .ok (.return_, 1) := dk_177 (dk_at dksX17_init_0 19 rfl rfl)
abbrev cX17_is : ByteArray := prog_6_method_2_code
def yX17_is : MethodName := ⟨RX17, "is", "(LPanSlices$Kitchen;LPanSlices$Plan;I)Z"⟩
def dkwX17_is_4 : List UInt8 := [167, 0, 21, 3, 167, 0, 17, 21, 4, 42, 180, 0, 16, 164, 0, 7, 4, 167, 0, 4, 3, 172]
abbrev dktX17_is_4 : List UInt8 := dkwX17_is_4 ++ []
def dkwX17_is_3 : List UInt8 := [167, 0, 43, 42, 180, 0, 13, 16, 61, 160, 0, 20, 21, 4, 42, 180, 0, 16, 160, 0, 7, 4]
abbrev dktX17_is_3 : List UInt8 := dkwX17_is_3 ++ dktX17_is_4
def dkwX17_is_2 : List UInt8 := [180, 0, 13, 16, 60, 160, 0, 20, 21, 4, 42, 180, 0, 16, 162, 0, 7, 4, 167, 0, 47, 3]
abbrev dktX17_is_2 : List UInt8 := dkwX17_is_2 ++ dktX17_is_3
def dkwX17_is_1 : List UInt8 := [42, 180, 0, 7, 5, 160, 0, 11, 44, 29, 182, 0, 25, 167, 0, 8, 44, 29, 182, 0, 31, 54, 4, 42]
abbrev dktX17_is_1 : List UInt8 := dkwX17_is_1 ++ dktX17_is_2
def dkwX17_is_0 : List UInt8 := [42, 180, 0, 7, 5, 162, 0, 19, 43, 180, 0, 19, 5, 29, 104, 42, 180, 0, 7, 96, 46, 167, 0, 24]
abbrev dktX17_is_0 : List UInt8 := dkwX17_is_0 ++ dktX17_is_1
theorem dksX17_is_0 : cX17_is.data.toList.drop 0 = dktX17_is_0 := by decide +kernel
theorem dksX17_is_1 : cX17_is.data.toList.drop 24 = dktX17_is_1 := dk_seg dksX17_is_0 24 rfl rfl
theorem dksX17_is_2 : cX17_is.data.toList.drop 48 = dktX17_is_2 := dk_seg dksX17_is_1 24 rfl rfl
theorem dksX17_is_3 : cX17_is.data.toList.drop 70 = dktX17_is_3 := dk_seg dksX17_is_2 22 rfl rfl
theorem dksX17_is_4 : cX17_is.data.toList.drop 92 = dktX17_is_4 := dk_seg dksX17_is_3 22 rfl rfl
theorem dX17_is_0 : decode cX17_is 0 = .ok (.aload_n 0, 1) := dk_42 (dk_at dksX17_is_0 0 rfl rfl)
theorem dX17_is_1 : decode cX17_is 1 = .ok (.getfield 7, 3) := dk_180 0 7 (dk_at dksX17_is_0 1 rfl rfl)
theorem dX17_is_4 : decode cX17_is 4 = .ok (.iconst 2, 1) := dk_5 (dk_at dksX17_is_0 4 rfl rfl)
theorem dX17_is_5 : decode cX17_is 5 = .ok (.if_icmp .ge 19, 3) := dk_162 0 19 (dk_at dksX17_is_0 5 rfl rfl)
theorem dX17_is_8 : decode cX17_is 8 = .ok (.aload_n 1, 1) := dk_43 (dk_at dksX17_is_0 8 rfl rfl)
theorem dX17_is_9 : decode cX17_is 9 = .ok (.getfield 19, 3) := dk_180 0 19 (dk_at dksX17_is_0 9 rfl rfl)
theorem dX17_is_12 : decode cX17_is 12 = .ok (.iconst 2, 1) := dk_5 (dk_at dksX17_is_0 12 rfl rfl)
theorem dX17_is_13 : decode cX17_is 13 = .ok (.iload_n 3, 1) := dk_29 (dk_at dksX17_is_0 13 rfl rfl)
theorem dX17_is_14 : decode cX17_is 14 = .ok (.imul, 1) := dk_104 (dk_at dksX17_is_0 14 rfl rfl)
theorem dX17_is_15 : decode cX17_is 15 = .ok (.aload_n 0, 1) := dk_42 (dk_at dksX17_is_0 15 rfl rfl)
theorem dX17_is_16 : decode cX17_is 16 = .ok (.getfield 7, 3) := dk_180 0 7 (dk_at dksX17_is_0 16 rfl rfl)
theorem dX17_is_19 : decode cX17_is 19 = .ok (.iadd, 1) := dk_96 (dk_at dksX17_is_0 19 rfl rfl)
theorem dX17_is_20 : decode cX17_is 20 = .ok (.iaload, 1) := dk_46 (dk_at dksX17_is_0 20 rfl rfl)
theorem dX17_is_21 : decode cX17_is 21 = .ok (.goto 24, 3) := dk_167 0 24 (dk_at dksX17_is_0 21 rfl rfl)
theorem dX17_is_24 : decode cX17_is 24 = .ok (.aload_n 0, 1) := dk_42 (dk_at dksX17_is_1 0 rfl rfl)
theorem dX17_is_25 : decode cX17_is 25 = .ok (.getfield 7, 3) := dk_180 0 7 (dk_at dksX17_is_1 1 rfl rfl)
theorem dX17_is_28 : decode cX17_is 28 = .ok (.iconst 2, 1) := dk_5 (dk_at dksX17_is_1 4 rfl rfl)
theorem dX17_is_29 : decode cX17_is 29 = .ok (.if_icmp .ne 11, 3) := dk_160 0 11 (dk_at dksX17_is_1 5 rfl rfl)
theorem dX17_is_32 : decode cX17_is 32 = .ok (.aload_n 2, 1) := dk_44 (dk_at dksX17_is_1 8 rfl rfl)
theorem dX17_is_33 : decode cX17_is 33 = .ok (.iload_n 3, 1) := dk_29 (dk_at dksX17_is_1 9 rfl rfl)
theorem dX17_is_34 : decode cX17_is 34 = .ok (.invokevirtual 25, 3) := dk_182 0 25 (dk_at dksX17_is_1 10 rfl rfl)
theorem dX17_is_37 : decode cX17_is 37 = .ok (.goto 8, 3) := dk_167 0 8 (dk_at dksX17_is_1 13 rfl rfl)
theorem dX17_is_40 : decode cX17_is 40 = .ok (.aload_n 2, 1) := dk_44 (dk_at dksX17_is_1 16 rfl rfl)
theorem dX17_is_41 : decode cX17_is 41 = .ok (.iload_n 3, 1) := dk_29 (dk_at dksX17_is_1 17 rfl rfl)
theorem dX17_is_42 : decode cX17_is 42 = .ok (.invokevirtual 31, 3) := dk_182 0 31 (dk_at dksX17_is_1 18 rfl rfl)
theorem dX17_is_45 : decode cX17_is 45 = .ok (.istore 4, 2) := dk_54 4 (dk_at dksX17_is_1 21 rfl rfl)
theorem dX17_is_47 : decode cX17_is 47 = .ok (.aload_n 0, 1) := dk_42 (dk_at dksX17_is_1 23 rfl rfl)
theorem dX17_is_48 : decode cX17_is 48 = .ok (.getfield 13, 3) := dk_180 0 13 (dk_at dksX17_is_2 0 rfl rfl)
theorem dX17_is_51 : decode cX17_is 51 = .ok (.bipush 60, 2) := dk_16 60 (dk_at dksX17_is_2 3 rfl rfl)
theorem dX17_is_53 : decode cX17_is 53 = .ok (.if_icmp .ne 20, 3) := dk_160 0 20 (dk_at dksX17_is_2 5 rfl rfl)
theorem dX17_is_56 : decode cX17_is 56 = .ok (.iload 4, 2) := dk_21 4 (dk_at dksX17_is_2 8 rfl rfl)
theorem dX17_is_58 : decode cX17_is 58 = .ok (.aload_n 0, 1) := dk_42 (dk_at dksX17_is_2 10 rfl rfl)
theorem dX17_is_59 : decode cX17_is 59 = .ok (.getfield 16, 3) := dk_180 0 16 (dk_at dksX17_is_2 11 rfl rfl)
theorem dX17_is_62 : decode cX17_is 62 = .ok (.if_icmp .ge 7, 3) := dk_162 0 7 (dk_at dksX17_is_2 14 rfl rfl)
theorem dX17_is_65 : decode cX17_is 65 = .ok (.iconst 1, 1) := dk_4 (dk_at dksX17_is_2 17 rfl rfl)
theorem dX17_is_66 : decode cX17_is 66 = .ok (.goto 47, 3) := dk_167 0 47 (dk_at dksX17_is_2 18 rfl rfl)
theorem dX17_is_69 : decode cX17_is 69 = .ok (.iconst 0, 1) := dk_3 (dk_at dksX17_is_2 21 rfl rfl)
theorem dX17_is_70 : decode cX17_is 70 = .ok (.goto 43, 3) := dk_167 0 43 (dk_at dksX17_is_3 0 rfl rfl)
theorem dX17_is_73 : decode cX17_is 73 = .ok (.aload_n 0, 1) := dk_42 (dk_at dksX17_is_3 3 rfl rfl)
theorem dX17_is_74 : decode cX17_is 74 = .ok (.getfield 13, 3) := dk_180 0 13 (dk_at dksX17_is_3 4 rfl rfl)
theorem dX17_is_77 : decode cX17_is 77 = .ok (.bipush 61, 2) := dk_16 61 (dk_at dksX17_is_3 7 rfl rfl)
theorem dX17_is_79 : decode cX17_is 79 = .ok (.if_icmp .ne 20, 3) := dk_160 0 20 (dk_at dksX17_is_3 9 rfl rfl)
theorem dX17_is_82 : decode cX17_is 82 = .ok (.iload 4, 2) := dk_21 4 (dk_at dksX17_is_3 12 rfl rfl)
theorem dX17_is_84 : decode cX17_is 84 = .ok (.aload_n 0, 1) := dk_42 (dk_at dksX17_is_3 14 rfl rfl)
theorem dX17_is_85 : decode cX17_is 85 = .ok (.getfield 16, 3) := dk_180 0 16 (dk_at dksX17_is_3 15 rfl rfl)
theorem dX17_is_88 : decode cX17_is 88 = .ok (.if_icmp .ne 7, 3) := dk_160 0 7 (dk_at dksX17_is_3 18 rfl rfl)
theorem dX17_is_91 : decode cX17_is 91 = .ok (.iconst 1, 1) := dk_4 (dk_at dksX17_is_3 21 rfl rfl)
theorem dX17_is_92 : decode cX17_is 92 = .ok (.goto 21, 3) := dk_167 0 21 (dk_at dksX17_is_4 0 rfl rfl)
theorem dX17_is_95 : decode cX17_is 95 = .ok (.iconst 0, 1) := dk_3 (dk_at dksX17_is_4 3 rfl rfl)
theorem dX17_is_96 : decode cX17_is 96 = .ok (.goto 17, 3) := dk_167 0 17 (dk_at dksX17_is_4 4 rfl rfl)
theorem dX17_is_99 : decode cX17_is 99 = .ok (.iload 4, 2) := dk_21 4 (dk_at dksX17_is_4 7 rfl rfl)
theorem dX17_is_101 : decode cX17_is 101 = .ok (.aload_n 0, 1) := dk_42 (dk_at dksX17_is_4 9 rfl rfl)
theorem dX17_is_102 : decode cX17_is 102 = .ok (.getfield 16, 3) := dk_180 0 16 (dk_at dksX17_is_4 10 rfl rfl)
theorem dX17_is_105 : decode cX17_is 105 = .ok (.if_icmp .le 7, 3) := dk_164 0 7 (dk_at dksX17_is_4 13 rfl rfl)
theorem dX17_is_108 : decode cX17_is 108 = .ok (.iconst 1, 1) := dk_4 (dk_at dksX17_is_4 16 rfl rfl)
theorem dX17_is_109 : decode cX17_is 109 = .ok (.goto 4, 3) := dk_167 0 4 (dk_at dksX17_is_4 17 rfl rfl)
theorem dX17_is_112 : decode cX17_is 112 = .ok (.iconst 0, 1) := dk_3 (dk_at dksX17_is_4 20 rfl rfl)
theorem dX17_is_113 : decode cX17_is 113 = .ok (.ireturn, 1) := dk_172 (dk_at dksX17_is_4 21 rfl rfl)
theorem q134 : (Jvm.Cond.initialized "PanSlices$Counts") ∈ lw_all := lw_g (lw_at lw_m1 28 rfl) rfl
theorem q246 : (Jvm.Cond.fieldLinkNest "PanSlices$Counts" (19 : Nat) "PanSlices$Kitchen" "minutes" "[I" "PanSlices") ∈ lw_tbl := lw_at lw_m1 140 rfl
theorem q1248 : (Jvm.Cond.instantiable "PanSlices$Counts" (3 : Nat)) ∈ lw_all := lw_g (lw_at lw_m5 182 rfl) rfl
theorem q1250 : (Jvm.Cond.instanceMethod ({ cls := "PanSlices$Counts", name := "<init>", desc := "(III)V" } : Jvm.MethodName)) ∈ lw_all := lw_g (lw_at lw_m5 184 rfl) rfl
theorem q1251 : (Jvm.Cond.code ({ cls := "PanSlices$Counts", name := "<init>", desc := "(III)V" } : Jvm.MethodName) prog_6_method_1_code (4 : Nat) (Option.none : Option Jvm.ClassFile.FieldType)) ∈ lw_all := lw_g (lw_at lw_m5 185 rfl) rfl
theorem q1252 : (Jvm.Cond.methodLinkNest "PanSlices$Counts" (1 : Nat) ({ cls := "PanSlices$Cond", name := "<init>", desc := "()V" } : Jvm.MethodName) "PanSlices") ∈ lw_tbl := lw_at lw_m5 186 rfl
theorem q1253 : (Jvm.Cond.fieldLink "PanSlices$Counts" (7 : Nat) "PanSlices$Counts" "what" "I") ∈ lw_all := lw_g (lw_at lw_m5 187 rfl) rfl
theorem q1254 : (Jvm.Cond.fieldLink "PanSlices$Counts" (13 : Nat) "PanSlices$Counts" "sign" "I") ∈ lw_all := lw_g (lw_at lw_m5 188 rfl) rfl
theorem q1255 : (Jvm.Cond.fieldLink "PanSlices$Counts" (16 : Nat) "PanSlices$Counts" "number" "I") ∈ lw_all := lw_g (lw_at lw_m5 189 rfl) rfl
theorem q1256 : (Jvm.Cond.laysFinal "PanSlices$Counts" "PanSlices$Counts" "what" "I") ∈ lw_all := lw_g (lw_at lw_m5 190 rfl) rfl
theorem q1257 : (Jvm.Cond.soleField "PanSlices$Counts" "what") ∈ lw_all := lw_g (lw_at lw_m5 191 rfl) rfl
theorem q1258 : (Jvm.Cond.laysFinal "PanSlices$Counts" "PanSlices$Counts" "sign" "I") ∈ lw_all := lw_g (lw_at lw_m5 192 rfl) rfl
theorem q1259 : (Jvm.Cond.soleField "PanSlices$Counts" "sign") ∈ lw_all := lw_g (lw_at lw_m5 193 rfl) rfl
theorem q1260 : (Jvm.Cond.laysFinal "PanSlices$Counts" "PanSlices$Counts" "number" "I") ∈ lw_all := lw_g (lw_at lw_m5 194 rfl) rfl
theorem q1261 : (Jvm.Cond.soleField "PanSlices$Counts" "number") ∈ lw_all := lw_g (lw_at lw_m5 195 rfl) rfl
theorem q1262 : (Jvm.Cond.superclass "PanSlices$Counts" "PanSlices$Cond") ∈ lw_all := lw_g (lw_at lw_m5 196 rfl) rfl
theorem q1305 : (Jvm.Cond.instanceMethod ({ cls := "PanSlices$Counts", name := "is", desc := "(LPanSlices$Kitchen;LPanSlices$Plan;I)Z" } : Jvm.MethodName)) ∈ lw_all := lw_g (lw_at lw_m5 239 rfl) rfl
theorem q1306 : (Jvm.Cond.code ({ cls := "PanSlices$Counts", name := "is", desc := "(LPanSlices$Kitchen;LPanSlices$Plan;I)Z" } : Jvm.MethodName) prog_6_method_2_code (5 : Nat) (Option.some Jvm.ClassFile.FieldType.boolean)) ∈ lw_all := lw_g (lw_at lw_m6 0 rfl) rfl
theorem q1307 : (Jvm.Cond.methodLink "PanSlices$Counts" (25 : Nat) ({ cls := "PanSlices$Plan", name := "goesOf", desc := "(I)I" } : Jvm.MethodName)) ∈ lw_all := lw_g (lw_at lw_m6 1 rfl) rfl
theorem q1311 : (Jvm.Cond.methodLink "PanSlices$Counts" (31 : Nat) ({ cls := "PanSlices$Plan", name := "ends", desc := "(I)I" } : Jvm.MethodName)) ∈ lw_all := lw_g (lw_at lw_m6 5 rfl) rfl
theorem q1324 : (Jvm.Cond.selects "PanSlices$Counts" ({ cls := "PanSlices$Cond", name := "is", desc := "(LPanSlices$Kitchen;LPanSlices$Plan;I)Z" } : Jvm.MethodName) ({ cls := "PanSlices$Counts", name := "is", desc := "(LPanSlices$Kitchen;LPanSlices$Plan;I)Z" } : Jvm.MethodName)) ∈ lw_all := lw_g (lw_at lw_m6 18 rfl) rfl
theorem q2170 : (Jvm.Cond.castable "PanSlices$Counts" "java/lang/Object") ∈ lw_tbl := lw_at lw_m9 144 rfl
theorem q2180 : (Jvm.Cond.castable "PanSlices$Counts" "PanSlices$Cond") ∈ lw_tbl := lw_at lw_m9 154 rfl
theorem in_X17 : ∀ w ∈ wsX170, w ∈ lw_all := lw_in wsX170 [1256, 1258, 1260] (by decide +kernel) (by decide +kernel)
/-! PanSlices$Both -/
set_option maxRecDepth 100000
def RX18 : String := "PanSlices$Both"
def TX18 : u_T := fun k => match k with
  | 0 => ("PanSlices$Both", "a", "LPanSlices$Cond;", true)
  | _ => ("PanSlices$Both", "b", "LPanSlices$Cond;", true)
def tyX18 : Nat → FieldType := fun k => match k with
  | 0 => .object "PanSlices$Cond"
  | _ => .object "PanSlices$Cond"
abbrev wsX180 : List Cond := u_ws RX18 TX18 2
theorem nmX18 : ∀ a, a < 2 → ∀ b, b < 2 → a ≠ b → (TX18 a).2.1 ≠ (TX18 b).2.1 := by decide +kernel
theorem tyX18_ok : ∀ k, k < 2 → parseFieldDescriptor (TX18 k).2.2.1 = some (tyX18 k) := by decide +kernel
abbrev cX18_init : ByteArray := prog_3_method_1_code
def yX18_init : MethodName := ⟨RX18, "<init>", "(LPanSlices$Cond;LPanSlices$Cond;)V"⟩
def dkwX18_init_0 : List UInt8 := [42, 183, 0, 1, 42, 43, 181, 0, 7, 42, 44, 181, 0, 13, 177]
abbrev dktX18_init_0 : List UInt8 := dkwX18_init_0 ++ []
theorem dksX18_init_0 : cX18_init.data.toList.drop 0 = dktX18_init_0 := by decide +kernel
theorem dX18_init_0 : decode cX18_init 0 = .ok (.aload_n 0, 1) := dk_42 (dk_at dksX18_init_0 0 rfl rfl)
theorem dX18_init_1 : decode cX18_init 1 = .ok (.invokespecial 1, 3) := dk_183 0 1 (dk_at dksX18_init_0 1 rfl rfl)
theorem dX18_init_4 : decode cX18_init 4 = .ok (.aload_n 0, 1) := dk_42 (dk_at dksX18_init_0 4 rfl rfl)
theorem dX18_init_5 : decode cX18_init 5 = .ok (.aload_n 1, 1) := dk_43 (dk_at dksX18_init_0 5 rfl rfl)
theorem dX18_init_6 : decode cX18_init 6 = .ok (.putfield 7, 3) := dk_181 0 7 (dk_at dksX18_init_0 6 rfl rfl)
theorem dX18_init_9 : decode cX18_init 9 = .ok (.aload_n 0, 1) := dk_42 (dk_at dksX18_init_0 9 rfl rfl)
theorem dX18_init_10 : decode cX18_init 10 = .ok (.aload_n 2, 1) := dk_44 (dk_at dksX18_init_0 10 rfl rfl)
theorem dX18_init_11 : decode cX18_init 11 = .ok (.putfield 13, 3) := dk_181 0 13 (dk_at dksX18_init_0 11 rfl rfl)
theorem dX18_init_14 : decode cX18_init 14 = .ok (.return_, 1) := dk_177 (dk_at dksX18_init_0 14 rfl rfl)
abbrev cX18_is : ByteArray := prog_3_method_2_code
def yX18_is : MethodName := ⟨RX18, "is", "(LPanSlices$Kitchen;LPanSlices$Plan;I)Z"⟩
def dkwX18_is_1 : List UInt8 := [153, 0, 7, 4, 167, 0, 4, 3, 172]
abbrev dktX18_is_1 : List UInt8 := dkwX18_is_1 ++ []
def dkwX18_is_0 : List UInt8 := [42, 180, 0, 7, 43, 44, 29, 182, 0, 16, 153, 0, 20, 42, 180, 0, 13, 43, 44, 29, 182, 0, 16]
abbrev dktX18_is_0 : List UInt8 := dkwX18_is_0 ++ dktX18_is_1
theorem dksX18_is_0 : cX18_is.data.toList.drop 0 = dktX18_is_0 := by decide +kernel
theorem dksX18_is_1 : cX18_is.data.toList.drop 23 = dktX18_is_1 := dk_seg dksX18_is_0 23 rfl rfl
theorem dX18_is_0 : decode cX18_is 0 = .ok (.aload_n 0, 1) := dk_42 (dk_at dksX18_is_0 0 rfl rfl)
theorem dX18_is_1 : decode cX18_is 1 = .ok (.getfield 7, 3) := dk_180 0 7 (dk_at dksX18_is_0 1 rfl rfl)
theorem dX18_is_4 : decode cX18_is 4 = .ok (.aload_n 1, 1) := dk_43 (dk_at dksX18_is_0 4 rfl rfl)
theorem dX18_is_5 : decode cX18_is 5 = .ok (.aload_n 2, 1) := dk_44 (dk_at dksX18_is_0 5 rfl rfl)
theorem dX18_is_6 : decode cX18_is 6 = .ok (.iload_n 3, 1) := dk_29 (dk_at dksX18_is_0 6 rfl rfl)
theorem dX18_is_7 : decode cX18_is 7 = .ok (.invokevirtual 16, 3) := dk_182 0 16 (dk_at dksX18_is_0 7 rfl rfl)
theorem dX18_is_10 : decode cX18_is 10 = .ok (.ifCond .eq 20, 3) := dk_153 0 20 (dk_at dksX18_is_0 10 rfl rfl)
theorem dX18_is_13 : decode cX18_is 13 = .ok (.aload_n 0, 1) := dk_42 (dk_at dksX18_is_0 13 rfl rfl)
theorem dX18_is_14 : decode cX18_is 14 = .ok (.getfield 13, 3) := dk_180 0 13 (dk_at dksX18_is_0 14 rfl rfl)
theorem dX18_is_17 : decode cX18_is 17 = .ok (.aload_n 1, 1) := dk_43 (dk_at dksX18_is_0 17 rfl rfl)
theorem dX18_is_18 : decode cX18_is 18 = .ok (.aload_n 2, 1) := dk_44 (dk_at dksX18_is_0 18 rfl rfl)
theorem dX18_is_19 : decode cX18_is 19 = .ok (.iload_n 3, 1) := dk_29 (dk_at dksX18_is_0 19 rfl rfl)
theorem dX18_is_20 : decode cX18_is 20 = .ok (.invokevirtual 16, 3) := dk_182 0 16 (dk_at dksX18_is_0 20 rfl rfl)
theorem dX18_is_23 : decode cX18_is 23 = .ok (.ifCond .eq 7, 3) := dk_153 0 7 (dk_at dksX18_is_1 0 rfl rfl)
theorem dX18_is_26 : decode cX18_is 26 = .ok (.iconst 1, 1) := dk_4 (dk_at dksX18_is_1 3 rfl rfl)
theorem dX18_is_27 : decode cX18_is 27 = .ok (.goto 4, 3) := dk_167 0 4 (dk_at dksX18_is_1 4 rfl rfl)
theorem dX18_is_30 : decode cX18_is 30 = .ok (.iconst 0, 1) := dk_3 (dk_at dksX18_is_1 7 rfl rfl)
theorem dX18_is_31 : decode cX18_is 31 = .ok (.ireturn, 1) := dk_172 (dk_at dksX18_is_1 8 rfl rfl)
theorem q135 : (Jvm.Cond.initialized "PanSlices$Both") ∈ lw_all := lw_g (lw_at lw_m1 29 rfl) rfl
theorem q1265 : (Jvm.Cond.instantiable "PanSlices$Both" (2 : Nat)) ∈ lw_all := lw_g (lw_at lw_m5 199 rfl) rfl
theorem q1267 : (Jvm.Cond.instanceMethod ({ cls := "PanSlices$Both", name := "<init>", desc := "(LPanSlices$Cond;LPanSlices$Cond;)V" } : Jvm.MethodName)) ∈ lw_all := lw_g (lw_at lw_m5 201 rfl) rfl
theorem q1268 : (Jvm.Cond.code ({ cls := "PanSlices$Both", name := "<init>", desc := "(LPanSlices$Cond;LPanSlices$Cond;)V" } : Jvm.MethodName) prog_3_method_1_code (3 : Nat) (Option.none : Option Jvm.ClassFile.FieldType)) ∈ lw_all := lw_g (lw_at lw_m5 202 rfl) rfl
theorem q1269 : (Jvm.Cond.methodLinkNest "PanSlices$Both" (1 : Nat) ({ cls := "PanSlices$Cond", name := "<init>", desc := "()V" } : Jvm.MethodName) "PanSlices") ∈ lw_tbl := lw_at lw_m5 203 rfl
theorem q1270 : (Jvm.Cond.fieldLink "PanSlices$Both" (7 : Nat) "PanSlices$Both" "a" "LPanSlices$Cond;") ∈ lw_all := lw_g (lw_at lw_m5 204 rfl) rfl
theorem q1271 : (Jvm.Cond.fieldLink "PanSlices$Both" (13 : Nat) "PanSlices$Both" "b" "LPanSlices$Cond;") ∈ lw_all := lw_g (lw_at lw_m5 205 rfl) rfl
theorem q1272 : (Jvm.Cond.laysFinal "PanSlices$Both" "PanSlices$Both" "a" "LPanSlices$Cond;") ∈ lw_all := lw_g (lw_at lw_m5 206 rfl) rfl
theorem q1273 : (Jvm.Cond.soleField "PanSlices$Both" "a") ∈ lw_all := lw_g (lw_at lw_m5 207 rfl) rfl
theorem q1274 : (Jvm.Cond.laysFinal "PanSlices$Both" "PanSlices$Both" "b" "LPanSlices$Cond;") ∈ lw_all := lw_g (lw_at lw_m5 208 rfl) rfl
theorem q1275 : (Jvm.Cond.soleField "PanSlices$Both" "b") ∈ lw_all := lw_g (lw_at lw_m5 209 rfl) rfl
theorem q1276 : (Jvm.Cond.superclass "PanSlices$Both" "PanSlices$Cond") ∈ lw_all := lw_g (lw_at lw_m5 210 rfl) rfl
theorem q1302 : (Jvm.Cond.instanceMethod ({ cls := "PanSlices$Both", name := "is", desc := "(LPanSlices$Kitchen;LPanSlices$Plan;I)Z" } : Jvm.MethodName)) ∈ lw_all := lw_g (lw_at lw_m5 236 rfl) rfl
theorem q1303 : (Jvm.Cond.code ({ cls := "PanSlices$Both", name := "is", desc := "(LPanSlices$Kitchen;LPanSlices$Plan;I)Z" } : Jvm.MethodName) prog_3_method_2_code (4 : Nat) (Option.some Jvm.ClassFile.FieldType.boolean)) ∈ lw_all := lw_g (lw_at lw_m5 237 rfl) rfl
theorem q1304 : (Jvm.Cond.methodLink "PanSlices$Both" (16 : Nat) ({ cls := "PanSlices$Cond", name := "is", desc := "(LPanSlices$Kitchen;LPanSlices$Plan;I)Z" } : Jvm.MethodName)) ∈ lw_all := lw_g (lw_at lw_m5 238 rfl) rfl
theorem q1323 : (Jvm.Cond.selects "PanSlices$Both" ({ cls := "PanSlices$Cond", name := "is", desc := "(LPanSlices$Kitchen;LPanSlices$Plan;I)Z" } : Jvm.MethodName) ({ cls := "PanSlices$Both", name := "is", desc := "(LPanSlices$Kitchen;LPanSlices$Plan;I)Z" } : Jvm.MethodName)) ∈ lw_all := lw_g (lw_at lw_m6 17 rfl) rfl
theorem q2171 : (Jvm.Cond.castable "PanSlices$Both" "java/lang/Object") ∈ lw_tbl := lw_at lw_m9 145 rfl
theorem q2181 : (Jvm.Cond.castable "PanSlices$Both" "PanSlices$Cond") ∈ lw_tbl := lw_at lw_m9 155 rfl
theorem in_X18 : ∀ w ∈ wsX180, w ∈ lw_all := lw_in wsX180 [1272, 1274] (by decide +kernel) (by decide +kernel)
/-! PanSlices$Any -/
set_option maxRecDepth 100000
def RX19 : String := "PanSlices$Any"
def TX19 : u_T := fun k => match k with
  | 0 => ("PanSlices$Any", "a", "LPanSlices$Cond;", true)
  | _ => ("PanSlices$Any", "b", "LPanSlices$Cond;", true)
def tyX19 : Nat → FieldType := fun k => match k with
  | 0 => .object "PanSlices$Cond"
  | _ => .object "PanSlices$Cond"
abbrev wsX190 : List Cond := u_ws RX19 TX19 2
theorem nmX19 : ∀ a, a < 2 → ∀ b, b < 2 → a ≠ b → (TX19 a).2.1 ≠ (TX19 b).2.1 := by decide +kernel
theorem tyX19_ok : ∀ k, k < 2 → parseFieldDescriptor (TX19 k).2.2.1 = some (tyX19 k) := by decide +kernel
abbrev cX19_init : ByteArray := prog_2_method_1_code
def yX19_init : MethodName := ⟨RX19, "<init>", "(LPanSlices$Cond;LPanSlices$Cond;)V"⟩
def dkwX19_init_0 : List UInt8 := [42, 183, 0, 1, 42, 43, 181, 0, 7, 42, 44, 181, 0, 13, 177]
abbrev dktX19_init_0 : List UInt8 := dkwX19_init_0 ++ []
theorem dksX19_init_0 : cX19_init.data.toList.drop 0 = dktX19_init_0 := by decide +kernel
theorem dX19_init_0 : decode cX19_init 0 = .ok (.aload_n 0, 1) := dk_42 (dk_at dksX19_init_0 0 rfl rfl)
theorem dX19_init_1 : decode cX19_init 1 = .ok (.invokespecial 1, 3) := dk_183 0 1 (dk_at dksX19_init_0 1 rfl rfl)
theorem dX19_init_4 : decode cX19_init 4 = .ok (.aload_n 0, 1) := dk_42 (dk_at dksX19_init_0 4 rfl rfl)
theorem dX19_init_5 : decode cX19_init 5 = .ok (.aload_n 1, 1) := dk_43 (dk_at dksX19_init_0 5 rfl rfl)
theorem dX19_init_6 : decode cX19_init 6 = .ok (.putfield 7, 3) := dk_181 0 7 (dk_at dksX19_init_0 6 rfl rfl)
theorem dX19_init_9 : decode cX19_init 9 = .ok (.aload_n 0, 1) := dk_42 (dk_at dksX19_init_0 9 rfl rfl)
theorem dX19_init_10 : decode cX19_init 10 = .ok (.aload_n 2, 1) := dk_44 (dk_at dksX19_init_0 10 rfl rfl)
theorem dX19_init_11 : decode cX19_init 11 = .ok (.putfield 13, 3) := dk_181 0 13 (dk_at dksX19_init_0 11 rfl rfl)
theorem dX19_init_14 : decode cX19_init 14 = .ok (.return_, 1) := dk_177 (dk_at dksX19_init_0 14 rfl rfl)
abbrev cX19_is : ByteArray := prog_2_method_2_code
def yX19_is : MethodName := ⟨RX19, "is", "(LPanSlices$Kitchen;LPanSlices$Plan;I)Z"⟩
def dkwX19_is_1 : List UInt8 := [153, 0, 7, 4, 167, 0, 4, 3, 172]
abbrev dktX19_is_1 : List UInt8 := dkwX19_is_1 ++ []
def dkwX19_is_0 : List UInt8 := [42, 180, 0, 7, 43, 44, 29, 182, 0, 16, 154, 0, 16, 42, 180, 0, 13, 43, 44, 29, 182, 0, 16]
abbrev dktX19_is_0 : List UInt8 := dkwX19_is_0 ++ dktX19_is_1
theorem dksX19_is_0 : cX19_is.data.toList.drop 0 = dktX19_is_0 := by decide +kernel
theorem dksX19_is_1 : cX19_is.data.toList.drop 23 = dktX19_is_1 := dk_seg dksX19_is_0 23 rfl rfl
theorem dX19_is_0 : decode cX19_is 0 = .ok (.aload_n 0, 1) := dk_42 (dk_at dksX19_is_0 0 rfl rfl)
theorem dX19_is_1 : decode cX19_is 1 = .ok (.getfield 7, 3) := dk_180 0 7 (dk_at dksX19_is_0 1 rfl rfl)
theorem dX19_is_4 : decode cX19_is 4 = .ok (.aload_n 1, 1) := dk_43 (dk_at dksX19_is_0 4 rfl rfl)
theorem dX19_is_5 : decode cX19_is 5 = .ok (.aload_n 2, 1) := dk_44 (dk_at dksX19_is_0 5 rfl rfl)
theorem dX19_is_6 : decode cX19_is 6 = .ok (.iload_n 3, 1) := dk_29 (dk_at dksX19_is_0 6 rfl rfl)
theorem dX19_is_7 : decode cX19_is 7 = .ok (.invokevirtual 16, 3) := dk_182 0 16 (dk_at dksX19_is_0 7 rfl rfl)
theorem dX19_is_10 : decode cX19_is 10 = .ok (.ifCond .ne 16, 3) := dk_154 0 16 (dk_at dksX19_is_0 10 rfl rfl)
theorem dX19_is_13 : decode cX19_is 13 = .ok (.aload_n 0, 1) := dk_42 (dk_at dksX19_is_0 13 rfl rfl)
theorem dX19_is_14 : decode cX19_is 14 = .ok (.getfield 13, 3) := dk_180 0 13 (dk_at dksX19_is_0 14 rfl rfl)
theorem dX19_is_17 : decode cX19_is 17 = .ok (.aload_n 1, 1) := dk_43 (dk_at dksX19_is_0 17 rfl rfl)
theorem dX19_is_18 : decode cX19_is 18 = .ok (.aload_n 2, 1) := dk_44 (dk_at dksX19_is_0 18 rfl rfl)
theorem dX19_is_19 : decode cX19_is 19 = .ok (.iload_n 3, 1) := dk_29 (dk_at dksX19_is_0 19 rfl rfl)
theorem dX19_is_20 : decode cX19_is 20 = .ok (.invokevirtual 16, 3) := dk_182 0 16 (dk_at dksX19_is_0 20 rfl rfl)
theorem dX19_is_23 : decode cX19_is 23 = .ok (.ifCond .eq 7, 3) := dk_153 0 7 (dk_at dksX19_is_1 0 rfl rfl)
theorem dX19_is_26 : decode cX19_is 26 = .ok (.iconst 1, 1) := dk_4 (dk_at dksX19_is_1 3 rfl rfl)
theorem dX19_is_27 : decode cX19_is 27 = .ok (.goto 4, 3) := dk_167 0 4 (dk_at dksX19_is_1 4 rfl rfl)
theorem dX19_is_30 : decode cX19_is 30 = .ok (.iconst 0, 1) := dk_3 (dk_at dksX19_is_1 7 rfl rfl)
theorem dX19_is_31 : decode cX19_is 31 = .ok (.ireturn, 1) := dk_172 (dk_at dksX19_is_1 8 rfl rfl)
theorem q136 : (Jvm.Cond.initialized "PanSlices$Any") ∈ lw_all := lw_g (lw_at lw_m1 30 rfl) rfl
theorem q1279 : (Jvm.Cond.instantiable "PanSlices$Any" (2 : Nat)) ∈ lw_all := lw_g (lw_at lw_m5 213 rfl) rfl
theorem q1281 : (Jvm.Cond.instanceMethod ({ cls := "PanSlices$Any", name := "<init>", desc := "(LPanSlices$Cond;LPanSlices$Cond;)V" } : Jvm.MethodName)) ∈ lw_all := lw_g (lw_at lw_m5 215 rfl) rfl
theorem q1282 : (Jvm.Cond.code ({ cls := "PanSlices$Any", name := "<init>", desc := "(LPanSlices$Cond;LPanSlices$Cond;)V" } : Jvm.MethodName) prog_2_method_1_code (3 : Nat) (Option.none : Option Jvm.ClassFile.FieldType)) ∈ lw_all := lw_g (lw_at lw_m5 216 rfl) rfl
theorem q1283 : (Jvm.Cond.methodLinkNest "PanSlices$Any" (1 : Nat) ({ cls := "PanSlices$Cond", name := "<init>", desc := "()V" } : Jvm.MethodName) "PanSlices") ∈ lw_tbl := lw_at lw_m5 217 rfl
theorem q1284 : (Jvm.Cond.fieldLink "PanSlices$Any" (7 : Nat) "PanSlices$Any" "a" "LPanSlices$Cond;") ∈ lw_all := lw_g (lw_at lw_m5 218 rfl) rfl
theorem q1285 : (Jvm.Cond.fieldLink "PanSlices$Any" (13 : Nat) "PanSlices$Any" "b" "LPanSlices$Cond;") ∈ lw_all := lw_g (lw_at lw_m5 219 rfl) rfl
theorem q1286 : (Jvm.Cond.laysFinal "PanSlices$Any" "PanSlices$Any" "a" "LPanSlices$Cond;") ∈ lw_all := lw_g (lw_at lw_m5 220 rfl) rfl
theorem q1287 : (Jvm.Cond.soleField "PanSlices$Any" "a") ∈ lw_all := lw_g (lw_at lw_m5 221 rfl) rfl
theorem q1288 : (Jvm.Cond.laysFinal "PanSlices$Any" "PanSlices$Any" "b" "LPanSlices$Cond;") ∈ lw_all := lw_g (lw_at lw_m5 222 rfl) rfl
theorem q1289 : (Jvm.Cond.soleField "PanSlices$Any" "b") ∈ lw_all := lw_g (lw_at lw_m5 223 rfl) rfl
theorem q1290 : (Jvm.Cond.superclass "PanSlices$Any" "PanSlices$Cond") ∈ lw_all := lw_g (lw_at lw_m5 224 rfl) rfl
theorem q1298 : (Jvm.Cond.selects "PanSlices$Any" ({ cls := "PanSlices$Cond", name := "is", desc := "(LPanSlices$Kitchen;LPanSlices$Plan;I)Z" } : Jvm.MethodName) ({ cls := "PanSlices$Any", name := "is", desc := "(LPanSlices$Kitchen;LPanSlices$Plan;I)Z" } : Jvm.MethodName)) ∈ lw_all := lw_g (lw_at lw_m5 232 rfl) rfl
theorem q1299 : (Jvm.Cond.instanceMethod ({ cls := "PanSlices$Any", name := "is", desc := "(LPanSlices$Kitchen;LPanSlices$Plan;I)Z" } : Jvm.MethodName)) ∈ lw_all := lw_g (lw_at lw_m5 233 rfl) rfl
theorem q1300 : (Jvm.Cond.code ({ cls := "PanSlices$Any", name := "is", desc := "(LPanSlices$Kitchen;LPanSlices$Plan;I)Z" } : Jvm.MethodName) prog_2_method_2_code (4 : Nat) (Option.some Jvm.ClassFile.FieldType.boolean)) ∈ lw_all := lw_g (lw_at lw_m5 234 rfl) rfl
theorem q1301 : (Jvm.Cond.methodLink "PanSlices$Any" (16 : Nat) ({ cls := "PanSlices$Cond", name := "is", desc := "(LPanSlices$Kitchen;LPanSlices$Plan;I)Z" } : Jvm.MethodName)) ∈ lw_all := lw_g (lw_at lw_m5 235 rfl) rfl
theorem q2172 : (Jvm.Cond.castable "PanSlices$Any" "java/lang/Object") ∈ lw_tbl := lw_at lw_m9 146 rfl
theorem q2182 : (Jvm.Cond.castable "PanSlices$Any" "PanSlices$Cond") ∈ lw_tbl := lw_at lw_m9 156 rfl
theorem in_X19 : ∀ w ∈ wsX190, w ∈ lw_all := lw_in wsX190 [1286, 1288] (by decide +kernel) (by decide +kernel)
