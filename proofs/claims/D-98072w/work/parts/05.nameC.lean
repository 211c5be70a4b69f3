/-! PanSlices -/
set_option maxRecDepth 100000
def RX1 : String := "PanSlices"
def TX1 : u_T := fun k => match k with
  | 0 => ("PanSlices", "tape", "[B", true)
  | 1 => ("PanSlices", "length", "I", false)
  | 2 => ("PanSlices", "size", "I", false)
  | 3 => ("PanSlices", "today", "I", false)
  | 4 => ("PanSlices", "broken", "LPanSlices$Fault;", true)
  | 5 => ("PanSlices", "lines", "[Ljava/lang/String;", true)
  | 6 => ("PanSlices", "words", "[Ljava/lang/String;", true)
  | 7 => ("PanSlices", "kitchen", "LPanSlices$Kitchen;", false)
  | 8 => ("PanSlices", "plan", "LPanSlices$Plan;", true)
  | 9 => ("PanSlices", "coming", "LPanSlices$Plan;", true)
  | 10 => ("PanSlices", "kitchenReader", "LPanSlices$KitchenReader;", true)
  | 11 => ("PanSlices", "planReader", "LPanSlices$PlanReader;", true)
  | 12 => ("PanSlices", "fault", "I", false)
  | 13 => ("PanSlices", "why", "I", false)
  | 14 => ("PanSlices", "text", "[B", true)
  | 15 => ("PanSlices", "textMany", "I", false)
  | 16 => ("PanSlices", "ahead", "[LPanSlices$Plan;", true)
  | 17 => ("PanSlices", "undoMany", "I", false)
  | 18 => ("PanSlices", "starts", "[I", true)
  | 19 => ("PanSlices", "order", "[I", true)
  | 20 => ("PanSlices", "bestStarts", "[I", true)
  | 21 => ("PanSlices", "bestOrder", "[I", true)
  | 22 => ("PanSlices", "taken", "[I", true)
  | 23 => ("PanSlices", "bestEnd", "I", false)
  | 24 => ("PanSlices", "cooks", "[LPanSlices$Cook;", true)
  | 25 => ("PanSlices", "lacks", "[I", true)
  | 26 => ("PanSlices", "offs", "[I", true)
  | 27 => ("PanSlices", "onNow", "[I", true)
  | 28 => ("PanSlices", "onWas", "[I", true)
  | 29 => ("PanSlices", "goNow", "[I", true)
  | 30 => ("PanSlices", "most", "[I", false)
  | 31 => ("PanSlices", "servedAt", "[I", true)
  | 32 => ("PanSlices", "servedMany", "I", false)
  | 33 => ("PanSlices", "hotelPans", "[I", true)
  | 34 => ("PanSlices", "costs", "[I", true)
  | 35 => ("PanSlices", "hotelMany", "I", false)
  | 36 => ("PanSlices", "seed", "I", false)
  | 37 => ("PanSlices", "sentenceReader", "LPanSlices$SentenceReader;", true)
  | 38 => ("PanSlices", "sentence", "LPanSlices$Cond;", false)
  | 39 => ("PanSlices", "kitchens", "[LPanSlices$Kitchen;", true)
  | 40 => ("PanSlices", "plans", "[LPanSlices$Plan;", true)
  | _ => ("PanSlices", "sentences", "[LPanSlices$Cond;", true)
def tyX1 : Nat → FieldType := fun k => match k with
  | 0 => .array .byte
  | 1 => .int
  | 2 => .int
  | 3 => .int
  | 4 => .object "PanSlices$Fault"
  | 5 => .array (.object "java/lang/String")
  | 6 => .array (.object "java/lang/String")
  | 7 => .object "PanSlices$Kitchen"
  | 8 => .object "PanSlices$Plan"
  | 9 => .object "PanSlices$Plan"
  | 10 => .object "PanSlices$KitchenReader"
  | 11 => .object "PanSlices$PlanReader"
  | 12 => .int
  | 13 => .int
  | 14 => .array .byte
  | 15 => .int
  | 16 => .array (.object "PanSlices$Plan")
  | 17 => .int
  | 18 => .array .int
  | 19 => .array .int
  | 20 => .array .int
  | 21 => .array .int
  | 22 => .array .int
  | 23 => .int
  | 24 => .array (.object "PanSlices$Cook")
  | 25 => .array .int
  | 26 => .array .int
  | 27 => .array .int
  | 28 => .array .int
  | 29 => .array .int
  | 30 => .array .int
  | 31 => .array .int
  | 32 => .int
  | 33 => .array .int
  | 34 => .array .int
  | 35 => .int
  | 36 => .int
  | 37 => .object "PanSlices$SentenceReader"
  | 38 => .object "PanSlices$Cond"
  | 39 => .array (.object "PanSlices$Kitchen")
  | 40 => .array (.object "PanSlices$Plan")
  | _ => .array (.object "PanSlices$Cond")
abbrev wsX10 : List Cond := u_ws RX1 TX1 42
set_option maxRecDepth 100000 in
theorem nmX1 : ∀ a, a < 42 → ∀ b, b < 42 → a ≠ b → (TX1 a).2.1 ≠ (TX1 b).2.1 := by decide +kernel
set_option maxRecDepth 100000 in
theorem tyX1_ok : ∀ k, k < 42 → parseFieldDescriptor (TX1 k).2.2.1 = some (tyX1 k) := by decide +kernel
abbrev cX1_init : ByteArray := prog_1_method_1_code
def yX1_init : MethodName := ⟨RX1, "<init>", "()V"⟩
def dkwX1_init_17 : List UInt8 := [42, 5, 189, 0, 185, 181, 0, 187, 177]
abbrev dktX1_init_17 : List UInt8 := dkwX1_init_17 ++ []
def dkwX1_init_16 : List UInt8 := [89, 42, 183, 0, 173, 181, 0, 174, 42, 5, 189, 0, 63, 181, 0, 178, 42, 5, 189, 0, 70, 181, 0, 182]
abbrev dktX1_init_16 : List UInt8 := dkwX1_init_16 ++ dktX1_init_17
def dkwX1_init_15 : List UInt8 := [8, 188, 10, 181, 0, 162, 42, 17, 9, 102, 188, 10, 181, 0, 165, 42, 2, 181, 0, 168, 42, 187, 0, 171]
abbrev dktX1_init_15 : List UInt8 := dkwX1_init_15 ++ dktX1_init_16
def dkwX1_init_14 : List UInt8 := [181, 0, 150, 42, 3, 188, 10, 181, 0, 153, 42, 16, 8, 188, 10, 181, 0, 156, 42, 2, 181, 0, 159, 42]
abbrev dktX1_init_14 : List UInt8 := dkwX1_init_14 ++ dktX1_init_15
def dkwX1_init_13 : List UInt8 := [188, 10, 181, 0, 141, 42, 7, 188, 10, 181, 0, 144, 42, 7, 188, 10, 181, 0, 147, 42, 7, 188, 10]
abbrev dktX1_init_13 : List UInt8 := dkwX1_init_13 ++ dktX1_init_14
def dkwX1_init_12 : List UInt8 := [5, 187, 0, 131, 89, 183, 0, 133, 83, 181, 0, 134, 42, 16, 16, 188, 10, 181, 0, 138, 42, 16, 16]
abbrev dktX1_init_12 : List UInt8 := dkwX1_init_12 ++ dktX1_init_13
def dkwX1_init_11 : List UInt8 := [189, 0, 123, 89, 3, 187, 0, 125, 89, 183, 0, 127, 83, 89, 4, 187, 0, 128, 89, 183, 0, 130, 83, 89]
abbrev dktX1_init_11 : List UInt8 := dkwX1_init_11 ++ dktX1_init_12
def dkwX1_init_10 : List UInt8 := [181, 0, 114, 42, 16, 8, 188, 10, 181, 0, 117, 42, 17, 1, 244, 188, 10, 181, 0, 120, 42, 6]
abbrev dktX1_init_10 : List UInt8 := dkwX1_init_10 ++ dktX1_init_11
def dkwX1_init_9 : List UInt8 := [181, 0, 103, 42, 16, 8, 188, 10, 181, 0, 107, 42, 16, 8, 188, 10, 181, 0, 111, 42, 16, 8, 188, 10]
abbrev dktX1_init_9 : List UInt8 := dkwX1_init_9 ++ dktX1_init_10
def dkwX1_init_8 : List UInt8 := [181, 0, 92, 42, 2, 181, 0, 96, 42, 17, 31, 64, 188, 8, 181, 0, 100, 42, 16, 8, 189, 0, 70]
abbrev dktX1_init_8 : List UInt8 := dkwX1_init_8 ++ dktX1_init_9
def dkwX1_init_7 : List UInt8 := [181, 0, 77, 42, 187, 0, 80, 89, 42, 183, 0, 82, 181, 0, 85, 42, 187, 0, 89, 89, 42, 183, 0, 91]
abbrev dktX1_init_7 : List UInt8 := dkwX1_init_7 ++ dktX1_init_8
def dkwX1_init_6 : List UInt8 := [181, 0, 66, 42, 187, 0, 70, 89, 183, 0, 72, 181, 0, 73, 42, 187, 0, 70, 89, 183, 0, 72]
abbrev dktX1_init_6 : List UInt8 := dkwX1_init_6 ++ dktX1_init_7
def dkwX1_init_5 : List UInt8 := [16, 8, 18, 56, 83, 89, 16, 9, 18, 58, 83, 181, 0, 60, 42, 187, 0, 63, 89, 183, 0, 65]
abbrev dktX1_init_5 : List UInt8 := dkwX1_init_5 ++ dktX1_init_6
def dkwX1_init_4 : List UInt8 := [83, 89, 7, 18, 48, 83, 89, 8, 18, 50, 83, 89, 16, 6, 18, 52, 83, 89, 16, 7, 18, 54, 83, 89]
abbrev dktX1_init_4 : List UInt8 := dkwX1_init_4 ++ dktX1_init_5
def dkwX1_init_3 : List UInt8 := [16, 10, 189, 0, 20, 89, 3, 18, 40, 83, 89, 4, 18, 42, 83, 89, 5, 18, 44, 83, 89, 6, 18, 46]
abbrev dktX1_init_3 : List UInt8 := dkwX1_init_3 ++ dktX1_init_4
def dkwX1_init_2 : List UInt8 := [18, 28, 83, 89, 7, 18, 30, 83, 89, 8, 18, 32, 83, 89, 16, 6, 18, 34, 83, 181, 0, 36, 42]
abbrev dktX1_init_2 : List UInt8 := dkwX1_init_2 ++ dktX1_init_3
def dkwX1_init_1 : List UInt8 := [42, 16, 7, 189, 0, 20, 89, 3, 18, 22, 83, 89, 4, 18, 24, 83, 89, 5, 18, 26, 83, 89, 6]
abbrev dktX1_init_1 : List UInt8 := dkwX1_init_1 ++ dktX1_init_2
def dkwX1_init_0 : List UInt8 := [42, 183, 0, 3, 42, 17, 2, 128, 188, 8, 181, 0, 9, 42, 187, 0, 13, 89, 183, 0, 15, 181, 0, 16]
abbrev dktX1_init_0 : List UInt8 := dkwX1_init_0 ++ dktX1_init_1
theorem dksX1_init_0 : cX1_init.data.toList.drop 0 = dktX1_init_0 := by decide +kernel
theorem dksX1_init_1 : cX1_init.data.toList.drop 24 = dktX1_init_1 := dk_seg dksX1_init_0 24 rfl rfl
theorem dksX1_init_2 : cX1_init.data.toList.drop 47 = dktX1_init_2 := dk_seg dksX1_init_1 23 rfl rfl
theorem dksX1_init_3 : cX1_init.data.toList.drop 70 = dktX1_init_3 := dk_seg dksX1_init_2 23 rfl rfl
theorem dksX1_init_4 : cX1_init.data.toList.drop 94 = dktX1_init_4 := dk_seg dksX1_init_3 24 rfl rfl
theorem dksX1_init_5 : cX1_init.data.toList.drop 118 = dktX1_init_5 := dk_seg dksX1_init_4 24 rfl rfl
theorem dksX1_init_6 : cX1_init.data.toList.drop 140 = dktX1_init_6 := dk_seg dksX1_init_5 22 rfl rfl
theorem dksX1_init_7 : cX1_init.data.toList.drop 162 = dktX1_init_7 := dk_seg dksX1_init_6 22 rfl rfl
theorem dksX1_init_8 : cX1_init.data.toList.drop 186 = dktX1_init_8 := dk_seg dksX1_init_7 24 rfl rfl
theorem dksX1_init_9 : cX1_init.data.toList.drop 209 = dktX1_init_9 := dk_seg dksX1_init_8 23 rfl rfl
theorem dksX1_init_10 : cX1_init.data.toList.drop 233 = dktX1_init_10 := dk_seg dksX1_init_9 24 rfl rfl
theorem dksX1_init_11 : cX1_init.data.toList.drop 255 = dktX1_init_11 := dk_seg dksX1_init_10 22 rfl rfl
theorem dksX1_init_12 : cX1_init.data.toList.drop 279 = dktX1_init_12 := dk_seg dksX1_init_11 24 rfl rfl
theorem dksX1_init_13 : cX1_init.data.toList.drop 302 = dktX1_init_13 := dk_seg dksX1_init_12 23 rfl rfl
theorem dksX1_init_14 : cX1_init.data.toList.drop 325 = dktX1_init_14 := dk_seg dksX1_init_13 23 rfl rfl
theorem dksX1_init_15 : cX1_init.data.toList.drop 349 = dktX1_init_15 := dk_seg dksX1_init_14 24 rfl rfl
theorem dksX1_init_16 : cX1_init.data.toList.drop 373 = dktX1_init_16 := dk_seg dksX1_init_15 24 rfl rfl
theorem dksX1_init_17 : cX1_init.data.toList.drop 397 = dktX1_init_17 := dk_seg dksX1_init_16 24 rfl rfl
theorem dX1_init_0 : decode cX1_init 0 = .ok (.aload_n 0, 1) := dk_42 (dk_at dksX1_init_0 0 rfl rfl)
theorem dX1_init_1 : decode cX1_init 1 = .ok (.invokespecial 3, 3) := dk_183 0 3 (dk_at dksX1_init_0 1 rfl rfl)
theorem dX1_init_4 : decode cX1_init 4 = .ok (.aload_n 0, 1) := dk_42 (dk_at dksX1_init_0 4 rfl rfl)
theorem dX1_init_5 : decode cX1_init 5 = .ok (.sipush 640, 3) := dk_17 2 128 (dk_at dksX1_init_0 5 rfl rfl)
theorem dX1_init_8 : decode cX1_init 8 = .ok (.newarray .byte, 2) := dk_188_8 (dk_at dksX1_init_0 8 rfl rfl)
theorem dX1_init_10 : decode cX1_init 10 = .ok (.putfield 9, 3) := dk_181 0 9 (dk_at dksX1_init_0 10 rfl rfl)
theorem dX1_init_13 : decode cX1_init 13 = .ok (.aload_n 0, 1) := dk_42 (dk_at dksX1_init_0 13 rfl rfl)
theorem dX1_init_14 : decode cX1_init 14 = .ok (.new 13, 3) := dk_187 0 13 (dk_at dksX1_init_0 14 rfl rfl)
theorem dX1_init_17 : decode cX1_init 17 = .ok (.dup, 1) := dk_89 (dk_at dksX1_init_0 17 rfl rfl)
theorem dX1_init_18 : decode cX1_init 18 = .ok (.invokespecial 15, 3) := dk_183 0 15 (dk_at dksX1_init_0 18 rfl rfl)
theorem dX1_init_21 : decode cX1_init 21 = .ok (.putfield 16, 3) := dk_181 0 16 (dk_at dksX1_init_0 21 rfl rfl)
theorem dX1_init_24 : decode cX1_init 24 = .ok (.aload_n 0, 1) := dk_42 (dk_at dksX1_init_1 0 rfl rfl)
theorem dX1_init_25 : decode cX1_init 25 = .ok (.bipush 7, 2) := dk_16 7 (dk_at dksX1_init_1 1 rfl rfl)
theorem dX1_init_27 : decode cX1_init 27 = .ok (.anewarray 20, 3) := dk_189 0 20 (dk_at dksX1_init_1 3 rfl rfl)
theorem dX1_init_30 : decode cX1_init 30 = .ok (.dup, 1) := dk_89 (dk_at dksX1_init_1 6 rfl rfl)
theorem dX1_init_31 : decode cX1_init 31 = .ok (.iconst 0, 1) := dk_3 (dk_at dksX1_init_1 7 rfl rfl)
theorem dX1_init_32 : decode cX1_init 32 = .ok (.ldc 22, 2) := dk_18 22 (dk_at dksX1_init_1 8 rfl rfl)
theorem dX1_init_34 : decode cX1_init 34 = .ok (.aastore, 1) := dk_83 (dk_at dksX1_init_1 10 rfl rfl)
theorem dX1_init_35 : decode cX1_init 35 = .ok (.dup, 1) := dk_89 (dk_at dksX1_init_1 11 rfl rfl)
theorem dX1_init_36 : decode cX1_init 36 = .ok (.iconst 1, 1) := dk_4 (dk_at dksX1_init_1 12 rfl rfl)
theorem dX1_init_37 : decode cX1_init 37 = .ok (.ldc 24, 2) := dk_18 24 (dk_at dksX1_init_1 13 rfl rfl)
theorem dX1_init_39 : decode cX1_init 39 = .ok (.aastore, 1) := dk_83 (dk_at dksX1_init_1 15 rfl rfl)
theorem dX1_init_40 : decode cX1_init 40 = .ok (.dup, 1) := dk_89 (dk_at dksX1_init_1 16 rfl rfl)
theorem dX1_init_41 : decode cX1_init 41 = .ok (.iconst 2, 1) := dk_5 (dk_at dksX1_init_1 17 rfl rfl)
theorem dX1_init_42 : decode cX1_init 42 = .ok (.ldc 26, 2) := dk_18 26 (dk_at dksX1_init_1 18 rfl rfl)
theorem dX1_init_44 : decode cX1_init 44 = .ok (.aastore, 1) := dk_83 (dk_at dksX1_init_1 20 rfl rfl)
theorem dX1_init_45 : decode cX1_init 45 = .ok (.dup, 1) := dk_89 (dk_at dksX1_init_1 21 rfl rfl)
theorem dX1_init_46 : decode cX1_init 46 = .ok (.iconst 3, 1) := dk_6 (dk_at dksX1_init_1 22 rfl rfl)
theorem dX1_init_47 : decode cX1_init 47 = .ok (.ldc 28, 2) := dk_18 28 (dk_at dksX1_init_2 0 rfl rfl)
theorem dX1_init_49 : decode cX1_init 49 = .ok (.aastore, 1) := dk_83 (dk_at dksX1_init_2 2 rfl rfl)
theorem dX1_init_50 : decode cX1_init 50 = .ok (.dup, 1) := dk_89 (dk_at dksX1_init_2 3 rfl rfl)
theorem dX1_init_51 : decode cX1_init 51 = .ok (.iconst 4, 1) := dk_7 (dk_at dksX1_init_2 4 rfl rfl)
theorem dX1_init_52 : decode cX1_init 52 = .ok (.ldc 30, 2) := dk_18 30 (dk_at dksX1_init_2 5 rfl rfl)
theorem dX1_init_54 : decode cX1_init 54 = .ok (.aastore, 1) := dk_83 (dk_at dksX1_init_2 7 rfl rfl)
theorem dX1_init_55 : decode cX1_init 55 = .ok (.dup, 1) := dk_89 (dk_at dksX1_init_2 8 rfl rfl)
theorem dX1_init_56 : decode cX1_init 56 = .ok (.iconst 5, 1) := dk_8 (dk_at dksX1_init_2 9 rfl rfl)
theorem dX1_init_57 : decode cX1_init 57 = .ok (.ldc 32, 2) := dk_18 32 (dk_at dksX1_init_2 10 rfl rfl)
theorem dX1_init_59 : decode cX1_init 59 = .ok (.aastore, 1) := dk_83 (dk_at dksX1_init_2 12 rfl rfl)
theorem dX1_init_60 : decode cX1_init 60 = .ok (.dup, 1) := dk_89 (dk_at dksX1_init_2 13 rfl rfl)
theorem dX1_init_61 : decode cX1_init 61 = .ok (.bipush 6, 2) := dk_16 6 (dk_at dksX1_init_2 14 rfl rfl)
theorem dX1_init_63 : decode cX1_init 63 = .ok (.ldc 34, 2) := dk_18 34 (dk_at dksX1_init_2 16 rfl rfl)
theorem dX1_init_65 : decode cX1_init 65 = .ok (.aastore, 1) := dk_83 (dk_at dksX1_init_2 18 rfl rfl)
theorem dX1_init_66 : decode cX1_init 66 = .ok (.putfield 36, 3) := dk_181 0 36 (dk_at dksX1_init_2 19 rfl rfl)
theorem dX1_init_69 : decode cX1_init 69 = .ok (.aload_n 0, 1) := dk_42 (dk_at dksX1_init_2 22 rfl rfl)
theorem dX1_init_70 : decode cX1_init 70 = .ok (.bipush 10, 2) := dk_16 10 (dk_at dksX1_init_3 0 rfl rfl)
theorem dX1_init_72 : decode cX1_init 72 = .ok (.anewarray 20, 3) := dk_189 0 20 (dk_at dksX1_init_3 2 rfl rfl)
theorem dX1_init_75 : decode cX1_init 75 = .ok (.dup, 1) := dk_89 (dk_at dksX1_init_3 5 rfl rfl)
theorem dX1_init_76 : decode cX1_init 76 = .ok (.iconst 0, 1) := dk_3 (dk_at dksX1_init_3 6 rfl rfl)
theorem dX1_init_77 : decode cX1_init 77 = .ok (.ldc 40, 2) := dk_18 40 (dk_at dksX1_init_3 7 rfl rfl)
theorem dX1_init_79 : decode cX1_init 79 = .ok (.aastore, 1) := dk_83 (dk_at dksX1_init_3 9 rfl rfl)
theorem dX1_init_80 : decode cX1_init 80 = .ok (.dup, 1) := dk_89 (dk_at dksX1_init_3 10 rfl rfl)
theorem dX1_init_81 : decode cX1_init 81 = .ok (.iconst 1, 1) := dk_4 (dk_at dksX1_init_3 11 rfl rfl)
theorem dX1_init_82 : decode cX1_init 82 = .ok (.ldc 42, 2) := dk_18 42 (dk_at dksX1_init_3 12 rfl rfl)
theorem dX1_init_84 : decode cX1_init 84 = .ok (.aastore, 1) := dk_83 (dk_at dksX1_init_3 14 rfl rfl)
theorem dX1_init_85 : decode cX1_init 85 = .ok (.dup, 1) := dk_89 (dk_at dksX1_init_3 15 rfl rfl)
theorem dX1_init_86 : decode cX1_init 86 = .ok (.iconst 2, 1) := dk_5 (dk_at dksX1_init_3 16 rfl rfl)
theorem dX1_init_87 : decode cX1_init 87 = .ok (.ldc 44, 2) := dk_18 44 (dk_at dksX1_init_3 17 rfl rfl)
theorem dX1_init_89 : decode cX1_init 89 = .ok (.aastore, 1) := dk_83 (dk_at dksX1_init_3 19 rfl rfl)
theorem dX1_init_90 : decode cX1_init 90 = .ok (.dup, 1) := dk_89 (dk_at dksX1_init_3 20 rfl rfl)
theorem dX1_init_91 : decode cX1_init 91 = .ok (.iconst 3, 1) := dk_6 (dk_at dksX1_init_3 21 rfl rfl)
theorem dX1_init_92 : decode cX1_init 92 = .ok (.ldc 46, 2) := dk_18 46 (dk_at dksX1_init_3 22 rfl rfl)
theorem dX1_init_94 : decode cX1_init 94 = .ok (.aastore, 1) := dk_83 (dk_at dksX1_init_4 0 rfl rfl)
theorem dX1_init_95 : decode cX1_init 95 = .ok (.dup, 1) := dk_89 (dk_at dksX1_init_4 1 rfl rfl)
theorem dX1_init_96 : decode cX1_init 96 = .ok (.iconst 4, 1) := dk_7 (dk_at dksX1_init_4 2 rfl rfl)
theorem dX1_init_97 : decode cX1_init 97 = .ok (.ldc 48, 2) := dk_18 48 (dk_at dksX1_init_4 3 rfl rfl)
theorem dX1_init_99 : decode cX1_init 99 = .ok (.aastore, 1) := dk_83 (dk_at dksX1_init_4 5 rfl rfl)
theorem dX1_init_100 : decode cX1_init 100 = .ok (.dup, 1) := dk_89 (dk_at dksX1_init_4 6 rfl rfl)
theorem dX1_init_101 : decode cX1_init 101 = .ok (.iconst 5, 1) := dk_8 (dk_at dksX1_init_4 7 rfl rfl)
theorem dX1_init_102 : decode cX1_init 102 = .ok (.ldc 50, 2) := dk_18 50 (dk_at dksX1_init_4 8 rfl rfl)
theorem dX1_init_104 : decode cX1_init 104 = .ok (.aastore, 1) := dk_83 (dk_at dksX1_init_4 10 rfl rfl)
theorem dX1_init_105 : decode cX1_init 105 = .ok (.dup, 1) := dk_89 (dk_at dksX1_init_4 11 rfl rfl)
theorem dX1_init_106 : decode cX1_init 106 = .ok (.bipush 6, 2) := dk_16 6 (dk_at dksX1_init_4 12 rfl rfl)
theorem dX1_init_108 : decode cX1_init 108 = .ok (.ldc 52, 2) := dk_18 52 (dk_at dksX1_init_4 14 rfl rfl)
theorem dX1_init_110 : decode cX1_init 110 = .ok (.aastore, 1) := dk_83 (dk_at dksX1_init_4 16 rfl rfl)
theorem dX1_init_111 : decode cX1_init 111 = .ok (.dup, 1) := dk_89 (dk_at dksX1_init_4 17 rfl rfl)
theorem dX1_init_112 : decode cX1_init 112 = .ok (.bipush 7, 2) := dk_16 7 (dk_at dksX1_init_4 18 rfl rfl)
theorem dX1_init_114 : decode cX1_init 114 = .ok (.ldc 54, 2) := dk_18 54 (dk_at dksX1_init_4 20 rfl rfl)
theorem dX1_init_116 : decode cX1_init 116 = .ok (.aastore, 1) := dk_83 (dk_at dksX1_init_4 22 rfl rfl)
theorem dX1_init_117 : decode cX1_init 117 = .ok (.dup, 1) := dk_89 (dk_at dksX1_init_4 23 rfl rfl)
theorem dX1_init_118 : decode cX1_init 118 = .ok (.bipush 8, 2) := dk_16 8 (dk_at dksX1_init_5 0 rfl rfl)
theorem dX1_init_120 : decode cX1_init 120 = .ok (.ldc 56, 2) := dk_18 56 (dk_at dksX1_init_5 2 rfl rfl)
theorem dX1_init_122 : decode cX1_init 122 = .ok (.aastore, 1) := dk_83 (dk_at dksX1_init_5 4 rfl rfl)
theorem dX1_init_123 : decode cX1_init 123 = .ok (.dup, 1) := dk_89 (dk_at dksX1_init_5 5 rfl rfl)
theorem dX1_init_124 : decode cX1_init 124 = .ok (.bipush 9, 2) := dk_16 9 (dk_at dksX1_init_5 6 rfl rfl)
theorem dX1_init_126 : decode cX1_init 126 = .ok (.ldc 58, 2) := dk_18 58 (dk_at dksX1_init_5 8 rfl rfl)
theorem dX1_init_128 : decode cX1_init 128 = .ok (.aastore, 1) := dk_83 (dk_at dksX1_init_5 10 rfl rfl)
theorem dX1_init_129 : decode cX1_init 129 = .ok (.putfield 60, 3) := dk_181 0 60 (dk_at dksX1_init_5 11 rfl rfl)
theorem dX1_init_132 : decode cX1_init 132 = .ok (.aload_n 0, 1) := dk_42 (dk_at dksX1_init_5 14 rfl rfl)
theorem dX1_init_133 : decode cX1_init 133 = .ok (.new 63, 3) := dk_187 0 63 (dk_at dksX1_init_5 15 rfl rfl)
theorem dX1_init_136 : decode cX1_init 136 = .ok (.dup, 1) := dk_89 (dk_at dksX1_init_5 18 rfl rfl)
theorem dX1_init_137 : decode cX1_init 137 = .ok (.invokespecial 65, 3) := dk_183 0 65 (dk_at dksX1_init_5 19 rfl rfl)
theorem dX1_init_140 : decode cX1_init 140 = .ok (.putfield 66, 3) := dk_181 0 66 (dk_at dksX1_init_6 0 rfl rfl)
theorem dX1_init_143 : decode cX1_init 143 = .ok (.aload_n 0, 1) := dk_42 (dk_at dksX1_init_6 3 rfl rfl)
theorem dX1_init_144 : decode cX1_init 144 = .ok (.new 70, 3) := dk_187 0 70 (dk_at dksX1_init_6 4 rfl rfl)
theorem dX1_init_147 : decode cX1_init 147 = .ok (.dup, 1) := dk_89 (dk_at dksX1_init_6 7 rfl rfl)
theorem dX1_init_148 : decode cX1_init 148 = .ok (.invokespecial 72, 3) := dk_183 0 72 (dk_at dksX1_init_6 8 rfl rfl)
theorem dX1_init_151 : decode cX1_init 151 = .ok (.putfield 73, 3) := dk_181 0 73 (dk_at dksX1_init_6 11 rfl rfl)
theorem dX1_init_154 : decode cX1_init 154 = .ok (.aload_n 0, 1) := dk_42 (dk_at dksX1_init_6 14 rfl rfl)
theorem dX1_init_155 : decode cX1_init 155 = .ok (.new 70, 3) := dk_187 0 70 (dk_at dksX1_init_6 15 rfl rfl)
theorem dX1_init_158 : decode cX1_init 158 = .ok (.dup, 1) := dk_89 (dk_at dksX1_init_6 18 rfl rfl)
theorem dX1_init_159 : decode cX1_init 159 = .ok (.invokespecial 72, 3) := dk_183 0 72 (dk_at dksX1_init_6 19 rfl rfl)
theorem dX1_init_162 : decode cX1_init 162 = .ok (.putfield 77, 3) := dk_181 0 77 (dk_at dksX1_init_7 0 rfl rfl)
theorem dX1_init_165 : decode cX1_init 165 = .ok (.aload_n 0, 1) := dk_42 (dk_at dksX1_init_7 3 rfl rfl)
theorem dX1_init_166 : decode cX1_init 166 = .ok (.new 80, 3) := dk_187 0 80 (dk_at dksX1_init_7 4 rfl rfl)
theorem dX1_init_169 : decode cX1_init 169 = .ok (.dup, 1) := dk_89 (dk_at dksX1_init_7 7 rfl rfl)
theorem dX1_init_170 : decode cX1_init 170 = .ok (.aload_n 0, 1) := dk_42 (dk_at dksX1_init_7 8 rfl rfl)
theorem dX1_init_171 : decode cX1_init 171 = .ok (.invokespecial 82, 3) := dk_183 0 82 (dk_at dksX1_init_7 9 rfl rfl)
theorem dX1_init_174 : decode cX1_init 174 = .ok (.putfield 85, 3) := dk_181 0 85 (dk_at dksX1_init_7 12 rfl rfl)
theorem dX1_init_177 : decode cX1_init 177 = .ok (.aload_n 0, 1) := dk_42 (dk_at dksX1_init_7 15 rfl rfl)
theorem dX1_init_178 : decode cX1_init 178 = .ok (.new 89, 3) := dk_187 0 89 (dk_at dksX1_init_7 16 rfl rfl)
theorem dX1_init_181 : decode cX1_init 181 = .ok (.dup, 1) := dk_89 (dk_at dksX1_init_7 19 rfl rfl)
theorem dX1_init_182 : decode cX1_init 182 = .ok (.aload_n 0, 1) := dk_42 (dk_at dksX1_init_7 20 rfl rfl)
theorem dX1_init_183 : decode cX1_init 183 = .ok (.invokespecial 91, 3) := dk_183 0 91 (dk_at dksX1_init_7 21 rfl rfl)
theorem dX1_init_186 : decode cX1_init 186 = .ok (.putfield 92, 3) := dk_181 0 92 (dk_at dksX1_init_8 0 rfl rfl)
theorem dX1_init_189 : decode cX1_init 189 = .ok (.aload_n 0, 1) := dk_42 (dk_at dksX1_init_8 3 rfl rfl)
theorem dX1_init_190 : decode cX1_init 190 = .ok (.iconst (-1), 1) := dk_2 (dk_at dksX1_init_8 4 rfl rfl)
theorem dX1_init_191 : decode cX1_init 191 = .ok (.putfield 96, 3) := dk_181 0 96 (dk_at dksX1_init_8 5 rfl rfl)
theorem dX1_init_194 : decode cX1_init 194 = .ok (.aload_n 0, 1) := dk_42 (dk_at dksX1_init_8 8 rfl rfl)
theorem dX1_init_195 : decode cX1_init 195 = .ok (.sipush 8000, 3) := dk_17 31 64 (dk_at dksX1_init_8 9 rfl rfl)
theorem dX1_init_198 : decode cX1_init 198 = .ok (.newarray .byte, 2) := dk_188_8 (dk_at dksX1_init_8 12 rfl rfl)
theorem dX1_init_200 : decode cX1_init 200 = .ok (.putfield 100, 3) := dk_181 0 100 (dk_at dksX1_init_8 14 rfl rfl)
theorem dX1_init_203 : decode cX1_init 203 = .ok (.aload_n 0, 1) := dk_42 (dk_at dksX1_init_8 17 rfl rfl)
theorem dX1_init_204 : decode cX1_init 204 = .ok (.bipush 8, 2) := dk_16 8 (dk_at dksX1_init_8 18 rfl rfl)
theorem dX1_init_206 : decode cX1_init 206 = .ok (.anewarray 70, 3) := dk_189 0 70 (dk_at dksX1_init_8 20 rfl rfl)
theorem dX1_init_209 : decode cX1_init 209 = .ok (.putfield 103, 3) := dk_181 0 103 (dk_at dksX1_init_9 0 rfl rfl)
theorem dX1_init_212 : decode cX1_init 212 = .ok (.aload_n 0, 1) := dk_42 (dk_at dksX1_init_9 3 rfl rfl)
theorem dX1_init_213 : decode cX1_init 213 = .ok (.bipush 8, 2) := dk_16 8 (dk_at dksX1_init_9 4 rfl rfl)
theorem dX1_init_215 : decode cX1_init 215 = .ok (.newarray .int, 2) := dk_188_10 (dk_at dksX1_init_9 6 rfl rfl)
theorem dX1_init_217 : decode cX1_init 217 = .ok (.putfield 107, 3) := dk_181 0 107 (dk_at dksX1_init_9 8 rfl rfl)
theorem dX1_init_220 : decode cX1_init 220 = .ok (.aload_n 0, 1) := dk_42 (dk_at dksX1_init_9 11 rfl rfl)
theorem dX1_init_221 : decode cX1_init 221 = .ok (.bipush 8, 2) := dk_16 8 (dk_at dksX1_init_9 12 rfl rfl)
theorem dX1_init_223 : decode cX1_init 223 = .ok (.newarray .int, 2) := dk_188_10 (dk_at dksX1_init_9 14 rfl rfl)
theorem dX1_init_225 : decode cX1_init 225 = .ok (.putfield 111, 3) := dk_181 0 111 (dk_at dksX1_init_9 16 rfl rfl)
theorem dX1_init_228 : decode cX1_init 228 = .ok (.aload_n 0, 1) := dk_42 (dk_at dksX1_init_9 19 rfl rfl)
theorem dX1_init_229 : decode cX1_init 229 = .ok (.bipush 8, 2) := dk_16 8 (dk_at dksX1_init_9 20 rfl rfl)
theorem dX1_init_231 : decode cX1_init 231 = .ok (.newarray .int, 2) := dk_188_10 (dk_at dksX1_init_9 22 rfl rfl)
theorem dX1_init_233 : decode cX1_init 233 = .ok (.putfield 114, 3) := dk_181 0 114 (dk_at dksX1_init_10 0 rfl rfl)
theorem dX1_init_236 : decode cX1_init 236 = .ok (.aload_n 0, 1) := dk_42 (dk_at dksX1_init_10 3 rfl rfl)
theorem dX1_init_237 : decode cX1_init 237 = .ok (.bipush 8, 2) := dk_16 8 (dk_at dksX1_init_10 4 rfl rfl)
theorem dX1_init_239 : decode cX1_init 239 = .ok (.newarray .int, 2) := dk_188_10 (dk_at dksX1_init_10 6 rfl rfl)
theorem dX1_init_241 : decode cX1_init 241 = .ok (.putfield 117, 3) := dk_181 0 117 (dk_at dksX1_init_10 8 rfl rfl)
theorem dX1_init_244 : decode cX1_init 244 = .ok (.aload_n 0, 1) := dk_42 (dk_at dksX1_init_10 11 rfl rfl)
theorem dX1_init_245 : decode cX1_init 245 = .ok (.sipush 500, 3) := dk_17 1 244 (dk_at dksX1_init_10 12 rfl rfl)
theorem dX1_init_248 : decode cX1_init 248 = .ok (.newarray .int, 2) := dk_188_10 (dk_at dksX1_init_10 15 rfl rfl)
theorem dX1_init_250 : decode cX1_init 250 = .ok (.putfield 120, 3) := dk_181 0 120 (dk_at dksX1_init_10 17 rfl rfl)
theorem dX1_init_253 : decode cX1_init 253 = .ok (.aload_n 0, 1) := dk_42 (dk_at dksX1_init_10 20 rfl rfl)
theorem dX1_init_254 : decode cX1_init 254 = .ok (.iconst 3, 1) := dk_6 (dk_at dksX1_init_10 21 rfl rfl)
theorem dX1_init_255 : decode cX1_init 255 = .ok (.anewarray 123, 3) := dk_189 0 123 (dk_at dksX1_init_11 0 rfl rfl)
theorem dX1_init_258 : decode cX1_init 258 = .ok (.dup, 1) := dk_89 (dk_at dksX1_init_11 3 rfl rfl)
theorem dX1_init_259 : decode cX1_init 259 = .ok (.iconst 0, 1) := dk_3 (dk_at dksX1_init_11 4 rfl rfl)
theorem dX1_init_260 : decode cX1_init 260 = .ok (.new 125, 3) := dk_187 0 125 (dk_at dksX1_init_11 5 rfl rfl)
theorem dX1_init_263 : decode cX1_init 263 = .ok (.dup, 1) := dk_89 (dk_at dksX1_init_11 8 rfl rfl)
theorem dX1_init_264 : decode cX1_init 264 = .ok (.invokespecial 127, 3) := dk_183 0 127 (dk_at dksX1_init_11 9 rfl rfl)
theorem dX1_init_267 : decode cX1_init 267 = .ok (.aastore, 1) := dk_83 (dk_at dksX1_init_11 12 rfl rfl)
theorem dX1_init_268 : decode cX1_init 268 = .ok (.dup, 1) := dk_89 (dk_at dksX1_init_11 13 rfl rfl)
theorem dX1_init_269 : decode cX1_init 269 = .ok (.iconst 1, 1) := dk_4 (dk_at dksX1_init_11 14 rfl rfl)
theorem dX1_init_270 : decode cX1_init 270 = .ok (.new 128, 3) := dk_187 0 128 (dk_at dksX1_init_11 15 rfl rfl)
theorem dX1_init_273 : decode cX1_init 273 = .ok (.dup, 1) := dk_89 (dk_at dksX1_init_11 18 rfl rfl)
theorem dX1_init_274 : decode cX1_init 274 = .ok (.invokespecial 130, 3) := dk_183 0 130 (dk_at dksX1_init_11 19 rfl rfl)
theorem dX1_init_277 : decode cX1_init 277 = .ok (.aastore, 1) := dk_83 (dk_at dksX1_init_11 22 rfl rfl)
theorem dX1_init_278 : decode cX1_init 278 = .ok (.dup, 1) := dk_89 (dk_at dksX1_init_11 23 rfl rfl)
theorem dX1_init_279 : decode cX1_init 279 = .ok (.iconst 2, 1) := dk_5 (dk_at dksX1_init_12 0 rfl rfl)
theorem dX1_init_280 : decode cX1_init 280 = .ok (.new 131, 3) := dk_187 0 131 (dk_at dksX1_init_12 1 rfl rfl)
theorem dX1_init_283 : decode cX1_init 283 = .ok (.dup, 1) := dk_89 (dk_at dksX1_init_12 4 rfl rfl)
theorem dX1_init_284 : decode cX1_init 284 = .ok (.invokespecial 133, 3) := dk_183 0 133 (dk_at dksX1_init_12 5 rfl rfl)
theorem dX1_init_287 : decode cX1_init 287 = .ok (.aastore, 1) := dk_83 (dk_at dksX1_init_12 8 rfl rfl)
theorem dX1_init_288 : decode cX1_init 288 = .ok (.putfield 134, 3) := dk_181 0 134 (dk_at dksX1_init_12 9 rfl rfl)
theorem dX1_init_291 : decode cX1_init 291 = .ok (.aload_n 0, 1) := dk_42 (dk_at dksX1_init_12 12 rfl rfl)
theorem dX1_init_292 : decode cX1_init 292 = .ok (.bipush 16, 2) := dk_16 16 (dk_at dksX1_init_12 13 rfl rfl)
theorem dX1_init_294 : decode cX1_init 294 = .ok (.newarray .int, 2) := dk_188_10 (dk_at dksX1_init_12 15 rfl rfl)
theorem dX1_init_296 : decode cX1_init 296 = .ok (.putfield 138, 3) := dk_181 0 138 (dk_at dksX1_init_12 17 rfl rfl)
theorem dX1_init_299 : decode cX1_init 299 = .ok (.aload_n 0, 1) := dk_42 (dk_at dksX1_init_12 20 rfl rfl)
theorem dX1_init_300 : decode cX1_init 300 = .ok (.bipush 16, 2) := dk_16 16 (dk_at dksX1_init_12 21 rfl rfl)
theorem dX1_init_302 : decode cX1_init 302 = .ok (.newarray .int, 2) := dk_188_10 (dk_at dksX1_init_13 0 rfl rfl)
theorem dX1_init_304 : decode cX1_init 304 = .ok (.putfield 141, 3) := dk_181 0 141 (dk_at dksX1_init_13 2 rfl rfl)
theorem dX1_init_307 : decode cX1_init 307 = .ok (.aload_n 0, 1) := dk_42 (dk_at dksX1_init_13 5 rfl rfl)
theorem dX1_init_308 : decode cX1_init 308 = .ok (.iconst 4, 1) := dk_7 (dk_at dksX1_init_13 6 rfl rfl)
theorem dX1_init_309 : decode cX1_init 309 = .ok (.newarray .int, 2) := dk_188_10 (dk_at dksX1_init_13 7 rfl rfl)
theorem dX1_init_311 : decode cX1_init 311 = .ok (.putfield 144, 3) := dk_181 0 144 (dk_at dksX1_init_13 9 rfl rfl)
theorem dX1_init_314 : decode cX1_init 314 = .ok (.aload_n 0, 1) := dk_42 (dk_at dksX1_init_13 12 rfl rfl)
theorem dX1_init_315 : decode cX1_init 315 = .ok (.iconst 4, 1) := dk_7 (dk_at dksX1_init_13 13 rfl rfl)
theorem dX1_init_316 : decode cX1_init 316 = .ok (.newarray .int, 2) := dk_188_10 (dk_at dksX1_init_13 14 rfl rfl)
theorem dX1_init_318 : decode cX1_init 318 = .ok (.putfield 147, 3) := dk_181 0 147 (dk_at dksX1_init_13 16 rfl rfl)
theorem dX1_init_321 : decode cX1_init 321 = .ok (.aload_n 0, 1) := dk_42 (dk_at dksX1_init_13 19 rfl rfl)
theorem dX1_init_322 : decode cX1_init 322 = .ok (.iconst 4, 1) := dk_7 (dk_at dksX1_init_13 20 rfl rfl)
theorem dX1_init_323 : decode cX1_init 323 = .ok (.newarray .int, 2) := dk_188_10 (dk_at dksX1_init_13 21 rfl rfl)
theorem dX1_init_325 : decode cX1_init 325 = .ok (.putfield 150, 3) := dk_181 0 150 (dk_at dksX1_init_14 0 rfl rfl)
theorem dX1_init_328 : decode cX1_init 328 = .ok (.aload_n 0, 1) := dk_42 (dk_at dksX1_init_14 3 rfl rfl)
theorem dX1_init_329 : decode cX1_init 329 = .ok (.iconst 0, 1) := dk_3 (dk_at dksX1_init_14 4 rfl rfl)
theorem dX1_init_330 : decode cX1_init 330 = .ok (.newarray .int, 2) := dk_188_10 (dk_at dksX1_init_14 5 rfl rfl)
theorem dX1_init_332 : decode cX1_init 332 = .ok (.putfield 153, 3) := dk_181 0 153 (dk_at dksX1_init_14 7 rfl rfl)
theorem dX1_init_335 : decode cX1_init 335 = .ok (.aload_n 0, 1) := dk_42 (dk_at dksX1_init_14 10 rfl rfl)
theorem dX1_init_336 : decode cX1_init 336 = .ok (.bipush 8, 2) := dk_16 8 (dk_at dksX1_init_14 11 rfl rfl)
theorem dX1_init_338 : decode cX1_init 338 = .ok (.newarray .int, 2) := dk_188_10 (dk_at dksX1_init_14 13 rfl rfl)
theorem dX1_init_340 : decode cX1_init 340 = .ok (.putfield 156, 3) := dk_181 0 156 (dk_at dksX1_init_14 15 rfl rfl)
theorem dX1_init_343 : decode cX1_init 343 = .ok (.aload_n 0, 1) := dk_42 (dk_at dksX1_init_14 18 rfl rfl)
theorem dX1_init_344 : decode cX1_init 344 = .ok (.iconst (-1), 1) := dk_2 (dk_at dksX1_init_14 19 rfl rfl)
theorem dX1_init_345 : decode cX1_init 345 = .ok (.putfield 159, 3) := dk_181 0 159 (dk_at dksX1_init_14 20 rfl rfl)
theorem dX1_init_348 : decode cX1_init 348 = .ok (.aload_n 0, 1) := dk_42 (dk_at dksX1_init_14 23 rfl rfl)
theorem dX1_init_349 : decode cX1_init 349 = .ok (.iconst 5, 1) := dk_8 (dk_at dksX1_init_15 0 rfl rfl)
theorem dX1_init_350 : decode cX1_init 350 = .ok (.newarray .int, 2) := dk_188_10 (dk_at dksX1_init_15 1 rfl rfl)
theorem dX1_init_352 : decode cX1_init 352 = .ok (.putfield 162, 3) := dk_181 0 162 (dk_at dksX1_init_15 3 rfl rfl)
theorem dX1_init_355 : decode cX1_init 355 = .ok (.aload_n 0, 1) := dk_42 (dk_at dksX1_init_15 6 rfl rfl)
theorem dX1_init_356 : decode cX1_init 356 = .ok (.sipush 2406, 3) := dk_17 9 102 (dk_at dksX1_init_15 7 rfl rfl)
theorem dX1_init_359 : decode cX1_init 359 = .ok (.newarray .int, 2) := dk_188_10 (dk_at dksX1_init_15 10 rfl rfl)
theorem dX1_init_361 : decode cX1_init 361 = .ok (.putfield 165, 3) := dk_181 0 165 (dk_at dksX1_init_15 12 rfl rfl)
theorem dX1_init_364 : decode cX1_init 364 = .ok (.aload_n 0, 1) := dk_42 (dk_at dksX1_init_15 15 rfl rfl)
theorem dX1_init_365 : decode cX1_init 365 = .ok (.iconst (-1), 1) := dk_2 (dk_at dksX1_init_15 16 rfl rfl)
theorem dX1_init_366 : decode cX1_init 366 = .ok (.putfield 168, 3) := dk_181 0 168 (dk_at dksX1_init_15 17 rfl rfl)
theorem dX1_init_369 : decode cX1_init 369 = .ok (.aload_n 0, 1) := dk_42 (dk_at dksX1_init_15 20 rfl rfl)
theorem dX1_init_370 : decode cX1_init 370 = .ok (.new 171, 3) := dk_187 0 171 (dk_at dksX1_init_15 21 rfl rfl)
theorem dX1_init_373 : decode cX1_init 373 = .ok (.dup, 1) := dk_89 (dk_at dksX1_init_16 0 rfl rfl)
theorem dX1_init_374 : decode cX1_init 374 = .ok (.aload_n 0, 1) := dk_42 (dk_at dksX1_init_16 1 rfl rfl)
theorem dX1_init_375 : decode cX1_init 375 = .ok (.invokespecial 173, 3) := dk_183 0 173 (dk_at dksX1_init_16 2 rfl rfl)
theorem dX1_init_378 : decode cX1_init 378 = .ok (.putfield 174, 3) := dk_181 0 174 (dk_at dksX1_init_16 5 rfl rfl)
theorem dX1_init_381 : decode cX1_init 381 = .ok (.aload_n 0, 1) := dk_42 (dk_at dksX1_init_16 8 rfl rfl)
theorem dX1_init_382 : decode cX1_init 382 = .ok (.iconst 2, 1) := dk_5 (dk_at dksX1_init_16 9 rfl rfl)
theorem dX1_init_383 : decode cX1_init 383 = .ok (.anewarray 63, 3) := dk_189 0 63 (dk_at dksX1_init_16 10 rfl rfl)
theorem dX1_init_386 : decode cX1_init 386 = .ok (.putfield 178, 3) := dk_181 0 178 (dk_at dksX1_init_16 13 rfl rfl)
theorem dX1_init_389 : decode cX1_init 389 = .ok (.aload_n 0, 1) := dk_42 (dk_at dksX1_init_16 16 rfl rfl)
theorem dX1_init_390 : decode cX1_init 390 = .ok (.iconst 2, 1) := dk_5 (dk_at dksX1_init_16 17 rfl rfl)
theorem dX1_init_391 : decode cX1_init 391 = .ok (.anewarray 70, 3) := dk_189 0 70 (dk_at dksX1_init_16 18 rfl rfl)
theorem dX1_init_394 : decode cX1_init 394 = .ok (.putfield 182, 3) := dk_181 0 182 (dk_at dksX1_init_16 21 rfl rfl)
theorem dX1_init_397 : decode cX1_init 397 = .ok (.aload_n 0, 1) := dk_42 (dk_at dksX1_init_17 0 rfl rfl)
theorem dX1_init_398 : decode cX1_init 398 = .ok (.iconst 2, 1) := dk_5 (dk_at dksX1_init_17 1 rfl rfl)
theorem dX1_init_399 : decode cX1_init 399 = .ok (.anewarray 185, 3) := dk_189 0 185 (dk_at dksX1_init_17 2 rfl rfl)
theorem dX1_init_402 : decode cX1_init 402 = .ok (.putfield 187, 3) := dk_181 0 187 (dk_at dksX1_init_17 5 rfl rfl)
theorem dX1_init_405 : decode cX1_init 405 = .ok (.return_, 1) := dk_177 (dk_at dksX1_init_17 8 rfl rfl)
abbrev cX1_feed : ByteArray := prog_1_method_2_code
def yX1_feed : MethodName := ⟨RX1, "feed", "(IIIII)I"⟩
def dkwX1_feed_2 : List UInt8 := [172]
abbrev dktX1_feed_2 : List UInt8 := dkwX1_feed_2 ++ []
def dkwX1_feed_1 : List UInt8 := [182, 0, 194, 42, 29, 182, 0, 194, 42, 21, 4, 182, 0, 194, 42, 21, 5, 182, 0, 194, 42, 180, 0, 191]
abbrev dktX1_feed_1 : List UInt8 := dkwX1_feed_1 ++ dktX1_feed_2
def dkwX1_feed_0 : List UInt8 := [42, 180, 0, 191, 16, 20, 96, 17, 2, 128, 164, 0, 5, 2, 172, 42, 27, 182, 0, 194, 42, 28]
abbrev dktX1_feed_0 : List UInt8 := dkwX1_feed_0 ++ dktX1_feed_1
theorem dksX1_feed_0 : cX1_feed.data.toList.drop 0 = dktX1_feed_0 := by decide +kernel
theorem dksX1_feed_1 : cX1_feed.data.toList.drop 22 = dktX1_feed_1 := dk_seg dksX1_feed_0 22 rfl rfl
theorem dksX1_feed_2 : cX1_feed.data.toList.drop 46 = dktX1_feed_2 := dk_seg dksX1_feed_1 24 rfl rfl
theorem dX1_feed_0 : decode cX1_feed 0 = .ok (.aload_n 0, 1) := dk_42 (dk_at dksX1_feed_0 0 rfl rfl)
theorem dX1_feed_1 : decode cX1_feed 1 = .ok (.getfield 191, 3) := dk_180 0 191 (dk_at dksX1_feed_0 1 rfl rfl)
theorem dX1_feed_4 : decode cX1_feed 4 = .ok (.bipush 20, 2) := dk_16 20 (dk_at dksX1_feed_0 4 rfl rfl)
theorem dX1_feed_6 : decode cX1_feed 6 = .ok (.iadd, 1) := dk_96 (dk_at dksX1_feed_0 6 rfl rfl)
theorem dX1_feed_7 : decode cX1_feed 7 = .ok (.sipush 640, 3) := dk_17 2 128 (dk_at dksX1_feed_0 7 rfl rfl)
theorem dX1_feed_10 : decode cX1_feed 10 = .ok (.if_icmp .le 5, 3) := dk_164 0 5 (dk_at dksX1_feed_0 10 rfl rfl)
theorem dX1_feed_13 : decode cX1_feed 13 = .ok (.iconst (-1), 1) := dk_2 (dk_at dksX1_feed_0 13 rfl rfl)
theorem dX1_feed_14 : decode cX1_feed 14 = .ok (.ireturn, 1) := dk_172 (dk_at dksX1_feed_0 14 rfl rfl)
theorem dX1_feed_15 : decode cX1_feed 15 = .ok (.aload_n 0, 1) := dk_42 (dk_at dksX1_feed_0 15 rfl rfl)
theorem dX1_feed_16 : decode cX1_feed 16 = .ok (.iload_n 1, 1) := dk_27 (dk_at dksX1_feed_0 16 rfl rfl)
theorem dX1_feed_17 : decode cX1_feed 17 = .ok (.invokevirtual 194, 3) := dk_182 0 194 (dk_at dksX1_feed_0 17 rfl rfl)
theorem dX1_feed_20 : decode cX1_feed 20 = .ok (.aload_n 0, 1) := dk_42 (dk_at dksX1_feed_0 20 rfl rfl)
theorem dX1_feed_21 : decode cX1_feed 21 = .ok (.iload_n 2, 1) := dk_28 (dk_at dksX1_feed_0 21 rfl rfl)
theorem dX1_feed_22 : decode cX1_feed 22 = .ok (.invokevirtual 194, 3) := dk_182 0 194 (dk_at dksX1_feed_1 0 rfl rfl)
theorem dX1_feed_25 : decode cX1_feed 25 = .ok (.aload_n 0, 1) := dk_42 (dk_at dksX1_feed_1 3 rfl rfl)
theorem dX1_feed_26 : decode cX1_feed 26 = .ok (.iload_n 3, 1) := dk_29 (dk_at dksX1_feed_1 4 rfl rfl)
theorem dX1_feed_27 : decode cX1_feed 27 = .ok (.invokevirtual 194, 3) := dk_182 0 194 (dk_at dksX1_feed_1 5 rfl rfl)
theorem dX1_feed_30 : decode cX1_feed 30 = .ok (.aload_n 0, 1) := dk_42 (dk_at dksX1_feed_1 8 rfl rfl)
theorem dX1_feed_31 : decode cX1_feed 31 = .ok (.iload 4, 2) := dk_21 4 (dk_at dksX1_feed_1 9 rfl rfl)
theorem dX1_feed_33 : decode cX1_feed 33 = .ok (.invokevirtual 194, 3) := dk_182 0 194 (dk_at dksX1_feed_1 11 rfl rfl)
theorem dX1_feed_36 : decode cX1_feed 36 = .ok (.aload_n 0, 1) := dk_42 (dk_at dksX1_feed_1 14 rfl rfl)
theorem dX1_feed_37 : decode cX1_feed 37 = .ok (.iload 5, 2) := dk_21 5 (dk_at dksX1_feed_1 15 rfl rfl)
theorem dX1_feed_39 : decode cX1_feed 39 = .ok (.invokevirtual 194, 3) := dk_182 0 194 (dk_at dksX1_feed_1 17 rfl rfl)
theorem dX1_feed_42 : decode cX1_feed 42 = .ok (.aload_n 0, 1) := dk_42 (dk_at dksX1_feed_1 20 rfl rfl)
theorem dX1_feed_43 : decode cX1_feed 43 = .ok (.getfield 191, 3) := dk_180 0 191 (dk_at dksX1_feed_1 21 rfl rfl)
theorem dX1_feed_46 : decode cX1_feed 46 = .ok (.ireturn, 1) := dk_172 (dk_at dksX1_feed_2 0 rfl rfl)
abbrev cX1_four : ByteArray := prog_1_method_3_code
def yX1_four : MethodName := ⟨RX1, "four", "(I)V"⟩
def dkwX1_four_1 : List UInt8 := [180, 0, 191, 4, 96, 181, 0, 191, 132, 2, 248, 167, 255, 226, 177]
abbrev dktX1_four_1 : List UInt8 := dkwX1_four_1 ++ []
def dkwX1_four_0 : List UInt8 := [16, 24, 61, 28, 155, 0, 32, 42, 180, 0, 9, 42, 180, 0, 191, 27, 28, 122, 145, 84, 42, 89]
abbrev dktX1_four_0 : List UInt8 := dkwX1_four_0 ++ dktX1_four_1
theorem dksX1_four_0 : cX1_four.data.toList.drop 0 = dktX1_four_0 := by decide +kernel
theorem dksX1_four_1 : cX1_four.data.toList.drop 22 = dktX1_four_1 := dk_seg dksX1_four_0 22 rfl rfl
theorem dX1_four_0 : decode cX1_four 0 = .ok (.bipush 24, 2) := dk_16 24 (dk_at dksX1_four_0 0 rfl rfl)
theorem dX1_four_2 : decode cX1_four 2 = .ok (.istore_n 2, 1) := dk_61 (dk_at dksX1_four_0 2 rfl rfl)
theorem dX1_four_3 : decode cX1_four 3 = .ok (.iload_n 2, 1) := dk_28 (dk_at dksX1_four_0 3 rfl rfl)
theorem dX1_four_4 : decode cX1_four 4 = .ok (.ifCond .lt 32, 3) := dk_155 0 32 (dk_at dksX1_four_0 4 rfl rfl)
theorem dX1_four_7 : decode cX1_four 7 = .ok (.aload_n 0, 1) := dk_42 (dk_at dksX1_four_0 7 rfl rfl)
theorem dX1_four_8 : decode cX1_four 8 = .ok (.getfield 9, 3) := dk_180 0 9 (dk_at dksX1_four_0 8 rfl rfl)
theorem dX1_four_11 : decode cX1_four 11 = .ok (.aload_n 0, 1) := dk_42 (dk_at dksX1_four_0 11 rfl rfl)
theorem dX1_four_12 : decode cX1_four 12 = .ok (.getfield 191, 3) := dk_180 0 191 (dk_at dksX1_four_0 12 rfl rfl)
theorem dX1_four_15 : decode cX1_four 15 = .ok (.iload_n 1, 1) := dk_27 (dk_at dksX1_four_0 15 rfl rfl)
theorem dX1_four_16 : decode cX1_four 16 = .ok (.iload_n 2, 1) := dk_28 (dk_at dksX1_four_0 16 rfl rfl)
theorem dX1_four_17 : decode cX1_four 17 = .ok (.ishr, 1) := dk_122 (dk_at dksX1_four_0 17 rfl rfl)
theorem dX1_four_18 : decode cX1_four 18 = .ok (.i2b, 1) := dk_145 (dk_at dksX1_four_0 18 rfl rfl)
theorem dX1_four_19 : decode cX1_four 19 = .ok (.bastore, 1) := dk_84 (dk_at dksX1_four_0 19 rfl rfl)
theorem dX1_four_20 : decode cX1_four 20 = .ok (.aload_n 0, 1) := dk_42 (dk_at dksX1_four_0 20 rfl rfl)
theorem dX1_four_21 : decode cX1_four 21 = .ok (.dup, 1) := dk_89 (dk_at dksX1_four_0 21 rfl rfl)
theorem dX1_four_22 : decode cX1_four 22 = .ok (.getfield 191, 3) := dk_180 0 191 (dk_at dksX1_four_1 0 rfl rfl)
theorem dX1_four_25 : decode cX1_four 25 = .ok (.iconst 1, 1) := dk_4 (dk_at dksX1_four_1 3 rfl rfl)
theorem dX1_four_26 : decode cX1_four 26 = .ok (.iadd, 1) := dk_96 (dk_at dksX1_four_1 4 rfl rfl)
theorem dX1_four_27 : decode cX1_four 27 = .ok (.putfield 191, 3) := dk_181 0 191 (dk_at dksX1_four_1 5 rfl rfl)
theorem dX1_four_30 : decode cX1_four 30 = .ok (.iinc 2 (-8), 3) := dk_132 2 248 (dk_at dksX1_four_1 8 rfl rfl)
theorem dX1_four_33 : decode cX1_four 33 = .ok (.goto (-30), 3) := dk_167 255 226 (dk_at dksX1_four_1 11 rfl rfl)
theorem dX1_four_36 : decode cX1_four 36 = .ok (.return_, 1) := dk_177 (dk_at dksX1_four_1 14 rfl rfl)
abbrev cX1_end : ByteArray := prog_1_method_4_code
def yX1_end : MethodName := ⟨RX1, "end", "(I)Z"⟩
def dkwX1_end_0 : List UInt8 := [27, 155, 0, 11, 27, 42, 180, 0, 191, 164, 0, 5, 3, 172, 42, 27, 181, 0, 191, 4, 172]
abbrev dktX1_end_0 : List UInt8 := dkwX1_end_0 ++ []
theorem dksX1_end_0 : cX1_end.data.toList.drop 0 = dktX1_end_0 := by decide +kernel
theorem dX1_end_0 : decode cX1_end 0 = .ok (.iload_n 1, 1) := dk_27 (dk_at dksX1_end_0 0 rfl rfl)
theorem dX1_end_1 : decode cX1_end 1 = .ok (.ifCond .lt 11, 3) := dk_155 0 11 (dk_at dksX1_end_0 1 rfl rfl)
theorem dX1_end_4 : decode cX1_end 4 = .ok (.iload_n 1, 1) := dk_27 (dk_at dksX1_end_0 4 rfl rfl)
theorem dX1_end_5 : decode cX1_end 5 = .ok (.aload_n 0, 1) := dk_42 (dk_at dksX1_end_0 5 rfl rfl)
theorem dX1_end_6 : decode cX1_end 6 = .ok (.getfield 191, 3) := dk_180 0 191 (dk_at dksX1_end_0 6 rfl rfl)
theorem dX1_end_9 : decode cX1_end 9 = .ok (.if_icmp .le 5, 3) := dk_164 0 5 (dk_at dksX1_end_0 9 rfl rfl)
theorem dX1_end_12 : decode cX1_end 12 = .ok (.iconst 0, 1) := dk_3 (dk_at dksX1_end_0 12 rfl rfl)
theorem dX1_end_13 : decode cX1_end 13 = .ok (.ireturn, 1) := dk_172 (dk_at dksX1_end_0 13 rfl rfl)
theorem dX1_end_14 : decode cX1_end 14 = .ok (.aload_n 0, 1) := dk_42 (dk_at dksX1_end_0 14 rfl rfl)
theorem dX1_end_15 : decode cX1_end 15 = .ok (.iload_n 1, 1) := dk_27 (dk_at dksX1_end_0 15 rfl rfl)
theorem dX1_end_16 : decode cX1_end 16 = .ok (.putfield 191, 3) := dk_181 0 191 (dk_at dksX1_end_0 16 rfl rfl)
theorem dX1_end_19 : decode cX1_end 19 = .ok (.iconst 1, 1) := dk_4 (dk_at dksX1_end_0 19 rfl rfl)
theorem dX1_end_20 : decode cX1_end 20 = .ok (.ireturn, 1) := dk_172 (dk_at dksX1_end_0 20 rfl rfl)
abbrev cX1_kitchen : ByteArray := prog_1_method_10_code
def yX1_kitchen : MethodName := ⟨RX1, "kitchen", "()I"⟩
def dkwX1_kitchen_2 : List UInt8 := [181, 0, 218, 28, 172, 77, 42, 44, 180, 0, 222, 181, 0, 206, 2, 44, 180, 0, 225, 100, 172]
abbrev dktX1_kitchen_2 : List UInt8 := dkwX1_kitchen_2 ++ []
def dkwX1_kitchen_1 : List UInt8 := [182, 0, 209, 61, 42, 43, 181, 0, 66, 42, 180, 0, 73, 3, 181, 0, 213, 42, 3, 181, 0, 215, 42, 1]
abbrev dktX1_kitchen_1 : List UInt8 := dkwX1_kitchen_1 ++ dktX1_kitchen_2
def dkwX1_kitchen_0 : List UInt8 := [42, 182, 0, 204, 42, 3, 181, 0, 206, 187, 0, 63, 89, 183, 0, 65, 76, 42, 180, 0, 85, 43]
abbrev dktX1_kitchen_0 : List UInt8 := dkwX1_kitchen_0 ++ dktX1_kitchen_1
theorem dksX1_kitchen_0 : cX1_kitchen.data.toList.drop 0 = dktX1_kitchen_0 := by decide +kernel
theorem dksX1_kitchen_1 : cX1_kitchen.data.toList.drop 22 = dktX1_kitchen_1 := dk_seg dksX1_kitchen_0 22 rfl rfl
theorem dksX1_kitchen_2 : cX1_kitchen.data.toList.drop 46 = dktX1_kitchen_2 := dk_seg dksX1_kitchen_1 24 rfl rfl
theorem dX1_kitchen_0 : decode cX1_kitchen 0 = .ok (.aload_n 0, 1) := dk_42 (dk_at dksX1_kitchen_0 0 rfl rfl)
theorem dX1_kitchen_1 : decode cX1_kitchen 1 = .ok (.invokevirtual 204, 3) := dk_182 0 204 (dk_at dksX1_kitchen_0 1 rfl rfl)
theorem dX1_kitchen_4 : decode cX1_kitchen 4 = .ok (.aload_n 0, 1) := dk_42 (dk_at dksX1_kitchen_0 4 rfl rfl)
theorem dX1_kitchen_5 : decode cX1_kitchen 5 = .ok (.iconst 0, 1) := dk_3 (dk_at dksX1_kitchen_0 5 rfl rfl)
theorem dX1_kitchen_6 : decode cX1_kitchen 6 = .ok (.putfield 206, 3) := dk_181 0 206 (dk_at dksX1_kitchen_0 6 rfl rfl)
theorem dX1_kitchen_9 : decode cX1_kitchen 9 = .ok (.new 63, 3) := dk_187 0 63 (dk_at dksX1_kitchen_0 9 rfl rfl)
theorem dX1_kitchen_12 : decode cX1_kitchen 12 = .ok (.dup, 1) := dk_89 (dk_at dksX1_kitchen_0 12 rfl rfl)
theorem dX1_kitchen_13 : decode cX1_kitchen 13 = .ok (.invokespecial 65, 3) := dk_183 0 65 (dk_at dksX1_kitchen_0 13 rfl rfl)
theorem dX1_kitchen_16 : decode cX1_kitchen 16 = .ok (.astore_n 1, 1) := dk_76 (dk_at dksX1_kitchen_0 16 rfl rfl)
theorem dX1_kitchen_17 : decode cX1_kitchen 17 = .ok (.aload_n 0, 1) := dk_42 (dk_at dksX1_kitchen_0 17 rfl rfl)
theorem dX1_kitchen_18 : decode cX1_kitchen 18 = .ok (.getfield 85, 3) := dk_180 0 85 (dk_at dksX1_kitchen_0 18 rfl rfl)
theorem dX1_kitchen_21 : decode cX1_kitchen 21 = .ok (.aload_n 1, 1) := dk_43 (dk_at dksX1_kitchen_0 21 rfl rfl)
theorem dX1_kitchen_22 : decode cX1_kitchen 22 = .ok (.invokevirtual 209, 3) := dk_182 0 209 (dk_at dksX1_kitchen_1 0 rfl rfl)
theorem dX1_kitchen_25 : decode cX1_kitchen 25 = .ok (.istore_n 2, 1) := dk_61 (dk_at dksX1_kitchen_1 3 rfl rfl)
theorem dX1_kitchen_26 : decode cX1_kitchen 26 = .ok (.aload_n 0, 1) := dk_42 (dk_at dksX1_kitchen_1 4 rfl rfl)
theorem dX1_kitchen_27 : decode cX1_kitchen 27 = .ok (.aload_n 1, 1) := dk_43 (dk_at dksX1_kitchen_1 5 rfl rfl)
theorem dX1_kitchen_28 : decode cX1_kitchen 28 = .ok (.putfield 66, 3) := dk_181 0 66 (dk_at dksX1_kitchen_1 6 rfl rfl)
theorem dX1_kitchen_31 : decode cX1_kitchen 31 = .ok (.aload_n 0, 1) := dk_42 (dk_at dksX1_kitchen_1 9 rfl rfl)
theorem dX1_kitchen_32 : decode cX1_kitchen 32 = .ok (.getfield 73, 3) := dk_180 0 73 (dk_at dksX1_kitchen_1 10 rfl rfl)
theorem dX1_kitchen_35 : decode cX1_kitchen 35 = .ok (.iconst 0, 1) := dk_3 (dk_at dksX1_kitchen_1 13 rfl rfl)
theorem dX1_kitchen_36 : decode cX1_kitchen 36 = .ok (.putfield 213, 3) := dk_181 0 213 (dk_at dksX1_kitchen_1 14 rfl rfl)
theorem dX1_kitchen_39 : decode cX1_kitchen 39 = .ok (.aload_n 0, 1) := dk_42 (dk_at dksX1_kitchen_1 17 rfl rfl)
theorem dX1_kitchen_40 : decode cX1_kitchen 40 = .ok (.iconst 0, 1) := dk_3 (dk_at dksX1_kitchen_1 18 rfl rfl)
theorem dX1_kitchen_41 : decode cX1_kitchen 41 = .ok (.putfield 215, 3) := dk_181 0 215 (dk_at dksX1_kitchen_1 19 rfl rfl)
theorem dX1_kitchen_44 : decode cX1_kitchen 44 = .ok (.aload_n 0, 1) := dk_42 (dk_at dksX1_kitchen_1 22 rfl rfl)
theorem dX1_kitchen_45 : decode cX1_kitchen 45 = .ok (.aconst_null, 1) := dk_1 (dk_at dksX1_kitchen_1 23 rfl rfl)
theorem dX1_kitchen_46 : decode cX1_kitchen 46 = .ok (.putfield 218, 3) := dk_181 0 218 (dk_at dksX1_kitchen_2 0 rfl rfl)
theorem dX1_kitchen_49 : decode cX1_kitchen 49 = .ok (.iload_n 2, 1) := dk_28 (dk_at dksX1_kitchen_2 3 rfl rfl)
theorem dX1_kitchen_50 : decode cX1_kitchen 50 = .ok (.ireturn, 1) := dk_172 (dk_at dksX1_kitchen_2 4 rfl rfl)
theorem dX1_kitchen_51 : decode cX1_kitchen 51 = .ok (.astore_n 2, 1) := dk_77 (dk_at dksX1_kitchen_2 5 rfl rfl)
theorem dX1_kitchen_52 : decode cX1_kitchen 52 = .ok (.aload_n 0, 1) := dk_42 (dk_at dksX1_kitchen_2 6 rfl rfl)
theorem dX1_kitchen_53 : decode cX1_kitchen 53 = .ok (.aload_n 2, 1) := dk_44 (dk_at dksX1_kitchen_2 7 rfl rfl)
theorem dX1_kitchen_54 : decode cX1_kitchen 54 = .ok (.getfield 222, 3) := dk_180 0 222 (dk_at dksX1_kitchen_2 8 rfl rfl)
theorem dX1_kitchen_57 : decode cX1_kitchen 57 = .ok (.putfield 206, 3) := dk_181 0 206 (dk_at dksX1_kitchen_2 11 rfl rfl)
theorem dX1_kitchen_60 : decode cX1_kitchen 60 = .ok (.iconst (-1), 1) := dk_2 (dk_at dksX1_kitchen_2 14 rfl rfl)
theorem dX1_kitchen_61 : decode cX1_kitchen 61 = .ok (.aload_n 2, 1) := dk_44 (dk_at dksX1_kitchen_2 15 rfl rfl)
theorem dX1_kitchen_62 : decode cX1_kitchen 62 = .ok (.getfield 225, 3) := dk_180 0 225 (dk_at dksX1_kitchen_2 16 rfl rfl)
theorem dX1_kitchen_65 : decode cX1_kitchen 65 = .ok (.isub, 1) := dk_100 (dk_at dksX1_kitchen_2 19 rfl rfl)
theorem dX1_kitchen_66 : decode cX1_kitchen 66 = .ok (.ireturn, 1) := dk_172 (dk_at dksX1_kitchen_2 20 rfl rfl)
abbrev cX1_taken : ByteArray := prog_1_method_5_code
def yX1_taken : MethodName := ⟨RX1, "taken", "()V"⟩
def dkwX1_taken_0 : List UInt8 := [42, 42, 180, 0, 191, 181, 0, 198, 42, 3, 181, 0, 191, 177]
abbrev dktX1_taken_0 : List UInt8 := dkwX1_taken_0 ++ []
theorem dksX1_taken_0 : cX1_taken.data.toList.drop 0 = dktX1_taken_0 := by decide +kernel
theorem dX1_taken_0 : decode cX1_taken 0 = .ok (.aload_n 0, 1) := dk_42 (dk_at dksX1_taken_0 0 rfl rfl)
theorem dX1_taken_1 : decode cX1_taken 1 = .ok (.aload_n 0, 1) := dk_42 (dk_at dksX1_taken_0 1 rfl rfl)
theorem dX1_taken_2 : decode cX1_taken 2 = .ok (.getfield 191, 3) := dk_180 0 191 (dk_at dksX1_taken_0 2 rfl rfl)
theorem dX1_taken_5 : decode cX1_taken 5 = .ok (.putfield 198, 3) := dk_181 0 198 (dk_at dksX1_taken_0 5 rfl rfl)
theorem dX1_taken_8 : decode cX1_taken 8 = .ok (.aload_n 0, 1) := dk_42 (dk_at dksX1_taken_0 8 rfl rfl)
theorem dX1_taken_9 : decode cX1_taken 9 = .ok (.iconst 0, 1) := dk_3 (dk_at dksX1_taken_0 9 rfl rfl)
theorem dX1_taken_10 : decode cX1_taken 10 = .ok (.putfield 191, 3) := dk_181 0 191 (dk_at dksX1_taken_0 10 rfl rfl)
theorem dX1_taken_13 : decode cX1_taken 13 = .ok (.return_, 1) := dk_177 (dk_at dksX1_taken_0 13 rfl rfl)
abbrev cX1_isIn : ByteArray := prog_1_method_7_code
def yX1_isIn : MethodName := ⟨RX1, "isIn", "(III)Z"⟩
def dkwX1_isIn_0 : List UInt8 := [26, 27, 161, 0, 12, 26, 28, 163, 0, 7, 4, 167, 0, 4, 3, 172]
abbrev dktX1_isIn_0 : List UInt8 := dkwX1_isIn_0 ++ []
theorem dksX1_isIn_0 : cX1_isIn.data.toList.drop 0 = dktX1_isIn_0 := by decide +kernel
theorem dX1_isIn_0 : decode cX1_isIn 0 = .ok (.iload_n 0, 1) := dk_26 (dk_at dksX1_isIn_0 0 rfl rfl)
theorem dX1_isIn_1 : decode cX1_isIn 1 = .ok (.iload_n 1, 1) := dk_27 (dk_at dksX1_isIn_0 1 rfl rfl)
theorem dX1_isIn_2 : decode cX1_isIn 2 = .ok (.if_icmp .lt 12, 3) := dk_161 0 12 (dk_at dksX1_isIn_0 2 rfl rfl)
theorem dX1_isIn_5 : decode cX1_isIn 5 = .ok (.iload_n 0, 1) := dk_26 (dk_at dksX1_isIn_0 5 rfl rfl)
theorem dX1_isIn_6 : decode cX1_isIn 6 = .ok (.iload_n 2, 1) := dk_28 (dk_at dksX1_isIn_0 6 rfl rfl)
theorem dX1_isIn_7 : decode cX1_isIn 7 = .ok (.if_icmp .gt 7, 3) := dk_163 0 7 (dk_at dksX1_isIn_0 7 rfl rfl)
theorem dX1_isIn_10 : decode cX1_isIn 10 = .ok (.iconst 1, 1) := dk_4 (dk_at dksX1_isIn_0 10 rfl rfl)
theorem dX1_isIn_11 : decode cX1_isIn 11 = .ok (.goto 4, 3) := dk_167 0 4 (dk_at dksX1_isIn_0 11 rfl rfl)
theorem dX1_isIn_14 : decode cX1_isIn 14 = .ok (.iconst 0, 1) := dk_3 (dk_at dksX1_isIn_0 14 rfl rfl)
theorem dX1_isIn_15 : decode cX1_isIn 15 = .ok (.ireturn, 1) := dk_172 (dk_at dksX1_isIn_0 15 rfl rfl)
abbrev cX1_has : ByteArray := prog_1_method_9_code
def yX1_has : MethodName := ⟨RX1, "has", "(II)Z"⟩
def dkwX1_has_0 : List UInt8 := [26, 27, 122, 4, 126, 4, 160, 0, 7, 4, 167, 0, 4, 3, 172]
abbrev dktX1_has_0 : List UInt8 := dkwX1_has_0 ++ []
theorem dksX1_has_0 : cX1_has.data.toList.drop 0 = dktX1_has_0 := by decide +kernel
theorem dX1_has_0 : decode cX1_has 0 = .ok (.iload_n 0, 1) := dk_26 (dk_at dksX1_has_0 0 rfl rfl)
theorem dX1_has_1 : decode cX1_has 1 = .ok (.iload_n 1, 1) := dk_27 (dk_at dksX1_has_0 1 rfl rfl)
theorem dX1_has_2 : decode cX1_has 2 = .ok (.ishr, 1) := dk_122 (dk_at dksX1_has_0 2 rfl rfl)
theorem dX1_has_3 : decode cX1_has 3 = .ok (.iconst 1, 1) := dk_4 (dk_at dksX1_has_0 3 rfl rfl)
theorem dX1_has_4 : decode cX1_has 4 = .ok (.iand, 1) := dk_126 (dk_at dksX1_has_0 4 rfl rfl)
theorem dX1_has_5 : decode cX1_has 5 = .ok (.iconst 1, 1) := dk_4 (dk_at dksX1_has_0 5 rfl rfl)
theorem dX1_has_6 : decode cX1_has 6 = .ok (.if_icmp .ne 7, 3) := dk_160 0 7 (dk_at dksX1_has_0 6 rfl rfl)
theorem dX1_has_9 : decode cX1_has 9 = .ok (.iconst 1, 1) := dk_4 (dk_at dksX1_has_0 9 rfl rfl)
theorem dX1_has_10 : decode cX1_has 10 = .ok (.goto 4, 3) := dk_167 0 4 (dk_at dksX1_has_0 10 rfl rfl)
theorem dX1_has_13 : decode cX1_has 13 = .ok (.iconst 0, 1) := dk_3 (dk_at dksX1_has_0 13 rfl rfl)
theorem dX1_has_14 : decode cX1_has 14 = .ok (.ireturn, 1) := dk_172 (dk_at dksX1_has_0 14 rfl rfl)
abbrev cX1_fault : ByteArray := prog_1_method_11_code
def yX1_fault : MethodName := ⟨RX1, "fault", "()I"⟩
theorem dX1_fault_0 : decode cX1_fault 0 = .ok (.aload_n 0, 1) := by decide +kernel
theorem dX1_fault_1 : decode cX1_fault 1 = .ok (.getfield 206, 3) := by decide +kernel
theorem dX1_fault_4 : decode cX1_fault 4 = .ok (.ireturn, 1) := by decide +kernel
abbrev cX1_plan : ByteArray := prog_1_method_16_code
def yX1_plan : MethodName := ⟨RX1, "plan", "()I"⟩
def dkwX1_plan_2 : List UInt8 := [180, 0, 222, 181, 0, 206, 2, 43, 180, 0, 225, 100, 172]
abbrev dktX1_plan_2 : List UInt8 := dkwX1_plan_2 ++ []
def dkwX1_plan_1 : List UInt8 := [42, 180, 0, 73, 42, 180, 0, 77, 182, 1, 17, 42, 180, 0, 73, 180, 0, 213, 172, 76, 42, 43]
abbrev dktX1_plan_1 : List UInt8 := dkwX1_plan_1 ++ dktX1_plan_2
def dkwX1_plan_0 : List UInt8 := [42, 182, 0, 204, 42, 3, 181, 0, 206, 42, 180, 0, 92, 42, 180, 0, 77, 182, 1, 11, 42, 182, 1, 14]
abbrev dktX1_plan_0 : List UInt8 := dkwX1_plan_0 ++ dktX1_plan_1
theorem dksX1_plan_0 : cX1_plan.data.toList.drop 0 = dktX1_plan_0 := by decide +kernel
theorem dksX1_plan_1 : cX1_plan.data.toList.drop 24 = dktX1_plan_1 := dk_seg dksX1_plan_0 24 rfl rfl
theorem dksX1_plan_2 : cX1_plan.data.toList.drop 46 = dktX1_plan_2 := dk_seg dksX1_plan_1 22 rfl rfl
theorem dX1_plan_0 : decode cX1_plan 0 = .ok (.aload_n 0, 1) := dk_42 (dk_at dksX1_plan_0 0 rfl rfl)
theorem dX1_plan_1 : decode cX1_plan 1 = .ok (.invokevirtual 204, 3) := dk_182 0 204 (dk_at dksX1_plan_0 1 rfl rfl)
theorem dX1_plan_4 : decode cX1_plan 4 = .ok (.aload_n 0, 1) := dk_42 (dk_at dksX1_plan_0 4 rfl rfl)
theorem dX1_plan_5 : decode cX1_plan 5 = .ok (.iconst 0, 1) := dk_3 (dk_at dksX1_plan_0 5 rfl rfl)
theorem dX1_plan_6 : decode cX1_plan 6 = .ok (.putfield 206, 3) := dk_181 0 206 (dk_at dksX1_plan_0 6 rfl rfl)
theorem dX1_plan_9 : decode cX1_plan 9 = .ok (.aload_n 0, 1) := dk_42 (dk_at dksX1_plan_0 9 rfl rfl)
theorem dX1_plan_10 : decode cX1_plan 10 = .ok (.getfield 92, 3) := dk_180 0 92 (dk_at dksX1_plan_0 10 rfl rfl)
theorem dX1_plan_13 : decode cX1_plan 13 = .ok (.aload_n 0, 1) := dk_42 (dk_at dksX1_plan_0 13 rfl rfl)
theorem dX1_plan_14 : decode cX1_plan 14 = .ok (.getfield 77, 3) := dk_180 0 77 (dk_at dksX1_plan_0 14 rfl rfl)
theorem dX1_plan_17 : decode cX1_plan 17 = .ok (.invokevirtual 267, 3) := dk_182 1 11 (dk_at dksX1_plan_0 17 rfl rfl)
theorem dX1_plan_20 : decode cX1_plan 20 = .ok (.aload_n 0, 1) := dk_42 (dk_at dksX1_plan_0 20 rfl rfl)
theorem dX1_plan_21 : decode cX1_plan 21 = .ok (.invokevirtual 270, 3) := dk_182 1 14 (dk_at dksX1_plan_0 21 rfl rfl)
theorem dX1_plan_24 : decode cX1_plan 24 = .ok (.aload_n 0, 1) := dk_42 (dk_at dksX1_plan_1 0 rfl rfl)
theorem dX1_plan_25 : decode cX1_plan 25 = .ok (.getfield 73, 3) := dk_180 0 73 (dk_at dksX1_plan_1 1 rfl rfl)
theorem dX1_plan_28 : decode cX1_plan 28 = .ok (.aload_n 0, 1) := dk_42 (dk_at dksX1_plan_1 4 rfl rfl)
theorem dX1_plan_29 : decode cX1_plan 29 = .ok (.getfield 77, 3) := dk_180 0 77 (dk_at dksX1_plan_1 5 rfl rfl)
theorem dX1_plan_32 : decode cX1_plan 32 = .ok (.invokevirtual 273, 3) := dk_182 1 17 (dk_at dksX1_plan_1 8 rfl rfl)
theorem dX1_plan_35 : decode cX1_plan 35 = .ok (.aload_n 0, 1) := dk_42 (dk_at dksX1_plan_1 11 rfl rfl)
theorem dX1_plan_36 : decode cX1_plan 36 = .ok (.getfield 73, 3) := dk_180 0 73 (dk_at dksX1_plan_1 12 rfl rfl)
theorem dX1_plan_39 : decode cX1_plan 39 = .ok (.getfield 213, 3) := dk_180 0 213 (dk_at dksX1_plan_1 15 rfl rfl)
theorem dX1_plan_42 : decode cX1_plan 42 = .ok (.ireturn, 1) := dk_172 (dk_at dksX1_plan_1 18 rfl rfl)
theorem dX1_plan_43 : decode cX1_plan 43 = .ok (.astore_n 1, 1) := dk_76 (dk_at dksX1_plan_1 19 rfl rfl)
theorem dX1_plan_44 : decode cX1_plan 44 = .ok (.aload_n 0, 1) := dk_42 (dk_at dksX1_plan_1 20 rfl rfl)
theorem dX1_plan_45 : decode cX1_plan 45 = .ok (.aload_n 1, 1) := dk_43 (dk_at dksX1_plan_1 21 rfl rfl)
theorem dX1_plan_46 : decode cX1_plan 46 = .ok (.getfield 222, 3) := dk_180 0 222 (dk_at dksX1_plan_2 0 rfl rfl)
theorem dX1_plan_49 : decode cX1_plan 49 = .ok (.putfield 206, 3) := dk_181 0 206 (dk_at dksX1_plan_2 3 rfl rfl)
theorem dX1_plan_52 : decode cX1_plan 52 = .ok (.iconst (-1), 1) := dk_2 (dk_at dksX1_plan_2 6 rfl rfl)
theorem dX1_plan_53 : decode cX1_plan 53 = .ok (.aload_n 1, 1) := dk_43 (dk_at dksX1_plan_2 7 rfl rfl)
theorem dX1_plan_54 : decode cX1_plan 54 = .ok (.getfield 225, 3) := dk_180 0 225 (dk_at dksX1_plan_2 8 rfl rfl)
theorem dX1_plan_57 : decode cX1_plan 57 = .ok (.isub, 1) := dk_100 (dk_at dksX1_plan_2 11 rfl rfl)
theorem dX1_plan_58 : decode cX1_plan 58 = .ok (.ireturn, 1) := dk_172 (dk_at dksX1_plan_2 12 rfl rfl)
abbrev cX1_keep : ByteArray := prog_1_method_29_code
def yX1_keep : MethodName := ⟨RX1, "keep", "()V"⟩
def dkwX1_keep_4 : List UInt8 := [180, 0, 103, 42, 180, 0, 215, 43, 83, 42, 89, 180, 0, 215, 4, 96, 181, 0, 215, 177]
abbrev dktX1_keep_4 : List UInt8 := dkwX1_keep_4 ++ []
def dkwX1_keep_3 : List UInt8 := [16, 7, 184, 1, 70, 42, 89, 180, 0, 215, 4, 100, 181, 0, 215, 43, 42, 180, 0, 73, 182, 1, 17, 42]
abbrev dktX1_keep_3 : List UInt8 := dkwX1_keep_3 ++ dktX1_keep_4
def dkwX1_keep_2 : List UInt8 := [180, 0, 215, 50, 76, 42, 180, 0, 215, 16, 8, 160, 0, 28, 42, 180, 0, 103, 4, 42, 180, 0, 103, 3]
abbrev dktX1_keep_2 : List UInt8 := dkwX1_keep_2 ++ dktX1_keep_3
def dkwX1_keep_1 : List UInt8 := [180, 0, 215, 50, 199, 0, 13, 187, 0, 70, 89, 183, 0, 72, 167, 0, 12, 42, 180, 0, 103, 42]
abbrev dktX1_keep_1 : List UInt8 := dkwX1_keep_1 ++ dktX1_keep_2
def dkwX1_keep_0 : List UInt8 := [42, 180, 0, 215, 16, 8, 160, 0, 12, 42, 180, 0, 103, 3, 50, 167, 0, 34, 42, 180, 0, 103, 42]
abbrev dktX1_keep_0 : List UInt8 := dkwX1_keep_0 ++ dktX1_keep_1
theorem dksX1_keep_0 : cX1_keep.data.toList.drop 0 = dktX1_keep_0 := by decide +kernel
theorem dksX1_keep_1 : cX1_keep.data.toList.drop 23 = dktX1_keep_1 := dk_seg dksX1_keep_0 23 rfl rfl
theorem dksX1_keep_2 : cX1_keep.data.toList.drop 45 = dktX1_keep_2 := dk_seg dksX1_keep_1 22 rfl rfl
theorem dksX1_keep_3 : cX1_keep.data.toList.drop 69 = dktX1_keep_3 := dk_seg dksX1_keep_2 24 rfl rfl
theorem dksX1_keep_4 : cX1_keep.data.toList.drop 93 = dktX1_keep_4 := dk_seg dksX1_keep_3 24 rfl rfl
theorem dX1_keep_0 : decode cX1_keep 0 = .ok (.aload_n 0, 1) := dk_42 (dk_at dksX1_keep_0 0 rfl rfl)
theorem dX1_keep_1 : decode cX1_keep 1 = .ok (.getfield 215, 3) := dk_180 0 215 (dk_at dksX1_keep_0 1 rfl rfl)
theorem dX1_keep_4 : decode cX1_keep 4 = .ok (.bipush 8, 2) := dk_16 8 (dk_at dksX1_keep_0 4 rfl rfl)
theorem dX1_keep_6 : decode cX1_keep 6 = .ok (.if_icmp .ne 12, 3) := dk_160 0 12 (dk_at dksX1_keep_0 6 rfl rfl)
theorem dX1_keep_9 : decode cX1_keep 9 = .ok (.aload_n 0, 1) := dk_42 (dk_at dksX1_keep_0 9 rfl rfl)
theorem dX1_keep_10 : decode cX1_keep 10 = .ok (.getfield 103, 3) := dk_180 0 103 (dk_at dksX1_keep_0 10 rfl rfl)
theorem dX1_keep_13 : decode cX1_keep 13 = .ok (.iconst 0, 1) := dk_3 (dk_at dksX1_keep_0 13 rfl rfl)
theorem dX1_keep_14 : decode cX1_keep 14 = .ok (.aaload, 1) := dk_50 (dk_at dksX1_keep_0 14 rfl rfl)
theorem dX1_keep_15 : decode cX1_keep 15 = .ok (.goto 34, 3) := dk_167 0 34 (dk_at dksX1_keep_0 15 rfl rfl)
theorem dX1_keep_18 : decode cX1_keep 18 = .ok (.aload_n 0, 1) := dk_42 (dk_at dksX1_keep_0 18 rfl rfl)
theorem dX1_keep_19 : decode cX1_keep 19 = .ok (.getfield 103, 3) := dk_180 0 103 (dk_at dksX1_keep_0 19 rfl rfl)
theorem dX1_keep_22 : decode cX1_keep 22 = .ok (.aload_n 0, 1) := dk_42 (dk_at dksX1_keep_0 22 rfl rfl)
theorem dX1_keep_23 : decode cX1_keep 23 = .ok (.getfield 215, 3) := dk_180 0 215 (dk_at dksX1_keep_1 0 rfl rfl)
theorem dX1_keep_26 : decode cX1_keep 26 = .ok (.aaload, 1) := dk_50 (dk_at dksX1_keep_1 3 rfl rfl)
theorem dX1_keep_27 : decode cX1_keep 27 = .ok (.ifnonnull 13, 3) := dk_199 0 13 (dk_at dksX1_keep_1 4 rfl rfl)
theorem dX1_keep_30 : decode cX1_keep 30 = .ok (.new 70, 3) := dk_187 0 70 (dk_at dksX1_keep_1 7 rfl rfl)
theorem dX1_keep_33 : decode cX1_keep 33 = .ok (.dup, 1) := dk_89 (dk_at dksX1_keep_1 10 rfl rfl)
theorem dX1_keep_34 : decode cX1_keep 34 = .ok (.invokespecial 72, 3) := dk_183 0 72 (dk_at dksX1_keep_1 11 rfl rfl)
theorem dX1_keep_37 : decode cX1_keep 37 = .ok (.goto 12, 3) := dk_167 0 12 (dk_at dksX1_keep_1 14 rfl rfl)
theorem dX1_keep_40 : decode cX1_keep 40 = .ok (.aload_n 0, 1) := dk_42 (dk_at dksX1_keep_1 17 rfl rfl)
theorem dX1_keep_41 : decode cX1_keep 41 = .ok (.getfield 103, 3) := dk_180 0 103 (dk_at dksX1_keep_1 18 rfl rfl)
theorem dX1_keep_44 : decode cX1_keep 44 = .ok (.aload_n 0, 1) := dk_42 (dk_at dksX1_keep_1 21 rfl rfl)
theorem dX1_keep_45 : decode cX1_keep 45 = .ok (.getfield 215, 3) := dk_180 0 215 (dk_at dksX1_keep_2 0 rfl rfl)
theorem dX1_keep_48 : decode cX1_keep 48 = .ok (.aaload, 1) := dk_50 (dk_at dksX1_keep_2 3 rfl rfl)
theorem dX1_keep_49 : decode cX1_keep 49 = .ok (.astore_n 1, 1) := dk_76 (dk_at dksX1_keep_2 4 rfl rfl)
theorem dX1_keep_50 : decode cX1_keep 50 = .ok (.aload_n 0, 1) := dk_42 (dk_at dksX1_keep_2 5 rfl rfl)
theorem dX1_keep_51 : decode cX1_keep 51 = .ok (.getfield 215, 3) := dk_180 0 215 (dk_at dksX1_keep_2 6 rfl rfl)
theorem dX1_keep_54 : decode cX1_keep 54 = .ok (.bipush 8, 2) := dk_16 8 (dk_at dksX1_keep_2 9 rfl rfl)
theorem dX1_keep_56 : decode cX1_keep 56 = .ok (.if_icmp .ne 28, 3) := dk_160 0 28 (dk_at dksX1_keep_2 11 rfl rfl)
theorem dX1_keep_59 : decode cX1_keep 59 = .ok (.aload_n 0, 1) := dk_42 (dk_at dksX1_keep_2 14 rfl rfl)
theorem dX1_keep_60 : decode cX1_keep 60 = .ok (.getfield 103, 3) := dk_180 0 103 (dk_at dksX1_keep_2 15 rfl rfl)
theorem dX1_keep_63 : decode cX1_keep 63 = .ok (.iconst 1, 1) := dk_4 (dk_at dksX1_keep_2 18 rfl rfl)
theorem dX1_keep_64 : decode cX1_keep 64 = .ok (.aload_n 0, 1) := dk_42 (dk_at dksX1_keep_2 19 rfl rfl)
theorem dX1_keep_65 : decode cX1_keep 65 = .ok (.getfield 103, 3) := dk_180 0 103 (dk_at dksX1_keep_2 20 rfl rfl)
theorem dX1_keep_68 : decode cX1_keep 68 = .ok (.iconst 0, 1) := dk_3 (dk_at dksX1_keep_2 23 rfl rfl)
theorem dX1_keep_69 : decode cX1_keep 69 = .ok (.bipush 7, 2) := dk_16 7 (dk_at dksX1_keep_3 0 rfl rfl)
theorem dX1_keep_71 : decode cX1_keep 71 = .ok (.invokestatic 326, 3) := dk_184 1 70 (dk_at dksX1_keep_3 2 rfl rfl)
theorem dX1_keep_74 : decode cX1_keep 74 = .ok (.aload_n 0, 1) := dk_42 (dk_at dksX1_keep_3 5 rfl rfl)
theorem dX1_keep_75 : decode cX1_keep 75 = .ok (.dup, 1) := dk_89 (dk_at dksX1_keep_3 6 rfl rfl)
theorem dX1_keep_76 : decode cX1_keep 76 = .ok (.getfield 215, 3) := dk_180 0 215 (dk_at dksX1_keep_3 7 rfl rfl)
theorem dX1_keep_79 : decode cX1_keep 79 = .ok (.iconst 1, 1) := dk_4 (dk_at dksX1_keep_3 10 rfl rfl)
theorem dX1_keep_80 : decode cX1_keep 80 = .ok (.isub, 1) := dk_100 (dk_at dksX1_keep_3 11 rfl rfl)
theorem dX1_keep_81 : decode cX1_keep 81 = .ok (.putfield 215, 3) := dk_181 0 215 (dk_at dksX1_keep_3 12 rfl rfl)
theorem dX1_keep_84 : decode cX1_keep 84 = .ok (.aload_n 1, 1) := dk_43 (dk_at dksX1_keep_3 15 rfl rfl)
theorem dX1_keep_85 : decode cX1_keep 85 = .ok (.aload_n 0, 1) := dk_42 (dk_at dksX1_keep_3 16 rfl rfl)
theorem dX1_keep_86 : decode cX1_keep 86 = .ok (.getfield 73, 3) := dk_180 0 73 (dk_at dksX1_keep_3 17 rfl rfl)
theorem dX1_keep_89 : decode cX1_keep 89 = .ok (.invokevirtual 273, 3) := dk_182 1 17 (dk_at dksX1_keep_3 20 rfl rfl)
theorem dX1_keep_92 : decode cX1_keep 92 = .ok (.aload_n 0, 1) := dk_42 (dk_at dksX1_keep_3 23 rfl rfl)
theorem dX1_keep_93 : decode cX1_keep 93 = .ok (.getfield 103, 3) := dk_180 0 103 (dk_at dksX1_keep_4 0 rfl rfl)
theorem dX1_keep_96 : decode cX1_keep 96 = .ok (.aload_n 0, 1) := dk_42 (dk_at dksX1_keep_4 3 rfl rfl)
theorem dX1_keep_97 : decode cX1_keep 97 = .ok (.getfield 215, 3) := dk_180 0 215 (dk_at dksX1_keep_4 4 rfl rfl)
theorem dX1_keep_100 : decode cX1_keep 100 = .ok (.aload_n 1, 1) := dk_43 (dk_at dksX1_keep_4 7 rfl rfl)
theorem dX1_keep_101 : decode cX1_keep 101 = .ok (.aastore, 1) := dk_83 (dk_at dksX1_keep_4 8 rfl rfl)
theorem dX1_keep_102 : decode cX1_keep 102 = .ok (.aload_n 0, 1) := dk_42 (dk_at dksX1_keep_4 9 rfl rfl)
theorem dX1_keep_103 : decode cX1_keep 103 = .ok (.dup, 1) := dk_89 (dk_at dksX1_keep_4 10 rfl rfl)
theorem dX1_keep_104 : decode cX1_keep 104 = .ok (.getfield 215, 3) := dk_180 0 215 (dk_at dksX1_keep_4 11 rfl rfl)
theorem dX1_keep_107 : decode cX1_keep 107 = .ok (.iconst 1, 1) := dk_4 (dk_at dksX1_keep_4 14 rfl rfl)
theorem dX1_keep_108 : decode cX1_keep 108 = .ok (.iadd, 1) := dk_96 (dk_at dksX1_keep_4 15 rfl rfl)
theorem dX1_keep_109 : decode cX1_keep 109 = .ok (.putfield 215, 3) := dk_181 0 215 (dk_at dksX1_keep_4 16 rfl rfl)
theorem dX1_keep_112 : decode cX1_keep 112 = .ok (.return_, 1) := dk_177 (dk_at dksX1_keep_4 19 rfl rfl)
abbrev cX1_judge : ByteArray := prog_1_method_17_code
def yX1_judge : MethodName := ⟨RX1, "judge", "()I"⟩
def dkwX1_judge_2 : List UInt8 := [167, 255, 217, 2, 172]
abbrev dktX1_judge_2 : List UInt8 := dkwX1_judge_2 ++ []
def dkwX1_judge_1 : List UInt8 := [180, 0, 66, 27, 182, 1, 20, 181, 0, 96, 42, 180, 0, 96, 158, 0, 5, 27, 172, 132, 1, 1]
abbrev dktX1_judge_1 : List UInt8 := dkwX1_judge_1 ++ dktX1_judge_2
def dkwX1_judge_0 : List UInt8 := [42, 3, 181, 0, 96, 3, 60, 27, 42, 180, 0, 73, 180, 0, 213, 162, 0, 34, 42, 42, 180, 0, 73, 42]
abbrev dktX1_judge_0 : List UInt8 := dkwX1_judge_0 ++ dktX1_judge_1
theorem dksX1_judge_0 : cX1_judge.data.toList.drop 0 = dktX1_judge_0 := by decide +kernel
theorem dksX1_judge_1 : cX1_judge.data.toList.drop 24 = dktX1_judge_1 := dk_seg dksX1_judge_0 24 rfl rfl
theorem dksX1_judge_2 : cX1_judge.data.toList.drop 46 = dktX1_judge_2 := dk_seg dksX1_judge_1 22 rfl rfl
theorem dX1_judge_0 : decode cX1_judge 0 = .ok (.aload_n 0, 1) := dk_42 (dk_at dksX1_judge_0 0 rfl rfl)
theorem dX1_judge_1 : decode cX1_judge 1 = .ok (.iconst 0, 1) := dk_3 (dk_at dksX1_judge_0 1 rfl rfl)
theorem dX1_judge_2 : decode cX1_judge 2 = .ok (.putfield 96, 3) := dk_181 0 96 (dk_at dksX1_judge_0 2 rfl rfl)
theorem dX1_judge_5 : decode cX1_judge 5 = .ok (.iconst 0, 1) := dk_3 (dk_at dksX1_judge_0 5 rfl rfl)
theorem dX1_judge_6 : decode cX1_judge 6 = .ok (.istore_n 1, 1) := dk_60 (dk_at dksX1_judge_0 6 rfl rfl)
theorem dX1_judge_7 : decode cX1_judge 7 = .ok (.iload_n 1, 1) := dk_27 (dk_at dksX1_judge_0 7 rfl rfl)
theorem dX1_judge_8 : decode cX1_judge 8 = .ok (.aload_n 0, 1) := dk_42 (dk_at dksX1_judge_0 8 rfl rfl)
theorem dX1_judge_9 : decode cX1_judge 9 = .ok (.getfield 73, 3) := dk_180 0 73 (dk_at dksX1_judge_0 9 rfl rfl)
theorem dX1_judge_12 : decode cX1_judge 12 = .ok (.getfield 213, 3) := dk_180 0 213 (dk_at dksX1_judge_0 12 rfl rfl)
theorem dX1_judge_15 : decode cX1_judge 15 = .ok (.if_icmp .ge 34, 3) := dk_162 0 34 (dk_at dksX1_judge_0 15 rfl rfl)
theorem dX1_judge_18 : decode cX1_judge 18 = .ok (.aload_n 0, 1) := dk_42 (dk_at dksX1_judge_0 18 rfl rfl)
theorem dX1_judge_19 : decode cX1_judge 19 = .ok (.aload_n 0, 1) := dk_42 (dk_at dksX1_judge_0 19 rfl rfl)
theorem dX1_judge_20 : decode cX1_judge 20 = .ok (.getfield 73, 3) := dk_180 0 73 (dk_at dksX1_judge_0 20 rfl rfl)
theorem dX1_judge_23 : decode cX1_judge 23 = .ok (.aload_n 0, 1) := dk_42 (dk_at dksX1_judge_0 23 rfl rfl)
theorem dX1_judge_24 : decode cX1_judge 24 = .ok (.getfield 66, 3) := dk_180 0 66 (dk_at dksX1_judge_1 0 rfl rfl)
theorem dX1_judge_27 : decode cX1_judge 27 = .ok (.iload_n 1, 1) := dk_27 (dk_at dksX1_judge_1 3 rfl rfl)
theorem dX1_judge_28 : decode cX1_judge 28 = .ok (.invokevirtual 276, 3) := dk_182 1 20 (dk_at dksX1_judge_1 4 rfl rfl)
theorem dX1_judge_31 : decode cX1_judge 31 = .ok (.putfield 96, 3) := dk_181 0 96 (dk_at dksX1_judge_1 7 rfl rfl)
theorem dX1_judge_34 : decode cX1_judge 34 = .ok (.aload_n 0, 1) := dk_42 (dk_at dksX1_judge_1 10 rfl rfl)
theorem dX1_judge_35 : decode cX1_judge 35 = .ok (.getfield 96, 3) := dk_180 0 96 (dk_at dksX1_judge_1 11 rfl rfl)
theorem dX1_judge_38 : decode cX1_judge 38 = .ok (.ifCond .le 5, 3) := dk_158 0 5 (dk_at dksX1_judge_1 14 rfl rfl)
theorem dX1_judge_41 : decode cX1_judge 41 = .ok (.iload_n 1, 1) := dk_27 (dk_at dksX1_judge_1 17 rfl rfl)
theorem dX1_judge_42 : decode cX1_judge 42 = .ok (.ireturn, 1) := dk_172 (dk_at dksX1_judge_1 18 rfl rfl)
theorem dX1_judge_43 : decode cX1_judge 43 = .ok (.iinc 1 1, 3) := dk_132 1 1 (dk_at dksX1_judge_1 19 rfl rfl)
theorem dX1_judge_46 : decode cX1_judge 46 = .ok (.goto (-39), 3) := dk_167 255 217 (dk_at dksX1_judge_2 0 rfl rfl)
theorem dX1_judge_49 : decode cX1_judge 49 = .ok (.iconst (-1), 1) := dk_2 (dk_at dksX1_judge_2 3 rfl rfl)
theorem dX1_judge_50 : decode cX1_judge 50 = .ok (.ireturn, 1) := dk_172 (dk_at dksX1_judge_2 4 rfl rfl)
abbrev cX1_why : ByteArray := prog_1_method_18_code
def yX1_why : MethodName := ⟨RX1, "why", "()I"⟩
theorem dX1_why_0 : decode cX1_why 0 = .ok (.aload_n 0, 1) := by decide +kernel
theorem dX1_why_1 : decode cX1_why 1 = .ok (.getfield 96, 3) := by decide +kernel
theorem dX1_why_4 : decode cX1_why 4 = .ok (.ireturn, 1) := by decide +kernel
abbrev cX1_go : ByteArray := prog_1_method_19_code
def yX1_go : MethodName := ⟨RX1, "go", "(II)I"⟩
def dkwX1_go_4 : List UInt8 := [46, 172, 2, 172]
abbrev dktX1_go_4 : List UInt8 := dkwX1_go_4 ++ []
def dkwX1_go_3 : List UInt8 := [180, 1, 28, 27, 46, 172, 42, 180, 0, 73, 180, 1, 31, 27, 46, 172, 42, 180, 0, 73, 180, 1, 33, 27]
abbrev dktX1_go_3 : List UInt8 := dkwX1_go_3 ++ dktX1_go_4
def dkwX1_go_2 : List UInt8 := [42, 180, 0, 73, 180, 1, 23, 27, 46, 172, 42, 180, 0, 73, 180, 1, 25, 27, 46, 172, 42, 180, 0, 73]
abbrev dktX1_go_2 : List UInt8 := dkwX1_go_2 ++ dktX1_go_3
def dkwX1_go_1 : List UInt8 := [170, 0, 0, 0, 0, 0, 0, 86, 0, 0, 0, 0, 0, 0, 0, 4, 0, 0, 0, 36, 0, 0, 0, 46, 0, 0, 0, 56, 0, 0, 0, 66, 0, 0, 0, 76]
abbrev dktX1_go_1 : List UInt8 := dkwX1_go_1 ++ dktX1_go_2
def dkwX1_go_0 : List UInt8 := [27, 3, 42, 180, 0, 73, 180, 0, 213, 4, 100, 184, 0, 231, 154, 0, 5, 2, 172, 28]
abbrev dktX1_go_0 : List UInt8 := dkwX1_go_0 ++ dktX1_go_1
theorem dksX1_go_0 : cX1_go.data.toList.drop 0 = dktX1_go_0 := by decide +kernel
theorem dksX1_go_1 : cX1_go.data.toList.drop 20 = dktX1_go_1 := dk_seg dksX1_go_0 20 rfl rfl
theorem dksX1_go_2 : cX1_go.data.toList.drop 56 = dktX1_go_2 := dk_seg dksX1_go_1 36 rfl rfl
theorem dksX1_go_3 : cX1_go.data.toList.drop 80 = dktX1_go_3 := dk_seg dksX1_go_2 24 rfl rfl
theorem dksX1_go_4 : cX1_go.data.toList.drop 104 = dktX1_go_4 := dk_seg dksX1_go_3 24 rfl rfl
theorem dX1_go_0 : decode cX1_go 0 = .ok (.iload_n 1, 1) := dk_27 (dk_at dksX1_go_0 0 rfl rfl)
theorem dX1_go_1 : decode cX1_go 1 = .ok (.iconst 0, 1) := dk_3 (dk_at dksX1_go_0 1 rfl rfl)
theorem dX1_go_2 : decode cX1_go 2 = .ok (.aload_n 0, 1) := dk_42 (dk_at dksX1_go_0 2 rfl rfl)
theorem dX1_go_3 : decode cX1_go 3 = .ok (.getfield 73, 3) := dk_180 0 73 (dk_at dksX1_go_0 3 rfl rfl)
theorem dX1_go_6 : decode cX1_go 6 = .ok (.getfield 213, 3) := dk_180 0 213 (dk_at dksX1_go_0 6 rfl rfl)
theorem dX1_go_9 : decode cX1_go 9 = .ok (.iconst 1, 1) := dk_4 (dk_at dksX1_go_0 9 rfl rfl)
theorem dX1_go_10 : decode cX1_go 10 = .ok (.isub, 1) := dk_100 (dk_at dksX1_go_0 10 rfl rfl)
theorem dX1_go_11 : decode cX1_go 11 = .ok (.invokestatic 231, 3) := dk_184 0 231 (dk_at dksX1_go_0 11 rfl rfl)
theorem dX1_go_14 : decode cX1_go 14 = .ok (.ifCond .ne 5, 3) := dk_154 0 5 (dk_at dksX1_go_0 14 rfl rfl)
theorem dX1_go_17 : decode cX1_go 17 = .ok (.iconst (-1), 1) := dk_2 (dk_at dksX1_go_0 17 rfl rfl)
theorem dX1_go_18 : decode cX1_go 18 = .ok (.ireturn, 1) := dk_172 (dk_at dksX1_go_0 18 rfl rfl)
theorem dX1_go_19 : decode cX1_go 19 = .ok (.iload_n 2, 1) := dk_28 (dk_at dksX1_go_0 19 rfl rfl)
theorem dX1_go_20 : decode cX1_go 20 = .ok (.tableswitch 86 0 4 #[36, 46, 56, 66, 76], 36) := by decide +kernel
theorem dX1_go_56 : decode cX1_go 56 = .ok (.aload_n 0, 1) := dk_42 (dk_at dksX1_go_2 0 rfl rfl)
theorem dX1_go_57 : decode cX1_go 57 = .ok (.getfield 73, 3) := dk_180 0 73 (dk_at dksX1_go_2 1 rfl rfl)
theorem dX1_go_60 : decode cX1_go 60 = .ok (.getfield 279, 3) := dk_180 1 23 (dk_at dksX1_go_2 4 rfl rfl)
theorem dX1_go_63 : decode cX1_go 63 = .ok (.iload_n 1, 1) := dk_27 (dk_at dksX1_go_2 7 rfl rfl)
theorem dX1_go_64 : decode cX1_go 64 = .ok (.iaload, 1) := dk_46 (dk_at dksX1_go_2 8 rfl rfl)
theorem dX1_go_65 : decode cX1_go 65 = .ok (.ireturn, 1) := dk_172 (dk_at dksX1_go_2 9 rfl rfl)
theorem dX1_go_66 : decode cX1_go 66 = .ok (.aload_n 0, 1) := dk_42 (dk_at dksX1_go_2 10 rfl rfl)
theorem dX1_go_67 : decode cX1_go 67 = .ok (.getfield 73, 3) := dk_180 0 73 (dk_at dksX1_go_2 11 rfl rfl)
theorem dX1_go_70 : decode cX1_go 70 = .ok (.getfield 281, 3) := dk_180 1 25 (dk_at dksX1_go_2 14 rfl rfl)
theorem dX1_go_73 : decode cX1_go 73 = .ok (.iload_n 1, 1) := dk_27 (dk_at dksX1_go_2 17 rfl rfl)
theorem dX1_go_74 : decode cX1_go 74 = .ok (.iaload, 1) := dk_46 (dk_at dksX1_go_2 18 rfl rfl)
theorem dX1_go_75 : decode cX1_go 75 = .ok (.ireturn, 1) := dk_172 (dk_at dksX1_go_2 19 rfl rfl)
theorem dX1_go_76 : decode cX1_go 76 = .ok (.aload_n 0, 1) := dk_42 (dk_at dksX1_go_2 20 rfl rfl)
theorem dX1_go_77 : decode cX1_go 77 = .ok (.getfield 73, 3) := dk_180 0 73 (dk_at dksX1_go_2 21 rfl rfl)
theorem dX1_go_80 : decode cX1_go 80 = .ok (.getfield 284, 3) := dk_180 1 28 (dk_at dksX1_go_3 0 rfl rfl)
theorem dX1_go_83 : decode cX1_go 83 = .ok (.iload_n 1, 1) := dk_27 (dk_at dksX1_go_3 3 rfl rfl)
theorem dX1_go_84 : decode cX1_go 84 = .ok (.iaload, 1) := dk_46 (dk_at dksX1_go_3 4 rfl rfl)
theorem dX1_go_85 : decode cX1_go 85 = .ok (.ireturn, 1) := dk_172 (dk_at dksX1_go_3 5 rfl rfl)
theorem dX1_go_86 : decode cX1_go 86 = .ok (.aload_n 0, 1) := dk_42 (dk_at dksX1_go_3 6 rfl rfl)
theorem dX1_go_87 : decode cX1_go 87 = .ok (.getfield 73, 3) := dk_180 0 73 (dk_at dksX1_go_3 7 rfl rfl)
theorem dX1_go_90 : decode cX1_go 90 = .ok (.getfield 287, 3) := dk_180 1 31 (dk_at dksX1_go_3 10 rfl rfl)
theorem dX1_go_93 : decode cX1_go 93 = .ok (.iload_n 1, 1) := dk_27 (dk_at dksX1_go_3 13 rfl rfl)
theorem dX1_go_94 : decode cX1_go 94 = .ok (.iaload, 1) := dk_46 (dk_at dksX1_go_3 14 rfl rfl)
theorem dX1_go_95 : decode cX1_go 95 = .ok (.ireturn, 1) := dk_172 (dk_at dksX1_go_3 15 rfl rfl)
theorem dX1_go_96 : decode cX1_go 96 = .ok (.aload_n 0, 1) := dk_42 (dk_at dksX1_go_3 16 rfl rfl)
theorem dX1_go_97 : decode cX1_go 97 = .ok (.getfield 73, 3) := dk_180 0 73 (dk_at dksX1_go_3 17 rfl rfl)
theorem dX1_go_100 : decode cX1_go 100 = .ok (.getfield 289, 3) := dk_180 1 33 (dk_at dksX1_go_3 20 rfl rfl)
theorem dX1_go_103 : decode cX1_go 103 = .ok (.iload_n 1, 1) := dk_27 (dk_at dksX1_go_3 23 rfl rfl)
theorem dX1_go_104 : decode cX1_go 104 = .ok (.iaload, 1) := dk_46 (dk_at dksX1_go_4 0 rfl rfl)
theorem dX1_go_105 : decode cX1_go 105 = .ok (.ireturn, 1) := dk_172 (dk_at dksX1_go_4 1 rfl rfl)
theorem dX1_go_106 : decode cX1_go 106 = .ok (.iconst (-1), 1) := dk_2 (dk_at dksX1_go_4 2 rfl rfl)
theorem dX1_go_107 : decode cX1_go 107 = .ok (.ireturn, 1) := dk_172 (dk_at dksX1_go_4 3 rfl rfl)
abbrev cX1_ends : ByteArray := prog_1_method_21_code
def yX1_ends : MethodName := ⟨RX1, "ends", "()I"⟩
def dkwX1_ends_0 : List UInt8 := [42, 180, 0, 73, 182, 1, 40, 172]
abbrev dktX1_ends_0 : List UInt8 := dkwX1_ends_0 ++ []
theorem dksX1_ends_0 : cX1_ends.data.toList.drop 0 = dktX1_ends_0 := by decide +kernel
theorem dX1_ends_0 : decode cX1_ends 0 = .ok (.aload_n 0, 1) := dk_42 (dk_at dksX1_ends_0 0 rfl rfl)
theorem dX1_ends_1 : decode cX1_ends 1 = .ok (.getfield 73, 3) := dk_180 0 73 (dk_at dksX1_ends_0 1 rfl rfl)
theorem dX1_ends_4 : decode cX1_ends 4 = .ok (.invokevirtual 296, 3) := dk_182 1 40 (dk_at dksX1_ends_0 4 rfl rfl)
theorem dX1_ends_7 : decode cX1_ends 7 = .ok (.ireturn, 1) := dk_172 (dk_at dksX1_ends_0 7 rfl rfl)
abbrev cX1_done : ByteArray := prog_1_method_22_code
def yX1_done : MethodName := ⟨RX1, "done", "()I"⟩
def dkwX1_done_1 : List UInt8 := [28, 182, 1, 43, 153, 0, 9, 4, 28, 120, 167, 0, 4, 3, 128, 60, 132, 2, 1, 167, 255, 217, 27, 172]
abbrev dktX1_done_1 : List UInt8 := dkwX1_done_1 ++ []
def dkwX1_done_0 : List UInt8 := [3, 60, 3, 61, 28, 42, 180, 0, 66, 180, 0, 228, 162, 0, 34, 27, 42, 180, 0, 73, 42, 180, 0, 66]
abbrev dktX1_done_0 : List UInt8 := dkwX1_done_0 ++ dktX1_done_1
theorem dksX1_done_0 : cX1_done.data.toList.drop 0 = dktX1_done_0 := by decide +kernel
theorem dksX1_done_1 : cX1_done.data.toList.drop 24 = dktX1_done_1 := dk_seg dksX1_done_0 24 rfl rfl
theorem dX1_done_0 : decode cX1_done 0 = .ok (.iconst 0, 1) := dk_3 (dk_at dksX1_done_0 0 rfl rfl)
theorem dX1_done_1 : decode cX1_done 1 = .ok (.istore_n 1, 1) := dk_60 (dk_at dksX1_done_0 1 rfl rfl)
theorem dX1_done_2 : decode cX1_done 2 = .ok (.iconst 0, 1) := dk_3 (dk_at dksX1_done_0 2 rfl rfl)
theorem dX1_done_3 : decode cX1_done 3 = .ok (.istore_n 2, 1) := dk_61 (dk_at dksX1_done_0 3 rfl rfl)
theorem dX1_done_4 : decode cX1_done 4 = .ok (.iload_n 2, 1) := dk_28 (dk_at dksX1_done_0 4 rfl rfl)
theorem dX1_done_5 : decode cX1_done 5 = .ok (.aload_n 0, 1) := dk_42 (dk_at dksX1_done_0 5 rfl rfl)
theorem dX1_done_6 : decode cX1_done 6 = .ok (.getfield 66, 3) := dk_180 0 66 (dk_at dksX1_done_0 6 rfl rfl)
theorem dX1_done_9 : decode cX1_done 9 = .ok (.getfield 228, 3) := dk_180 0 228 (dk_at dksX1_done_0 9 rfl rfl)
theorem dX1_done_12 : decode cX1_done 12 = .ok (.if_icmp .ge 34, 3) := dk_162 0 34 (dk_at dksX1_done_0 12 rfl rfl)
theorem dX1_done_15 : decode cX1_done 15 = .ok (.iload_n 1, 1) := dk_27 (dk_at dksX1_done_0 15 rfl rfl)
theorem dX1_done_16 : decode cX1_done 16 = .ok (.aload_n 0, 1) := dk_42 (dk_at dksX1_done_0 16 rfl rfl)
theorem dX1_done_17 : decode cX1_done 17 = .ok (.getfield 73, 3) := dk_180 0 73 (dk_at dksX1_done_0 17 rfl rfl)
theorem dX1_done_20 : decode cX1_done 20 = .ok (.aload_n 0, 1) := dk_42 (dk_at dksX1_done_0 20 rfl rfl)
theorem dX1_done_21 : decode cX1_done 21 = .ok (.getfield 66, 3) := dk_180 0 66 (dk_at dksX1_done_0 21 rfl rfl)
theorem dX1_done_24 : decode cX1_done 24 = .ok (.iload_n 2, 1) := dk_28 (dk_at dksX1_done_1 0 rfl rfl)
theorem dX1_done_25 : decode cX1_done 25 = .ok (.invokevirtual 299, 3) := dk_182 1 43 (dk_at dksX1_done_1 1 rfl rfl)
theorem dX1_done_28 : decode cX1_done 28 = .ok (.ifCond .eq 9, 3) := dk_153 0 9 (dk_at dksX1_done_1 4 rfl rfl)
theorem dX1_done_31 : decode cX1_done 31 = .ok (.iconst 1, 1) := dk_4 (dk_at dksX1_done_1 7 rfl rfl)
theorem dX1_done_32 : decode cX1_done 32 = .ok (.iload_n 2, 1) := dk_28 (dk_at dksX1_done_1 8 rfl rfl)
theorem dX1_done_33 : decode cX1_done 33 = .ok (.ishl, 1) := dk_120 (dk_at dksX1_done_1 9 rfl rfl)
theorem dX1_done_34 : decode cX1_done 34 = .ok (.goto 4, 3) := dk_167 0 4 (dk_at dksX1_done_1 10 rfl rfl)
theorem dX1_done_37 : decode cX1_done 37 = .ok (.iconst 0, 1) := dk_3 (dk_at dksX1_done_1 13 rfl rfl)
theorem dX1_done_38 : decode cX1_done 38 = .ok (.ior, 1) := dk_128 (dk_at dksX1_done_1 14 rfl rfl)
theorem dX1_done_39 : decode cX1_done 39 = .ok (.istore_n 1, 1) := dk_60 (dk_at dksX1_done_1 15 rfl rfl)
theorem dX1_done_40 : decode cX1_done 40 = .ok (.iinc 2 1, 3) := dk_132 2 1 (dk_at dksX1_done_1 16 rfl rfl)
theorem dX1_done_43 : decode cX1_done 43 = .ok (.goto (-39), 3) := dk_167 255 217 (dk_at dksX1_done_1 19 rfl rfl)
theorem dX1_done_46 : decode cX1_done 46 = .ok (.iload_n 1, 1) := dk_27 (dk_at dksX1_done_1 22 rfl rfl)
theorem dX1_done_47 : decode cX1_done 47 = .ok (.ireturn, 1) := dk_172 (dk_at dksX1_done_1 23 rfl rfl)
abbrev cX1_on : ByteArray := prog_1_method_23_code
def yX1_on : MethodName := ⟨RX1, "on", "(I)I"⟩
def dkwX1_on_3 : List UInt8 := [132, 3, 1, 167, 255, 202, 28, 172]
abbrev dktX1_on_3 : List UInt8 := dkwX1_on_3 ++ []
def dkwX1_on_2 : List UInt8 := [4, 100, 184, 0, 231, 153, 0, 17, 28, 4, 42, 180, 0, 73, 180, 1, 23, 29, 46, 120, 128, 61]
abbrev dktX1_on_2 : List UInt8 := dkwX1_on_2 ++ dktX1_on_3
def dkwX1_on_1 : List UInt8 := [180, 0, 213, 162, 0, 49, 27, 42, 180, 0, 73, 180, 1, 28, 29, 46, 42, 180, 0, 73, 29, 182, 1, 47]
abbrev dktX1_on_1 : List UInt8 := dkwX1_on_1 ++ dktX1_on_2
def dkwX1_on_0 : List UInt8 := [27, 3, 17, 3, 231, 184, 0, 231, 154, 0, 5, 2, 172, 3, 61, 3, 62, 29, 42, 180, 0, 73]
abbrev dktX1_on_0 : List UInt8 := dkwX1_on_0 ++ dktX1_on_1
theorem dksX1_on_0 : cX1_on.data.toList.drop 0 = dktX1_on_0 := by decide +kernel
theorem dksX1_on_1 : cX1_on.data.toList.drop 22 = dktX1_on_1 := dk_seg dksX1_on_0 22 rfl rfl
theorem dksX1_on_2 : cX1_on.data.toList.drop 46 = dktX1_on_2 := dk_seg dksX1_on_1 24 rfl rfl
theorem dksX1_on_3 : cX1_on.data.toList.drop 68 = dktX1_on_3 := dk_seg dksX1_on_2 22 rfl rfl
theorem dX1_on_0 : decode cX1_on 0 = .ok (.iload_n 1, 1) := dk_27 (dk_at dksX1_on_0 0 rfl rfl)
theorem dX1_on_1 : decode cX1_on 1 = .ok (.iconst 0, 1) := dk_3 (dk_at dksX1_on_0 1 rfl rfl)
theorem dX1_on_2 : decode cX1_on 2 = .ok (.sipush 999, 3) := dk_17 3 231 (dk_at dksX1_on_0 2 rfl rfl)
theorem dX1_on_5 : decode cX1_on 5 = .ok (.invokestatic 231, 3) := dk_184 0 231 (dk_at dksX1_on_0 5 rfl rfl)
theorem dX1_on_8 : decode cX1_on 8 = .ok (.ifCond .ne 5, 3) := dk_154 0 5 (dk_at dksX1_on_0 8 rfl rfl)
theorem dX1_on_11 : decode cX1_on 11 = .ok (.iconst (-1), 1) := dk_2 (dk_at dksX1_on_0 11 rfl rfl)
theorem dX1_on_12 : decode cX1_on 12 = .ok (.ireturn, 1) := dk_172 (dk_at dksX1_on_0 12 rfl rfl)
theorem dX1_on_13 : decode cX1_on 13 = .ok (.iconst 0, 1) := dk_3 (dk_at dksX1_on_0 13 rfl rfl)
theorem dX1_on_14 : decode cX1_on 14 = .ok (.istore_n 2, 1) := dk_61 (dk_at dksX1_on_0 14 rfl rfl)
theorem dX1_on_15 : decode cX1_on 15 = .ok (.iconst 0, 1) := dk_3 (dk_at dksX1_on_0 15 rfl rfl)
theorem dX1_on_16 : decode cX1_on 16 = .ok (.istore_n 3, 1) := dk_62 (dk_at dksX1_on_0 16 rfl rfl)
theorem dX1_on_17 : decode cX1_on 17 = .ok (.iload_n 3, 1) := dk_29 (dk_at dksX1_on_0 17 rfl rfl)
theorem dX1_on_18 : decode cX1_on 18 = .ok (.aload_n 0, 1) := dk_42 (dk_at dksX1_on_0 18 rfl rfl)
theorem dX1_on_19 : decode cX1_on 19 = .ok (.getfield 73, 3) := dk_180 0 73 (dk_at dksX1_on_0 19 rfl rfl)
theorem dX1_on_22 : decode cX1_on 22 = .ok (.getfield 213, 3) := dk_180 0 213 (dk_at dksX1_on_1 0 rfl rfl)
theorem dX1_on_25 : decode cX1_on 25 = .ok (.if_icmp .ge 49, 3) := dk_162 0 49 (dk_at dksX1_on_1 3 rfl rfl)
theorem dX1_on_28 : decode cX1_on 28 = .ok (.iload_n 1, 1) := dk_27 (dk_at dksX1_on_1 6 rfl rfl)
theorem dX1_on_29 : decode cX1_on 29 = .ok (.aload_n 0, 1) := dk_42 (dk_at dksX1_on_1 7 rfl rfl)
theorem dX1_on_30 : decode cX1_on 30 = .ok (.getfield 73, 3) := dk_180 0 73 (dk_at dksX1_on_1 8 rfl rfl)
theorem dX1_on_33 : decode cX1_on 33 = .ok (.getfield 284, 3) := dk_180 1 28 (dk_at dksX1_on_1 11 rfl rfl)
theorem dX1_on_36 : decode cX1_on 36 = .ok (.iload_n 3, 1) := dk_29 (dk_at dksX1_on_1 14 rfl rfl)
theorem dX1_on_37 : decode cX1_on 37 = .ok (.iaload, 1) := dk_46 (dk_at dksX1_on_1 15 rfl rfl)
theorem dX1_on_38 : decode cX1_on 38 = .ok (.aload_n 0, 1) := dk_42 (dk_at dksX1_on_1 16 rfl rfl)
theorem dX1_on_39 : decode cX1_on 39 = .ok (.getfield 73, 3) := dk_180 0 73 (dk_at dksX1_on_1 17 rfl rfl)
theorem dX1_on_42 : decode cX1_on 42 = .ok (.iload_n 3, 1) := dk_29 (dk_at dksX1_on_1 20 rfl rfl)
theorem dX1_on_43 : decode cX1_on 43 = .ok (.invokevirtual 303, 3) := dk_182 1 47 (dk_at dksX1_on_1 21 rfl rfl)
theorem dX1_on_46 : decode cX1_on 46 = .ok (.iconst 1, 1) := dk_4 (dk_at dksX1_on_2 0 rfl rfl)
theorem dX1_on_47 : decode cX1_on 47 = .ok (.isub, 1) := dk_100 (dk_at dksX1_on_2 1 rfl rfl)
theorem dX1_on_48 : decode cX1_on 48 = .ok (.invokestatic 231, 3) := dk_184 0 231 (dk_at dksX1_on_2 2 rfl rfl)
theorem dX1_on_51 : decode cX1_on 51 = .ok (.ifCond .eq 17, 3) := dk_153 0 17 (dk_at dksX1_on_2 5 rfl rfl)
theorem dX1_on_54 : decode cX1_on 54 = .ok (.iload_n 2, 1) := dk_28 (dk_at dksX1_on_2 8 rfl rfl)
theorem dX1_on_55 : decode cX1_on 55 = .ok (.iconst 1, 1) := dk_4 (dk_at dksX1_on_2 9 rfl rfl)
theorem dX1_on_56 : decode cX1_on 56 = .ok (.aload_n 0, 1) := dk_42 (dk_at dksX1_on_2 10 rfl rfl)
theorem dX1_on_57 : decode cX1_on 57 = .ok (.getfield 73, 3) := dk_180 0 73 (dk_at dksX1_on_2 11 rfl rfl)
theorem dX1_on_60 : decode cX1_on 60 = .ok (.getfield 279, 3) := dk_180 1 23 (dk_at dksX1_on_2 14 rfl rfl)
theorem dX1_on_63 : decode cX1_on 63 = .ok (.iload_n 3, 1) := dk_29 (dk_at dksX1_on_2 17 rfl rfl)
theorem dX1_on_64 : decode cX1_on 64 = .ok (.iaload, 1) := dk_46 (dk_at dksX1_on_2 18 rfl rfl)
theorem dX1_on_65 : decode cX1_on 65 = .ok (.ishl, 1) := dk_120 (dk_at dksX1_on_2 19 rfl rfl)
theorem dX1_on_66 : decode cX1_on 66 = .ok (.ior, 1) := dk_128 (dk_at dksX1_on_2 20 rfl rfl)
theorem dX1_on_67 : decode cX1_on 67 = .ok (.istore_n 2, 1) := dk_61 (dk_at dksX1_on_2 21 rfl rfl)
theorem dX1_on_68 : decode cX1_on 68 = .ok (.iinc 3 1, 3) := dk_132 3 1 (dk_at dksX1_on_3 0 rfl rfl)
theorem dX1_on_71 : decode cX1_on 71 = .ok (.goto (-54), 3) := dk_167 255 202 (dk_at dksX1_on_3 3 rfl rfl)
theorem dX1_on_74 : decode cX1_on 74 = .ok (.iload_n 2, 1) := dk_28 (dk_at dksX1_on_3 6 rfl rfl)
theorem dX1_on_75 : decode cX1_on 75 = .ok (.ireturn, 1) := dk_172 (dk_at dksX1_on_3 7 rfl rfl)
abbrev cX1_write : ByteArray := prog_1_method_27_code
def yX1_write : MethodName := ⟨RX1, "write", "()I"⟩
def dkwX1_write_5 : List UInt8 := [167, 255, 147, 42, 180, 1, 51, 172]
abbrev dktX1_write_5 : List UInt8 := dkwX1_write_5 ++ []
def dkwX1_write_4 : List UInt8 := [42, 42, 180, 0, 73, 180, 1, 33, 27, 46, 182, 1, 67, 42, 16, 59, 182, 1, 54, 132, 1, 1]
abbrev dktX1_write_4 : List UInt8 := dkwX1_write_4 ++ dktX1_write_5
def dkwX1_write_3 : List UInt8 := [180, 0, 73, 180, 1, 28, 27, 46, 182, 1, 67, 42, 42, 180, 0, 73, 180, 1, 31, 27, 46, 182, 1, 67]
abbrev dktX1_write_3 : List UInt8 := dkwX1_write_3 ++ dktX1_write_4
def dkwX1_write_2 : List UInt8 := [180, 0, 73, 180, 1, 25, 27, 46, 154, 0, 8, 16, 116, 167, 0, 5, 16, 117, 182, 1, 54, 42, 42]
abbrev dktX1_write_2 : List UInt8 := dkwX1_write_2 ++ dktX1_write_3
def dkwX1_write_1 : List UInt8 := [180, 1, 59, 42, 180, 0, 73, 180, 1, 23, 27, 46, 47, 182, 1, 63, 42, 16, 32, 182, 1, 54, 42, 42]
abbrev dktX1_write_1 : List UInt8 := dkwX1_write_1 ++ dktX1_write_2
def dkwX1_write_0 : List UInt8 := [42, 3, 181, 1, 51, 3, 60, 27, 42, 180, 0, 73, 180, 0, 213, 162, 0, 104, 42, 42, 180, 0, 66]
abbrev dktX1_write_0 : List UInt8 := dkwX1_write_0 ++ dktX1_write_1
theorem dksX1_write_0 : cX1_write.data.toList.drop 0 = dktX1_write_0 := by decide +kernel
theorem dksX1_write_1 : cX1_write.data.toList.drop 23 = dktX1_write_1 := dk_seg dksX1_write_0 23 rfl rfl
theorem dksX1_write_2 : cX1_write.data.toList.drop 47 = dktX1_write_2 := dk_seg dksX1_write_1 24 rfl rfl
theorem dksX1_write_3 : cX1_write.data.toList.drop 70 = dktX1_write_3 := dk_seg dksX1_write_2 23 rfl rfl
theorem dksX1_write_4 : cX1_write.data.toList.drop 94 = dktX1_write_4 := dk_seg dksX1_write_3 24 rfl rfl
theorem dksX1_write_5 : cX1_write.data.toList.drop 116 = dktX1_write_5 := dk_seg dksX1_write_4 22 rfl rfl
theorem dX1_write_0 : decode cX1_write 0 = .ok (.aload_n 0, 1) := dk_42 (dk_at dksX1_write_0 0 rfl rfl)
theorem dX1_write_1 : decode cX1_write 1 = .ok (.iconst 0, 1) := dk_3 (dk_at dksX1_write_0 1 rfl rfl)
theorem dX1_write_2 : decode cX1_write 2 = .ok (.putfield 307, 3) := dk_181 1 51 (dk_at dksX1_write_0 2 rfl rfl)
theorem dX1_write_5 : decode cX1_write 5 = .ok (.iconst 0, 1) := dk_3 (dk_at dksX1_write_0 5 rfl rfl)
theorem dX1_write_6 : decode cX1_write 6 = .ok (.istore_n 1, 1) := dk_60 (dk_at dksX1_write_0 6 rfl rfl)
theorem dX1_write_7 : decode cX1_write 7 = .ok (.iload_n 1, 1) := dk_27 (dk_at dksX1_write_0 7 rfl rfl)
theorem dX1_write_8 : decode cX1_write 8 = .ok (.aload_n 0, 1) := dk_42 (dk_at dksX1_write_0 8 rfl rfl)
theorem dX1_write_9 : decode cX1_write 9 = .ok (.getfield 73, 3) := dk_180 0 73 (dk_at dksX1_write_0 9 rfl rfl)
theorem dX1_write_12 : decode cX1_write 12 = .ok (.getfield 213, 3) := dk_180 0 213 (dk_at dksX1_write_0 12 rfl rfl)
theorem dX1_write_15 : decode cX1_write 15 = .ok (.if_icmp .ge 104, 3) := dk_162 0 104 (dk_at dksX1_write_0 15 rfl rfl)
theorem dX1_write_18 : decode cX1_write 18 = .ok (.aload_n 0, 1) := dk_42 (dk_at dksX1_write_0 18 rfl rfl)
theorem dX1_write_19 : decode cX1_write 19 = .ok (.aload_n 0, 1) := dk_42 (dk_at dksX1_write_0 19 rfl rfl)
theorem dX1_write_20 : decode cX1_write 20 = .ok (.getfield 66, 3) := dk_180 0 66 (dk_at dksX1_write_0 20 rfl rfl)
theorem dX1_write_23 : decode cX1_write 23 = .ok (.getfield 315, 3) := dk_180 1 59 (dk_at dksX1_write_1 0 rfl rfl)
theorem dX1_write_26 : decode cX1_write 26 = .ok (.aload_n 0, 1) := dk_42 (dk_at dksX1_write_1 3 rfl rfl)
theorem dX1_write_27 : decode cX1_write 27 = .ok (.getfield 73, 3) := dk_180 0 73 (dk_at dksX1_write_1 4 rfl rfl)
theorem dX1_write_30 : decode cX1_write 30 = .ok (.getfield 279, 3) := dk_180 1 23 (dk_at dksX1_write_1 7 rfl rfl)
theorem dX1_write_33 : decode cX1_write 33 = .ok (.iload_n 1, 1) := dk_27 (dk_at dksX1_write_1 10 rfl rfl)
theorem dX1_write_34 : decode cX1_write 34 = .ok (.iaload, 1) := dk_46 (dk_at dksX1_write_1 11 rfl rfl)
theorem dX1_write_35 : decode cX1_write 35 = .ok (.laload, 1) := dk_47 (dk_at dksX1_write_1 12 rfl rfl)
theorem dX1_write_36 : decode cX1_write 36 = .ok (.invokevirtual 319, 3) := dk_182 1 63 (dk_at dksX1_write_1 13 rfl rfl)
theorem dX1_write_39 : decode cX1_write 39 = .ok (.aload_n 0, 1) := dk_42 (dk_at dksX1_write_1 16 rfl rfl)
theorem dX1_write_40 : decode cX1_write 40 = .ok (.bipush 32, 2) := dk_16 32 (dk_at dksX1_write_1 17 rfl rfl)
theorem dX1_write_42 : decode cX1_write 42 = .ok (.invokevirtual 310, 3) := dk_182 1 54 (dk_at dksX1_write_1 19 rfl rfl)
theorem dX1_write_45 : decode cX1_write 45 = .ok (.aload_n 0, 1) := dk_42 (dk_at dksX1_write_1 22 rfl rfl)
theorem dX1_write_46 : decode cX1_write 46 = .ok (.aload_n 0, 1) := dk_42 (dk_at dksX1_write_1 23 rfl rfl)
theorem dX1_write_47 : decode cX1_write 47 = .ok (.getfield 73, 3) := dk_180 0 73 (dk_at dksX1_write_2 0 rfl rfl)
theorem dX1_write_50 : decode cX1_write 50 = .ok (.getfield 281, 3) := dk_180 1 25 (dk_at dksX1_write_2 3 rfl rfl)
theorem dX1_write_53 : decode cX1_write 53 = .ok (.iload_n 1, 1) := dk_27 (dk_at dksX1_write_2 6 rfl rfl)
theorem dX1_write_54 : decode cX1_write 54 = .ok (.iaload, 1) := dk_46 (dk_at dksX1_write_2 7 rfl rfl)
theorem dX1_write_55 : decode cX1_write 55 = .ok (.ifCond .ne 8, 3) := dk_154 0 8 (dk_at dksX1_write_2 8 rfl rfl)
theorem dX1_write_58 : decode cX1_write 58 = .ok (.bipush 116, 2) := dk_16 116 (dk_at dksX1_write_2 11 rfl rfl)
theorem dX1_write_60 : decode cX1_write 60 = .ok (.goto 5, 3) := dk_167 0 5 (dk_at dksX1_write_2 13 rfl rfl)
theorem dX1_write_63 : decode cX1_write 63 = .ok (.bipush 117, 2) := dk_16 117 (dk_at dksX1_write_2 16 rfl rfl)
theorem dX1_write_65 : decode cX1_write 65 = .ok (.invokevirtual 310, 3) := dk_182 1 54 (dk_at dksX1_write_2 18 rfl rfl)
theorem dX1_write_68 : decode cX1_write 68 = .ok (.aload_n 0, 1) := dk_42 (dk_at dksX1_write_2 21 rfl rfl)
theorem dX1_write_69 : decode cX1_write 69 = .ok (.aload_n 0, 1) := dk_42 (dk_at dksX1_write_2 22 rfl rfl)
theorem dX1_write_70 : decode cX1_write 70 = .ok (.getfield 73, 3) := dk_180 0 73 (dk_at dksX1_write_3 0 rfl rfl)
theorem dX1_write_73 : decode cX1_write 73 = .ok (.getfield 284, 3) := dk_180 1 28 (dk_at dksX1_write_3 3 rfl rfl)
theorem dX1_write_76 : decode cX1_write 76 = .ok (.iload_n 1, 1) := dk_27 (dk_at dksX1_write_3 6 rfl rfl)
theorem dX1_write_77 : decode cX1_write 77 = .ok (.iaload, 1) := dk_46 (dk_at dksX1_write_3 7 rfl rfl)
theorem dX1_write_78 : decode cX1_write 78 = .ok (.invokevirtual 323, 3) := dk_182 1 67 (dk_at dksX1_write_3 8 rfl rfl)
theorem dX1_write_81 : decode cX1_write 81 = .ok (.aload_n 0, 1) := dk_42 (dk_at dksX1_write_3 11 rfl rfl)
theorem dX1_write_82 : decode cX1_write 82 = .ok (.aload_n 0, 1) := dk_42 (dk_at dksX1_write_3 12 rfl rfl)
theorem dX1_write_83 : decode cX1_write 83 = .ok (.getfield 73, 3) := dk_180 0 73 (dk_at dksX1_write_3 13 rfl rfl)
theorem dX1_write_86 : decode cX1_write 86 = .ok (.getfield 287, 3) := dk_180 1 31 (dk_at dksX1_write_3 16 rfl rfl)
theorem dX1_write_89 : decode cX1_write 89 = .ok (.iload_n 1, 1) := dk_27 (dk_at dksX1_write_3 19 rfl rfl)
theorem dX1_write_90 : decode cX1_write 90 = .ok (.iaload, 1) := dk_46 (dk_at dksX1_write_3 20 rfl rfl)
theorem dX1_write_91 : decode cX1_write 91 = .ok (.invokevirtual 323, 3) := dk_182 1 67 (dk_at dksX1_write_3 21 rfl rfl)
theorem dX1_write_94 : decode cX1_write 94 = .ok (.aload_n 0, 1) := dk_42 (dk_at dksX1_write_4 0 rfl rfl)
theorem dX1_write_95 : decode cX1_write 95 = .ok (.aload_n 0, 1) := dk_42 (dk_at dksX1_write_4 1 rfl rfl)
theorem dX1_write_96 : decode cX1_write 96 = .ok (.getfield 73, 3) := dk_180 0 73 (dk_at dksX1_write_4 2 rfl rfl)
theorem dX1_write_99 : decode cX1_write 99 = .ok (.getfield 289, 3) := dk_180 1 33 (dk_at dksX1_write_4 5 rfl rfl)
theorem dX1_write_102 : decode cX1_write 102 = .ok (.iload_n 1, 1) := dk_27 (dk_at dksX1_write_4 8 rfl rfl)
theorem dX1_write_103 : decode cX1_write 103 = .ok (.iaload, 1) := dk_46 (dk_at dksX1_write_4 9 rfl rfl)
theorem dX1_write_104 : decode cX1_write 104 = .ok (.invokevirtual 323, 3) := dk_182 1 67 (dk_at dksX1_write_4 10 rfl rfl)
theorem dX1_write_107 : decode cX1_write 107 = .ok (.aload_n 0, 1) := dk_42 (dk_at dksX1_write_4 13 rfl rfl)
theorem dX1_write_108 : decode cX1_write 108 = .ok (.bipush 59, 2) := dk_16 59 (dk_at dksX1_write_4 14 rfl rfl)
theorem dX1_write_110 : decode cX1_write 110 = .ok (.invokevirtual 310, 3) := dk_182 1 54 (dk_at dksX1_write_4 16 rfl rfl)
theorem dX1_write_113 : decode cX1_write 113 = .ok (.iinc 1 1, 3) := dk_132 1 1 (dk_at dksX1_write_4 19 rfl rfl)
theorem dX1_write_116 : decode cX1_write 116 = .ok (.goto (-109), 3) := dk_167 255 147 (dk_at dksX1_write_5 0 rfl rfl)
theorem dX1_write_119 : decode cX1_write 119 = .ok (.aload_n 0, 1) := dk_42 (dk_at dksX1_write_5 3 rfl rfl)
theorem dX1_write_120 : decode cX1_write 120 = .ok (.getfield 307, 3) := dk_180 1 51 (dk_at dksX1_write_5 4 rfl rfl)
theorem dX1_write_123 : decode cX1_write 123 = .ok (.ireturn, 1) := dk_172 (dk_at dksX1_write_5 7 rfl rfl)
abbrev cX1_putName : ByteArray := prog_1_method_26_code
def yX1_putName : MethodName := ⟨RX1, "putName", "(J)V"⟩
def dkwX1_putName_1 : List UInt8 := [20, 1, 57, 127, 136, 182, 1, 54, 132, 3, 248, 167, 255, 225, 177]
abbrev dktX1_putName_1 : List UInt8 := dkwX1_putName_1 ++ []
def dkwX1_putName_0 : List UInt8 := [16, 40, 62, 29, 155, 0, 33, 31, 29, 123, 20, 1, 57, 127, 9, 148, 153, 0, 15, 42, 31, 29, 123]
abbrev dktX1_putName_0 : List UInt8 := dkwX1_putName_0 ++ dktX1_putName_1
theorem dksX1_putName_0 : cX1_putName.data.toList.drop 0 = dktX1_putName_0 := by decide +kernel
theorem dksX1_putName_1 : cX1_putName.data.toList.drop 23 = dktX1_putName_1 := dk_seg dksX1_putName_0 23 rfl rfl
theorem dX1_putName_0 : decode cX1_putName 0 = .ok (.bipush 40, 2) := dk_16 40 (dk_at dksX1_putName_0 0 rfl rfl)
theorem dX1_putName_2 : decode cX1_putName 2 = .ok (.istore_n 3, 1) := dk_62 (dk_at dksX1_putName_0 2 rfl rfl)
theorem dX1_putName_3 : decode cX1_putName 3 = .ok (.iload_n 3, 1) := dk_29 (dk_at dksX1_putName_0 3 rfl rfl)
theorem dX1_putName_4 : decode cX1_putName 4 = .ok (.ifCond .lt 33, 3) := dk_155 0 33 (dk_at dksX1_putName_0 4 rfl rfl)
theorem dX1_putName_7 : decode cX1_putName 7 = .ok (.lload_n 1, 1) := dk_31 (dk_at dksX1_putName_0 7 rfl rfl)
theorem dX1_putName_8 : decode cX1_putName 8 = .ok (.iload_n 3, 1) := dk_29 (dk_at dksX1_putName_0 8 rfl rfl)
theorem dX1_putName_9 : decode cX1_putName 9 = .ok (.lshr, 1) := dk_123 (dk_at dksX1_putName_0 9 rfl rfl)
theorem dX1_putName_10 : decode cX1_putName 10 = .ok (.ldc2_w 313, 3) := dk_20 1 57 (dk_at dksX1_putName_0 10 rfl rfl)
theorem dX1_putName_13 : decode cX1_putName 13 = .ok (.land, 1) := dk_127 (dk_at dksX1_putName_0 13 rfl rfl)
theorem dX1_putName_14 : decode cX1_putName 14 = .ok (.lconst 0, 1) := dk_9 (dk_at dksX1_putName_0 14 rfl rfl)
theorem dX1_putName_15 : decode cX1_putName 15 = .ok (.lcmp, 1) := dk_148 (dk_at dksX1_putName_0 15 rfl rfl)
theorem dX1_putName_16 : decode cX1_putName 16 = .ok (.ifCond .eq 15, 3) := dk_153 0 15 (dk_at dksX1_putName_0 16 rfl rfl)
theorem dX1_putName_19 : decode cX1_putName 19 = .ok (.aload_n 0, 1) := dk_42 (dk_at dksX1_putName_0 19 rfl rfl)
theorem dX1_putName_20 : decode cX1_putName 20 = .ok (.lload_n 1, 1) := dk_31 (dk_at dksX1_putName_0 20 rfl rfl)
theorem dX1_putName_21 : decode cX1_putName 21 = .ok (.iload_n 3, 1) := dk_29 (dk_at dksX1_putName_0 21 rfl rfl)
theorem dX1_putName_22 : decode cX1_putName 22 = .ok (.lshr, 1) := dk_123 (dk_at dksX1_putName_0 22 rfl rfl)
theorem dX1_putName_23 : decode cX1_putName 23 = .ok (.ldc2_w 313, 3) := dk_20 1 57 (dk_at dksX1_putName_1 0 rfl rfl)
theorem dX1_putName_26 : decode cX1_putName 26 = .ok (.land, 1) := dk_127 (dk_at dksX1_putName_1 3 rfl rfl)
theorem dX1_putName_27 : decode cX1_putName 27 = .ok (.l2i, 1) := dk_136 (dk_at dksX1_putName_1 4 rfl rfl)
theorem dX1_putName_28 : decode cX1_putName 28 = .ok (.invokevirtual 310, 3) := dk_182 1 54 (dk_at dksX1_putName_1 5 rfl rfl)
theorem dX1_putName_31 : decode cX1_putName 31 = .ok (.iinc 3 (-8), 3) := dk_132 3 248 (dk_at dksX1_putName_1 8 rfl rfl)
theorem dX1_putName_34 : decode cX1_putName 34 = .ok (.goto (-31), 3) := dk_167 255 225 (dk_at dksX1_putName_1 11 rfl rfl)
theorem dX1_putName_37 : decode cX1_putName 37 = .ok (.return_, 1) := dk_177 (dk_at dksX1_putName_1 14 rfl rfl)
abbrev cX1_put : ByteArray := prog_1_method_24_code
def yX1_put : MethodName := ⟨RX1, "put", "(I)V"⟩
def dkwX1_put_0 : List UInt8 := [42, 180, 0, 100, 42, 180, 1, 51, 27, 145, 84, 42, 89, 180, 1, 51, 4, 96, 181, 1, 51, 177]
abbrev dktX1_put_0 : List UInt8 := dkwX1_put_0 ++ []
theorem dksX1_put_0 : cX1_put.data.toList.drop 0 = dktX1_put_0 := by decide +kernel
theorem dX1_put_0 : decode cX1_put 0 = .ok (.aload_n 0, 1) := dk_42 (dk_at dksX1_put_0 0 rfl rfl)
theorem dX1_put_1 : decode cX1_put 1 = .ok (.getfield 100, 3) := dk_180 0 100 (dk_at dksX1_put_0 1 rfl rfl)
theorem dX1_put_4 : decode cX1_put 4 = .ok (.aload_n 0, 1) := dk_42 (dk_at dksX1_put_0 4 rfl rfl)
theorem dX1_put_5 : decode cX1_put 5 = .ok (.getfield 307, 3) := dk_180 1 51 (dk_at dksX1_put_0 5 rfl rfl)
theorem dX1_put_8 : decode cX1_put 8 = .ok (.iload_n 1, 1) := dk_27 (dk_at dksX1_put_0 8 rfl rfl)
theorem dX1_put_9 : decode cX1_put 9 = .ok (.i2b, 1) := dk_145 (dk_at dksX1_put_0 9 rfl rfl)
theorem dX1_put_10 : decode cX1_put 10 = .ok (.bastore, 1) := dk_84 (dk_at dksX1_put_0 10 rfl rfl)
theorem dX1_put_11 : decode cX1_put 11 = .ok (.aload_n 0, 1) := dk_42 (dk_at dksX1_put_0 11 rfl rfl)
theorem dX1_put_12 : decode cX1_put 12 = .ok (.dup, 1) := dk_89 (dk_at dksX1_put_0 12 rfl rfl)
theorem dX1_put_13 : decode cX1_put 13 = .ok (.getfield 307, 3) := dk_180 1 51 (dk_at dksX1_put_0 13 rfl rfl)
theorem dX1_put_16 : decode cX1_put 16 = .ok (.iconst 1, 1) := dk_4 (dk_at dksX1_put_0 16 rfl rfl)
theorem dX1_put_17 : decode cX1_put 17 = .ok (.iadd, 1) := dk_96 (dk_at dksX1_put_0 17 rfl rfl)
theorem dX1_put_18 : decode cX1_put 18 = .ok (.putfield 307, 3) := dk_181 1 51 (dk_at dksX1_put_0 18 rfl rfl)
theorem dX1_put_21 : decode cX1_put 21 = .ok (.return_, 1) := dk_177 (dk_at dksX1_put_0 21 rfl rfl)
abbrev cX1_putNumber : ByteArray := prog_1_method_25_code
def yX1_putNumber : MethodName := ⟨RX1, "putNumber", "(I)V"⟩
def dkwX1_putNumber_2 : List UInt8 := [167, 255, 234, 177]
abbrev dktX1_putNumber_2 : List UInt8 := dkwX1_putNumber_2 ++ []
def dkwX1_putNumber_1 : List UInt8 := [28, 158, 0, 24, 42, 16, 48, 27, 28, 108, 16, 10, 112, 96, 182, 1, 54, 28, 16, 10, 108, 61]
abbrev dktX1_putNumber_1 : List UInt8 := dkwX1_putNumber_1 ++ dktX1_putNumber_2
def dkwX1_putNumber_0 : List UInt8 := [42, 16, 32, 182, 1, 54, 4, 61, 27, 28, 108, 16, 10, 161, 0, 11, 28, 16, 10, 104, 61, 167, 255, 243]
abbrev dktX1_putNumber_0 : List UInt8 := dkwX1_putNumber_0 ++ dktX1_putNumber_1
theorem dksX1_putNumber_0 : cX1_putNumber.data.toList.drop 0 = dktX1_putNumber_0 := by decide +kernel
theorem dksX1_putNumber_1 : cX1_putNumber.data.toList.drop 24 = dktX1_putNumber_1 := dk_seg dksX1_putNumber_0 24 rfl rfl
theorem dksX1_putNumber_2 : cX1_putNumber.data.toList.drop 46 = dktX1_putNumber_2 := dk_seg dksX1_putNumber_1 22 rfl rfl
theorem dX1_putNumber_0 : decode cX1_putNumber 0 = .ok (.aload_n 0, 1) := dk_42 (dk_at dksX1_putNumber_0 0 rfl rfl)
theorem dX1_putNumber_1 : decode cX1_putNumber 1 = .ok (.bipush 32, 2) := dk_16 32 (dk_at dksX1_putNumber_0 1 rfl rfl)
theorem dX1_putNumber_3 : decode cX1_putNumber 3 = .ok (.invokevirtual 310, 3) := dk_182 1 54 (dk_at dksX1_putNumber_0 3 rfl rfl)
theorem dX1_putNumber_6 : decode cX1_putNumber 6 = .ok (.iconst 1, 1) := dk_4 (dk_at dksX1_putNumber_0 6 rfl rfl)
theorem dX1_putNumber_7 : decode cX1_putNumber 7 = .ok (.istore_n 2, 1) := dk_61 (dk_at dksX1_putNumber_0 7 rfl rfl)
theorem dX1_putNumber_8 : decode cX1_putNumber 8 = .ok (.iload_n 1, 1) := dk_27 (dk_at dksX1_putNumber_0 8 rfl rfl)
theorem dX1_putNumber_9 : decode cX1_putNumber 9 = .ok (.iload_n 2, 1) := dk_28 (dk_at dksX1_putNumber_0 9 rfl rfl)
theorem dX1_putNumber_10 : decode cX1_putNumber 10 = .ok (.idiv, 1) := dk_108 (dk_at dksX1_putNumber_0 10 rfl rfl)
theorem dX1_putNumber_11 : decode cX1_putNumber 11 = .ok (.bipush 10, 2) := dk_16 10 (dk_at dksX1_putNumber_0 11 rfl rfl)
theorem dX1_putNumber_13 : decode cX1_putNumber 13 = .ok (.if_icmp .lt 11, 3) := dk_161 0 11 (dk_at dksX1_putNumber_0 13 rfl rfl)
theorem dX1_putNumber_16 : decode cX1_putNumber 16 = .ok (.iload_n 2, 1) := dk_28 (dk_at dksX1_putNumber_0 16 rfl rfl)
theorem dX1_putNumber_17 : decode cX1_putNumber 17 = .ok (.bipush 10, 2) := dk_16 10 (dk_at dksX1_putNumber_0 17 rfl rfl)
theorem dX1_putNumber_19 : decode cX1_putNumber 19 = .ok (.imul, 1) := dk_104 (dk_at dksX1_putNumber_0 19 rfl rfl)
theorem dX1_putNumber_20 : decode cX1_putNumber 20 = .ok (.istore_n 2, 1) := dk_61 (dk_at dksX1_putNumber_0 20 rfl rfl)
theorem dX1_putNumber_21 : decode cX1_putNumber 21 = .ok (.goto (-13), 3) := dk_167 255 243 (dk_at dksX1_putNumber_0 21 rfl rfl)
theorem dX1_putNumber_24 : decode cX1_putNumber 24 = .ok (.iload_n 2, 1) := dk_28 (dk_at dksX1_putNumber_1 0 rfl rfl)
theorem dX1_putNumber_25 : decode cX1_putNumber 25 = .ok (.ifCond .le 24, 3) := dk_158 0 24 (dk_at dksX1_putNumber_1 1 rfl rfl)
theorem dX1_putNumber_28 : decode cX1_putNumber 28 = .ok (.aload_n 0, 1) := dk_42 (dk_at dksX1_putNumber_1 4 rfl rfl)
theorem dX1_putNumber_29 : decode cX1_putNumber 29 = .ok (.bipush 48, 2) := dk_16 48 (dk_at dksX1_putNumber_1 5 rfl rfl)
theorem dX1_putNumber_31 : decode cX1_putNumber 31 = .ok (.iload_n 1, 1) := dk_27 (dk_at dksX1_putNumber_1 7 rfl rfl)
theorem dX1_putNumber_32 : decode cX1_putNumber 32 = .ok (.iload_n 2, 1) := dk_28 (dk_at dksX1_putNumber_1 8 rfl rfl)
theorem dX1_putNumber_33 : decode cX1_putNumber 33 = .ok (.idiv, 1) := dk_108 (dk_at dksX1_putNumber_1 9 rfl rfl)
theorem dX1_putNumber_34 : decode cX1_putNumber 34 = .ok (.bipush 10, 2) := dk_16 10 (dk_at dksX1_putNumber_1 10 rfl rfl)
theorem dX1_putNumber_36 : decode cX1_putNumber 36 = .ok (.irem, 1) := dk_112 (dk_at dksX1_putNumber_1 12 rfl rfl)
theorem dX1_putNumber_37 : decode cX1_putNumber 37 = .ok (.iadd, 1) := dk_96 (dk_at dksX1_putNumber_1 13 rfl rfl)
theorem dX1_putNumber_38 : decode cX1_putNumber 38 = .ok (.invokevirtual 310, 3) := dk_182 1 54 (dk_at dksX1_putNumber_1 14 rfl rfl)
theorem dX1_putNumber_41 : decode cX1_putNumber 41 = .ok (.iload_n 2, 1) := dk_28 (dk_at dksX1_putNumber_1 17 rfl rfl)
theorem dX1_putNumber_42 : decode cX1_putNumber 42 = .ok (.bipush 10, 2) := dk_16 10 (dk_at dksX1_putNumber_1 18 rfl rfl)
theorem dX1_putNumber_44 : decode cX1_putNumber 44 = .ok (.idiv, 1) := dk_108 (dk_at dksX1_putNumber_1 20 rfl rfl)
theorem dX1_putNumber_45 : decode cX1_putNumber 45 = .ok (.istore_n 2, 1) := dk_61 (dk_at dksX1_putNumber_1 21 rfl rfl)
theorem dX1_putNumber_46 : decode cX1_putNumber 46 = .ok (.goto (-22), 3) := dk_167 255 234 (dk_at dksX1_putNumber_2 0 rfl rfl)
theorem dX1_putNumber_49 : decode cX1_putNumber 49 = .ok (.return_, 1) := dk_177 (dk_at dksX1_putNumber_2 3 rfl rfl)
abbrev cX1_byteAt : ByteArray := prog_1_method_28_code
def yX1_byteAt : MethodName := ⟨RX1, "byteAt", "(I)I"⟩
def dkwX1_byteAt_1 : List UInt8 := [172]
abbrev dktX1_byteAt_1 : List UInt8 := dkwX1_byteAt_1 ++ []
def dkwX1_byteAt_0 : List UInt8 := [27, 3, 42, 180, 1, 51, 4, 100, 184, 0, 231, 153, 0, 12, 42, 180, 0, 100, 27, 51, 167, 0, 4, 2]
abbrev dktX1_byteAt_0 : List UInt8 := dkwX1_byteAt_0 ++ dktX1_byteAt_1
theorem dksX1_byteAt_0 : cX1_byteAt.data.toList.drop 0 = dktX1_byteAt_0 := by decide +kernel
theorem dksX1_byteAt_1 : cX1_byteAt.data.toList.drop 24 = dktX1_byteAt_1 := dk_seg dksX1_byteAt_0 24 rfl rfl
theorem dX1_byteAt_0 : decode cX1_byteAt 0 = .ok (.iload_n 1, 1) := dk_27 (dk_at dksX1_byteAt_0 0 rfl rfl)
theorem dX1_byteAt_1 : decode cX1_byteAt 1 = .ok (.iconst 0, 1) := dk_3 (dk_at dksX1_byteAt_0 1 rfl rfl)
theorem dX1_byteAt_2 : decode cX1_byteAt 2 = .ok (.aload_n 0, 1) := dk_42 (dk_at dksX1_byteAt_0 2 rfl rfl)
theorem dX1_byteAt_3 : decode cX1_byteAt 3 = .ok (.getfield 307, 3) := dk_180 1 51 (dk_at dksX1_byteAt_0 3 rfl rfl)
theorem dX1_byteAt_6 : decode cX1_byteAt 6 = .ok (.iconst 1, 1) := dk_4 (dk_at dksX1_byteAt_0 6 rfl rfl)
theorem dX1_byteAt_7 : decode cX1_byteAt 7 = .ok (.isub, 1) := dk_100 (dk_at dksX1_byteAt_0 7 rfl rfl)
theorem dX1_byteAt_8 : decode cX1_byteAt 8 = .ok (.invokestatic 231, 3) := dk_184 0 231 (dk_at dksX1_byteAt_0 8 rfl rfl)
theorem dX1_byteAt_11 : decode cX1_byteAt 11 = .ok (.ifCond .eq 12, 3) := dk_153 0 12 (dk_at dksX1_byteAt_0 11 rfl rfl)
theorem dX1_byteAt_14 : decode cX1_byteAt 14 = .ok (.aload_n 0, 1) := dk_42 (dk_at dksX1_byteAt_0 14 rfl rfl)
theorem dX1_byteAt_15 : decode cX1_byteAt 15 = .ok (.getfield 100, 3) := dk_180 0 100 (dk_at dksX1_byteAt_0 15 rfl rfl)
theorem dX1_byteAt_18 : decode cX1_byteAt 18 = .ok (.iload_n 1, 1) := dk_27 (dk_at dksX1_byteAt_0 18 rfl rfl)
theorem dX1_byteAt_19 : decode cX1_byteAt 19 = .ok (.baload, 1) := dk_51 (dk_at dksX1_byteAt_0 19 rfl rfl)
theorem dX1_byteAt_20 : decode cX1_byteAt 20 = .ok (.goto 4, 3) := dk_167 0 4 (dk_at dksX1_byteAt_0 20 rfl rfl)
theorem dX1_byteAt_23 : decode cX1_byteAt 23 = .ok (.iconst (-1), 1) := dk_2 (dk_at dksX1_byteAt_0 23 rfl rfl)
theorem dX1_byteAt_24 : decode cX1_byteAt 24 = .ok (.ireturn, 1) := dk_172 (dk_at dksX1_byteAt_1 0 rfl rfl)
abbrev cX1_undo : ByteArray := prog_1_method_30_code
def yX1_undo : MethodName := ⟨RX1, "undo", "()I"⟩
def dkwX1_undo_1 : List UInt8 := [180, 0, 103, 42, 180, 0, 215, 50, 182, 1, 17, 42, 180, 0, 215, 172]
abbrev dktX1_undo_1 : List UInt8 := dkwX1_undo_1 ++ []
def dkwX1_undo_0 : List UInt8 := [42, 180, 0, 215, 154, 0, 5, 2, 172, 42, 89, 180, 0, 215, 4, 100, 181, 0, 215, 42, 180, 0, 73, 42]
abbrev dktX1_undo_0 : List UInt8 := dkwX1_undo_0 ++ dktX1_undo_1
theorem dksX1_undo_0 : cX1_undo.data.toList.drop 0 = dktX1_undo_0 := by decide +kernel
theorem dksX1_undo_1 : cX1_undo.data.toList.drop 24 = dktX1_undo_1 := dk_seg dksX1_undo_0 24 rfl rfl
theorem dX1_undo_0 : decode cX1_undo 0 = .ok (.aload_n 0, 1) := dk_42 (dk_at dksX1_undo_0 0 rfl rfl)
theorem dX1_undo_1 : decode cX1_undo 1 = .ok (.getfield 215, 3) := dk_180 0 215 (dk_at dksX1_undo_0 1 rfl rfl)
theorem dX1_undo_4 : decode cX1_undo 4 = .ok (.ifCond .ne 5, 3) := dk_154 0 5 (dk_at dksX1_undo_0 4 rfl rfl)
theorem dX1_undo_7 : decode cX1_undo 7 = .ok (.iconst (-1), 1) := dk_2 (dk_at dksX1_undo_0 7 rfl rfl)
theorem dX1_undo_8 : decode cX1_undo 8 = .ok (.ireturn, 1) := dk_172 (dk_at dksX1_undo_0 8 rfl rfl)
theorem dX1_undo_9 : decode cX1_undo 9 = .ok (.aload_n 0, 1) := dk_42 (dk_at dksX1_undo_0 9 rfl rfl)
theorem dX1_undo_10 : decode cX1_undo 10 = .ok (.dup, 1) := dk_89 (dk_at dksX1_undo_0 10 rfl rfl)
theorem dX1_undo_11 : decode cX1_undo 11 = .ok (.getfield 215, 3) := dk_180 0 215 (dk_at dksX1_undo_0 11 rfl rfl)
theorem dX1_undo_14 : decode cX1_undo 14 = .ok (.iconst 1, 1) := dk_4 (dk_at dksX1_undo_0 14 rfl rfl)
theorem dX1_undo_15 : decode cX1_undo 15 = .ok (.isub, 1) := dk_100 (dk_at dksX1_undo_0 15 rfl rfl)
theorem dX1_undo_16 : decode cX1_undo 16 = .ok (.putfield 215, 3) := dk_181 0 215 (dk_at dksX1_undo_0 16 rfl rfl)
theorem dX1_undo_19 : decode cX1_undo 19 = .ok (.aload_n 0, 1) := dk_42 (dk_at dksX1_undo_0 19 rfl rfl)
theorem dX1_undo_20 : decode cX1_undo 20 = .ok (.getfield 73, 3) := dk_180 0 73 (dk_at dksX1_undo_0 20 rfl rfl)
theorem dX1_undo_23 : decode cX1_undo 23 = .ok (.aload_n 0, 1) := dk_42 (dk_at dksX1_undo_0 23 rfl rfl)
theorem dX1_undo_24 : decode cX1_undo 24 = .ok (.getfield 103, 3) := dk_180 0 103 (dk_at dksX1_undo_1 0 rfl rfl)
theorem dX1_undo_27 : decode cX1_undo 27 = .ok (.aload_n 0, 1) := dk_42 (dk_at dksX1_undo_1 3 rfl rfl)
theorem dX1_undo_28 : decode cX1_undo 28 = .ok (.getfield 215, 3) := dk_180 0 215 (dk_at dksX1_undo_1 4 rfl rfl)
theorem dX1_undo_31 : decode cX1_undo 31 = .ok (.aaload, 1) := dk_50 (dk_at dksX1_undo_1 7 rfl rfl)
theorem dX1_undo_32 : decode cX1_undo 32 = .ok (.invokevirtual 273, 3) := dk_182 1 17 (dk_at dksX1_undo_1 8 rfl rfl)
theorem dX1_undo_35 : decode cX1_undo 35 = .ok (.aload_n 0, 1) := dk_42 (dk_at dksX1_undo_1 11 rfl rfl)
theorem dX1_undo_36 : decode cX1_undo 36 = .ok (.getfield 215, 3) := dk_180 0 215 (dk_at dksX1_undo_1 12 rfl rfl)
theorem dX1_undo_39 : decode cX1_undo 39 = .ok (.ireturn, 1) := dk_172 (dk_at dksX1_undo_1 15 rfl rfl)
abbrev cX1_add : ByteArray := prog_1_method_32_code
def yX1_add : MethodName := ⟨RX1, "add", "(IIIII)I"⟩
def dkwX1_add_3 : List UInt8 := [2, 172, 42, 182, 1, 14, 42, 180, 0, 73, 27, 28, 29, 21, 4, 21, 5, 182, 1, 79, 172]
abbrev dktX1_add_3 : List UInt8 := dkwX1_add_3 ++ []
def dkwX1_add_2 : List UInt8 := [21, 5, 4, 16, 20, 184, 0, 231, 153, 0, 16, 42, 180, 0, 73, 180, 0, 213, 17, 1, 144, 160, 0, 5]
abbrev dktX1_add_2 : List UInt8 := dkwX1_add_2 ++ dktX1_add_3
def dkwX1_add_1 : List UInt8 := [184, 0, 231, 153, 0, 45, 21, 4, 3, 42, 180, 0, 66, 180, 1, 76, 4, 100, 184, 0, 231, 153, 0, 27]
abbrev dktX1_add_1 : List UInt8 := dkwX1_add_1 ++ dktX1_add_2
def dkwX1_add_0 : List UInt8 := [42, 27, 182, 0, 235, 153, 0, 65, 28, 3, 4, 184, 0, 231, 153, 0, 56, 29, 3, 17, 0, 240]
abbrev dktX1_add_0 : List UInt8 := dkwX1_add_0 ++ dktX1_add_1
theorem dksX1_add_0 : cX1_add.data.toList.drop 0 = dktX1_add_0 := by decide +kernel
theorem dksX1_add_1 : cX1_add.data.toList.drop 22 = dktX1_add_1 := dk_seg dksX1_add_0 22 rfl rfl
theorem dksX1_add_2 : cX1_add.data.toList.drop 46 = dktX1_add_2 := dk_seg dksX1_add_1 24 rfl rfl
theorem dksX1_add_3 : cX1_add.data.toList.drop 70 = dktX1_add_3 := dk_seg dksX1_add_2 24 rfl rfl
theorem dX1_add_0 : decode cX1_add 0 = .ok (.aload_n 0, 1) := dk_42 (dk_at dksX1_add_0 0 rfl rfl)
theorem dX1_add_1 : decode cX1_add 1 = .ok (.iload_n 1, 1) := dk_27 (dk_at dksX1_add_0 1 rfl rfl)
theorem dX1_add_2 : decode cX1_add 2 = .ok (.invokevirtual 235, 3) := dk_182 0 235 (dk_at dksX1_add_0 2 rfl rfl)
theorem dX1_add_5 : decode cX1_add 5 = .ok (.ifCond .eq 65, 3) := dk_153 0 65 (dk_at dksX1_add_0 5 rfl rfl)
theorem dX1_add_8 : decode cX1_add 8 = .ok (.iload_n 2, 1) := dk_28 (dk_at dksX1_add_0 8 rfl rfl)
theorem dX1_add_9 : decode cX1_add 9 = .ok (.iconst 0, 1) := dk_3 (dk_at dksX1_add_0 9 rfl rfl)
theorem dX1_add_10 : decode cX1_add 10 = .ok (.iconst 1, 1) := dk_4 (dk_at dksX1_add_0 10 rfl rfl)
theorem dX1_add_11 : decode cX1_add 11 = .ok (.invokestatic 231, 3) := dk_184 0 231 (dk_at dksX1_add_0 11 rfl rfl)
theorem dX1_add_14 : decode cX1_add 14 = .ok (.ifCond .eq 56, 3) := dk_153 0 56 (dk_at dksX1_add_0 14 rfl rfl)
theorem dX1_add_17 : decode cX1_add 17 = .ok (.iload_n 3, 1) := dk_29 (dk_at dksX1_add_0 17 rfl rfl)
theorem dX1_add_18 : decode cX1_add 18 = .ok (.iconst 0, 1) := dk_3 (dk_at dksX1_add_0 18 rfl rfl)
theorem dX1_add_19 : decode cX1_add 19 = .ok (.sipush 240, 3) := dk_17 0 240 (dk_at dksX1_add_0 19 rfl rfl)
theorem dX1_add_22 : decode cX1_add 22 = .ok (.invokestatic 231, 3) := dk_184 0 231 (dk_at dksX1_add_1 0 rfl rfl)
theorem dX1_add_25 : decode cX1_add 25 = .ok (.ifCond .eq 45, 3) := dk_153 0 45 (dk_at dksX1_add_1 3 rfl rfl)
theorem dX1_add_28 : decode cX1_add 28 = .ok (.iload 4, 2) := dk_21 4 (dk_at dksX1_add_1 6 rfl rfl)
theorem dX1_add_30 : decode cX1_add 30 = .ok (.iconst 0, 1) := dk_3 (dk_at dksX1_add_1 8 rfl rfl)
theorem dX1_add_31 : decode cX1_add 31 = .ok (.aload_n 0, 1) := dk_42 (dk_at dksX1_add_1 9 rfl rfl)
theorem dX1_add_32 : decode cX1_add 32 = .ok (.getfield 66, 3) := dk_180 0 66 (dk_at dksX1_add_1 10 rfl rfl)
theorem dX1_add_35 : decode cX1_add 35 = .ok (.getfield 332, 3) := dk_180 1 76 (dk_at dksX1_add_1 13 rfl rfl)
theorem dX1_add_38 : decode cX1_add 38 = .ok (.iconst 1, 1) := dk_4 (dk_at dksX1_add_1 16 rfl rfl)
theorem dX1_add_39 : decode cX1_add 39 = .ok (.isub, 1) := dk_100 (dk_at dksX1_add_1 17 rfl rfl)
theorem dX1_add_40 : decode cX1_add 40 = .ok (.invokestatic 231, 3) := dk_184 0 231 (dk_at dksX1_add_1 18 rfl rfl)
theorem dX1_add_43 : decode cX1_add 43 = .ok (.ifCond .eq 27, 3) := dk_153 0 27 (dk_at dksX1_add_1 21 rfl rfl)
theorem dX1_add_46 : decode cX1_add 46 = .ok (.iload 5, 2) := dk_21 5 (dk_at dksX1_add_2 0 rfl rfl)
theorem dX1_add_48 : decode cX1_add 48 = .ok (.iconst 1, 1) := dk_4 (dk_at dksX1_add_2 2 rfl rfl)
theorem dX1_add_49 : decode cX1_add 49 = .ok (.bipush 20, 2) := dk_16 20 (dk_at dksX1_add_2 3 rfl rfl)
theorem dX1_add_51 : decode cX1_add 51 = .ok (.invokestatic 231, 3) := dk_184 0 231 (dk_at dksX1_add_2 5 rfl rfl)
theorem dX1_add_54 : decode cX1_add 54 = .ok (.ifCond .eq 16, 3) := dk_153 0 16 (dk_at dksX1_add_2 8 rfl rfl)
theorem dX1_add_57 : decode cX1_add 57 = .ok (.aload_n 0, 1) := dk_42 (dk_at dksX1_add_2 11 rfl rfl)
theorem dX1_add_58 : decode cX1_add 58 = .ok (.getfield 73, 3) := dk_180 0 73 (dk_at dksX1_add_2 12 rfl rfl)
theorem dX1_add_61 : decode cX1_add 61 = .ok (.getfield 213, 3) := dk_180 0 213 (dk_at dksX1_add_2 15 rfl rfl)
theorem dX1_add_64 : decode cX1_add 64 = .ok (.sipush 400, 3) := dk_17 1 144 (dk_at dksX1_add_2 18 rfl rfl)
theorem dX1_add_67 : decode cX1_add 67 = .ok (.if_icmp .ne 5, 3) := dk_160 0 5 (dk_at dksX1_add_2 21 rfl rfl)
theorem dX1_add_70 : decode cX1_add 70 = .ok (.iconst (-1), 1) := dk_2 (dk_at dksX1_add_3 0 rfl rfl)
theorem dX1_add_71 : decode cX1_add 71 = .ok (.ireturn, 1) := dk_172 (dk_at dksX1_add_3 1 rfl rfl)
theorem dX1_add_72 : decode cX1_add 72 = .ok (.aload_n 0, 1) := dk_42 (dk_at dksX1_add_3 2 rfl rfl)
theorem dX1_add_73 : decode cX1_add 73 = .ok (.invokevirtual 270, 3) := dk_182 1 14 (dk_at dksX1_add_3 3 rfl rfl)
theorem dX1_add_76 : decode cX1_add 76 = .ok (.aload_n 0, 1) := dk_42 (dk_at dksX1_add_3 6 rfl rfl)
theorem dX1_add_77 : decode cX1_add 77 = .ok (.getfield 73, 3) := dk_180 0 73 (dk_at dksX1_add_3 7 rfl rfl)
theorem dX1_add_80 : decode cX1_add 80 = .ok (.iload_n 1, 1) := dk_27 (dk_at dksX1_add_3 10 rfl rfl)
theorem dX1_add_81 : decode cX1_add 81 = .ok (.iload_n 2, 1) := dk_28 (dk_at dksX1_add_3 11 rfl rfl)
theorem dX1_add_82 : decode cX1_add 82 = .ok (.iload_n 3, 1) := dk_29 (dk_at dksX1_add_3 12 rfl rfl)
theorem dX1_add_83 : decode cX1_add 83 = .ok (.iload 4, 2) := dk_21 4 (dk_at dksX1_add_3 13 rfl rfl)
theorem dX1_add_85 : decode cX1_add 85 = .ok (.iload 5, 2) := dk_21 5 (dk_at dksX1_add_3 15 rfl rfl)
theorem dX1_add_87 : decode cX1_add 87 = .ok (.invokevirtual 335, 3) := dk_182 1 79 (dk_at dksX1_add_3 17 rfl rfl)
theorem dX1_add_90 : decode cX1_add 90 = .ok (.ireturn, 1) := dk_172 (dk_at dksX1_add_3 20 rfl rfl)
abbrev cX1_isSlice : ByteArray := prog_1_method_12_code
def yX1_isSlice : MethodName := ⟨RX1, "isSlice", "(I)Z"⟩
def dkwX1_isSlice_0 : List UInt8 := [27, 3, 42, 180, 0, 66, 180, 0, 228, 4, 100, 184, 0, 231, 172]
abbrev dktX1_isSlice_0 : List UInt8 := dkwX1_isSlice_0 ++ []
theorem dksX1_isSlice_0 : cX1_isSlice.data.toList.drop 0 = dktX1_isSlice_0 := by decide +kernel
theorem dX1_isSlice_0 : decode cX1_isSlice 0 = .ok (.iload_n 1, 1) := dk_27 (dk_at dksX1_isSlice_0 0 rfl rfl)
theorem dX1_isSlice_1 : decode cX1_isSlice 1 = .ok (.iconst 0, 1) := dk_3 (dk_at dksX1_isSlice_0 1 rfl rfl)
theorem dX1_isSlice_2 : decode cX1_isSlice 2 = .ok (.aload_n 0, 1) := dk_42 (dk_at dksX1_isSlice_0 2 rfl rfl)
theorem dX1_isSlice_3 : decode cX1_isSlice 3 = .ok (.getfield 66, 3) := dk_180 0 66 (dk_at dksX1_isSlice_0 3 rfl rfl)
theorem dX1_isSlice_6 : decode cX1_isSlice 6 = .ok (.getfield 228, 3) := dk_180 0 228 (dk_at dksX1_isSlice_0 6 rfl rfl)
theorem dX1_isSlice_9 : decode cX1_isSlice 9 = .ok (.iconst 1, 1) := dk_4 (dk_at dksX1_isSlice_0 9 rfl rfl)
theorem dX1_isSlice_10 : decode cX1_isSlice 10 = .ok (.isub, 1) := dk_100 (dk_at dksX1_isSlice_0 10 rfl rfl)
theorem dX1_isSlice_11 : decode cX1_isSlice 11 = .ok (.invokestatic 231, 3) := dk_184 0 231 (dk_at dksX1_isSlice_0 11 rfl rfl)
theorem dX1_isSlice_14 : decode cX1_isSlice 14 = .ok (.ireturn, 1) := dk_172 (dk_at dksX1_isSlice_0 14 rfl rfl)
abbrev cX1_drop : ByteArray := prog_1_method_33_code
def yX1_drop : MethodName := ⟨RX1, "drop", "(I)Z"⟩
def dkwX1_drop_0 : List UInt8 := [42, 27, 182, 1, 83, 154, 0, 5, 3, 172, 42, 182, 1, 14, 42, 180, 0, 73, 27, 182, 1, 86, 4, 172]
abbrev dktX1_drop_0 : List UInt8 := dkwX1_drop_0 ++ []
theorem dksX1_drop_0 : cX1_drop.data.toList.drop 0 = dktX1_drop_0 := by decide +kernel
theorem dX1_drop_0 : decode cX1_drop 0 = .ok (.aload_n 0, 1) := dk_42 (dk_at dksX1_drop_0 0 rfl rfl)
theorem dX1_drop_1 : decode cX1_drop 1 = .ok (.iload_n 1, 1) := dk_27 (dk_at dksX1_drop_0 1 rfl rfl)
theorem dX1_drop_2 : decode cX1_drop 2 = .ok (.invokevirtual 339, 3) := dk_182 1 83 (dk_at dksX1_drop_0 2 rfl rfl)
theorem dX1_drop_5 : decode cX1_drop 5 = .ok (.ifCond .ne 5, 3) := dk_154 0 5 (dk_at dksX1_drop_0 5 rfl rfl)
theorem dX1_drop_8 : decode cX1_drop 8 = .ok (.iconst 0, 1) := dk_3 (dk_at dksX1_drop_0 8 rfl rfl)
theorem dX1_drop_9 : decode cX1_drop 9 = .ok (.ireturn, 1) := dk_172 (dk_at dksX1_drop_0 9 rfl rfl)
theorem dX1_drop_10 : decode cX1_drop 10 = .ok (.aload_n 0, 1) := dk_42 (dk_at dksX1_drop_0 10 rfl rfl)
theorem dX1_drop_11 : decode cX1_drop 11 = .ok (.invokevirtual 270, 3) := dk_182 1 14 (dk_at dksX1_drop_0 11 rfl rfl)
theorem dX1_drop_14 : decode cX1_drop 14 = .ok (.aload_n 0, 1) := dk_42 (dk_at dksX1_drop_0 14 rfl rfl)
theorem dX1_drop_15 : decode cX1_drop 15 = .ok (.getfield 73, 3) := dk_180 0 73 (dk_at dksX1_drop_0 15 rfl rfl)
theorem dX1_drop_18 : decode cX1_drop 18 = .ok (.iload_n 1, 1) := dk_27 (dk_at dksX1_drop_0 18 rfl rfl)
theorem dX1_drop_19 : decode cX1_drop 19 = .ok (.invokevirtual 342, 3) := dk_182 1 86 (dk_at dksX1_drop_0 19 rfl rfl)
theorem dX1_drop_22 : decode cX1_drop 22 = .ok (.iconst 1, 1) := dk_4 (dk_at dksX1_drop_0 22 rfl rfl)
theorem dX1_drop_23 : decode cX1_drop 23 = .ok (.ireturn, 1) := dk_172 (dk_at dksX1_drop_0 23 rfl rfl)
abbrev cX1_isGo : ByteArray := prog_1_method_31_code
def yX1_isGo : MethodName := ⟨RX1, "isGo", "(I)Z"⟩
def dkwX1_isGo_0 : List UInt8 := [27, 3, 42, 180, 0, 73, 180, 0, 213, 4, 100, 184, 0, 231, 172]
abbrev dktX1_isGo_0 : List UInt8 := dkwX1_isGo_0 ++ []
theorem dksX1_isGo_0 : cX1_isGo.data.toList.drop 0 = dktX1_isGo_0 := by decide +kernel
theorem dX1_isGo_0 : decode cX1_isGo 0 = .ok (.iload_n 1, 1) := dk_27 (dk_at dksX1_isGo_0 0 rfl rfl)
theorem dX1_isGo_1 : decode cX1_isGo 1 = .ok (.iconst 0, 1) := dk_3 (dk_at dksX1_isGo_0 1 rfl rfl)
theorem dX1_isGo_2 : decode cX1_isGo 2 = .ok (.aload_n 0, 1) := dk_42 (dk_at dksX1_isGo_0 2 rfl rfl)
theorem dX1_isGo_3 : decode cX1_isGo 3 = .ok (.getfield 73, 3) := dk_180 0 73 (dk_at dksX1_isGo_0 3 rfl rfl)
theorem dX1_isGo_6 : decode cX1_isGo 6 = .ok (.getfield 213, 3) := dk_180 0 213 (dk_at dksX1_isGo_0 6 rfl rfl)
theorem dX1_isGo_9 : decode cX1_isGo 9 = .ok (.iconst 1, 1) := dk_4 (dk_at dksX1_isGo_0 9 rfl rfl)
theorem dX1_isGo_10 : decode cX1_isGo 10 = .ok (.isub, 1) := dk_100 (dk_at dksX1_isGo_0 10 rfl rfl)
theorem dX1_isGo_11 : decode cX1_isGo 11 = .ok (.invokestatic 231, 3) := dk_184 0 231 (dk_at dksX1_isGo_0 11 rfl rfl)
theorem dX1_isGo_14 : decode cX1_isGo 14 = .ok (.ireturn, 1) := dk_172 (dk_at dksX1_isGo_0 14 rfl rfl)
abbrev cX1_later : ByteArray := prog_1_method_34_code
def yX1_later : MethodName := ⟨RX1, "later", "(II)Z"⟩
def dkwX1_later_2 : List UInt8 := [3, 172, 42, 182, 1, 14, 42, 180, 0, 73, 180, 1, 28, 27, 92, 46, 28, 96, 79, 4, 172]
abbrev dktX1_later_2 : List UInt8 := dkwX1_later_2 ++ []
def dkwX1_later_1 : List UInt8 := [153, 0, 24, 42, 180, 0, 73, 180, 1, 28, 27, 46, 28, 96, 3, 17, 3, 132, 184, 0, 231, 154, 0, 5]
abbrev dktX1_later_1 : List UInt8 := dkwX1_later_1 ++ dktX1_later_2
def dkwX1_later_0 : List UInt8 := [42, 27, 182, 1, 83, 153, 0, 41, 28, 153, 0, 37, 28, 17, 252, 124, 17, 3, 132, 184, 0, 231]
abbrev dktX1_later_0 : List UInt8 := dkwX1_later_0 ++ dktX1_later_1
theorem dksX1_later_0 : cX1_later.data.toList.drop 0 = dktX1_later_0 := by decide +kernel
theorem dksX1_later_1 : cX1_later.data.toList.drop 22 = dktX1_later_1 := dk_seg dksX1_later_0 22 rfl rfl
theorem dksX1_later_2 : cX1_later.data.toList.drop 46 = dktX1_later_2 := dk_seg dksX1_later_1 24 rfl rfl
theorem dX1_later_0 : decode cX1_later 0 = .ok (.aload_n 0, 1) := dk_42 (dk_at dksX1_later_0 0 rfl rfl)
theorem dX1_later_1 : decode cX1_later 1 = .ok (.iload_n 1, 1) := dk_27 (dk_at dksX1_later_0 1 rfl rfl)
theorem dX1_later_2 : decode cX1_later 2 = .ok (.invokevirtual 339, 3) := dk_182 1 83 (dk_at dksX1_later_0 2 rfl rfl)
theorem dX1_later_5 : decode cX1_later 5 = .ok (.ifCond .eq 41, 3) := dk_153 0 41 (dk_at dksX1_later_0 5 rfl rfl)
theorem dX1_later_8 : decode cX1_later 8 = .ok (.iload_n 2, 1) := dk_28 (dk_at dksX1_later_0 8 rfl rfl)
theorem dX1_later_9 : decode cX1_later 9 = .ok (.ifCond .eq 37, 3) := dk_153 0 37 (dk_at dksX1_later_0 9 rfl rfl)
theorem dX1_later_12 : decode cX1_later 12 = .ok (.iload_n 2, 1) := dk_28 (dk_at dksX1_later_0 12 rfl rfl)
theorem dX1_later_13 : decode cX1_later 13 = .ok (.sipush (-900), 3) := dk_17 252 124 (dk_at dksX1_later_0 13 rfl rfl)
theorem dX1_later_16 : decode cX1_later 16 = .ok (.sipush 900, 3) := dk_17 3 132 (dk_at dksX1_later_0 16 rfl rfl)
theorem dX1_later_19 : decode cX1_later 19 = .ok (.invokestatic 231, 3) := dk_184 0 231 (dk_at dksX1_later_0 19 rfl rfl)
theorem dX1_later_22 : decode cX1_later 22 = .ok (.ifCond .eq 24, 3) := dk_153 0 24 (dk_at dksX1_later_1 0 rfl rfl)
theorem dX1_later_25 : decode cX1_later 25 = .ok (.aload_n 0, 1) := dk_42 (dk_at dksX1_later_1 3 rfl rfl)
theorem dX1_later_26 : decode cX1_later 26 = .ok (.getfield 73, 3) := dk_180 0 73 (dk_at dksX1_later_1 4 rfl rfl)
theorem dX1_later_29 : decode cX1_later 29 = .ok (.getfield 284, 3) := dk_180 1 28 (dk_at dksX1_later_1 7 rfl rfl)
theorem dX1_later_32 : decode cX1_later 32 = .ok (.iload_n 1, 1) := dk_27 (dk_at dksX1_later_1 10 rfl rfl)
theorem dX1_later_33 : decode cX1_later 33 = .ok (.iaload, 1) := dk_46 (dk_at dksX1_later_1 11 rfl rfl)
theorem dX1_later_34 : decode cX1_later 34 = .ok (.iload_n 2, 1) := dk_28 (dk_at dksX1_later_1 12 rfl rfl)
theorem dX1_later_35 : decode cX1_later 35 = .ok (.iadd, 1) := dk_96 (dk_at dksX1_later_1 13 rfl rfl)
theorem dX1_later_36 : decode cX1_later 36 = .ok (.iconst 0, 1) := dk_3 (dk_at dksX1_later_1 14 rfl rfl)
theorem dX1_later_37 : decode cX1_later 37 = .ok (.sipush 900, 3) := dk_17 3 132 (dk_at dksX1_later_1 15 rfl rfl)
theorem dX1_later_40 : decode cX1_later 40 = .ok (.invokestatic 231, 3) := dk_184 0 231 (dk_at dksX1_later_1 18 rfl rfl)
theorem dX1_later_43 : decode cX1_later 43 = .ok (.ifCond .ne 5, 3) := dk_154 0 5 (dk_at dksX1_later_1 21 rfl rfl)
theorem dX1_later_46 : decode cX1_later 46 = .ok (.iconst 0, 1) := dk_3 (dk_at dksX1_later_2 0 rfl rfl)
theorem dX1_later_47 : decode cX1_later 47 = .ok (.ireturn, 1) := dk_172 (dk_at dksX1_later_2 1 rfl rfl)
theorem dX1_later_48 : decode cX1_later 48 = .ok (.aload_n 0, 1) := dk_42 (dk_at dksX1_later_2 2 rfl rfl)
theorem dX1_later_49 : decode cX1_later 49 = .ok (.invokevirtual 270, 3) := dk_182 1 14 (dk_at dksX1_later_2 3 rfl rfl)
theorem dX1_later_52 : decode cX1_later 52 = .ok (.aload_n 0, 1) := dk_42 (dk_at dksX1_later_2 6 rfl rfl)
theorem dX1_later_53 : decode cX1_later 53 = .ok (.getfield 73, 3) := dk_180 0 73 (dk_at dksX1_later_2 7 rfl rfl)
theorem dX1_later_56 : decode cX1_later 56 = .ok (.getfield 284, 3) := dk_180 1 28 (dk_at dksX1_later_2 10 rfl rfl)
theorem dX1_later_59 : decode cX1_later 59 = .ok (.iload_n 1, 1) := dk_27 (dk_at dksX1_later_2 13 rfl rfl)
theorem dX1_later_60 : decode cX1_later 60 = .ok (.dup2, 1) := dk_92 (dk_at dksX1_later_2 14 rfl rfl)
theorem dX1_later_61 : decode cX1_later 61 = .ok (.iaload, 1) := dk_46 (dk_at dksX1_later_2 15 rfl rfl)
theorem dX1_later_62 : decode cX1_later 62 = .ok (.iload_n 2, 1) := dk_28 (dk_at dksX1_later_2 16 rfl rfl)
theorem dX1_later_63 : decode cX1_later 63 = .ok (.iadd, 1) := dk_96 (dk_at dksX1_later_2 17 rfl rfl)
theorem dX1_later_64 : decode cX1_later 64 = .ok (.iastore, 1) := dk_79 (dk_at dksX1_later_2 18 rfl rfl)
theorem dX1_later_65 : decode cX1_later 65 = .ok (.iconst 1, 1) := dk_4 (dk_at dksX1_later_2 19 rfl rfl)
theorem dX1_later_66 : decode cX1_later 66 = .ok (.ireturn, 1) := dk_172 (dk_at dksX1_later_2 20 rfl rfl)
abbrev cX1_early : ByteArray := prog_1_method_36_code
def yX1_early : MethodName := ⟨RX1, "early", "()I"⟩
def dkwX1_early_5 : List UInt8 := [180, 0, 73, 44, 182, 1, 17, 27, 172]
abbrev dktX1_early_5 : List UInt8 := dkwX1_early_5 ++ []
def dkwX1_early_4 : List UInt8 := [180, 0, 73, 182, 1, 17, 42, 180, 0, 73, 42, 180, 0, 77, 182, 1, 17, 42, 182, 1, 14, 42]
abbrev dktX1_early_4 : List UInt8 := dkwX1_early_4 ++ dktX1_early_5
def dkwX1_early_3 : List UInt8 := [60, 132, 2, 1, 167, 255, 197, 27, 154, 0, 5, 3, 172, 187, 0, 70, 89, 183, 0, 72, 77, 44, 42]
abbrev dktX1_early_3 : List UInt8 := dkwX1_early_3 ++ dktX1_early_4
def dkwX1_early_2 : List UInt8 := [182, 1, 89, 79, 27, 42, 180, 0, 73, 180, 1, 28, 28, 46, 29, 162, 0, 7, 4, 167, 0, 4, 3, 96]
abbrev dktX1_early_2 : List UInt8 := dkwX1_early_2 ++ dktX1_early_3
def dkwX1_early_1 : List UInt8 := [162, 0, 54, 42, 180, 0, 73, 180, 1, 28, 28, 46, 62, 42, 180, 0, 73, 180, 1, 28, 28, 42, 28]
abbrev dktX1_early_1 : List UInt8 := dkwX1_early_1 ++ dktX1_early_2
def dkwX1_early_0 : List UInt8 := [42, 180, 0, 77, 42, 180, 0, 73, 182, 1, 17, 3, 60, 3, 61, 28, 42, 180, 0, 73, 180, 0, 213]
abbrev dktX1_early_0 : List UInt8 := dkwX1_early_0 ++ dktX1_early_1
theorem dksX1_early_0 : cX1_early.data.toList.drop 0 = dktX1_early_0 := by decide +kernel
theorem dksX1_early_1 : cX1_early.data.toList.drop 23 = dktX1_early_1 := dk_seg dksX1_early_0 23 rfl rfl
theorem dksX1_early_2 : cX1_early.data.toList.drop 46 = dktX1_early_2 := dk_seg dksX1_early_1 23 rfl rfl
theorem dksX1_early_3 : cX1_early.data.toList.drop 70 = dktX1_early_3 := dk_seg dksX1_early_2 24 rfl rfl
theorem dksX1_early_4 : cX1_early.data.toList.drop 93 = dktX1_early_4 := dk_seg dksX1_early_3 23 rfl rfl
theorem dksX1_early_5 : cX1_early.data.toList.drop 115 = dktX1_early_5 := dk_seg dksX1_early_4 22 rfl rfl
theorem dX1_early_0 : decode cX1_early 0 = .ok (.aload_n 0, 1) := dk_42 (dk_at dksX1_early_0 0 rfl rfl)
theorem dX1_early_1 : decode cX1_early 1 = .ok (.getfield 77, 3) := dk_180 0 77 (dk_at dksX1_early_0 1 rfl rfl)
theorem dX1_early_4 : decode cX1_early 4 = .ok (.aload_n 0, 1) := dk_42 (dk_at dksX1_early_0 4 rfl rfl)
theorem dX1_early_5 : decode cX1_early 5 = .ok (.getfield 73, 3) := dk_180 0 73 (dk_at dksX1_early_0 5 rfl rfl)
theorem dX1_early_8 : decode cX1_early 8 = .ok (.invokevirtual 273, 3) := dk_182 1 17 (dk_at dksX1_early_0 8 rfl rfl)
theorem dX1_early_11 : decode cX1_early 11 = .ok (.iconst 0, 1) := dk_3 (dk_at dksX1_early_0 11 rfl rfl)
theorem dX1_early_12 : decode cX1_early 12 = .ok (.istore_n 1, 1) := dk_60 (dk_at dksX1_early_0 12 rfl rfl)
theorem dX1_early_13 : decode cX1_early 13 = .ok (.iconst 0, 1) := dk_3 (dk_at dksX1_early_0 13 rfl rfl)
theorem dX1_early_14 : decode cX1_early 14 = .ok (.istore_n 2, 1) := dk_61 (dk_at dksX1_early_0 14 rfl rfl)
theorem dX1_early_15 : decode cX1_early 15 = .ok (.iload_n 2, 1) := dk_28 (dk_at dksX1_early_0 15 rfl rfl)
theorem dX1_early_16 : decode cX1_early 16 = .ok (.aload_n 0, 1) := dk_42 (dk_at dksX1_early_0 16 rfl rfl)
theorem dX1_early_17 : decode cX1_early 17 = .ok (.getfield 73, 3) := dk_180 0 73 (dk_at dksX1_early_0 17 rfl rfl)
theorem dX1_early_20 : decode cX1_early 20 = .ok (.getfield 213, 3) := dk_180 0 213 (dk_at dksX1_early_0 20 rfl rfl)
theorem dX1_early_23 : decode cX1_early 23 = .ok (.if_icmp .ge 54, 3) := dk_162 0 54 (dk_at dksX1_early_1 0 rfl rfl)
theorem dX1_early_26 : decode cX1_early 26 = .ok (.aload_n 0, 1) := dk_42 (dk_at dksX1_early_1 3 rfl rfl)
theorem dX1_early_27 : decode cX1_early 27 = .ok (.getfield 73, 3) := dk_180 0 73 (dk_at dksX1_early_1 4 rfl rfl)
theorem dX1_early_30 : decode cX1_early 30 = .ok (.getfield 284, 3) := dk_180 1 28 (dk_at dksX1_early_1 7 rfl rfl)
theorem dX1_early_33 : decode cX1_early 33 = .ok (.iload_n 2, 1) := dk_28 (dk_at dksX1_early_1 10 rfl rfl)
theorem dX1_early_34 : decode cX1_early 34 = .ok (.iaload, 1) := dk_46 (dk_at dksX1_early_1 11 rfl rfl)
theorem dX1_early_35 : decode cX1_early 35 = .ok (.istore_n 3, 1) := dk_62 (dk_at dksX1_early_1 12 rfl rfl)
theorem dX1_early_36 : decode cX1_early 36 = .ok (.aload_n 0, 1) := dk_42 (dk_at dksX1_early_1 13 rfl rfl)
theorem dX1_early_37 : decode cX1_early 37 = .ok (.getfield 73, 3) := dk_180 0 73 (dk_at dksX1_early_1 14 rfl rfl)
theorem dX1_early_40 : decode cX1_early 40 = .ok (.getfield 284, 3) := dk_180 1 28 (dk_at dksX1_early_1 17 rfl rfl)
theorem dX1_early_43 : decode cX1_early 43 = .ok (.iload_n 2, 1) := dk_28 (dk_at dksX1_early_1 20 rfl rfl)
theorem dX1_early_44 : decode cX1_early 44 = .ok (.aload_n 0, 1) := dk_42 (dk_at dksX1_early_1 21 rfl rfl)
theorem dX1_early_45 : decode cX1_early 45 = .ok (.iload_n 2, 1) := dk_28 (dk_at dksX1_early_1 22 rfl rfl)
theorem dX1_early_46 : decode cX1_early 46 = .ok (.invokevirtual 345, 3) := dk_182 1 89 (dk_at dksX1_early_2 0 rfl rfl)
theorem dX1_early_49 : decode cX1_early 49 = .ok (.iastore, 1) := dk_79 (dk_at dksX1_early_2 3 rfl rfl)
theorem dX1_early_50 : decode cX1_early 50 = .ok (.iload_n 1, 1) := dk_27 (dk_at dksX1_early_2 4 rfl rfl)
theorem dX1_early_51 : decode cX1_early 51 = .ok (.aload_n 0, 1) := dk_42 (dk_at dksX1_early_2 5 rfl rfl)
theorem dX1_early_52 : decode cX1_early 52 = .ok (.getfield 73, 3) := dk_180 0 73 (dk_at dksX1_early_2 6 rfl rfl)
theorem dX1_early_55 : decode cX1_early 55 = .ok (.getfield 284, 3) := dk_180 1 28 (dk_at dksX1_early_2 9 rfl rfl)
theorem dX1_early_58 : decode cX1_early 58 = .ok (.iload_n 2, 1) := dk_28 (dk_at dksX1_early_2 12 rfl rfl)
theorem dX1_early_59 : decode cX1_early 59 = .ok (.iaload, 1) := dk_46 (dk_at dksX1_early_2 13 rfl rfl)
theorem dX1_early_60 : decode cX1_early 60 = .ok (.iload_n 3, 1) := dk_29 (dk_at dksX1_early_2 14 rfl rfl)
theorem dX1_early_61 : decode cX1_early 61 = .ok (.if_icmp .ge 7, 3) := dk_162 0 7 (dk_at dksX1_early_2 15 rfl rfl)
theorem dX1_early_64 : decode cX1_early 64 = .ok (.iconst 1, 1) := dk_4 (dk_at dksX1_early_2 18 rfl rfl)
theorem dX1_early_65 : decode cX1_early 65 = .ok (.goto 4, 3) := dk_167 0 4 (dk_at dksX1_early_2 19 rfl rfl)
theorem dX1_early_68 : decode cX1_early 68 = .ok (.iconst 0, 1) := dk_3 (dk_at dksX1_early_2 22 rfl rfl)
theorem dX1_early_69 : decode cX1_early 69 = .ok (.iadd, 1) := dk_96 (dk_at dksX1_early_2 23 rfl rfl)
theorem dX1_early_70 : decode cX1_early 70 = .ok (.istore_n 1, 1) := dk_60 (dk_at dksX1_early_3 0 rfl rfl)
theorem dX1_early_71 : decode cX1_early 71 = .ok (.iinc 2 1, 3) := dk_132 2 1 (dk_at dksX1_early_3 1 rfl rfl)
theorem dX1_early_74 : decode cX1_early 74 = .ok (.goto (-59), 3) := dk_167 255 197 (dk_at dksX1_early_3 4 rfl rfl)
theorem dX1_early_77 : decode cX1_early 77 = .ok (.iload_n 1, 1) := dk_27 (dk_at dksX1_early_3 7 rfl rfl)
theorem dX1_early_78 : decode cX1_early 78 = .ok (.ifCond .ne 5, 3) := dk_154 0 5 (dk_at dksX1_early_3 8 rfl rfl)
theorem dX1_early_81 : decode cX1_early 81 = .ok (.iconst 0, 1) := dk_3 (dk_at dksX1_early_3 11 rfl rfl)
theorem dX1_early_82 : decode cX1_early 82 = .ok (.ireturn, 1) := dk_172 (dk_at dksX1_early_3 12 rfl rfl)
theorem dX1_early_83 : decode cX1_early 83 = .ok (.new 70, 3) := dk_187 0 70 (dk_at dksX1_early_3 13 rfl rfl)
theorem dX1_early_86 : decode cX1_early 86 = .ok (.dup, 1) := dk_89 (dk_at dksX1_early_3 16 rfl rfl)
theorem dX1_early_87 : decode cX1_early 87 = .ok (.invokespecial 72, 3) := dk_183 0 72 (dk_at dksX1_early_3 17 rfl rfl)
theorem dX1_early_90 : decode cX1_early 90 = .ok (.astore_n 2, 1) := dk_77 (dk_at dksX1_early_3 20 rfl rfl)
theorem dX1_early_91 : decode cX1_early 91 = .ok (.aload_n 2, 1) := dk_44 (dk_at dksX1_early_3 21 rfl rfl)
theorem dX1_early_92 : decode cX1_early 92 = .ok (.aload_n 0, 1) := dk_42 (dk_at dksX1_early_3 22 rfl rfl)
theorem dX1_early_93 : decode cX1_early 93 = .ok (.getfield 73, 3) := dk_180 0 73 (dk_at dksX1_early_4 0 rfl rfl)
theorem dX1_early_96 : decode cX1_early 96 = .ok (.invokevirtual 273, 3) := dk_182 1 17 (dk_at dksX1_early_4 3 rfl rfl)
theorem dX1_early_99 : decode cX1_early 99 = .ok (.aload_n 0, 1) := dk_42 (dk_at dksX1_early_4 6 rfl rfl)
theorem dX1_early_100 : decode cX1_early 100 = .ok (.getfield 73, 3) := dk_180 0 73 (dk_at dksX1_early_4 7 rfl rfl)
theorem dX1_early_103 : decode cX1_early 103 = .ok (.aload_n 0, 1) := dk_42 (dk_at dksX1_early_4 10 rfl rfl)
theorem dX1_early_104 : decode cX1_early 104 = .ok (.getfield 77, 3) := dk_180 0 77 (dk_at dksX1_early_4 11 rfl rfl)
theorem dX1_early_107 : decode cX1_early 107 = .ok (.invokevirtual 273, 3) := dk_182 1 17 (dk_at dksX1_early_4 14 rfl rfl)
theorem dX1_early_110 : decode cX1_early 110 = .ok (.aload_n 0, 1) := dk_42 (dk_at dksX1_early_4 17 rfl rfl)
theorem dX1_early_111 : decode cX1_early 111 = .ok (.invokevirtual 270, 3) := dk_182 1 14 (dk_at dksX1_early_4 18 rfl rfl)
theorem dX1_early_114 : decode cX1_early 114 = .ok (.aload_n 0, 1) := dk_42 (dk_at dksX1_early_4 21 rfl rfl)
theorem dX1_early_115 : decode cX1_early 115 = .ok (.getfield 73, 3) := dk_180 0 73 (dk_at dksX1_early_5 0 rfl rfl)
theorem dX1_early_118 : decode cX1_early 118 = .ok (.aload_n 2, 1) := dk_44 (dk_at dksX1_early_5 3 rfl rfl)
theorem dX1_early_119 : decode cX1_early 119 = .ok (.invokevirtual 273, 3) := dk_182 1 17 (dk_at dksX1_early_5 4 rfl rfl)
theorem dX1_early_122 : decode cX1_early 122 = .ok (.iload_n 1, 1) := dk_27 (dk_at dksX1_early_5 7 rfl rfl)
theorem dX1_early_123 : decode cX1_early 123 = .ok (.ireturn, 1) := dk_172 (dk_at dksX1_early_5 8 rfl rfl)
abbrev cX1_earliest : ByteArray := prog_1_method_35_code
def yX1_earliest : MethodName := ⟨RX1, "earliest", "(I)I"⟩
def dkwX1_earliest_2 : List UInt8 := [167, 255, 221, 42, 180, 0, 73, 180, 1, 28, 27, 28, 79, 28, 172]
abbrev dktX1_earliest_2 : List UInt8 := dkwX1_earliest_2 ++ []
def dkwX1_earliest_1 : List UInt8 := [27, 29, 79, 42, 180, 0, 73, 42, 180, 0, 66, 27, 182, 1, 20, 154, 0, 5, 29, 172, 132, 3, 1]
abbrev dktX1_earliest_1 : List UInt8 := dkwX1_earliest_1 ++ dktX1_earliest_2
def dkwX1_earliest_0 : List UInt8 := [42, 180, 0, 73, 180, 1, 28, 27, 46, 61, 3, 62, 29, 28, 162, 0, 36, 42, 180, 0, 73, 180, 1, 28]
abbrev dktX1_earliest_0 : List UInt8 := dkwX1_earliest_0 ++ dktX1_earliest_1
theorem dksX1_earliest_0 : cX1_earliest.data.toList.drop 0 = dktX1_earliest_0 := by decide +kernel
theorem dksX1_earliest_1 : cX1_earliest.data.toList.drop 24 = dktX1_earliest_1 := dk_seg dksX1_earliest_0 24 rfl rfl
theorem dksX1_earliest_2 : cX1_earliest.data.toList.drop 47 = dktX1_earliest_2 := dk_seg dksX1_earliest_1 23 rfl rfl
theorem dX1_earliest_0 : decode cX1_earliest 0 = .ok (.aload_n 0, 1) := dk_42 (dk_at dksX1_earliest_0 0 rfl rfl)
theorem dX1_earliest_1 : decode cX1_earliest 1 = .ok (.getfield 73, 3) := dk_180 0 73 (dk_at dksX1_earliest_0 1 rfl rfl)
theorem dX1_earliest_4 : decode cX1_earliest 4 = .ok (.getfield 284, 3) := dk_180 1 28 (dk_at dksX1_earliest_0 4 rfl rfl)
theorem dX1_earliest_7 : decode cX1_earliest 7 = .ok (.iload_n 1, 1) := dk_27 (dk_at dksX1_earliest_0 7 rfl rfl)
theorem dX1_earliest_8 : decode cX1_earliest 8 = .ok (.iaload, 1) := dk_46 (dk_at dksX1_earliest_0 8 rfl rfl)
theorem dX1_earliest_9 : decode cX1_earliest 9 = .ok (.istore_n 2, 1) := dk_61 (dk_at dksX1_earliest_0 9 rfl rfl)
theorem dX1_earliest_10 : decode cX1_earliest 10 = .ok (.iconst 0, 1) := dk_3 (dk_at dksX1_earliest_0 10 rfl rfl)
theorem dX1_earliest_11 : decode cX1_earliest 11 = .ok (.istore_n 3, 1) := dk_62 (dk_at dksX1_earliest_0 11 rfl rfl)
theorem dX1_earliest_12 : decode cX1_earliest 12 = .ok (.iload_n 3, 1) := dk_29 (dk_at dksX1_earliest_0 12 rfl rfl)
theorem dX1_earliest_13 : decode cX1_earliest 13 = .ok (.iload_n 2, 1) := dk_28 (dk_at dksX1_earliest_0 13 rfl rfl)
theorem dX1_earliest_14 : decode cX1_earliest 14 = .ok (.if_icmp .ge 36, 3) := dk_162 0 36 (dk_at dksX1_earliest_0 14 rfl rfl)
theorem dX1_earliest_17 : decode cX1_earliest 17 = .ok (.aload_n 0, 1) := dk_42 (dk_at dksX1_earliest_0 17 rfl rfl)
theorem dX1_earliest_18 : decode cX1_earliest 18 = .ok (.getfield 73, 3) := dk_180 0 73 (dk_at dksX1_earliest_0 18 rfl rfl)
theorem dX1_earliest_21 : decode cX1_earliest 21 = .ok (.getfield 284, 3) := dk_180 1 28 (dk_at dksX1_earliest_0 21 rfl rfl)
theorem dX1_earliest_24 : decode cX1_earliest 24 = .ok (.iload_n 1, 1) := dk_27 (dk_at dksX1_earliest_1 0 rfl rfl)
theorem dX1_earliest_25 : decode cX1_earliest 25 = .ok (.iload_n 3, 1) := dk_29 (dk_at dksX1_earliest_1 1 rfl rfl)
theorem dX1_earliest_26 : decode cX1_earliest 26 = .ok (.iastore, 1) := dk_79 (dk_at dksX1_earliest_1 2 rfl rfl)
theorem dX1_earliest_27 : decode cX1_earliest 27 = .ok (.aload_n 0, 1) := dk_42 (dk_at dksX1_earliest_1 3 rfl rfl)
theorem dX1_earliest_28 : decode cX1_earliest 28 = .ok (.getfield 73, 3) := dk_180 0 73 (dk_at dksX1_earliest_1 4 rfl rfl)
theorem dX1_earliest_31 : decode cX1_earliest 31 = .ok (.aload_n 0, 1) := dk_42 (dk_at dksX1_earliest_1 7 rfl rfl)
theorem dX1_earliest_32 : decode cX1_earliest 32 = .ok (.getfield 66, 3) := dk_180 0 66 (dk_at dksX1_earliest_1 8 rfl rfl)
theorem dX1_earliest_35 : decode cX1_earliest 35 = .ok (.iload_n 1, 1) := dk_27 (dk_at dksX1_earliest_1 11 rfl rfl)
theorem dX1_earliest_36 : decode cX1_earliest 36 = .ok (.invokevirtual 276, 3) := dk_182 1 20 (dk_at dksX1_earliest_1 12 rfl rfl)
theorem dX1_earliest_39 : decode cX1_earliest 39 = .ok (.ifCond .ne 5, 3) := dk_154 0 5 (dk_at dksX1_earliest_1 15 rfl rfl)
theorem dX1_earliest_42 : decode cX1_earliest 42 = .ok (.iload_n 3, 1) := dk_29 (dk_at dksX1_earliest_1 18 rfl rfl)
theorem dX1_earliest_43 : decode cX1_earliest 43 = .ok (.ireturn, 1) := dk_172 (dk_at dksX1_earliest_1 19 rfl rfl)
theorem dX1_earliest_44 : decode cX1_earliest 44 = .ok (.iinc 3 1, 3) := dk_132 3 1 (dk_at dksX1_earliest_1 20 rfl rfl)
theorem dX1_earliest_47 : decode cX1_earliest 47 = .ok (.goto (-35), 3) := dk_167 255 221 (dk_at dksX1_earliest_2 0 rfl rfl)
theorem dX1_earliest_50 : decode cX1_earliest 50 = .ok (.aload_n 0, 1) := dk_42 (dk_at dksX1_earliest_2 3 rfl rfl)
theorem dX1_earliest_51 : decode cX1_earliest 51 = .ok (.getfield 73, 3) := dk_180 0 73 (dk_at dksX1_earliest_2 4 rfl rfl)
theorem dX1_earliest_54 : decode cX1_earliest 54 = .ok (.getfield 284, 3) := dk_180 1 28 (dk_at dksX1_earliest_2 7 rfl rfl)
theorem dX1_earliest_57 : decode cX1_earliest 57 = .ok (.iload_n 1, 1) := dk_27 (dk_at dksX1_earliest_2 10 rfl rfl)
theorem dX1_earliest_58 : decode cX1_earliest 58 = .ok (.iload_n 2, 1) := dk_28 (dk_at dksX1_earliest_2 11 rfl rfl)
theorem dX1_earliest_59 : decode cX1_earliest 59 = .ok (.iastore, 1) := dk_79 (dk_at dksX1_earliest_2 12 rfl rfl)
theorem dX1_earliest_60 : decode cX1_earliest 60 = .ok (.iload_n 2, 1) := dk_28 (dk_at dksX1_earliest_2 13 rfl rfl)
theorem dX1_earliest_61 : decode cX1_earliest 61 = .ok (.ireturn, 1) := dk_172 (dk_at dksX1_earliest_2 14 rfl rfl)
abbrev cX1_idle : ByteArray := prog_1_method_37_code
def yX1_idle : MethodName := ⟨RX1, "idle", "(I)I"⟩
def dkwX1_idle_2 : List UInt8 := [167, 0, 4, 4, 96, 61, 132, 3, 1, 167, 255, 222, 28, 172]
abbrev dktX1_idle_2 : List UInt8 := dkwX1_idle_2 ++ []
def dkwX1_idle_1 : List UInt8 := [42, 180, 0, 73, 182, 1, 40, 162, 0, 29, 28, 42, 180, 0, 73, 27, 29, 182, 1, 92, 153, 0, 7, 3]
abbrev dktX1_idle_1 : List UInt8 := dkwX1_idle_1 ++ dktX1_idle_2
def dkwX1_idle_0 : List UInt8 := [27, 3, 42, 180, 0, 66, 180, 1, 76, 4, 100, 184, 0, 231, 154, 0, 5, 2, 172, 3, 61, 3, 62, 29]
abbrev dktX1_idle_0 : List UInt8 := dkwX1_idle_0 ++ dktX1_idle_1
theorem dksX1_idle_0 : cX1_idle.data.toList.drop 0 = dktX1_idle_0 := by decide +kernel
theorem dksX1_idle_1 : cX1_idle.data.toList.drop 24 = dktX1_idle_1 := dk_seg dksX1_idle_0 24 rfl rfl
theorem dksX1_idle_2 : cX1_idle.data.toList.drop 48 = dktX1_idle_2 := dk_seg dksX1_idle_1 24 rfl rfl
theorem dX1_idle_0 : decode cX1_idle 0 = .ok (.iload_n 1, 1) := dk_27 (dk_at dksX1_idle_0 0 rfl rfl)
theorem dX1_idle_1 : decode cX1_idle 1 = .ok (.iconst 0, 1) := dk_3 (dk_at dksX1_idle_0 1 rfl rfl)
theorem dX1_idle_2 : decode cX1_idle 2 = .ok (.aload_n 0, 1) := dk_42 (dk_at dksX1_idle_0 2 rfl rfl)
theorem dX1_idle_3 : decode cX1_idle 3 = .ok (.getfield 66, 3) := dk_180 0 66 (dk_at dksX1_idle_0 3 rfl rfl)
theorem dX1_idle_6 : decode cX1_idle 6 = .ok (.getfield 332, 3) := dk_180 1 76 (dk_at dksX1_idle_0 6 rfl rfl)
theorem dX1_idle_9 : decode cX1_idle 9 = .ok (.iconst 1, 1) := dk_4 (dk_at dksX1_idle_0 9 rfl rfl)
theorem dX1_idle_10 : decode cX1_idle 10 = .ok (.isub, 1) := dk_100 (dk_at dksX1_idle_0 10 rfl rfl)
theorem dX1_idle_11 : decode cX1_idle 11 = .ok (.invokestatic 231, 3) := dk_184 0 231 (dk_at dksX1_idle_0 11 rfl rfl)
theorem dX1_idle_14 : decode cX1_idle 14 = .ok (.ifCond .ne 5, 3) := dk_154 0 5 (dk_at dksX1_idle_0 14 rfl rfl)
theorem dX1_idle_17 : decode cX1_idle 17 = .ok (.iconst (-1), 1) := dk_2 (dk_at dksX1_idle_0 17 rfl rfl)
theorem dX1_idle_18 : decode cX1_idle 18 = .ok (.ireturn, 1) := dk_172 (dk_at dksX1_idle_0 18 rfl rfl)
theorem dX1_idle_19 : decode cX1_idle 19 = .ok (.iconst 0, 1) := dk_3 (dk_at dksX1_idle_0 19 rfl rfl)
theorem dX1_idle_20 : decode cX1_idle 20 = .ok (.istore_n 2, 1) := dk_61 (dk_at dksX1_idle_0 20 rfl rfl)
theorem dX1_idle_21 : decode cX1_idle 21 = .ok (.iconst 0, 1) := dk_3 (dk_at dksX1_idle_0 21 rfl rfl)
theorem dX1_idle_22 : decode cX1_idle 22 = .ok (.istore_n 3, 1) := dk_62 (dk_at dksX1_idle_0 22 rfl rfl)
theorem dX1_idle_23 : decode cX1_idle 23 = .ok (.iload_n 3, 1) := dk_29 (dk_at dksX1_idle_0 23 rfl rfl)
theorem dX1_idle_24 : decode cX1_idle 24 = .ok (.aload_n 0, 1) := dk_42 (dk_at dksX1_idle_1 0 rfl rfl)
theorem dX1_idle_25 : decode cX1_idle 25 = .ok (.getfield 73, 3) := dk_180 0 73 (dk_at dksX1_idle_1 1 rfl rfl)
theorem dX1_idle_28 : decode cX1_idle 28 = .ok (.invokevirtual 296, 3) := dk_182 1 40 (dk_at dksX1_idle_1 4 rfl rfl)
theorem dX1_idle_31 : decode cX1_idle 31 = .ok (.if_icmp .ge 29, 3) := dk_162 0 29 (dk_at dksX1_idle_1 7 rfl rfl)
theorem dX1_idle_34 : decode cX1_idle 34 = .ok (.iload_n 2, 1) := dk_28 (dk_at dksX1_idle_1 10 rfl rfl)
theorem dX1_idle_35 : decode cX1_idle 35 = .ok (.aload_n 0, 1) := dk_42 (dk_at dksX1_idle_1 11 rfl rfl)
theorem dX1_idle_36 : decode cX1_idle 36 = .ok (.getfield 73, 3) := dk_180 0 73 (dk_at dksX1_idle_1 12 rfl rfl)
theorem dX1_idle_39 : decode cX1_idle 39 = .ok (.iload_n 1, 1) := dk_27 (dk_at dksX1_idle_1 15 rfl rfl)
theorem dX1_idle_40 : decode cX1_idle 40 = .ok (.iload_n 3, 1) := dk_29 (dk_at dksX1_idle_1 16 rfl rfl)
theorem dX1_idle_41 : decode cX1_idle 41 = .ok (.invokevirtual 348, 3) := dk_182 1 92 (dk_at dksX1_idle_1 17 rfl rfl)
theorem dX1_idle_44 : decode cX1_idle 44 = .ok (.ifCond .eq 7, 3) := dk_153 0 7 (dk_at dksX1_idle_1 20 rfl rfl)
theorem dX1_idle_47 : decode cX1_idle 47 = .ok (.iconst 0, 1) := dk_3 (dk_at dksX1_idle_1 23 rfl rfl)
theorem dX1_idle_48 : decode cX1_idle 48 = .ok (.goto 4, 3) := dk_167 0 4 (dk_at dksX1_idle_2 0 rfl rfl)
theorem dX1_idle_51 : decode cX1_idle 51 = .ok (.iconst 1, 1) := dk_4 (dk_at dksX1_idle_2 3 rfl rfl)
theorem dX1_idle_52 : decode cX1_idle 52 = .ok (.iadd, 1) := dk_96 (dk_at dksX1_idle_2 4 rfl rfl)
theorem dX1_idle_53 : decode cX1_idle 53 = .ok (.istore_n 2, 1) := dk_61 (dk_at dksX1_idle_2 5 rfl rfl)
theorem dX1_idle_54 : decode cX1_idle 54 = .ok (.iinc 3 1, 3) := dk_132 3 1 (dk_at dksX1_idle_2 6 rfl rfl)
theorem dX1_idle_57 : decode cX1_idle 57 = .ok (.goto (-34), 3) := dk_167 255 222 (dk_at dksX1_idle_2 9 rfl rfl)
theorem dX1_idle_60 : decode cX1_idle 60 = .ok (.iload_n 2, 1) := dk_28 (dk_at dksX1_idle_2 12 rfl rfl)
theorem dX1_idle_61 : decode cX1_idle 61 = .ok (.ireturn, 1) := dk_172 (dk_at dksX1_idle_2 13 rfl rfl)
abbrev cX1_forgotten : ByteArray := prog_1_method_38_code
def yX1_forgotten : MethodName := ⟨RX1, "forgotten", "()I"⟩
def dkwX1_forgotten_1 : List UInt8 := [5, 108, 27, 5, 112, 182, 1, 36, 158, 0, 5, 27, 172, 132, 1, 1, 167, 255, 218, 2, 172]
abbrev dktX1_forgotten_1 : List UInt8 := dkwX1_forgotten_1 ++ []
def dkwX1_forgotten_0 : List UInt8 := [3, 60, 27, 5, 42, 180, 0, 66, 180, 0, 228, 104, 162, 0, 31, 42, 180, 0, 73, 42, 180, 0, 66, 27]
abbrev dktX1_forgotten_0 : List UInt8 := dkwX1_forgotten_0 ++ dktX1_forgotten_1
theorem dksX1_forgotten_0 : cX1_forgotten.data.toList.drop 0 = dktX1_forgotten_0 := by decide +kernel
theorem dksX1_forgotten_1 : cX1_forgotten.data.toList.drop 24 = dktX1_forgotten_1 := dk_seg dksX1_forgotten_0 24 rfl rfl
theorem dX1_forgotten_0 : decode cX1_forgotten 0 = .ok (.iconst 0, 1) := dk_3 (dk_at dksX1_forgotten_0 0 rfl rfl)
theorem dX1_forgotten_1 : decode cX1_forgotten 1 = .ok (.istore_n 1, 1) := dk_60 (dk_at dksX1_forgotten_0 1 rfl rfl)
theorem dX1_forgotten_2 : decode cX1_forgotten 2 = .ok (.iload_n 1, 1) := dk_27 (dk_at dksX1_forgotten_0 2 rfl rfl)
theorem dX1_forgotten_3 : decode cX1_forgotten 3 = .ok (.iconst 2, 1) := dk_5 (dk_at dksX1_forgotten_0 3 rfl rfl)
theorem dX1_forgotten_4 : decode cX1_forgotten 4 = .ok (.aload_n 0, 1) := dk_42 (dk_at dksX1_forgotten_0 4 rfl rfl)
theorem dX1_forgotten_5 : decode cX1_forgotten 5 = .ok (.getfield 66, 3) := dk_180 0 66 (dk_at dksX1_forgotten_0 5 rfl rfl)
theorem dX1_forgotten_8 : decode cX1_forgotten 8 = .ok (.getfield 228, 3) := dk_180 0 228 (dk_at dksX1_forgotten_0 8 rfl rfl)
theorem dX1_forgotten_11 : decode cX1_forgotten 11 = .ok (.imul, 1) := dk_104 (dk_at dksX1_forgotten_0 11 rfl rfl)
theorem dX1_forgotten_12 : decode cX1_forgotten 12 = .ok (.if_icmp .ge 31, 3) := dk_162 0 31 (dk_at dksX1_forgotten_0 12 rfl rfl)
theorem dX1_forgotten_15 : decode cX1_forgotten 15 = .ok (.aload_n 0, 1) := dk_42 (dk_at dksX1_forgotten_0 15 rfl rfl)
theorem dX1_forgotten_16 : decode cX1_forgotten 16 = .ok (.getfield 73, 3) := dk_180 0 73 (dk_at dksX1_forgotten_0 16 rfl rfl)
theorem dX1_forgotten_19 : decode cX1_forgotten 19 = .ok (.aload_n 0, 1) := dk_42 (dk_at dksX1_forgotten_0 19 rfl rfl)
theorem dX1_forgotten_20 : decode cX1_forgotten 20 = .ok (.getfield 66, 3) := dk_180 0 66 (dk_at dksX1_forgotten_0 20 rfl rfl)
theorem dX1_forgotten_23 : decode cX1_forgotten 23 = .ok (.iload_n 1, 1) := dk_27 (dk_at dksX1_forgotten_0 23 rfl rfl)
theorem dX1_forgotten_24 : decode cX1_forgotten 24 = .ok (.iconst 2, 1) := dk_5 (dk_at dksX1_forgotten_1 0 rfl rfl)
theorem dX1_forgotten_25 : decode cX1_forgotten 25 = .ok (.idiv, 1) := dk_108 (dk_at dksX1_forgotten_1 1 rfl rfl)
theorem dX1_forgotten_26 : decode cX1_forgotten 26 = .ok (.iload_n 1, 1) := dk_27 (dk_at dksX1_forgotten_1 2 rfl rfl)
theorem dX1_forgotten_27 : decode cX1_forgotten 27 = .ok (.iconst 2, 1) := dk_5 (dk_at dksX1_forgotten_1 3 rfl rfl)
theorem dX1_forgotten_28 : decode cX1_forgotten 28 = .ok (.irem, 1) := dk_112 (dk_at dksX1_forgotten_1 4 rfl rfl)
theorem dX1_forgotten_29 : decode cX1_forgotten 29 = .ok (.invokevirtual 292, 3) := dk_182 1 36 (dk_at dksX1_forgotten_1 5 rfl rfl)
theorem dX1_forgotten_32 : decode cX1_forgotten 32 = .ok (.ifCond .le 5, 3) := dk_158 0 5 (dk_at dksX1_forgotten_1 8 rfl rfl)
theorem dX1_forgotten_35 : decode cX1_forgotten 35 = .ok (.iload_n 1, 1) := dk_27 (dk_at dksX1_forgotten_1 11 rfl rfl)
theorem dX1_forgotten_36 : decode cX1_forgotten 36 = .ok (.ireturn, 1) := dk_172 (dk_at dksX1_forgotten_1 12 rfl rfl)
theorem dX1_forgotten_37 : decode cX1_forgotten 37 = .ok (.iinc 1 1, 3) := dk_132 1 1 (dk_at dksX1_forgotten_1 13 rfl rfl)
theorem dX1_forgotten_40 : decode cX1_forgotten 40 = .ok (.goto (-38), 3) := dk_167 255 218 (dk_at dksX1_forgotten_1 16 rfl rfl)
theorem dX1_forgotten_43 : decode cX1_forgotten 43 = .ok (.iconst (-1), 1) := dk_2 (dk_at dksX1_forgotten_1 19 rfl rfl)
theorem dX1_forgotten_44 : decode cX1_forgotten 44 = .ok (.ireturn, 1) := dk_172 (dk_at dksX1_forgotten_1 20 rfl rfl)
abbrev cX1_fewest : ByteArray := prog_1_method_39_code
def yX1_fewest : MethodName := ⟨RX1, "fewest", "(III)I"⟩
def dkwX1_fewest_2 : List UInt8 := [27, 104, 21, 4, 96, 4, 100, 21, 4, 108, 172]
abbrev dktX1_fewest_2 : List UInt8 := dkwX1_fewest_2 ++ []
def dkwX1_fewest_1 : List UInt8 := [17, 3, 231, 184, 0, 231, 153, 0, 10, 29, 28, 108, 5, 162, 0, 5, 2, 172, 29, 28, 108, 54, 4, 5]
abbrev dktX1_fewest_1 : List UInt8 := dkwX1_fewest_1 ++ dktX1_fewest_2
def dkwX1_fewest_0 : List UInt8 := [27, 4, 17, 15, 160, 184, 0, 231, 153, 0, 31, 28, 4, 16, 20, 184, 0, 231, 153, 0, 21, 29, 4]
abbrev dktX1_fewest_0 : List UInt8 := dkwX1_fewest_0 ++ dktX1_fewest_1
theorem dksX1_fewest_0 : cX1_fewest.data.toList.drop 0 = dktX1_fewest_0 := by decide +kernel
theorem dksX1_fewest_1 : cX1_fewest.data.toList.drop 23 = dktX1_fewest_1 := dk_seg dksX1_fewest_0 23 rfl rfl
theorem dksX1_fewest_2 : cX1_fewest.data.toList.drop 47 = dktX1_fewest_2 := dk_seg dksX1_fewest_1 24 rfl rfl
theorem dX1_fewest_0 : decode cX1_fewest 0 = .ok (.iload_n 1, 1) := dk_27 (dk_at dksX1_fewest_0 0 rfl rfl)
theorem dX1_fewest_1 : decode cX1_fewest 1 = .ok (.iconst 1, 1) := dk_4 (dk_at dksX1_fewest_0 1 rfl rfl)
theorem dX1_fewest_2 : decode cX1_fewest 2 = .ok (.sipush 4000, 3) := dk_17 15 160 (dk_at dksX1_fewest_0 2 rfl rfl)
theorem dX1_fewest_5 : decode cX1_fewest 5 = .ok (.invokestatic 231, 3) := dk_184 0 231 (dk_at dksX1_fewest_0 5 rfl rfl)
theorem dX1_fewest_8 : decode cX1_fewest 8 = .ok (.ifCond .eq 31, 3) := dk_153 0 31 (dk_at dksX1_fewest_0 8 rfl rfl)
theorem dX1_fewest_11 : decode cX1_fewest 11 = .ok (.iload_n 2, 1) := dk_28 (dk_at dksX1_fewest_0 11 rfl rfl)
theorem dX1_fewest_12 : decode cX1_fewest 12 = .ok (.iconst 1, 1) := dk_4 (dk_at dksX1_fewest_0 12 rfl rfl)
theorem dX1_fewest_13 : decode cX1_fewest 13 = .ok (.bipush 20, 2) := dk_16 20 (dk_at dksX1_fewest_0 13 rfl rfl)
theorem dX1_fewest_15 : decode cX1_fewest 15 = .ok (.invokestatic 231, 3) := dk_184 0 231 (dk_at dksX1_fewest_0 15 rfl rfl)
theorem dX1_fewest_18 : decode cX1_fewest 18 = .ok (.ifCond .eq 21, 3) := dk_153 0 21 (dk_at dksX1_fewest_0 18 rfl rfl)
theorem dX1_fewest_21 : decode cX1_fewest 21 = .ok (.iload_n 3, 1) := dk_29 (dk_at dksX1_fewest_0 21 rfl rfl)
theorem dX1_fewest_22 : decode cX1_fewest 22 = .ok (.iconst 1, 1) := dk_4 (dk_at dksX1_fewest_0 22 rfl rfl)
theorem dX1_fewest_23 : decode cX1_fewest 23 = .ok (.sipush 999, 3) := dk_17 3 231 (dk_at dksX1_fewest_1 0 rfl rfl)
theorem dX1_fewest_26 : decode cX1_fewest 26 = .ok (.invokestatic 231, 3) := dk_184 0 231 (dk_at dksX1_fewest_1 3 rfl rfl)
theorem dX1_fewest_29 : decode cX1_fewest 29 = .ok (.ifCond .eq 10, 3) := dk_153 0 10 (dk_at dksX1_fewest_1 6 rfl rfl)
theorem dX1_fewest_32 : decode cX1_fewest 32 = .ok (.iload_n 3, 1) := dk_29 (dk_at dksX1_fewest_1 9 rfl rfl)
theorem dX1_fewest_33 : decode cX1_fewest 33 = .ok (.iload_n 2, 1) := dk_28 (dk_at dksX1_fewest_1 10 rfl rfl)
theorem dX1_fewest_34 : decode cX1_fewest 34 = .ok (.idiv, 1) := dk_108 (dk_at dksX1_fewest_1 11 rfl rfl)
theorem dX1_fewest_35 : decode cX1_fewest 35 = .ok (.iconst 2, 1) := dk_5 (dk_at dksX1_fewest_1 12 rfl rfl)
theorem dX1_fewest_36 : decode cX1_fewest 36 = .ok (.if_icmp .ge 5, 3) := dk_162 0 5 (dk_at dksX1_fewest_1 13 rfl rfl)
theorem dX1_fewest_39 : decode cX1_fewest 39 = .ok (.iconst (-1), 1) := dk_2 (dk_at dksX1_fewest_1 16 rfl rfl)
theorem dX1_fewest_40 : decode cX1_fewest 40 = .ok (.ireturn, 1) := dk_172 (dk_at dksX1_fewest_1 17 rfl rfl)
theorem dX1_fewest_41 : decode cX1_fewest 41 = .ok (.iload_n 3, 1) := dk_29 (dk_at dksX1_fewest_1 18 rfl rfl)
theorem dX1_fewest_42 : decode cX1_fewest 42 = .ok (.iload_n 2, 1) := dk_28 (dk_at dksX1_fewest_1 19 rfl rfl)
theorem dX1_fewest_43 : decode cX1_fewest 43 = .ok (.idiv, 1) := dk_108 (dk_at dksX1_fewest_1 20 rfl rfl)
theorem dX1_fewest_44 : decode cX1_fewest 44 = .ok (.istore 4, 2) := dk_54 4 (dk_at dksX1_fewest_1 21 rfl rfl)
theorem dX1_fewest_46 : decode cX1_fewest 46 = .ok (.iconst 2, 1) := dk_5 (dk_at dksX1_fewest_1 23 rfl rfl)
theorem dX1_fewest_47 : decode cX1_fewest 47 = .ok (.iload_n 1, 1) := dk_27 (dk_at dksX1_fewest_2 0 rfl rfl)
theorem dX1_fewest_48 : decode cX1_fewest 48 = .ok (.imul, 1) := dk_104 (dk_at dksX1_fewest_2 1 rfl rfl)
theorem dX1_fewest_49 : decode cX1_fewest 49 = .ok (.iload 4, 2) := dk_21 4 (dk_at dksX1_fewest_2 2 rfl rfl)
theorem dX1_fewest_51 : decode cX1_fewest 51 = .ok (.iadd, 1) := dk_96 (dk_at dksX1_fewest_2 4 rfl rfl)
theorem dX1_fewest_52 : decode cX1_fewest 52 = .ok (.iconst 1, 1) := dk_4 (dk_at dksX1_fewest_2 5 rfl rfl)
theorem dX1_fewest_53 : decode cX1_fewest 53 = .ok (.isub, 1) := dk_100 (dk_at dksX1_fewest_2 6 rfl rfl)
theorem dX1_fewest_54 : decode cX1_fewest 54 = .ok (.iload 4, 2) := dk_21 4 (dk_at dksX1_fewest_2 7 rfl rfl)
theorem dX1_fewest_56 : decode cX1_fewest 56 = .ok (.idiv, 1) := dk_108 (dk_at dksX1_fewest_2 9 rfl rfl)
theorem dX1_fewest_57 : decode cX1_fewest 57 = .ok (.ireturn, 1) := dk_172 (dk_at dksX1_fewest_2 10 rfl rfl)
abbrev cX1_bound : ByteArray := prog_1_method_40_code
def yX1_bound : MethodName := ⟨RX1, "bound", "(I)I"⟩
def dkwX1_bound_5 : List UInt8 := [180, 1, 76, 108, 172, 29, 172, 42, 180, 0, 66, 182, 1, 105, 29, 100, 172, 2, 172]
abbrev dktX1_bound_5 : List UInt8 := dkwX1_bound_5 ++ []
def dkwX1_bound_4 : List UInt8 := [28, 172, 42, 180, 0, 66, 182, 1, 105, 42, 180, 0, 66, 180, 1, 76, 96, 4, 100, 42, 180, 0, 66]
abbrev dktX1_bound_4 : List UInt8 := dkwX1_bound_4 ++ dktX1_bound_5
def dkwX1_bound_3 : List UInt8 := [170, 0, 0, 0, 69, 0, 0, 0, 0, 0, 0, 0, 3, 0, 0, 0, 29, 0, 0, 0, 31, 0, 0, 0, 57, 0, 0, 0, 59]
abbrev dktX1_bound_3 : List UInt8 := dkwX1_bound_3 ++ dktX1_bound_4
def dkwX1_bound_2 : List UInt8 := [132, 4, 1, 167, 255, 212, 27]
abbrev dktX1_bound_2 : List UInt8 := dkwX1_bound_2 ++ dktX1_bound_3
def dkwX1_bound_1 : List UInt8 := [21, 4, 182, 1, 96, 184, 1, 99, 61, 29, 42, 180, 0, 66, 180, 0, 243, 5, 21, 4, 104, 46, 96, 62]
abbrev dktX1_bound_1 : List UInt8 := dkwX1_bound_1 ++ dktX1_bound_2
def dkwX1_bound_0 : List UInt8 := [3, 61, 3, 62, 3, 54, 4, 21, 4, 42, 180, 0, 66, 180, 0, 228, 162, 0, 38, 28, 42, 180, 0, 66]
abbrev dktX1_bound_0 : List UInt8 := dkwX1_bound_0 ++ dktX1_bound_1
theorem dksX1_bound_0 : cX1_bound.data.toList.drop 0 = dktX1_bound_0 := by decide +kernel
theorem dksX1_bound_1 : cX1_bound.data.toList.drop 24 = dktX1_bound_1 := dk_seg dksX1_bound_0 24 rfl rfl
theorem dksX1_bound_2 : cX1_bound.data.toList.drop 48 = dktX1_bound_2 := dk_seg dksX1_bound_1 24 rfl rfl
theorem dksX1_bound_3 : cX1_bound.data.toList.drop 55 = dktX1_bound_3 := dk_seg dksX1_bound_2 7 rfl rfl
theorem dksX1_bound_4 : cX1_bound.data.toList.drop 84 = dktX1_bound_4 := dk_seg dksX1_bound_3 29 rfl rfl
theorem dksX1_bound_5 : cX1_bound.data.toList.drop 107 = dktX1_bound_5 := dk_seg dksX1_bound_4 23 rfl rfl
theorem dX1_bound_0 : decode cX1_bound 0 = .ok (.iconst 0, 1) := dk_3 (dk_at dksX1_bound_0 0 rfl rfl)
theorem dX1_bound_1 : decode cX1_bound 1 = .ok (.istore_n 2, 1) := dk_61 (dk_at dksX1_bound_0 1 rfl rfl)
theorem dX1_bound_2 : decode cX1_bound 2 = .ok (.iconst 0, 1) := dk_3 (dk_at dksX1_bound_0 2 rfl rfl)
theorem dX1_bound_3 : decode cX1_bound 3 = .ok (.istore_n 3, 1) := dk_62 (dk_at dksX1_bound_0 3 rfl rfl)
theorem dX1_bound_4 : decode cX1_bound 4 = .ok (.iconst 0, 1) := dk_3 (dk_at dksX1_bound_0 4 rfl rfl)
theorem dX1_bound_5 : decode cX1_bound 5 = .ok (.istore 4, 2) := dk_54 4 (dk_at dksX1_bound_0 5 rfl rfl)
theorem dX1_bound_7 : decode cX1_bound 7 = .ok (.iload 4, 2) := dk_21 4 (dk_at dksX1_bound_0 7 rfl rfl)
theorem dX1_bound_9 : decode cX1_bound 9 = .ok (.aload_n 0, 1) := dk_42 (dk_at dksX1_bound_0 9 rfl rfl)
theorem dX1_bound_10 : decode cX1_bound 10 = .ok (.getfield 66, 3) := dk_180 0 66 (dk_at dksX1_bound_0 10 rfl rfl)
theorem dX1_bound_13 : decode cX1_bound 13 = .ok (.getfield 228, 3) := dk_180 0 228 (dk_at dksX1_bound_0 13 rfl rfl)
theorem dX1_bound_16 : decode cX1_bound 16 = .ok (.if_icmp .ge 38, 3) := dk_162 0 38 (dk_at dksX1_bound_0 16 rfl rfl)
theorem dX1_bound_19 : decode cX1_bound 19 = .ok (.iload_n 2, 1) := dk_28 (dk_at dksX1_bound_0 19 rfl rfl)
theorem dX1_bound_20 : decode cX1_bound 20 = .ok (.aload_n 0, 1) := dk_42 (dk_at dksX1_bound_0 20 rfl rfl)
theorem dX1_bound_21 : decode cX1_bound 21 = .ok (.getfield 66, 3) := dk_180 0 66 (dk_at dksX1_bound_0 21 rfl rfl)
theorem dX1_bound_24 : decode cX1_bound 24 = .ok (.iload 4, 2) := dk_21 4 (dk_at dksX1_bound_1 0 rfl rfl)
theorem dX1_bound_26 : decode cX1_bound 26 = .ok (.invokevirtual 352, 3) := dk_182 1 96 (dk_at dksX1_bound_1 2 rfl rfl)
theorem dX1_bound_29 : decode cX1_bound 29 = .ok (.invokestatic 355, 3) := dk_184 1 99 (dk_at dksX1_bound_1 5 rfl rfl)
theorem dX1_bound_32 : decode cX1_bound 32 = .ok (.istore_n 2, 1) := dk_61 (dk_at dksX1_bound_1 8 rfl rfl)
theorem dX1_bound_33 : decode cX1_bound 33 = .ok (.iload_n 3, 1) := dk_29 (dk_at dksX1_bound_1 9 rfl rfl)
theorem dX1_bound_34 : decode cX1_bound 34 = .ok (.aload_n 0, 1) := dk_42 (dk_at dksX1_bound_1 10 rfl rfl)
theorem dX1_bound_35 : decode cX1_bound 35 = .ok (.getfield 66, 3) := dk_180 0 66 (dk_at dksX1_bound_1 11 rfl rfl)
theorem dX1_bound_38 : decode cX1_bound 38 = .ok (.getfield 243, 3) := dk_180 0 243 (dk_at dksX1_bound_1 14 rfl rfl)
theorem dX1_bound_41 : decode cX1_bound 41 = .ok (.iconst 2, 1) := dk_5 (dk_at dksX1_bound_1 17 rfl rfl)
theorem dX1_bound_42 : decode cX1_bound 42 = .ok (.iload 4, 2) := dk_21 4 (dk_at dksX1_bound_1 18 rfl rfl)
theorem dX1_bound_44 : decode cX1_bound 44 = .ok (.imul, 1) := dk_104 (dk_at dksX1_bound_1 20 rfl rfl)
theorem dX1_bound_45 : decode cX1_bound 45 = .ok (.iaload, 1) := dk_46 (dk_at dksX1_bound_1 21 rfl rfl)
theorem dX1_bound_46 : decode cX1_bound 46 = .ok (.iadd, 1) := dk_96 (dk_at dksX1_bound_1 22 rfl rfl)
theorem dX1_bound_47 : decode cX1_bound 47 = .ok (.istore_n 3, 1) := dk_62 (dk_at dksX1_bound_1 23 rfl rfl)
theorem dX1_bound_48 : decode cX1_bound 48 = .ok (.iinc 4 1, 3) := dk_132 4 1 (dk_at dksX1_bound_2 0 rfl rfl)
theorem dX1_bound_51 : decode cX1_bound 51 = .ok (.goto (-44), 3) := dk_167 255 212 (dk_at dksX1_bound_2 3 rfl rfl)
theorem dX1_bound_54 : decode cX1_bound 54 = .ok (.iload_n 1, 1) := dk_27 (dk_at dksX1_bound_2 6 rfl rfl)
theorem dX1_bound_55 : decode cX1_bound 55 = .ok (.tableswitch 69 0 3 #[29, 31, 57, 59], 29) := by decide +kernel
theorem dX1_bound_84 : decode cX1_bound 84 = .ok (.iload_n 2, 1) := dk_28 (dk_at dksX1_bound_4 0 rfl rfl)
theorem dX1_bound_85 : decode cX1_bound 85 = .ok (.ireturn, 1) := dk_172 (dk_at dksX1_bound_4 1 rfl rfl)
theorem dX1_bound_86 : decode cX1_bound 86 = .ok (.aload_n 0, 1) := dk_42 (dk_at dksX1_bound_4 2 rfl rfl)
theorem dX1_bound_87 : decode cX1_bound 87 = .ok (.getfield 66, 3) := dk_180 0 66 (dk_at dksX1_bound_4 3 rfl rfl)
theorem dX1_bound_90 : decode cX1_bound 90 = .ok (.invokevirtual 361, 3) := dk_182 1 105 (dk_at dksX1_bound_4 6 rfl rfl)
theorem dX1_bound_93 : decode cX1_bound 93 = .ok (.aload_n 0, 1) := dk_42 (dk_at dksX1_bound_4 9 rfl rfl)
theorem dX1_bound_94 : decode cX1_bound 94 = .ok (.getfield 66, 3) := dk_180 0 66 (dk_at dksX1_bound_4 10 rfl rfl)
theorem dX1_bound_97 : decode cX1_bound 97 = .ok (.getfield 332, 3) := dk_180 1 76 (dk_at dksX1_bound_4 13 rfl rfl)
theorem dX1_bound_100 : decode cX1_bound 100 = .ok (.iadd, 1) := dk_96 (dk_at dksX1_bound_4 16 rfl rfl)
theorem dX1_bound_101 : decode cX1_bound 101 = .ok (.iconst 1, 1) := dk_4 (dk_at dksX1_bound_4 17 rfl rfl)
theorem dX1_bound_102 : decode cX1_bound 102 = .ok (.isub, 1) := dk_100 (dk_at dksX1_bound_4 18 rfl rfl)
theorem dX1_bound_103 : decode cX1_bound 103 = .ok (.aload_n 0, 1) := dk_42 (dk_at dksX1_bound_4 19 rfl rfl)
theorem dX1_bound_104 : decode cX1_bound 104 = .ok (.getfield 66, 3) := dk_180 0 66 (dk_at dksX1_bound_4 20 rfl rfl)
theorem dX1_bound_107 : decode cX1_bound 107 = .ok (.getfield 332, 3) := dk_180 1 76 (dk_at dksX1_bound_5 0 rfl rfl)
theorem dX1_bound_110 : decode cX1_bound 110 = .ok (.idiv, 1) := dk_108 (dk_at dksX1_bound_5 3 rfl rfl)
theorem dX1_bound_111 : decode cX1_bound 111 = .ok (.ireturn, 1) := dk_172 (dk_at dksX1_bound_5 4 rfl rfl)
theorem dX1_bound_112 : decode cX1_bound 112 = .ok (.iload_n 3, 1) := dk_29 (dk_at dksX1_bound_5 5 rfl rfl)
theorem dX1_bound_113 : decode cX1_bound 113 = .ok (.ireturn, 1) := dk_172 (dk_at dksX1_bound_5 6 rfl rfl)
theorem dX1_bound_114 : decode cX1_bound 114 = .ok (.aload_n 0, 1) := dk_42 (dk_at dksX1_bound_5 7 rfl rfl)
theorem dX1_bound_115 : decode cX1_bound 115 = .ok (.getfield 66, 3) := dk_180 0 66 (dk_at dksX1_bound_5 8 rfl rfl)
theorem dX1_bound_118 : decode cX1_bound 118 = .ok (.invokevirtual 361, 3) := dk_182 1 105 (dk_at dksX1_bound_5 11 rfl rfl)
theorem dX1_bound_121 : decode cX1_bound 121 = .ok (.iload_n 3, 1) := dk_29 (dk_at dksX1_bound_5 14 rfl rfl)
theorem dX1_bound_122 : decode cX1_bound 122 = .ok (.isub, 1) := dk_100 (dk_at dksX1_bound_5 15 rfl rfl)
theorem dX1_bound_123 : decode cX1_bound 123 = .ok (.ireturn, 1) := dk_172 (dk_at dksX1_bound_5 16 rfl rfl)
theorem dX1_bound_124 : decode cX1_bound 124 = .ok (.iconst (-1), 1) := dk_2 (dk_at dksX1_bound_5 17 rfl rfl)
theorem dX1_bound_125 : decode cX1_bound 125 = .ok (.ireturn, 1) := dk_172 (dk_at dksX1_bound_5 18 rfl rfl)
abbrev cX1_several : ByteArray := prog_1_method_41_code
def yX1_several : MethodName := ⟨RX1, "several", "()I"⟩
def dkwX1_several_5 : List UInt8 := [54, 4, 167, 255, 205, 132, 3, 1, 167, 255, 175, 27, 172]
abbrev dktX1_several_5 : List UInt8 := dkwX1_several_5 ++ []
def dkwX1_several_4 : List UInt8 := [112, 28, 27, 112, 28, 27, 108, 21, 5, 182, 1, 79, 87, 28, 21, 5, 96, 61, 21, 4, 21, 5, 100]
abbrev dktX1_several_4 : List UInt8 := dkwX1_several_4 ++ dktX1_several_5
def dkwX1_several_3 : List UInt8 := [158, 0, 52, 21, 4, 27, 28, 27, 112, 100, 184, 1, 111, 54, 5, 42, 180, 0, 73, 29, 5, 108, 29, 5]
abbrev dktX1_several_3 : List UInt8 := dkwX1_several_3 ++ dktX1_several_4
def dkwX1_several_2 : List UInt8 := [180, 0, 66, 180, 0, 228, 104, 162, 0, 74, 42, 180, 0, 66, 180, 0, 243, 29, 46, 54, 4, 21, 4]
abbrev dktX1_several_2 : List UInt8 := dkwX1_several_2 ++ dktX1_several_3
def dkwX1_several_1 : List UInt8 := [184, 1, 99, 60, 42, 182, 1, 14, 42, 180, 0, 73, 3, 181, 0, 213, 3, 61, 3, 62, 29, 5, 42]
abbrev dktX1_several_1 : List UInt8 := dkwX1_several_1 ++ dktX1_several_2
def dkwX1_several_0 : List UInt8 := [42, 180, 0, 66, 180, 0, 228, 154, 0, 5, 2, 172, 42, 3, 182, 1, 108, 42, 4, 182, 1, 108]
abbrev dktX1_several_0 : List UInt8 := dkwX1_several_0 ++ dktX1_several_1
theorem dksX1_several_0 : cX1_several.data.toList.drop 0 = dktX1_several_0 := by decide +kernel
theorem dksX1_several_1 : cX1_several.data.toList.drop 22 = dktX1_several_1 := dk_seg dksX1_several_0 22 rfl rfl
theorem dksX1_several_2 : cX1_several.data.toList.drop 45 = dktX1_several_2 := dk_seg dksX1_several_1 23 rfl rfl
theorem dksX1_several_3 : cX1_several.data.toList.drop 68 = dktX1_several_3 := dk_seg dksX1_several_2 23 rfl rfl
theorem dksX1_several_4 : cX1_several.data.toList.drop 92 = dktX1_several_4 := dk_seg dksX1_several_3 24 rfl rfl
theorem dksX1_several_5 : cX1_several.data.toList.drop 115 = dktX1_several_5 := dk_seg dksX1_several_4 23 rfl rfl
theorem dX1_several_0 : decode cX1_several 0 = .ok (.aload_n 0, 1) := dk_42 (dk_at dksX1_several_0 0 rfl rfl)
theorem dX1_several_1 : decode cX1_several 1 = .ok (.getfield 66, 3) := dk_180 0 66 (dk_at dksX1_several_0 1 rfl rfl)
theorem dX1_several_4 : decode cX1_several 4 = .ok (.getfield 228, 3) := dk_180 0 228 (dk_at dksX1_several_0 4 rfl rfl)
theorem dX1_several_7 : decode cX1_several 7 = .ok (.ifCond .ne 5, 3) := dk_154 0 5 (dk_at dksX1_several_0 7 rfl rfl)
theorem dX1_several_10 : decode cX1_several 10 = .ok (.iconst (-1), 1) := dk_2 (dk_at dksX1_several_0 10 rfl rfl)
theorem dX1_several_11 : decode cX1_several 11 = .ok (.ireturn, 1) := dk_172 (dk_at dksX1_several_0 11 rfl rfl)
theorem dX1_several_12 : decode cX1_several 12 = .ok (.aload_n 0, 1) := dk_42 (dk_at dksX1_several_0 12 rfl rfl)
theorem dX1_several_13 : decode cX1_several 13 = .ok (.iconst 0, 1) := dk_3 (dk_at dksX1_several_0 13 rfl rfl)
theorem dX1_several_14 : decode cX1_several 14 = .ok (.invokevirtual 364, 3) := dk_182 1 108 (dk_at dksX1_several_0 14 rfl rfl)
theorem dX1_several_17 : decode cX1_several 17 = .ok (.aload_n 0, 1) := dk_42 (dk_at dksX1_several_0 17 rfl rfl)
theorem dX1_several_18 : decode cX1_several 18 = .ok (.iconst 1, 1) := dk_4 (dk_at dksX1_several_0 18 rfl rfl)
theorem dX1_several_19 : decode cX1_several 19 = .ok (.invokevirtual 364, 3) := dk_182 1 108 (dk_at dksX1_several_0 19 rfl rfl)
theorem dX1_several_22 : decode cX1_several 22 = .ok (.invokestatic 355, 3) := dk_184 1 99 (dk_at dksX1_several_1 0 rfl rfl)
theorem dX1_several_25 : decode cX1_several 25 = .ok (.istore_n 1, 1) := dk_60 (dk_at dksX1_several_1 3 rfl rfl)
theorem dX1_several_26 : decode cX1_several 26 = .ok (.aload_n 0, 1) := dk_42 (dk_at dksX1_several_1 4 rfl rfl)
theorem dX1_several_27 : decode cX1_several 27 = .ok (.invokevirtual 270, 3) := dk_182 1 14 (dk_at dksX1_several_1 5 rfl rfl)
theorem dX1_several_30 : decode cX1_several 30 = .ok (.aload_n 0, 1) := dk_42 (dk_at dksX1_several_1 8 rfl rfl)
theorem dX1_several_31 : decode cX1_several 31 = .ok (.getfield 73, 3) := dk_180 0 73 (dk_at dksX1_several_1 9 rfl rfl)
theorem dX1_several_34 : decode cX1_several 34 = .ok (.iconst 0, 1) := dk_3 (dk_at dksX1_several_1 12 rfl rfl)
theorem dX1_several_35 : decode cX1_several 35 = .ok (.putfield 213, 3) := dk_181 0 213 (dk_at dksX1_several_1 13 rfl rfl)
theorem dX1_several_38 : decode cX1_several 38 = .ok (.iconst 0, 1) := dk_3 (dk_at dksX1_several_1 16 rfl rfl)
theorem dX1_several_39 : decode cX1_several 39 = .ok (.istore_n 2, 1) := dk_61 (dk_at dksX1_several_1 17 rfl rfl)
theorem dX1_several_40 : decode cX1_several 40 = .ok (.iconst 0, 1) := dk_3 (dk_at dksX1_several_1 18 rfl rfl)
theorem dX1_several_41 : decode cX1_several 41 = .ok (.istore_n 3, 1) := dk_62 (dk_at dksX1_several_1 19 rfl rfl)
theorem dX1_several_42 : decode cX1_several 42 = .ok (.iload_n 3, 1) := dk_29 (dk_at dksX1_several_1 20 rfl rfl)
theorem dX1_several_43 : decode cX1_several 43 = .ok (.iconst 2, 1) := dk_5 (dk_at dksX1_several_1 21 rfl rfl)
theorem dX1_several_44 : decode cX1_several 44 = .ok (.aload_n 0, 1) := dk_42 (dk_at dksX1_several_1 22 rfl rfl)
theorem dX1_several_45 : decode cX1_several 45 = .ok (.getfield 66, 3) := dk_180 0 66 (dk_at dksX1_several_2 0 rfl rfl)
theorem dX1_several_48 : decode cX1_several 48 = .ok (.getfield 228, 3) := dk_180 0 228 (dk_at dksX1_several_2 3 rfl rfl)
theorem dX1_several_51 : decode cX1_several 51 = .ok (.imul, 1) := dk_104 (dk_at dksX1_several_2 6 rfl rfl)
theorem dX1_several_52 : decode cX1_several 52 = .ok (.if_icmp .ge 74, 3) := dk_162 0 74 (dk_at dksX1_several_2 7 rfl rfl)
theorem dX1_several_55 : decode cX1_several 55 = .ok (.aload_n 0, 1) := dk_42 (dk_at dksX1_several_2 10 rfl rfl)
theorem dX1_several_56 : decode cX1_several 56 = .ok (.getfield 66, 3) := dk_180 0 66 (dk_at dksX1_several_2 11 rfl rfl)
theorem dX1_several_59 : decode cX1_several 59 = .ok (.getfield 243, 3) := dk_180 0 243 (dk_at dksX1_several_2 14 rfl rfl)
theorem dX1_several_62 : decode cX1_several 62 = .ok (.iload_n 3, 1) := dk_29 (dk_at dksX1_several_2 17 rfl rfl)
theorem dX1_several_63 : decode cX1_several 63 = .ok (.iaload, 1) := dk_46 (dk_at dksX1_several_2 18 rfl rfl)
theorem dX1_several_64 : decode cX1_several 64 = .ok (.istore 4, 2) := dk_54 4 (dk_at dksX1_several_2 19 rfl rfl)
theorem dX1_several_66 : decode cX1_several 66 = .ok (.iload 4, 2) := dk_21 4 (dk_at dksX1_several_2 21 rfl rfl)
theorem dX1_several_68 : decode cX1_several 68 = .ok (.ifCond .le 52, 3) := dk_158 0 52 (dk_at dksX1_several_3 0 rfl rfl)
theorem dX1_several_71 : decode cX1_several 71 = .ok (.iload 4, 2) := dk_21 4 (dk_at dksX1_several_3 3 rfl rfl)
theorem dX1_several_73 : decode cX1_several 73 = .ok (.iload_n 1, 1) := dk_27 (dk_at dksX1_several_3 5 rfl rfl)
theorem dX1_several_74 : decode cX1_several 74 = .ok (.iload_n 2, 1) := dk_28 (dk_at dksX1_several_3 6 rfl rfl)
theorem dX1_several_75 : decode cX1_several 75 = .ok (.iload_n 1, 1) := dk_27 (dk_at dksX1_several_3 7 rfl rfl)
theorem dX1_several_76 : decode cX1_several 76 = .ok (.irem, 1) := dk_112 (dk_at dksX1_several_3 8 rfl rfl)
theorem dX1_several_77 : decode cX1_several 77 = .ok (.isub, 1) := dk_100 (dk_at dksX1_several_3 9 rfl rfl)
theorem dX1_several_78 : decode cX1_several 78 = .ok (.invokestatic 367, 3) := dk_184 1 111 (dk_at dksX1_several_3 10 rfl rfl)
theorem dX1_several_81 : decode cX1_several 81 = .ok (.istore 5, 2) := dk_54 5 (dk_at dksX1_several_3 13 rfl rfl)
theorem dX1_several_83 : decode cX1_several 83 = .ok (.aload_n 0, 1) := dk_42 (dk_at dksX1_several_3 15 rfl rfl)
theorem dX1_several_84 : decode cX1_several 84 = .ok (.getfield 73, 3) := dk_180 0 73 (dk_at dksX1_several_3 16 rfl rfl)
theorem dX1_several_87 : decode cX1_several 87 = .ok (.iload_n 3, 1) := dk_29 (dk_at dksX1_several_3 19 rfl rfl)
theorem dX1_several_88 : decode cX1_several 88 = .ok (.iconst 2, 1) := dk_5 (dk_at dksX1_several_3 20 rfl rfl)
theorem dX1_several_89 : decode cX1_several 89 = .ok (.idiv, 1) := dk_108 (dk_at dksX1_several_3 21 rfl rfl)
theorem dX1_several_90 : decode cX1_several 90 = .ok (.iload_n 3, 1) := dk_29 (dk_at dksX1_several_3 22 rfl rfl)
theorem dX1_several_91 : decode cX1_several 91 = .ok (.iconst 2, 1) := dk_5 (dk_at dksX1_several_3 23 rfl rfl)
theorem dX1_several_92 : decode cX1_several 92 = .ok (.irem, 1) := dk_112 (dk_at dksX1_several_4 0 rfl rfl)
theorem dX1_several_93 : decode cX1_several 93 = .ok (.iload_n 2, 1) := dk_28 (dk_at dksX1_several_4 1 rfl rfl)
theorem dX1_several_94 : decode cX1_several 94 = .ok (.iload_n 1, 1) := dk_27 (dk_at dksX1_several_4 2 rfl rfl)
theorem dX1_several_95 : decode cX1_several 95 = .ok (.irem, 1) := dk_112 (dk_at dksX1_several_4 3 rfl rfl)
theorem dX1_several_96 : decode cX1_several 96 = .ok (.iload_n 2, 1) := dk_28 (dk_at dksX1_several_4 4 rfl rfl)
theorem dX1_several_97 : decode cX1_several 97 = .ok (.iload_n 1, 1) := dk_27 (dk_at dksX1_several_4 5 rfl rfl)
theorem dX1_several_98 : decode cX1_several 98 = .ok (.idiv, 1) := dk_108 (dk_at dksX1_several_4 6 rfl rfl)
theorem dX1_several_99 : decode cX1_several 99 = .ok (.iload 5, 2) := dk_21 5 (dk_at dksX1_several_4 7 rfl rfl)
theorem dX1_several_101 : decode cX1_several 101 = .ok (.invokevirtual 335, 3) := dk_182 1 79 (dk_at dksX1_several_4 9 rfl rfl)
theorem dX1_several_104 : decode cX1_several 104 = .ok (.pop, 1) := dk_87 (dk_at dksX1_several_4 12 rfl rfl)
theorem dX1_several_105 : decode cX1_several 105 = .ok (.iload_n 2, 1) := dk_28 (dk_at dksX1_several_4 13 rfl rfl)
theorem dX1_several_106 : decode cX1_several 106 = .ok (.iload 5, 2) := dk_21 5 (dk_at dksX1_several_4 14 rfl rfl)
theorem dX1_several_108 : decode cX1_several 108 = .ok (.iadd, 1) := dk_96 (dk_at dksX1_several_4 16 rfl rfl)
theorem dX1_several_109 : decode cX1_several 109 = .ok (.istore_n 2, 1) := dk_61 (dk_at dksX1_several_4 17 rfl rfl)
theorem dX1_several_110 : decode cX1_several 110 = .ok (.iload 4, 2) := dk_21 4 (dk_at dksX1_several_4 18 rfl rfl)
theorem dX1_several_112 : decode cX1_several 112 = .ok (.iload 5, 2) := dk_21 5 (dk_at dksX1_several_4 20 rfl rfl)
theorem dX1_several_114 : decode cX1_several 114 = .ok (.isub, 1) := dk_100 (dk_at dksX1_several_4 22 rfl rfl)
theorem dX1_several_115 : decode cX1_several 115 = .ok (.istore 4, 2) := dk_54 4 (dk_at dksX1_several_5 0 rfl rfl)
theorem dX1_several_117 : decode cX1_several 117 = .ok (.goto (-51), 3) := dk_167 255 205 (dk_at dksX1_several_5 2 rfl rfl)
theorem dX1_several_120 : decode cX1_several 120 = .ok (.iinc 3 1, 3) := dk_132 3 1 (dk_at dksX1_several_5 5 rfl rfl)
theorem dX1_several_123 : decode cX1_several 123 = .ok (.goto (-81), 3) := dk_167 255 175 (dk_at dksX1_several_5 8 rfl rfl)
theorem dX1_several_126 : decode cX1_several 126 = .ok (.iload_n 1, 1) := dk_27 (dk_at dksX1_several_5 11 rfl rfl)
theorem dX1_several_127 : decode cX1_several 127 = .ok (.ireturn, 1) := dk_172 (dk_at dksX1_several_5 12 rfl rfl)
abbrev cX1_one : ByteArray := prog_1_method_45_code
def yX1_one : MethodName := ⟨RX1, "one", "()I"⟩
def dkwX1_one_9 : List UInt8 := [132, 3, 1, 167, 255, 145, 42, 180, 1, 116, 172]
abbrev dktX1_one_9 : List UInt8 := dkwX1_one_9 ++ []
def dkwX1_one_8 : List UInt8 := [29, 21, 6, 42, 180, 0, 66, 180, 0, 243, 21, 5, 46, 182, 1, 79, 87, 132, 4, 1, 167, 255, 162]
abbrev dktX1_one_8 : List UInt8 := dkwX1_one_8 ++ dktX1_one_9
def dkwX1_one_7 : List UInt8 := [42, 180, 0, 66, 180, 0, 243, 21, 5, 46, 96, 79, 42, 180, 0, 73, 21, 5, 5, 108, 21, 5, 5, 112]
abbrev dktX1_one_7 : List UInt8 := dkwX1_one_7 ++ dktX1_one_8
def dkwX1_one_6 : List UInt8 := [167, 0, 65, 3, 54, 6, 44, 21, 6, 46, 29, 164, 0, 9, 132, 6, 1, 167, 255, 245, 44, 21, 6, 29]
abbrev dktX1_one_6 : List UInt8 := dkwX1_one_6 ++ dktX1_one_7
def dkwX1_one_5 : List UInt8 := [27, 162, 0, 94, 42, 180, 0, 117, 21, 4, 46, 54, 5, 42, 180, 0, 114, 21, 5, 46, 29, 159, 0, 6]
abbrev dktX1_one_5 : List UInt8 := dkwX1_one_5 ++ dktX1_one_6
def dkwX1_one_4 : List UInt8 := [180, 0, 228, 104, 60, 7, 188, 10, 77, 3, 62, 29, 42, 180, 1, 116, 162, 0, 109, 3, 54, 4, 21, 4]
abbrev dktX1_one_4 : List UInt8 := dkwX1_one_4 ++ dktX1_one_5
def dkwX1_one_3 : List UInt8 := [42, 3, 3, 182, 1, 126, 42, 182, 1, 14, 42, 180, 0, 73, 3, 181, 0, 213, 5, 42, 180, 0, 66]
abbrev dktX1_one_3 : List UInt8 := dkwX1_one_3 ++ dktX1_one_4
def dkwX1_one_2 : List UInt8 := [190, 162, 0, 16, 42, 180, 0, 120, 27, 3, 79, 132, 1, 1, 167, 255, 237, 42, 19, 1, 129, 181, 1, 116]
abbrev dktX1_one_2 : List UInt8 := dkwX1_one_2 ++ dktX1_one_3
def dkwX1_one_1 : List UInt8 := [190, 162, 0, 16, 42, 180, 0, 107, 27, 2, 79, 132, 1, 1, 167, 255, 237, 3, 60, 27, 42, 180, 0, 120]
abbrev dktX1_one_1 : List UInt8 := dkwX1_one_1 ++ dktX1_one_2
def dkwX1_one_0 : List UInt8 := [42, 180, 0, 66, 180, 0, 228, 4, 7, 184, 0, 231, 154, 0, 5, 2, 172, 3, 60, 27, 42, 180, 0, 107]
abbrev dktX1_one_0 : List UInt8 := dkwX1_one_0 ++ dktX1_one_1
theorem dksX1_one_0 : cX1_one.data.toList.drop 0 = dktX1_one_0 := by decide +kernel
theorem dksX1_one_1 : cX1_one.data.toList.drop 24 = dktX1_one_1 := dk_seg dksX1_one_0 24 rfl rfl
theorem dksX1_one_2 : cX1_one.data.toList.drop 48 = dktX1_one_2 := dk_seg dksX1_one_1 24 rfl rfl
theorem dksX1_one_3 : cX1_one.data.toList.drop 72 = dktX1_one_3 := dk_seg dksX1_one_2 24 rfl rfl
theorem dksX1_one_4 : cX1_one.data.toList.drop 95 = dktX1_one_4 := dk_seg dksX1_one_3 23 rfl rfl
theorem dksX1_one_5 : cX1_one.data.toList.drop 119 = dktX1_one_5 := dk_seg dksX1_one_4 24 rfl rfl
theorem dksX1_one_6 : cX1_one.data.toList.drop 143 = dktX1_one_6 := dk_seg dksX1_one_5 24 rfl rfl
theorem dksX1_one_7 : cX1_one.data.toList.drop 167 = dktX1_one_7 := dk_seg dksX1_one_6 24 rfl rfl
theorem dksX1_one_8 : cX1_one.data.toList.drop 191 = dktX1_one_8 := dk_seg dksX1_one_7 24 rfl rfl
theorem dksX1_one_9 : cX1_one.data.toList.drop 214 = dktX1_one_9 := dk_seg dksX1_one_8 23 rfl rfl
theorem dX1_one_0 : decode cX1_one 0 = .ok (.aload_n 0, 1) := dk_42 (dk_at dksX1_one_0 0 rfl rfl)
theorem dX1_one_1 : decode cX1_one 1 = .ok (.getfield 66, 3) := dk_180 0 66 (dk_at dksX1_one_0 1 rfl rfl)
theorem dX1_one_4 : decode cX1_one 4 = .ok (.getfield 228, 3) := dk_180 0 228 (dk_at dksX1_one_0 4 rfl rfl)
theorem dX1_one_7 : decode cX1_one 7 = .ok (.iconst 1, 1) := dk_4 (dk_at dksX1_one_0 7 rfl rfl)
theorem dX1_one_8 : decode cX1_one 8 = .ok (.iconst 4, 1) := dk_7 (dk_at dksX1_one_0 8 rfl rfl)
theorem dX1_one_9 : decode cX1_one 9 = .ok (.invokestatic 231, 3) := dk_184 0 231 (dk_at dksX1_one_0 9 rfl rfl)
theorem dX1_one_12 : decode cX1_one 12 = .ok (.ifCond .ne 5, 3) := dk_154 0 5 (dk_at dksX1_one_0 12 rfl rfl)
theorem dX1_one_15 : decode cX1_one 15 = .ok (.iconst (-1), 1) := dk_2 (dk_at dksX1_one_0 15 rfl rfl)
theorem dX1_one_16 : decode cX1_one 16 = .ok (.ireturn, 1) := dk_172 (dk_at dksX1_one_0 16 rfl rfl)
theorem dX1_one_17 : decode cX1_one 17 = .ok (.iconst 0, 1) := dk_3 (dk_at dksX1_one_0 17 rfl rfl)
theorem dX1_one_18 : decode cX1_one 18 = .ok (.istore_n 1, 1) := dk_60 (dk_at dksX1_one_0 18 rfl rfl)
theorem dX1_one_19 : decode cX1_one 19 = .ok (.iload_n 1, 1) := dk_27 (dk_at dksX1_one_0 19 rfl rfl)
theorem dX1_one_20 : decode cX1_one 20 = .ok (.aload_n 0, 1) := dk_42 (dk_at dksX1_one_0 20 rfl rfl)
theorem dX1_one_21 : decode cX1_one 21 = .ok (.getfield 107, 3) := dk_180 0 107 (dk_at dksX1_one_0 21 rfl rfl)
theorem dX1_one_24 : decode cX1_one 24 = .ok (.arraylength, 1) := dk_190 (dk_at dksX1_one_1 0 rfl rfl)
theorem dX1_one_25 : decode cX1_one 25 = .ok (.if_icmp .ge 16, 3) := dk_162 0 16 (dk_at dksX1_one_1 1 rfl rfl)
theorem dX1_one_28 : decode cX1_one 28 = .ok (.aload_n 0, 1) := dk_42 (dk_at dksX1_one_1 4 rfl rfl)
theorem dX1_one_29 : decode cX1_one 29 = .ok (.getfield 107, 3) := dk_180 0 107 (dk_at dksX1_one_1 5 rfl rfl)
theorem dX1_one_32 : decode cX1_one 32 = .ok (.iload_n 1, 1) := dk_27 (dk_at dksX1_one_1 8 rfl rfl)
theorem dX1_one_33 : decode cX1_one 33 = .ok (.iconst (-1), 1) := dk_2 (dk_at dksX1_one_1 9 rfl rfl)
theorem dX1_one_34 : decode cX1_one 34 = .ok (.iastore, 1) := dk_79 (dk_at dksX1_one_1 10 rfl rfl)
theorem dX1_one_35 : decode cX1_one 35 = .ok (.iinc 1 1, 3) := dk_132 1 1 (dk_at dksX1_one_1 11 rfl rfl)
theorem dX1_one_38 : decode cX1_one 38 = .ok (.goto (-19), 3) := dk_167 255 237 (dk_at dksX1_one_1 14 rfl rfl)
theorem dX1_one_41 : decode cX1_one 41 = .ok (.iconst 0, 1) := dk_3 (dk_at dksX1_one_1 17 rfl rfl)
theorem dX1_one_42 : decode cX1_one 42 = .ok (.istore_n 1, 1) := dk_60 (dk_at dksX1_one_1 18 rfl rfl)
theorem dX1_one_43 : decode cX1_one 43 = .ok (.iload_n 1, 1) := dk_27 (dk_at dksX1_one_1 19 rfl rfl)
theorem dX1_one_44 : decode cX1_one 44 = .ok (.aload_n 0, 1) := dk_42 (dk_at dksX1_one_1 20 rfl rfl)
theorem dX1_one_45 : decode cX1_one 45 = .ok (.getfield 120, 3) := dk_180 0 120 (dk_at dksX1_one_1 21 rfl rfl)
theorem dX1_one_48 : decode cX1_one 48 = .ok (.arraylength, 1) := dk_190 (dk_at dksX1_one_2 0 rfl rfl)
theorem dX1_one_49 : decode cX1_one 49 = .ok (.if_icmp .ge 16, 3) := dk_162 0 16 (dk_at dksX1_one_2 1 rfl rfl)
theorem dX1_one_52 : decode cX1_one 52 = .ok (.aload_n 0, 1) := dk_42 (dk_at dksX1_one_2 4 rfl rfl)
theorem dX1_one_53 : decode cX1_one 53 = .ok (.getfield 120, 3) := dk_180 0 120 (dk_at dksX1_one_2 5 rfl rfl)
theorem dX1_one_56 : decode cX1_one 56 = .ok (.iload_n 1, 1) := dk_27 (dk_at dksX1_one_2 8 rfl rfl)
theorem dX1_one_57 : decode cX1_one 57 = .ok (.iconst 0, 1) := dk_3 (dk_at dksX1_one_2 9 rfl rfl)
theorem dX1_one_58 : decode cX1_one 58 = .ok (.iastore, 1) := dk_79 (dk_at dksX1_one_2 10 rfl rfl)
theorem dX1_one_59 : decode cX1_one 59 = .ok (.iinc 1 1, 3) := dk_132 1 1 (dk_at dksX1_one_2 11 rfl rfl)
theorem dX1_one_62 : decode cX1_one 62 = .ok (.goto (-19), 3) := dk_167 255 237 (dk_at dksX1_one_2 14 rfl rfl)
theorem dX1_one_65 : decode cX1_one 65 = .ok (.aload_n 0, 1) := dk_42 (dk_at dksX1_one_2 17 rfl rfl)
theorem dX1_one_66 : decode cX1_one 66 = .ok (.ldc_w 385, 3) := dk_19 1 129 (dk_at dksX1_one_2 18 rfl rfl)
theorem dX1_one_69 : decode cX1_one 69 = .ok (.putfield 372, 3) := dk_181 1 116 (dk_at dksX1_one_2 21 rfl rfl)
theorem dX1_one_72 : decode cX1_one 72 = .ok (.aload_n 0, 1) := dk_42 (dk_at dksX1_one_3 0 rfl rfl)
theorem dX1_one_73 : decode cX1_one 73 = .ok (.iconst 0, 1) := dk_3 (dk_at dksX1_one_3 1 rfl rfl)
theorem dX1_one_74 : decode cX1_one 74 = .ok (.iconst 0, 1) := dk_3 (dk_at dksX1_one_3 2 rfl rfl)
theorem dX1_one_75 : decode cX1_one 75 = .ok (.invokevirtual 382, 3) := dk_182 1 126 (dk_at dksX1_one_3 3 rfl rfl)
theorem dX1_one_78 : decode cX1_one 78 = .ok (.aload_n 0, 1) := dk_42 (dk_at dksX1_one_3 6 rfl rfl)
theorem dX1_one_79 : decode cX1_one 79 = .ok (.invokevirtual 270, 3) := dk_182 1 14 (dk_at dksX1_one_3 7 rfl rfl)
theorem dX1_one_82 : decode cX1_one 82 = .ok (.aload_n 0, 1) := dk_42 (dk_at dksX1_one_3 10 rfl rfl)
theorem dX1_one_83 : decode cX1_one 83 = .ok (.getfield 73, 3) := dk_180 0 73 (dk_at dksX1_one_3 11 rfl rfl)
theorem dX1_one_86 : decode cX1_one 86 = .ok (.iconst 0, 1) := dk_3 (dk_at dksX1_one_3 14 rfl rfl)
theorem dX1_one_87 : decode cX1_one 87 = .ok (.putfield 213, 3) := dk_181 0 213 (dk_at dksX1_one_3 15 rfl rfl)
theorem dX1_one_90 : decode cX1_one 90 = .ok (.iconst 2, 1) := dk_5 (dk_at dksX1_one_3 18 rfl rfl)
theorem dX1_one_91 : decode cX1_one 91 = .ok (.aload_n 0, 1) := dk_42 (dk_at dksX1_one_3 19 rfl rfl)
theorem dX1_one_92 : decode cX1_one 92 = .ok (.getfield 66, 3) := dk_180 0 66 (dk_at dksX1_one_3 20 rfl rfl)
theorem dX1_one_95 : decode cX1_one 95 = .ok (.getfield 228, 3) := dk_180 0 228 (dk_at dksX1_one_4 0 rfl rfl)
theorem dX1_one_98 : decode cX1_one 98 = .ok (.imul, 1) := dk_104 (dk_at dksX1_one_4 3 rfl rfl)
theorem dX1_one_99 : decode cX1_one 99 = .ok (.istore_n 1, 1) := dk_60 (dk_at dksX1_one_4 4 rfl rfl)
theorem dX1_one_100 : decode cX1_one 100 = .ok (.iconst 4, 1) := dk_7 (dk_at dksX1_one_4 5 rfl rfl)
theorem dX1_one_101 : decode cX1_one 101 = .ok (.newarray .int, 2) := dk_188_10 (dk_at dksX1_one_4 6 rfl rfl)
theorem dX1_one_103 : decode cX1_one 103 = .ok (.astore_n 2, 1) := dk_77 (dk_at dksX1_one_4 8 rfl rfl)
theorem dX1_one_104 : decode cX1_one 104 = .ok (.iconst 0, 1) := dk_3 (dk_at dksX1_one_4 9 rfl rfl)
theorem dX1_one_105 : decode cX1_one 105 = .ok (.istore_n 3, 1) := dk_62 (dk_at dksX1_one_4 10 rfl rfl)
theorem dX1_one_106 : decode cX1_one 106 = .ok (.iload_n 3, 1) := dk_29 (dk_at dksX1_one_4 11 rfl rfl)
theorem dX1_one_107 : decode cX1_one 107 = .ok (.aload_n 0, 1) := dk_42 (dk_at dksX1_one_4 12 rfl rfl)
theorem dX1_one_108 : decode cX1_one 108 = .ok (.getfield 372, 3) := dk_180 1 116 (dk_at dksX1_one_4 13 rfl rfl)
theorem dX1_one_111 : decode cX1_one 111 = .ok (.if_icmp .ge 109, 3) := dk_162 0 109 (dk_at dksX1_one_4 16 rfl rfl)
theorem dX1_one_114 : decode cX1_one 114 = .ok (.iconst 0, 1) := dk_3 (dk_at dksX1_one_4 19 rfl rfl)
theorem dX1_one_115 : decode cX1_one 115 = .ok (.istore 4, 2) := dk_54 4 (dk_at dksX1_one_4 20 rfl rfl)
theorem dX1_one_117 : decode cX1_one 117 = .ok (.iload 4, 2) := dk_21 4 (dk_at dksX1_one_4 22 rfl rfl)
theorem dX1_one_119 : decode cX1_one 119 = .ok (.iload_n 1, 1) := dk_27 (dk_at dksX1_one_5 0 rfl rfl)
theorem dX1_one_120 : decode cX1_one 120 = .ok (.if_icmp .ge 94, 3) := dk_162 0 94 (dk_at dksX1_one_5 1 rfl rfl)
theorem dX1_one_123 : decode cX1_one 123 = .ok (.aload_n 0, 1) := dk_42 (dk_at dksX1_one_5 4 rfl rfl)
theorem dX1_one_124 : decode cX1_one 124 = .ok (.getfield 117, 3) := dk_180 0 117 (dk_at dksX1_one_5 5 rfl rfl)
theorem dX1_one_127 : decode cX1_one 127 = .ok (.iload 4, 2) := dk_21 4 (dk_at dksX1_one_5 8 rfl rfl)
theorem dX1_one_129 : decode cX1_one 129 = .ok (.iaload, 1) := dk_46 (dk_at dksX1_one_5 10 rfl rfl)
theorem dX1_one_130 : decode cX1_one 130 = .ok (.istore 5, 2) := dk_54 5 (dk_at dksX1_one_5 11 rfl rfl)
theorem dX1_one_132 : decode cX1_one 132 = .ok (.aload_n 0, 1) := dk_42 (dk_at dksX1_one_5 13 rfl rfl)
theorem dX1_one_133 : decode cX1_one 133 = .ok (.getfield 114, 3) := dk_180 0 114 (dk_at dksX1_one_5 14 rfl rfl)
theorem dX1_one_136 : decode cX1_one 136 = .ok (.iload 5, 2) := dk_21 5 (dk_at dksX1_one_5 17 rfl rfl)
theorem dX1_one_138 : decode cX1_one 138 = .ok (.iaload, 1) := dk_46 (dk_at dksX1_one_5 19 rfl rfl)
theorem dX1_one_139 : decode cX1_one 139 = .ok (.iload_n 3, 1) := dk_29 (dk_at dksX1_one_5 20 rfl rfl)
theorem dX1_one_140 : decode cX1_one 140 = .ok (.if_icmp .eq 6, 3) := dk_159 0 6 (dk_at dksX1_one_5 21 rfl rfl)
theorem dX1_one_143 : decode cX1_one 143 = .ok (.goto 65, 3) := dk_167 0 65 (dk_at dksX1_one_6 0 rfl rfl)
theorem dX1_one_146 : decode cX1_one 146 = .ok (.iconst 0, 1) := dk_3 (dk_at dksX1_one_6 3 rfl rfl)
theorem dX1_one_147 : decode cX1_one 147 = .ok (.istore 6, 2) := dk_54 6 (dk_at dksX1_one_6 4 rfl rfl)
theorem dX1_one_149 : decode cX1_one 149 = .ok (.aload_n 2, 1) := dk_44 (dk_at dksX1_one_6 6 rfl rfl)
theorem dX1_one_150 : decode cX1_one 150 = .ok (.iload 6, 2) := dk_21 6 (dk_at dksX1_one_6 7 rfl rfl)
theorem dX1_one_152 : decode cX1_one 152 = .ok (.iaload, 1) := dk_46 (dk_at dksX1_one_6 9 rfl rfl)
theorem dX1_one_153 : decode cX1_one 153 = .ok (.iload_n 3, 1) := dk_29 (dk_at dksX1_one_6 10 rfl rfl)
theorem dX1_one_154 : decode cX1_one 154 = .ok (.if_icmp .le 9, 3) := dk_164 0 9 (dk_at dksX1_one_6 11 rfl rfl)
theorem dX1_one_157 : decode cX1_one 157 = .ok (.iinc 6 1, 3) := dk_132 6 1 (dk_at dksX1_one_6 14 rfl rfl)
theorem dX1_one_160 : decode cX1_one 160 = .ok (.goto (-11), 3) := dk_167 255 245 (dk_at dksX1_one_6 17 rfl rfl)
theorem dX1_one_163 : decode cX1_one 163 = .ok (.aload_n 2, 1) := dk_44 (dk_at dksX1_one_6 20 rfl rfl)
theorem dX1_one_164 : decode cX1_one 164 = .ok (.iload 6, 2) := dk_21 6 (dk_at dksX1_one_6 21 rfl rfl)
theorem dX1_one_166 : decode cX1_one 166 = .ok (.iload_n 3, 1) := dk_29 (dk_at dksX1_one_6 23 rfl rfl)
theorem dX1_one_167 : decode cX1_one 167 = .ok (.aload_n 0, 1) := dk_42 (dk_at dksX1_one_7 0 rfl rfl)
theorem dX1_one_168 : decode cX1_one 168 = .ok (.getfield 66, 3) := dk_180 0 66 (dk_at dksX1_one_7 1 rfl rfl)
theorem dX1_one_171 : decode cX1_one 171 = .ok (.getfield 243, 3) := dk_180 0 243 (dk_at dksX1_one_7 4 rfl rfl)
theorem dX1_one_174 : decode cX1_one 174 = .ok (.iload 5, 2) := dk_21 5 (dk_at dksX1_one_7 7 rfl rfl)
theorem dX1_one_176 : decode cX1_one 176 = .ok (.iaload, 1) := dk_46 (dk_at dksX1_one_7 9 rfl rfl)
theorem dX1_one_177 : decode cX1_one 177 = .ok (.iadd, 1) := dk_96 (dk_at dksX1_one_7 10 rfl rfl)
theorem dX1_one_178 : decode cX1_one 178 = .ok (.iastore, 1) := dk_79 (dk_at dksX1_one_7 11 rfl rfl)
theorem dX1_one_179 : decode cX1_one 179 = .ok (.aload_n 0, 1) := dk_42 (dk_at dksX1_one_7 12 rfl rfl)
theorem dX1_one_180 : decode cX1_one 180 = .ok (.getfield 73, 3) := dk_180 0 73 (dk_at dksX1_one_7 13 rfl rfl)
theorem dX1_one_183 : decode cX1_one 183 = .ok (.iload 5, 2) := dk_21 5 (dk_at dksX1_one_7 16 rfl rfl)
theorem dX1_one_185 : decode cX1_one 185 = .ok (.iconst 2, 1) := dk_5 (dk_at dksX1_one_7 18 rfl rfl)
theorem dX1_one_186 : decode cX1_one 186 = .ok (.idiv, 1) := dk_108 (dk_at dksX1_one_7 19 rfl rfl)
theorem dX1_one_187 : decode cX1_one 187 = .ok (.iload 5, 2) := dk_21 5 (dk_at dksX1_one_7 20 rfl rfl)
theorem dX1_one_189 : decode cX1_one 189 = .ok (.iconst 2, 1) := dk_5 (dk_at dksX1_one_7 22 rfl rfl)
theorem dX1_one_190 : decode cX1_one 190 = .ok (.irem, 1) := dk_112 (dk_at dksX1_one_7 23 rfl rfl)
theorem dX1_one_191 : decode cX1_one 191 = .ok (.iload_n 3, 1) := dk_29 (dk_at dksX1_one_8 0 rfl rfl)
theorem dX1_one_192 : decode cX1_one 192 = .ok (.iload 6, 2) := dk_21 6 (dk_at dksX1_one_8 1 rfl rfl)
theorem dX1_one_194 : decode cX1_one 194 = .ok (.aload_n 0, 1) := dk_42 (dk_at dksX1_one_8 3 rfl rfl)
theorem dX1_one_195 : decode cX1_one 195 = .ok (.getfield 66, 3) := dk_180 0 66 (dk_at dksX1_one_8 4 rfl rfl)
theorem dX1_one_198 : decode cX1_one 198 = .ok (.getfield 243, 3) := dk_180 0 243 (dk_at dksX1_one_8 7 rfl rfl)
theorem dX1_one_201 : decode cX1_one 201 = .ok (.iload 5, 2) := dk_21 5 (dk_at dksX1_one_8 10 rfl rfl)
theorem dX1_one_203 : decode cX1_one 203 = .ok (.iaload, 1) := dk_46 (dk_at dksX1_one_8 12 rfl rfl)
theorem dX1_one_204 : decode cX1_one 204 = .ok (.invokevirtual 335, 3) := dk_182 1 79 (dk_at dksX1_one_8 13 rfl rfl)
theorem dX1_one_207 : decode cX1_one 207 = .ok (.pop, 1) := dk_87 (dk_at dksX1_one_8 16 rfl rfl)
theorem dX1_one_208 : decode cX1_one 208 = .ok (.iinc 4 1, 3) := dk_132 4 1 (dk_at dksX1_one_8 17 rfl rfl)
theorem dX1_one_211 : decode cX1_one 211 = .ok (.goto (-94), 3) := dk_167 255 162 (dk_at dksX1_one_8 20 rfl rfl)
theorem dX1_one_214 : decode cX1_one 214 = .ok (.iinc 3 1, 3) := dk_132 3 1 (dk_at dksX1_one_9 0 rfl rfl)
theorem dX1_one_217 : decode cX1_one 217 = .ok (.goto (-111), 3) := dk_167 255 145 (dk_at dksX1_one_9 3 rfl rfl)
theorem dX1_one_220 : decode cX1_one 220 = .ok (.aload_n 0, 1) := dk_42 (dk_at dksX1_one_9 6 rfl rfl)
theorem dX1_one_221 : decode cX1_one 221 = .ok (.getfield 372, 3) := dk_180 1 116 (dk_at dksX1_one_9 7 rfl rfl)
theorem dX1_one_224 : decode cX1_one 224 = .ok (.ireturn, 1) := dk_172 (dk_at dksX1_one_9 10 rfl rfl)
abbrev cX1_orders : ByteArray := prog_1_method_44_code
def yX1_orders : MethodName := ⟨RX1, "orders", "(II)V"⟩
def dkwX1_orders_7 : List UInt8 := [180, 0, 107, 29, 2, 79, 132, 3, 1, 167, 255, 151, 177]
abbrev dktX1_orders_7 : List UInt8 := dkwX1_orders_7 ++ []
def dkwX1_orders_6 : List UInt8 := [180, 0, 66, 180, 0, 243, 29, 46, 96, 184, 1, 99, 182, 1, 126, 42, 29, 2, 182, 1, 122, 42]
abbrev dktX1_orders_6 : List UInt8 := dkwX1_orders_6 ++ dktX1_orders_7
def dkwX1_orders_5 : List UInt8 := [21, 4, 79, 42, 180, 0, 111, 27, 29, 79, 42, 29, 4, 182, 1, 122, 42, 27, 4, 96, 28, 21, 4, 42]
abbrev dktX1_orders_5 : List UInt8 := dkwX1_orders_5 ++ dktX1_orders_6
def dkwX1_orders_4 : List UInt8 := [54, 4, 42, 29, 21, 4, 182, 1, 119, 154, 0, 9, 132, 4, 1, 167, 255, 243, 42, 180, 0, 107, 29]
abbrev dktX1_orders_4 : List UInt8 := dkwX1_orders_4 ++ dktX1_orders_5
def dkwX1_orders_3 : List UInt8 := [180, 0, 66, 180, 0, 228, 104, 162, 0, 98, 42, 180, 0, 107, 29, 46, 2, 159, 0, 6, 167, 0, 79, 3]
abbrev dktX1_orders_3 : List UInt8 := dkwX1_orders_3 ++ dktX1_orders_4
def dkwX1_orders_2 : List UInt8 := [180, 0, 111, 3, 42, 180, 0, 117, 3, 42, 180, 0, 111, 190, 184, 1, 70, 177, 3, 62, 29, 5, 42]
abbrev dktX1_orders_2 : List UInt8 := dkwX1_orders_2 ++ dktX1_orders_3
def dkwX1_orders_1 : List UInt8 := [181, 1, 116, 42, 180, 0, 107, 3, 42, 180, 0, 114, 3, 42, 180, 0, 107, 190, 184, 1, 70, 42]
abbrev dktX1_orders_1 : List UInt8 := dkwX1_orders_1 ++ dktX1_orders_2
def dkwX1_orders_0 : List UInt8 := [28, 42, 180, 1, 116, 161, 0, 4, 177, 27, 5, 42, 180, 0, 66, 180, 0, 228, 104, 160, 0, 45, 42, 28]
abbrev dktX1_orders_0 : List UInt8 := dkwX1_orders_0 ++ dktX1_orders_1
theorem dksX1_orders_0 : cX1_orders.data.toList.drop 0 = dktX1_orders_0 := by decide +kernel
theorem dksX1_orders_1 : cX1_orders.data.toList.drop 24 = dktX1_orders_1 := dk_seg dksX1_orders_0 24 rfl rfl
theorem dksX1_orders_2 : cX1_orders.data.toList.drop 46 = dktX1_orders_2 := dk_seg dksX1_orders_1 22 rfl rfl
theorem dksX1_orders_3 : cX1_orders.data.toList.drop 69 = dktX1_orders_3 := dk_seg dksX1_orders_2 23 rfl rfl
theorem dksX1_orders_4 : cX1_orders.data.toList.drop 93 = dktX1_orders_4 := dk_seg dksX1_orders_3 24 rfl rfl
theorem dksX1_orders_5 : cX1_orders.data.toList.drop 116 = dktX1_orders_5 := dk_seg dksX1_orders_4 23 rfl rfl
theorem dksX1_orders_6 : cX1_orders.data.toList.drop 140 = dktX1_orders_6 := dk_seg dksX1_orders_5 24 rfl rfl
theorem dksX1_orders_7 : cX1_orders.data.toList.drop 162 = dktX1_orders_7 := dk_seg dksX1_orders_6 22 rfl rfl
theorem dX1_orders_0 : decode cX1_orders 0 = .ok (.iload_n 2, 1) := dk_28 (dk_at dksX1_orders_0 0 rfl rfl)
theorem dX1_orders_1 : decode cX1_orders 1 = .ok (.aload_n 0, 1) := dk_42 (dk_at dksX1_orders_0 1 rfl rfl)
theorem dX1_orders_2 : decode cX1_orders 2 = .ok (.getfield 372, 3) := dk_180 1 116 (dk_at dksX1_orders_0 2 rfl rfl)
theorem dX1_orders_5 : decode cX1_orders 5 = .ok (.if_icmp .lt 4, 3) := dk_161 0 4 (dk_at dksX1_orders_0 5 rfl rfl)
theorem dX1_orders_8 : decode cX1_orders 8 = .ok (.return_, 1) := dk_177 (dk_at dksX1_orders_0 8 rfl rfl)
theorem dX1_orders_9 : decode cX1_orders 9 = .ok (.iload_n 1, 1) := dk_27 (dk_at dksX1_orders_0 9 rfl rfl)
theorem dX1_orders_10 : decode cX1_orders 10 = .ok (.iconst 2, 1) := dk_5 (dk_at dksX1_orders_0 10 rfl rfl)
theorem dX1_orders_11 : decode cX1_orders 11 = .ok (.aload_n 0, 1) := dk_42 (dk_at dksX1_orders_0 11 rfl rfl)
theorem dX1_orders_12 : decode cX1_orders 12 = .ok (.getfield 66, 3) := dk_180 0 66 (dk_at dksX1_orders_0 12 rfl rfl)
theorem dX1_orders_15 : decode cX1_orders 15 = .ok (.getfield 228, 3) := dk_180 0 228 (dk_at dksX1_orders_0 15 rfl rfl)
theorem dX1_orders_18 : decode cX1_orders 18 = .ok (.imul, 1) := dk_104 (dk_at dksX1_orders_0 18 rfl rfl)
theorem dX1_orders_19 : decode cX1_orders 19 = .ok (.if_icmp .ne 45, 3) := dk_160 0 45 (dk_at dksX1_orders_0 19 rfl rfl)
theorem dX1_orders_22 : decode cX1_orders 22 = .ok (.aload_n 0, 1) := dk_42 (dk_at dksX1_orders_0 22 rfl rfl)
theorem dX1_orders_23 : decode cX1_orders 23 = .ok (.iload_n 2, 1) := dk_28 (dk_at dksX1_orders_0 23 rfl rfl)
theorem dX1_orders_24 : decode cX1_orders 24 = .ok (.putfield 372, 3) := dk_181 1 116 (dk_at dksX1_orders_1 0 rfl rfl)
theorem dX1_orders_27 : decode cX1_orders 27 = .ok (.aload_n 0, 1) := dk_42 (dk_at dksX1_orders_1 3 rfl rfl)
theorem dX1_orders_28 : decode cX1_orders 28 = .ok (.getfield 107, 3) := dk_180 0 107 (dk_at dksX1_orders_1 4 rfl rfl)
theorem dX1_orders_31 : decode cX1_orders 31 = .ok (.iconst 0, 1) := dk_3 (dk_at dksX1_orders_1 7 rfl rfl)
theorem dX1_orders_32 : decode cX1_orders 32 = .ok (.aload_n 0, 1) := dk_42 (dk_at dksX1_orders_1 8 rfl rfl)
theorem dX1_orders_33 : decode cX1_orders 33 = .ok (.getfield 114, 3) := dk_180 0 114 (dk_at dksX1_orders_1 9 rfl rfl)
theorem dX1_orders_36 : decode cX1_orders 36 = .ok (.iconst 0, 1) := dk_3 (dk_at dksX1_orders_1 12 rfl rfl)
theorem dX1_orders_37 : decode cX1_orders 37 = .ok (.aload_n 0, 1) := dk_42 (dk_at dksX1_orders_1 13 rfl rfl)
theorem dX1_orders_38 : decode cX1_orders 38 = .ok (.getfield 107, 3) := dk_180 0 107 (dk_at dksX1_orders_1 14 rfl rfl)
theorem dX1_orders_41 : decode cX1_orders 41 = .ok (.arraylength, 1) := dk_190 (dk_at dksX1_orders_1 17 rfl rfl)
theorem dX1_orders_42 : decode cX1_orders 42 = .ok (.invokestatic 326, 3) := dk_184 1 70 (dk_at dksX1_orders_1 18 rfl rfl)
theorem dX1_orders_45 : decode cX1_orders 45 = .ok (.aload_n 0, 1) := dk_42 (dk_at dksX1_orders_1 21 rfl rfl)
theorem dX1_orders_46 : decode cX1_orders 46 = .ok (.getfield 111, 3) := dk_180 0 111 (dk_at dksX1_orders_2 0 rfl rfl)
theorem dX1_orders_49 : decode cX1_orders 49 = .ok (.iconst 0, 1) := dk_3 (dk_at dksX1_orders_2 3 rfl rfl)
theorem dX1_orders_50 : decode cX1_orders 50 = .ok (.aload_n 0, 1) := dk_42 (dk_at dksX1_orders_2 4 rfl rfl)
theorem dX1_orders_51 : decode cX1_orders 51 = .ok (.getfield 117, 3) := dk_180 0 117 (dk_at dksX1_orders_2 5 rfl rfl)
theorem dX1_orders_54 : decode cX1_orders 54 = .ok (.iconst 0, 1) := dk_3 (dk_at dksX1_orders_2 8 rfl rfl)
theorem dX1_orders_55 : decode cX1_orders 55 = .ok (.aload_n 0, 1) := dk_42 (dk_at dksX1_orders_2 9 rfl rfl)
theorem dX1_orders_56 : decode cX1_orders 56 = .ok (.getfield 111, 3) := dk_180 0 111 (dk_at dksX1_orders_2 10 rfl rfl)
theorem dX1_orders_59 : decode cX1_orders 59 = .ok (.arraylength, 1) := dk_190 (dk_at dksX1_orders_2 13 rfl rfl)
theorem dX1_orders_60 : decode cX1_orders 60 = .ok (.invokestatic 326, 3) := dk_184 1 70 (dk_at dksX1_orders_2 14 rfl rfl)
theorem dX1_orders_63 : decode cX1_orders 63 = .ok (.return_, 1) := dk_177 (dk_at dksX1_orders_2 17 rfl rfl)
theorem dX1_orders_64 : decode cX1_orders 64 = .ok (.iconst 0, 1) := dk_3 (dk_at dksX1_orders_2 18 rfl rfl)
theorem dX1_orders_65 : decode cX1_orders 65 = .ok (.istore_n 3, 1) := dk_62 (dk_at dksX1_orders_2 19 rfl rfl)
theorem dX1_orders_66 : decode cX1_orders 66 = .ok (.iload_n 3, 1) := dk_29 (dk_at dksX1_orders_2 20 rfl rfl)
theorem dX1_orders_67 : decode cX1_orders 67 = .ok (.iconst 2, 1) := dk_5 (dk_at dksX1_orders_2 21 rfl rfl)
theorem dX1_orders_68 : decode cX1_orders 68 = .ok (.aload_n 0, 1) := dk_42 (dk_at dksX1_orders_2 22 rfl rfl)
theorem dX1_orders_69 : decode cX1_orders 69 = .ok (.getfield 66, 3) := dk_180 0 66 (dk_at dksX1_orders_3 0 rfl rfl)
theorem dX1_orders_72 : decode cX1_orders 72 = .ok (.getfield 228, 3) := dk_180 0 228 (dk_at dksX1_orders_3 3 rfl rfl)
theorem dX1_orders_75 : decode cX1_orders 75 = .ok (.imul, 1) := dk_104 (dk_at dksX1_orders_3 6 rfl rfl)
theorem dX1_orders_76 : decode cX1_orders 76 = .ok (.if_icmp .ge 98, 3) := dk_162 0 98 (dk_at dksX1_orders_3 7 rfl rfl)
theorem dX1_orders_79 : decode cX1_orders 79 = .ok (.aload_n 0, 1) := dk_42 (dk_at dksX1_orders_3 10 rfl rfl)
theorem dX1_orders_80 : decode cX1_orders 80 = .ok (.getfield 107, 3) := dk_180 0 107 (dk_at dksX1_orders_3 11 rfl rfl)
theorem dX1_orders_83 : decode cX1_orders 83 = .ok (.iload_n 3, 1) := dk_29 (dk_at dksX1_orders_3 14 rfl rfl)
theorem dX1_orders_84 : decode cX1_orders 84 = .ok (.iaload, 1) := dk_46 (dk_at dksX1_orders_3 15 rfl rfl)
theorem dX1_orders_85 : decode cX1_orders 85 = .ok (.iconst (-1), 1) := dk_2 (dk_at dksX1_orders_3 16 rfl rfl)
theorem dX1_orders_86 : decode cX1_orders 86 = .ok (.if_icmp .eq 6, 3) := dk_159 0 6 (dk_at dksX1_orders_3 17 rfl rfl)
theorem dX1_orders_89 : decode cX1_orders 89 = .ok (.goto 79, 3) := dk_167 0 79 (dk_at dksX1_orders_3 20 rfl rfl)
theorem dX1_orders_92 : decode cX1_orders 92 = .ok (.iconst 0, 1) := dk_3 (dk_at dksX1_orders_3 23 rfl rfl)
theorem dX1_orders_93 : decode cX1_orders 93 = .ok (.istore 4, 2) := dk_54 4 (dk_at dksX1_orders_4 0 rfl rfl)
theorem dX1_orders_95 : decode cX1_orders 95 = .ok (.aload_n 0, 1) := dk_42 (dk_at dksX1_orders_4 2 rfl rfl)
theorem dX1_orders_96 : decode cX1_orders 96 = .ok (.iload_n 3, 1) := dk_29 (dk_at dksX1_orders_4 3 rfl rfl)
theorem dX1_orders_97 : decode cX1_orders 97 = .ok (.iload 4, 2) := dk_21 4 (dk_at dksX1_orders_4 4 rfl rfl)
theorem dX1_orders_99 : decode cX1_orders 99 = .ok (.invokevirtual 375, 3) := dk_182 1 119 (dk_at dksX1_orders_4 6 rfl rfl)
theorem dX1_orders_102 : decode cX1_orders 102 = .ok (.ifCond .ne 9, 3) := dk_154 0 9 (dk_at dksX1_orders_4 9 rfl rfl)
theorem dX1_orders_105 : decode cX1_orders 105 = .ok (.iinc 4 1, 3) := dk_132 4 1 (dk_at dksX1_orders_4 12 rfl rfl)
theorem dX1_orders_108 : decode cX1_orders 108 = .ok (.goto (-13), 3) := dk_167 255 243 (dk_at dksX1_orders_4 15 rfl rfl)
theorem dX1_orders_111 : decode cX1_orders 111 = .ok (.aload_n 0, 1) := dk_42 (dk_at dksX1_orders_4 18 rfl rfl)
theorem dX1_orders_112 : decode cX1_orders 112 = .ok (.getfield 107, 3) := dk_180 0 107 (dk_at dksX1_orders_4 19 rfl rfl)
theorem dX1_orders_115 : decode cX1_orders 115 = .ok (.iload_n 3, 1) := dk_29 (dk_at dksX1_orders_4 22 rfl rfl)
theorem dX1_orders_116 : decode cX1_orders 116 = .ok (.iload 4, 2) := dk_21 4 (dk_at dksX1_orders_5 0 rfl rfl)
theorem dX1_orders_118 : decode cX1_orders 118 = .ok (.iastore, 1) := dk_79 (dk_at dksX1_orders_5 2 rfl rfl)
theorem dX1_orders_119 : decode cX1_orders 119 = .ok (.aload_n 0, 1) := dk_42 (dk_at dksX1_orders_5 3 rfl rfl)
theorem dX1_orders_120 : decode cX1_orders 120 = .ok (.getfield 111, 3) := dk_180 0 111 (dk_at dksX1_orders_5 4 rfl rfl)
theorem dX1_orders_123 : decode cX1_orders 123 = .ok (.iload_n 1, 1) := dk_27 (dk_at dksX1_orders_5 7 rfl rfl)
theorem dX1_orders_124 : decode cX1_orders 124 = .ok (.iload_n 3, 1) := dk_29 (dk_at dksX1_orders_5 8 rfl rfl)
theorem dX1_orders_125 : decode cX1_orders 125 = .ok (.iastore, 1) := dk_79 (dk_at dksX1_orders_5 9 rfl rfl)
theorem dX1_orders_126 : decode cX1_orders 126 = .ok (.aload_n 0, 1) := dk_42 (dk_at dksX1_orders_5 10 rfl rfl)
theorem dX1_orders_127 : decode cX1_orders 127 = .ok (.iload_n 3, 1) := dk_29 (dk_at dksX1_orders_5 11 rfl rfl)
theorem dX1_orders_128 : decode cX1_orders 128 = .ok (.iconst 1, 1) := dk_4 (dk_at dksX1_orders_5 12 rfl rfl)
theorem dX1_orders_129 : decode cX1_orders 129 = .ok (.invokevirtual 378, 3) := dk_182 1 122 (dk_at dksX1_orders_5 13 rfl rfl)
theorem dX1_orders_132 : decode cX1_orders 132 = .ok (.aload_n 0, 1) := dk_42 (dk_at dksX1_orders_5 16 rfl rfl)
theorem dX1_orders_133 : decode cX1_orders 133 = .ok (.iload_n 1, 1) := dk_27 (dk_at dksX1_orders_5 17 rfl rfl)
theorem dX1_orders_134 : decode cX1_orders 134 = .ok (.iconst 1, 1) := dk_4 (dk_at dksX1_orders_5 18 rfl rfl)
theorem dX1_orders_135 : decode cX1_orders 135 = .ok (.iadd, 1) := dk_96 (dk_at dksX1_orders_5 19 rfl rfl)
theorem dX1_orders_136 : decode cX1_orders 136 = .ok (.iload_n 2, 1) := dk_28 (dk_at dksX1_orders_5 20 rfl rfl)
theorem dX1_orders_137 : decode cX1_orders 137 = .ok (.iload 4, 2) := dk_21 4 (dk_at dksX1_orders_5 21 rfl rfl)
theorem dX1_orders_139 : decode cX1_orders 139 = .ok (.aload_n 0, 1) := dk_42 (dk_at dksX1_orders_5 23 rfl rfl)
theorem dX1_orders_140 : decode cX1_orders 140 = .ok (.getfield 66, 3) := dk_180 0 66 (dk_at dksX1_orders_6 0 rfl rfl)
theorem dX1_orders_143 : decode cX1_orders 143 = .ok (.getfield 243, 3) := dk_180 0 243 (dk_at dksX1_orders_6 3 rfl rfl)
theorem dX1_orders_146 : decode cX1_orders 146 = .ok (.iload_n 3, 1) := dk_29 (dk_at dksX1_orders_6 6 rfl rfl)
theorem dX1_orders_147 : decode cX1_orders 147 = .ok (.iaload, 1) := dk_46 (dk_at dksX1_orders_6 7 rfl rfl)
theorem dX1_orders_148 : decode cX1_orders 148 = .ok (.iadd, 1) := dk_96 (dk_at dksX1_orders_6 8 rfl rfl)
theorem dX1_orders_149 : decode cX1_orders 149 = .ok (.invokestatic 355, 3) := dk_184 1 99 (dk_at dksX1_orders_6 9 rfl rfl)
theorem dX1_orders_152 : decode cX1_orders 152 = .ok (.invokevirtual 382, 3) := dk_182 1 126 (dk_at dksX1_orders_6 12 rfl rfl)
theorem dX1_orders_155 : decode cX1_orders 155 = .ok (.aload_n 0, 1) := dk_42 (dk_at dksX1_orders_6 15 rfl rfl)
theorem dX1_orders_156 : decode cX1_orders 156 = .ok (.iload_n 3, 1) := dk_29 (dk_at dksX1_orders_6 16 rfl rfl)
theorem dX1_orders_157 : decode cX1_orders 157 = .ok (.iconst (-1), 1) := dk_2 (dk_at dksX1_orders_6 17 rfl rfl)
theorem dX1_orders_158 : decode cX1_orders 158 = .ok (.invokevirtual 378, 3) := dk_182 1 122 (dk_at dksX1_orders_6 18 rfl rfl)
theorem dX1_orders_161 : decode cX1_orders 161 = .ok (.aload_n 0, 1) := dk_42 (dk_at dksX1_orders_6 21 rfl rfl)
theorem dX1_orders_162 : decode cX1_orders 162 = .ok (.getfield 107, 3) := dk_180 0 107 (dk_at dksX1_orders_7 0 rfl rfl)
theorem dX1_orders_165 : decode cX1_orders 165 = .ok (.iload_n 3, 1) := dk_29 (dk_at dksX1_orders_7 3 rfl rfl)
theorem dX1_orders_166 : decode cX1_orders 166 = .ok (.iconst (-1), 1) := dk_2 (dk_at dksX1_orders_7 4 rfl rfl)
theorem dX1_orders_167 : decode cX1_orders 167 = .ok (.iastore, 1) := dk_79 (dk_at dksX1_orders_7 5 rfl rfl)
theorem dX1_orders_168 : decode cX1_orders 168 = .ok (.iinc 3 1, 3) := dk_132 3 1 (dk_at dksX1_orders_7 6 rfl rfl)
theorem dX1_orders_171 : decode cX1_orders 171 = .ok (.goto (-105), 3) := dk_167 255 151 (dk_at dksX1_orders_7 9 rfl rfl)
theorem dX1_orders_174 : decode cX1_orders 174 = .ok (.return_, 1) := dk_177 (dk_at dksX1_orders_7 12 rfl rfl)
abbrev cX1_fits : ByteArray := prog_1_method_42_code
def yX1_fits : MethodName := ⟨RX1, "fits", "(II)Z"⟩
def dkwX1_fits_5 : List UInt8 := [4, 167, 0, 4, 3, 172]
abbrev dktX1_fits_5 : List UInt8 := dkwX1_fits_5 ++ []
def dkwX1_fits_4 : List UInt8 := [162, 0, 24, 28, 29, 96, 42, 180, 0, 66, 180, 1, 114, 96, 42, 180, 0, 107, 21, 4, 46, 163, 0, 7]
abbrev dktX1_fits_4 : List UInt8 := dkwX1_fits_4 ++ dktX1_fits_5
def dkwX1_fits_3 : List UInt8 := [54, 5, 42, 180, 0, 107, 21, 4, 46, 2, 159, 0, 38, 28, 21, 5, 42, 180, 0, 66, 180, 1, 114, 96]
abbrev dktX1_fits_3 : List UInt8 := dkwX1_fits_3 ++ dktX1_fits_4
def dkwX1_fits_2 : List UInt8 := [27, 4, 130, 54, 4, 42, 180, 0, 107, 21, 4, 46, 42, 180, 0, 66, 180, 0, 243, 21, 4, 46, 96]
abbrev dktX1_fits_2 : List UInt8 := dkwX1_fits_2 ++ dktX1_fits_3
def dkwX1_fits_1 : List UInt8 := [180, 0, 120, 21, 4, 46, 42, 180, 0, 66, 180, 1, 76, 160, 0, 5, 3, 172, 132, 4, 1, 167, 255, 226]
abbrev dktX1_fits_1 : List UInt8 := dkwX1_fits_1 ++ dktX1_fits_2
def dkwX1_fits_0 : List UInt8 := [42, 180, 0, 66, 180, 0, 243, 27, 46, 62, 28, 54, 4, 21, 4, 28, 29, 96, 162, 0, 28, 42]
abbrev dktX1_fits_0 : List UInt8 := dkwX1_fits_0 ++ dktX1_fits_1
theorem dksX1_fits_0 : cX1_fits.data.toList.drop 0 = dktX1_fits_0 := by decide +kernel
theorem dksX1_fits_1 : cX1_fits.data.toList.drop 22 = dktX1_fits_1 := dk_seg dksX1_fits_0 22 rfl rfl
theorem dksX1_fits_2 : cX1_fits.data.toList.drop 46 = dktX1_fits_2 := dk_seg dksX1_fits_1 24 rfl rfl
theorem dksX1_fits_3 : cX1_fits.data.toList.drop 69 = dktX1_fits_3 := dk_seg dksX1_fits_2 23 rfl rfl
theorem dksX1_fits_4 : cX1_fits.data.toList.drop 93 = dktX1_fits_4 := dk_seg dksX1_fits_3 24 rfl rfl
theorem dksX1_fits_5 : cX1_fits.data.toList.drop 117 = dktX1_fits_5 := dk_seg dksX1_fits_4 24 rfl rfl
theorem dX1_fits_0 : decode cX1_fits 0 = .ok (.aload_n 0, 1) := dk_42 (dk_at dksX1_fits_0 0 rfl rfl)
theorem dX1_fits_1 : decode cX1_fits 1 = .ok (.getfield 66, 3) := dk_180 0 66 (dk_at dksX1_fits_0 1 rfl rfl)
theorem dX1_fits_4 : decode cX1_fits 4 = .ok (.getfield 243, 3) := dk_180 0 243 (dk_at dksX1_fits_0 4 rfl rfl)
theorem dX1_fits_7 : decode cX1_fits 7 = .ok (.iload_n 1, 1) := dk_27 (dk_at dksX1_fits_0 7 rfl rfl)
theorem dX1_fits_8 : decode cX1_fits 8 = .ok (.iaload, 1) := dk_46 (dk_at dksX1_fits_0 8 rfl rfl)
theorem dX1_fits_9 : decode cX1_fits 9 = .ok (.istore_n 3, 1) := dk_62 (dk_at dksX1_fits_0 9 rfl rfl)
theorem dX1_fits_10 : decode cX1_fits 10 = .ok (.iload_n 2, 1) := dk_28 (dk_at dksX1_fits_0 10 rfl rfl)
theorem dX1_fits_11 : decode cX1_fits 11 = .ok (.istore 4, 2) := dk_54 4 (dk_at dksX1_fits_0 11 rfl rfl)
theorem dX1_fits_13 : decode cX1_fits 13 = .ok (.iload 4, 2) := dk_21 4 (dk_at dksX1_fits_0 13 rfl rfl)
theorem dX1_fits_15 : decode cX1_fits 15 = .ok (.iload_n 2, 1) := dk_28 (dk_at dksX1_fits_0 15 rfl rfl)
theorem dX1_fits_16 : decode cX1_fits 16 = .ok (.iload_n 3, 1) := dk_29 (dk_at dksX1_fits_0 16 rfl rfl)
theorem dX1_fits_17 : decode cX1_fits 17 = .ok (.iadd, 1) := dk_96 (dk_at dksX1_fits_0 17 rfl rfl)
theorem dX1_fits_18 : decode cX1_fits 18 = .ok (.if_icmp .ge 28, 3) := dk_162 0 28 (dk_at dksX1_fits_0 18 rfl rfl)
theorem dX1_fits_21 : decode cX1_fits 21 = .ok (.aload_n 0, 1) := dk_42 (dk_at dksX1_fits_0 21 rfl rfl)
theorem dX1_fits_22 : decode cX1_fits 22 = .ok (.getfield 120, 3) := dk_180 0 120 (dk_at dksX1_fits_1 0 rfl rfl)
theorem dX1_fits_25 : decode cX1_fits 25 = .ok (.iload 4, 2) := dk_21 4 (dk_at dksX1_fits_1 3 rfl rfl)
theorem dX1_fits_27 : decode cX1_fits 27 = .ok (.iaload, 1) := dk_46 (dk_at dksX1_fits_1 5 rfl rfl)
theorem dX1_fits_28 : decode cX1_fits 28 = .ok (.aload_n 0, 1) := dk_42 (dk_at dksX1_fits_1 6 rfl rfl)
theorem dX1_fits_29 : decode cX1_fits 29 = .ok (.getfield 66, 3) := dk_180 0 66 (dk_at dksX1_fits_1 7 rfl rfl)
theorem dX1_fits_32 : decode cX1_fits 32 = .ok (.getfield 332, 3) := dk_180 1 76 (dk_at dksX1_fits_1 10 rfl rfl)
theorem dX1_fits_35 : decode cX1_fits 35 = .ok (.if_icmp .ne 5, 3) := dk_160 0 5 (dk_at dksX1_fits_1 13 rfl rfl)
theorem dX1_fits_38 : decode cX1_fits 38 = .ok (.iconst 0, 1) := dk_3 (dk_at dksX1_fits_1 16 rfl rfl)
theorem dX1_fits_39 : decode cX1_fits 39 = .ok (.ireturn, 1) := dk_172 (dk_at dksX1_fits_1 17 rfl rfl)
theorem dX1_fits_40 : decode cX1_fits 40 = .ok (.iinc 4 1, 3) := dk_132 4 1 (dk_at dksX1_fits_1 18 rfl rfl)
theorem dX1_fits_43 : decode cX1_fits 43 = .ok (.goto (-30), 3) := dk_167 255 226 (dk_at dksX1_fits_1 21 rfl rfl)
theorem dX1_fits_46 : decode cX1_fits 46 = .ok (.iload_n 1, 1) := dk_27 (dk_at dksX1_fits_2 0 rfl rfl)
theorem dX1_fits_47 : decode cX1_fits 47 = .ok (.iconst 1, 1) := dk_4 (dk_at dksX1_fits_2 1 rfl rfl)
theorem dX1_fits_48 : decode cX1_fits 48 = .ok (.ixor, 1) := dk_130 (dk_at dksX1_fits_2 2 rfl rfl)
theorem dX1_fits_49 : decode cX1_fits 49 = .ok (.istore 4, 2) := dk_54 4 (dk_at dksX1_fits_2 3 rfl rfl)
theorem dX1_fits_51 : decode cX1_fits 51 = .ok (.aload_n 0, 1) := dk_42 (dk_at dksX1_fits_2 5 rfl rfl)
theorem dX1_fits_52 : decode cX1_fits 52 = .ok (.getfield 107, 3) := dk_180 0 107 (dk_at dksX1_fits_2 6 rfl rfl)
theorem dX1_fits_55 : decode cX1_fits 55 = .ok (.iload 4, 2) := dk_21 4 (dk_at dksX1_fits_2 9 rfl rfl)
theorem dX1_fits_57 : decode cX1_fits 57 = .ok (.iaload, 1) := dk_46 (dk_at dksX1_fits_2 11 rfl rfl)
theorem dX1_fits_58 : decode cX1_fits 58 = .ok (.aload_n 0, 1) := dk_42 (dk_at dksX1_fits_2 12 rfl rfl)
theorem dX1_fits_59 : decode cX1_fits 59 = .ok (.getfield 66, 3) := dk_180 0 66 (dk_at dksX1_fits_2 13 rfl rfl)
theorem dX1_fits_62 : decode cX1_fits 62 = .ok (.getfield 243, 3) := dk_180 0 243 (dk_at dksX1_fits_2 16 rfl rfl)
theorem dX1_fits_65 : decode cX1_fits 65 = .ok (.iload 4, 2) := dk_21 4 (dk_at dksX1_fits_2 19 rfl rfl)
theorem dX1_fits_67 : decode cX1_fits 67 = .ok (.iaload, 1) := dk_46 (dk_at dksX1_fits_2 21 rfl rfl)
theorem dX1_fits_68 : decode cX1_fits 68 = .ok (.iadd, 1) := dk_96 (dk_at dksX1_fits_2 22 rfl rfl)
theorem dX1_fits_69 : decode cX1_fits 69 = .ok (.istore 5, 2) := dk_54 5 (dk_at dksX1_fits_3 0 rfl rfl)
theorem dX1_fits_71 : decode cX1_fits 71 = .ok (.aload_n 0, 1) := dk_42 (dk_at dksX1_fits_3 2 rfl rfl)
theorem dX1_fits_72 : decode cX1_fits 72 = .ok (.getfield 107, 3) := dk_180 0 107 (dk_at dksX1_fits_3 3 rfl rfl)
theorem dX1_fits_75 : decode cX1_fits 75 = .ok (.iload 4, 2) := dk_21 4 (dk_at dksX1_fits_3 6 rfl rfl)
theorem dX1_fits_77 : decode cX1_fits 77 = .ok (.iaload, 1) := dk_46 (dk_at dksX1_fits_3 8 rfl rfl)
theorem dX1_fits_78 : decode cX1_fits 78 = .ok (.iconst (-1), 1) := dk_2 (dk_at dksX1_fits_3 9 rfl rfl)
theorem dX1_fits_79 : decode cX1_fits 79 = .ok (.if_icmp .eq 38, 3) := dk_159 0 38 (dk_at dksX1_fits_3 10 rfl rfl)
theorem dX1_fits_82 : decode cX1_fits 82 = .ok (.iload_n 2, 1) := dk_28 (dk_at dksX1_fits_3 13 rfl rfl)
theorem dX1_fits_83 : decode cX1_fits 83 = .ok (.iload 5, 2) := dk_21 5 (dk_at dksX1_fits_3 14 rfl rfl)
theorem dX1_fits_85 : decode cX1_fits 85 = .ok (.aload_n 0, 1) := dk_42 (dk_at dksX1_fits_3 16 rfl rfl)
theorem dX1_fits_86 : decode cX1_fits 86 = .ok (.getfield 66, 3) := dk_180 0 66 (dk_at dksX1_fits_3 17 rfl rfl)
theorem dX1_fits_89 : decode cX1_fits 89 = .ok (.getfield 370, 3) := dk_180 1 114 (dk_at dksX1_fits_3 20 rfl rfl)
theorem dX1_fits_92 : decode cX1_fits 92 = .ok (.iadd, 1) := dk_96 (dk_at dksX1_fits_3 23 rfl rfl)
theorem dX1_fits_93 : decode cX1_fits 93 = .ok (.if_icmp .ge 24, 3) := dk_162 0 24 (dk_at dksX1_fits_4 0 rfl rfl)
theorem dX1_fits_96 : decode cX1_fits 96 = .ok (.iload_n 2, 1) := dk_28 (dk_at dksX1_fits_4 3 rfl rfl)
theorem dX1_fits_97 : decode cX1_fits 97 = .ok (.iload_n 3, 1) := dk_29 (dk_at dksX1_fits_4 4 rfl rfl)
theorem dX1_fits_98 : decode cX1_fits 98 = .ok (.iadd, 1) := dk_96 (dk_at dksX1_fits_4 5 rfl rfl)
theorem dX1_fits_99 : decode cX1_fits 99 = .ok (.aload_n 0, 1) := dk_42 (dk_at dksX1_fits_4 6 rfl rfl)
theorem dX1_fits_100 : decode cX1_fits 100 = .ok (.getfield 66, 3) := dk_180 0 66 (dk_at dksX1_fits_4 7 rfl rfl)
theorem dX1_fits_103 : decode cX1_fits 103 = .ok (.getfield 370, 3) := dk_180 1 114 (dk_at dksX1_fits_4 10 rfl rfl)
theorem dX1_fits_106 : decode cX1_fits 106 = .ok (.iadd, 1) := dk_96 (dk_at dksX1_fits_4 13 rfl rfl)
theorem dX1_fits_107 : decode cX1_fits 107 = .ok (.aload_n 0, 1) := dk_42 (dk_at dksX1_fits_4 14 rfl rfl)
theorem dX1_fits_108 : decode cX1_fits 108 = .ok (.getfield 107, 3) := dk_180 0 107 (dk_at dksX1_fits_4 15 rfl rfl)
theorem dX1_fits_111 : decode cX1_fits 111 = .ok (.iload 4, 2) := dk_21 4 (dk_at dksX1_fits_4 18 rfl rfl)
theorem dX1_fits_113 : decode cX1_fits 113 = .ok (.iaload, 1) := dk_46 (dk_at dksX1_fits_4 20 rfl rfl)
theorem dX1_fits_114 : decode cX1_fits 114 = .ok (.if_icmp .gt 7, 3) := dk_163 0 7 (dk_at dksX1_fits_4 21 rfl rfl)
theorem dX1_fits_117 : decode cX1_fits 117 = .ok (.iconst 1, 1) := dk_4 (dk_at dksX1_fits_5 0 rfl rfl)
theorem dX1_fits_118 : decode cX1_fits 118 = .ok (.goto 4, 3) := dk_167 0 4 (dk_at dksX1_fits_5 1 rfl rfl)
theorem dX1_fits_121 : decode cX1_fits 121 = .ok (.iconst 0, 1) := dk_3 (dk_at dksX1_fits_5 4 rfl rfl)
theorem dX1_fits_122 : decode cX1_fits 122 = .ok (.ireturn, 1) := dk_172 (dk_at dksX1_fits_5 5 rfl rfl)
abbrev cX1_takes : ByteArray := prog_1_method_43_code
def yX1_takes : MethodName := ⟨RX1, "takes", "(II)V"⟩
def dkwX1_takes_1 : List UInt8 := [162, 0, 19, 42, 180, 0, 120, 29, 92, 46, 28, 96, 79, 132, 3, 1, 167, 255, 223, 177]
abbrev dktX1_takes_1 : List UInt8 := dkwX1_takes_1 ++ []
def dkwX1_takes_0 : List UInt8 := [42, 180, 0, 107, 27, 46, 62, 29, 42, 180, 0, 107, 27, 46, 42, 180, 0, 66, 180, 0, 243, 27, 46, 96]
abbrev dktX1_takes_0 : List UInt8 := dkwX1_takes_0 ++ dktX1_takes_1
theorem dksX1_takes_0 : cX1_takes.data.toList.drop 0 = dktX1_takes_0 := by decide +kernel
theorem dksX1_takes_1 : cX1_takes.data.toList.drop 24 = dktX1_takes_1 := dk_seg dksX1_takes_0 24 rfl rfl
theorem dX1_takes_0 : decode cX1_takes 0 = .ok (.aload_n 0, 1) := dk_42 (dk_at dksX1_takes_0 0 rfl rfl)
theorem dX1_takes_1 : decode cX1_takes 1 = .ok (.getfield 107, 3) := dk_180 0 107 (dk_at dksX1_takes_0 1 rfl rfl)
theorem dX1_takes_4 : decode cX1_takes 4 = .ok (.iload_n 1, 1) := dk_27 (dk_at dksX1_takes_0 4 rfl rfl)
theorem dX1_takes_5 : decode cX1_takes 5 = .ok (.iaload, 1) := dk_46 (dk_at dksX1_takes_0 5 rfl rfl)
theorem dX1_takes_6 : decode cX1_takes 6 = .ok (.istore_n 3, 1) := dk_62 (dk_at dksX1_takes_0 6 rfl rfl)
theorem dX1_takes_7 : decode cX1_takes 7 = .ok (.iload_n 3, 1) := dk_29 (dk_at dksX1_takes_0 7 rfl rfl)
theorem dX1_takes_8 : decode cX1_takes 8 = .ok (.aload_n 0, 1) := dk_42 (dk_at dksX1_takes_0 8 rfl rfl)
theorem dX1_takes_9 : decode cX1_takes 9 = .ok (.getfield 107, 3) := dk_180 0 107 (dk_at dksX1_takes_0 9 rfl rfl)
theorem dX1_takes_12 : decode cX1_takes 12 = .ok (.iload_n 1, 1) := dk_27 (dk_at dksX1_takes_0 12 rfl rfl)
theorem dX1_takes_13 : decode cX1_takes 13 = .ok (.iaload, 1) := dk_46 (dk_at dksX1_takes_0 13 rfl rfl)
theorem dX1_takes_14 : decode cX1_takes 14 = .ok (.aload_n 0, 1) := dk_42 (dk_at dksX1_takes_0 14 rfl rfl)
theorem dX1_takes_15 : decode cX1_takes 15 = .ok (.getfield 66, 3) := dk_180 0 66 (dk_at dksX1_takes_0 15 rfl rfl)
theorem dX1_takes_18 : decode cX1_takes 18 = .ok (.getfield 243, 3) := dk_180 0 243 (dk_at dksX1_takes_0 18 rfl rfl)
theorem dX1_takes_21 : decode cX1_takes 21 = .ok (.iload_n 1, 1) := dk_27 (dk_at dksX1_takes_0 21 rfl rfl)
theorem dX1_takes_22 : decode cX1_takes 22 = .ok (.iaload, 1) := dk_46 (dk_at dksX1_takes_0 22 rfl rfl)
theorem dX1_takes_23 : decode cX1_takes 23 = .ok (.iadd, 1) := dk_96 (dk_at dksX1_takes_0 23 rfl rfl)
theorem dX1_takes_24 : decode cX1_takes 24 = .ok (.if_icmp .ge 19, 3) := dk_162 0 19 (dk_at dksX1_takes_1 0 rfl rfl)
theorem dX1_takes_27 : decode cX1_takes 27 = .ok (.aload_n 0, 1) := dk_42 (dk_at dksX1_takes_1 3 rfl rfl)
theorem dX1_takes_28 : decode cX1_takes 28 = .ok (.getfield 120, 3) := dk_180 0 120 (dk_at dksX1_takes_1 4 rfl rfl)
theorem dX1_takes_31 : decode cX1_takes 31 = .ok (.iload_n 3, 1) := dk_29 (dk_at dksX1_takes_1 7 rfl rfl)
theorem dX1_takes_32 : decode cX1_takes 32 = .ok (.dup2, 1) := dk_92 (dk_at dksX1_takes_1 8 rfl rfl)
theorem dX1_takes_33 : decode cX1_takes 33 = .ok (.iaload, 1) := dk_46 (dk_at dksX1_takes_1 9 rfl rfl)
theorem dX1_takes_34 : decode cX1_takes 34 = .ok (.iload_n 2, 1) := dk_28 (dk_at dksX1_takes_1 10 rfl rfl)
theorem dX1_takes_35 : decode cX1_takes 35 = .ok (.iadd, 1) := dk_96 (dk_at dksX1_takes_1 11 rfl rfl)
theorem dX1_takes_36 : decode cX1_takes 36 = .ok (.iastore, 1) := dk_79 (dk_at dksX1_takes_1 12 rfl rfl)
theorem dX1_takes_37 : decode cX1_takes 37 = .ok (.iinc 3 1, 3) := dk_132 3 1 (dk_at dksX1_takes_1 13 rfl rfl)
theorem dX1_takes_40 : decode cX1_takes 40 = .ok (.goto (-33), 3) := dk_167 255 223 (dk_at dksX1_takes_1 16 rfl rfl)
theorem dX1_takes_43 : decode cX1_takes 43 = .ok (.return_, 1) := dk_177 (dk_at dksX1_takes_1 19 rfl rfl)
abbrev cX1_masters : ByteArray := prog_1_method_46_code
def yX1_masters : MethodName := ⟨RX1, "masters", "()I"⟩
def dkwX1_masters_7 : List UInt8 := [132, 5, 1, 167, 255, 141, 132, 4, 1, 167, 255, 128, 42, 180, 0, 73, 182, 1, 40, 172]
abbrev dktX1_masters_7 : List UInt8 := dkwX1_masters_7 ++ []
def dkwX1_masters_6 : List UInt8 := [104, 21, 5, 96, 46, 96, 79, 44, 21, 5, 43, 5, 21, 6, 104, 21, 5, 96, 46, 79, 132, 3, 255]
abbrev dktX1_masters_6 : List UInt8 := dkwX1_masters_6 ++ dktX1_masters_7
def dkwX1_masters_5 : List UInt8 := [182, 1, 79, 87, 43, 5, 21, 6, 104, 21, 5, 96, 21, 4, 42, 180, 0, 66, 180, 0, 243, 5, 21, 6]
abbrev dktX1_masters_5 : List UInt8 := dkwX1_masters_5 ++ dktX1_masters_6
def dkwX1_masters_4 : List UInt8 := [21, 6, 21, 5, 21, 4, 21, 5, 42, 180, 0, 66, 180, 0, 243, 5, 21, 6, 104, 21, 5, 96, 46]
abbrev dktX1_masters_4 : List UInt8 := dkwX1_masters_4 ++ dktX1_masters_5
def dkwX1_masters_3 : List UInt8 := [42, 21, 5, 21, 4, 43, 182, 1, 130, 54, 6, 21, 6, 2, 160, 0, 6, 167, 0, 77, 42, 180, 0, 73]
abbrev dktX1_masters_3 : List UInt8 := dkwX1_masters_3 ++ dktX1_masters_4
def dkwX1_masters_2 : List UInt8 := [158, 0, 130, 3, 54, 5, 21, 5, 5, 162, 0, 115, 44, 21, 5, 46, 21, 4, 164, 0, 6, 167, 0, 97]
abbrev dktX1_masters_2 : List UInt8 := dkwX1_masters_2 ++ dktX1_masters_3
def dkwX1_masters_1 : List UInt8 := [16, 16, 188, 10, 76, 5, 188, 10, 77, 5, 42, 180, 0, 66, 180, 0, 228, 104, 62, 3, 54, 4, 29]
abbrev dktX1_masters_1 : List UInt8 := dkwX1_masters_1 ++ dktX1_masters_2
def dkwX1_masters_0 : List UInt8 := [42, 180, 0, 66, 180, 0, 228, 154, 0, 5, 2, 172, 42, 182, 1, 14, 42, 180, 0, 73, 3, 181, 0, 213]
abbrev dktX1_masters_0 : List UInt8 := dkwX1_masters_0 ++ dktX1_masters_1
theorem dksX1_masters_0 : cX1_masters.data.toList.drop 0 = dktX1_masters_0 := by decide +kernel
theorem dksX1_masters_1 : cX1_masters.data.toList.drop 24 = dktX1_masters_1 := dk_seg dksX1_masters_0 24 rfl rfl
theorem dksX1_masters_2 : cX1_masters.data.toList.drop 47 = dktX1_masters_2 := dk_seg dksX1_masters_1 23 rfl rfl
theorem dksX1_masters_3 : cX1_masters.data.toList.drop 71 = dktX1_masters_3 := dk_seg dksX1_masters_2 24 rfl rfl
theorem dksX1_masters_4 : cX1_masters.data.toList.drop 95 = dktX1_masters_4 := dk_seg dksX1_masters_3 24 rfl rfl
theorem dksX1_masters_5 : cX1_masters.data.toList.drop 118 = dktX1_masters_5 := dk_seg dksX1_masters_4 23 rfl rfl
theorem dksX1_masters_6 : cX1_masters.data.toList.drop 142 = dktX1_masters_6 := dk_seg dksX1_masters_5 24 rfl rfl
theorem dksX1_masters_7 : cX1_masters.data.toList.drop 165 = dktX1_masters_7 := dk_seg dksX1_masters_6 23 rfl rfl
theorem dX1_masters_0 : decode cX1_masters 0 = .ok (.aload_n 0, 1) := dk_42 (dk_at dksX1_masters_0 0 rfl rfl)
theorem dX1_masters_1 : decode cX1_masters 1 = .ok (.getfield 66, 3) := dk_180 0 66 (dk_at dksX1_masters_0 1 rfl rfl)
theorem dX1_masters_4 : decode cX1_masters 4 = .ok (.getfield 228, 3) := dk_180 0 228 (dk_at dksX1_masters_0 4 rfl rfl)
theorem dX1_masters_7 : decode cX1_masters 7 = .ok (.ifCond .ne 5, 3) := dk_154 0 5 (dk_at dksX1_masters_0 7 rfl rfl)
theorem dX1_masters_10 : decode cX1_masters 10 = .ok (.iconst (-1), 1) := dk_2 (dk_at dksX1_masters_0 10 rfl rfl)
theorem dX1_masters_11 : decode cX1_masters 11 = .ok (.ireturn, 1) := dk_172 (dk_at dksX1_masters_0 11 rfl rfl)
theorem dX1_masters_12 : decode cX1_masters 12 = .ok (.aload_n 0, 1) := dk_42 (dk_at dksX1_masters_0 12 rfl rfl)
theorem dX1_masters_13 : decode cX1_masters 13 = .ok (.invokevirtual 270, 3) := dk_182 1 14 (dk_at dksX1_masters_0 13 rfl rfl)
theorem dX1_masters_16 : decode cX1_masters 16 = .ok (.aload_n 0, 1) := dk_42 (dk_at dksX1_masters_0 16 rfl rfl)
theorem dX1_masters_17 : decode cX1_masters 17 = .ok (.getfield 73, 3) := dk_180 0 73 (dk_at dksX1_masters_0 17 rfl rfl)
theorem dX1_masters_20 : decode cX1_masters 20 = .ok (.iconst 0, 1) := dk_3 (dk_at dksX1_masters_0 20 rfl rfl)
theorem dX1_masters_21 : decode cX1_masters 21 = .ok (.putfield 213, 3) := dk_181 0 213 (dk_at dksX1_masters_0 21 rfl rfl)
theorem dX1_masters_24 : decode cX1_masters 24 = .ok (.bipush 16, 2) := dk_16 16 (dk_at dksX1_masters_1 0 rfl rfl)
theorem dX1_masters_26 : decode cX1_masters 26 = .ok (.newarray .int, 2) := dk_188_10 (dk_at dksX1_masters_1 2 rfl rfl)
theorem dX1_masters_28 : decode cX1_masters 28 = .ok (.astore_n 1, 1) := dk_76 (dk_at dksX1_masters_1 4 rfl rfl)
theorem dX1_masters_29 : decode cX1_masters 29 = .ok (.iconst 2, 1) := dk_5 (dk_at dksX1_masters_1 5 rfl rfl)
theorem dX1_masters_30 : decode cX1_masters 30 = .ok (.newarray .int, 2) := dk_188_10 (dk_at dksX1_masters_1 6 rfl rfl)
theorem dX1_masters_32 : decode cX1_masters 32 = .ok (.astore_n 2, 1) := dk_77 (dk_at dksX1_masters_1 8 rfl rfl)
theorem dX1_masters_33 : decode cX1_masters 33 = .ok (.iconst 2, 1) := dk_5 (dk_at dksX1_masters_1 9 rfl rfl)
theorem dX1_masters_34 : decode cX1_masters 34 = .ok (.aload_n 0, 1) := dk_42 (dk_at dksX1_masters_1 10 rfl rfl)
theorem dX1_masters_35 : decode cX1_masters 35 = .ok (.getfield 66, 3) := dk_180 0 66 (dk_at dksX1_masters_1 11 rfl rfl)
theorem dX1_masters_38 : decode cX1_masters 38 = .ok (.getfield 228, 3) := dk_180 0 228 (dk_at dksX1_masters_1 14 rfl rfl)
theorem dX1_masters_41 : decode cX1_masters 41 = .ok (.imul, 1) := dk_104 (dk_at dksX1_masters_1 17 rfl rfl)
theorem dX1_masters_42 : decode cX1_masters 42 = .ok (.istore_n 3, 1) := dk_62 (dk_at dksX1_masters_1 18 rfl rfl)
theorem dX1_masters_43 : decode cX1_masters 43 = .ok (.iconst 0, 1) := dk_3 (dk_at dksX1_masters_1 19 rfl rfl)
theorem dX1_masters_44 : decode cX1_masters 44 = .ok (.istore 4, 2) := dk_54 4 (dk_at dksX1_masters_1 20 rfl rfl)
theorem dX1_masters_46 : decode cX1_masters 46 = .ok (.iload_n 3, 1) := dk_29 (dk_at dksX1_masters_1 22 rfl rfl)
theorem dX1_masters_47 : decode cX1_masters 47 = .ok (.ifCond .le 130, 3) := dk_158 0 130 (dk_at dksX1_masters_2 0 rfl rfl)
theorem dX1_masters_50 : decode cX1_masters 50 = .ok (.iconst 0, 1) := dk_3 (dk_at dksX1_masters_2 3 rfl rfl)
theorem dX1_masters_51 : decode cX1_masters 51 = .ok (.istore 5, 2) := dk_54 5 (dk_at dksX1_masters_2 4 rfl rfl)
theorem dX1_masters_53 : decode cX1_masters 53 = .ok (.iload 5, 2) := dk_21 5 (dk_at dksX1_masters_2 6 rfl rfl)
theorem dX1_masters_55 : decode cX1_masters 55 = .ok (.iconst 2, 1) := dk_5 (dk_at dksX1_masters_2 8 rfl rfl)
theorem dX1_masters_56 : decode cX1_masters 56 = .ok (.if_icmp .ge 115, 3) := dk_162 0 115 (dk_at dksX1_masters_2 9 rfl rfl)
theorem dX1_masters_59 : decode cX1_masters 59 = .ok (.aload_n 2, 1) := dk_44 (dk_at dksX1_masters_2 12 rfl rfl)
theorem dX1_masters_60 : decode cX1_masters 60 = .ok (.iload 5, 2) := dk_21 5 (dk_at dksX1_masters_2 13 rfl rfl)
theorem dX1_masters_62 : decode cX1_masters 62 = .ok (.iaload, 1) := dk_46 (dk_at dksX1_masters_2 15 rfl rfl)
theorem dX1_masters_63 : decode cX1_masters 63 = .ok (.iload 4, 2) := dk_21 4 (dk_at dksX1_masters_2 16 rfl rfl)
theorem dX1_masters_65 : decode cX1_masters 65 = .ok (.if_icmp .le 6, 3) := dk_164 0 6 (dk_at dksX1_masters_2 18 rfl rfl)
theorem dX1_masters_68 : decode cX1_masters 68 = .ok (.goto 97, 3) := dk_167 0 97 (dk_at dksX1_masters_2 21 rfl rfl)
theorem dX1_masters_71 : decode cX1_masters 71 = .ok (.aload_n 0, 1) := dk_42 (dk_at dksX1_masters_3 0 rfl rfl)
theorem dX1_masters_72 : decode cX1_masters 72 = .ok (.iload 5, 2) := dk_21 5 (dk_at dksX1_masters_3 1 rfl rfl)
theorem dX1_masters_74 : decode cX1_masters 74 = .ok (.iload 4, 2) := dk_21 4 (dk_at dksX1_masters_3 3 rfl rfl)
theorem dX1_masters_76 : decode cX1_masters 76 = .ok (.aload_n 1, 1) := dk_43 (dk_at dksX1_masters_3 5 rfl rfl)
theorem dX1_masters_77 : decode cX1_masters 77 = .ok (.invokevirtual 386, 3) := dk_182 1 130 (dk_at dksX1_masters_3 6 rfl rfl)
theorem dX1_masters_80 : decode cX1_masters 80 = .ok (.istore 6, 2) := dk_54 6 (dk_at dksX1_masters_3 9 rfl rfl)
theorem dX1_masters_82 : decode cX1_masters 82 = .ok (.iload 6, 2) := dk_21 6 (dk_at dksX1_masters_3 11 rfl rfl)
theorem dX1_masters_84 : decode cX1_masters 84 = .ok (.iconst (-1), 1) := dk_2 (dk_at dksX1_masters_3 13 rfl rfl)
theorem dX1_masters_85 : decode cX1_masters 85 = .ok (.if_icmp .ne 6, 3) := dk_160 0 6 (dk_at dksX1_masters_3 14 rfl rfl)
theorem dX1_masters_88 : decode cX1_masters 88 = .ok (.goto 77, 3) := dk_167 0 77 (dk_at dksX1_masters_3 17 rfl rfl)
theorem dX1_masters_91 : decode cX1_masters 91 = .ok (.aload_n 0, 1) := dk_42 (dk_at dksX1_masters_3 20 rfl rfl)
theorem dX1_masters_92 : decode cX1_masters 92 = .ok (.getfield 73, 3) := dk_180 0 73 (dk_at dksX1_masters_3 21 rfl rfl)
theorem dX1_masters_95 : decode cX1_masters 95 = .ok (.iload 6, 2) := dk_21 6 (dk_at dksX1_masters_4 0 rfl rfl)
theorem dX1_masters_97 : decode cX1_masters 97 = .ok (.iload 5, 2) := dk_21 5 (dk_at dksX1_masters_4 2 rfl rfl)
theorem dX1_masters_99 : decode cX1_masters 99 = .ok (.iload 4, 2) := dk_21 4 (dk_at dksX1_masters_4 4 rfl rfl)
theorem dX1_masters_101 : decode cX1_masters 101 = .ok (.iload 5, 2) := dk_21 5 (dk_at dksX1_masters_4 6 rfl rfl)
theorem dX1_masters_103 : decode cX1_masters 103 = .ok (.aload_n 0, 1) := dk_42 (dk_at dksX1_masters_4 8 rfl rfl)
theorem dX1_masters_104 : decode cX1_masters 104 = .ok (.getfield 66, 3) := dk_180 0 66 (dk_at dksX1_masters_4 9 rfl rfl)
theorem dX1_masters_107 : decode cX1_masters 107 = .ok (.getfield 243, 3) := dk_180 0 243 (dk_at dksX1_masters_4 12 rfl rfl)
theorem dX1_masters_110 : decode cX1_masters 110 = .ok (.iconst 2, 1) := dk_5 (dk_at dksX1_masters_4 15 rfl rfl)
theorem dX1_masters_111 : decode cX1_masters 111 = .ok (.iload 6, 2) := dk_21 6 (dk_at dksX1_masters_4 16 rfl rfl)
theorem dX1_masters_113 : decode cX1_masters 113 = .ok (.imul, 1) := dk_104 (dk_at dksX1_masters_4 18 rfl rfl)
theorem dX1_masters_114 : decode cX1_masters 114 = .ok (.iload 5, 2) := dk_21 5 (dk_at dksX1_masters_4 19 rfl rfl)
theorem dX1_masters_116 : decode cX1_masters 116 = .ok (.iadd, 1) := dk_96 (dk_at dksX1_masters_4 21 rfl rfl)
theorem dX1_masters_117 : decode cX1_masters 117 = .ok (.iaload, 1) := dk_46 (dk_at dksX1_masters_4 22 rfl rfl)
theorem dX1_masters_118 : decode cX1_masters 118 = .ok (.invokevirtual 335, 3) := dk_182 1 79 (dk_at dksX1_masters_5 0 rfl rfl)
theorem dX1_masters_121 : decode cX1_masters 121 = .ok (.pop, 1) := dk_87 (dk_at dksX1_masters_5 3 rfl rfl)
theorem dX1_masters_122 : decode cX1_masters 122 = .ok (.aload_n 1, 1) := dk_43 (dk_at dksX1_masters_5 4 rfl rfl)
theorem dX1_masters_123 : decode cX1_masters 123 = .ok (.iconst 2, 1) := dk_5 (dk_at dksX1_masters_5 5 rfl rfl)
theorem dX1_masters_124 : decode cX1_masters 124 = .ok (.iload 6, 2) := dk_21 6 (dk_at dksX1_masters_5 6 rfl rfl)
theorem dX1_masters_126 : decode cX1_masters 126 = .ok (.imul, 1) := dk_104 (dk_at dksX1_masters_5 8 rfl rfl)
theorem dX1_masters_127 : decode cX1_masters 127 = .ok (.iload 5, 2) := dk_21 5 (dk_at dksX1_masters_5 9 rfl rfl)
theorem dX1_masters_129 : decode cX1_masters 129 = .ok (.iadd, 1) := dk_96 (dk_at dksX1_masters_5 11 rfl rfl)
theorem dX1_masters_130 : decode cX1_masters 130 = .ok (.iload 4, 2) := dk_21 4 (dk_at dksX1_masters_5 12 rfl rfl)
theorem dX1_masters_132 : decode cX1_masters 132 = .ok (.aload_n 0, 1) := dk_42 (dk_at dksX1_masters_5 14 rfl rfl)
theorem dX1_masters_133 : decode cX1_masters 133 = .ok (.getfield 66, 3) := dk_180 0 66 (dk_at dksX1_masters_5 15 rfl rfl)
theorem dX1_masters_136 : decode cX1_masters 136 = .ok (.getfield 243, 3) := dk_180 0 243 (dk_at dksX1_masters_5 18 rfl rfl)
theorem dX1_masters_139 : decode cX1_masters 139 = .ok (.iconst 2, 1) := dk_5 (dk_at dksX1_masters_5 21 rfl rfl)
theorem dX1_masters_140 : decode cX1_masters 140 = .ok (.iload 6, 2) := dk_21 6 (dk_at dksX1_masters_5 22 rfl rfl)
theorem dX1_masters_142 : decode cX1_masters 142 = .ok (.imul, 1) := dk_104 (dk_at dksX1_masters_6 0 rfl rfl)
theorem dX1_masters_143 : decode cX1_masters 143 = .ok (.iload 5, 2) := dk_21 5 (dk_at dksX1_masters_6 1 rfl rfl)
theorem dX1_masters_145 : decode cX1_masters 145 = .ok (.iadd, 1) := dk_96 (dk_at dksX1_masters_6 3 rfl rfl)
theorem dX1_masters_146 : decode cX1_masters 146 = .ok (.iaload, 1) := dk_46 (dk_at dksX1_masters_6 4 rfl rfl)
theorem dX1_masters_147 : decode cX1_masters 147 = .ok (.iadd, 1) := dk_96 (dk_at dksX1_masters_6 5 rfl rfl)
theorem dX1_masters_148 : decode cX1_masters 148 = .ok (.iastore, 1) := dk_79 (dk_at dksX1_masters_6 6 rfl rfl)
theorem dX1_masters_149 : decode cX1_masters 149 = .ok (.aload_n 2, 1) := dk_44 (dk_at dksX1_masters_6 7 rfl rfl)
theorem dX1_masters_150 : decode cX1_masters 150 = .ok (.iload 5, 2) := dk_21 5 (dk_at dksX1_masters_6 8 rfl rfl)
theorem dX1_masters_152 : decode cX1_masters 152 = .ok (.aload_n 1, 1) := dk_43 (dk_at dksX1_masters_6 10 rfl rfl)
theorem dX1_masters_153 : decode cX1_masters 153 = .ok (.iconst 2, 1) := dk_5 (dk_at dksX1_masters_6 11 rfl rfl)
theorem dX1_masters_154 : decode cX1_masters 154 = .ok (.iload 6, 2) := dk_21 6 (dk_at dksX1_masters_6 12 rfl rfl)
theorem dX1_masters_156 : decode cX1_masters 156 = .ok (.imul, 1) := dk_104 (dk_at dksX1_masters_6 14 rfl rfl)
theorem dX1_masters_157 : decode cX1_masters 157 = .ok (.iload 5, 2) := dk_21 5 (dk_at dksX1_masters_6 15 rfl rfl)
theorem dX1_masters_159 : decode cX1_masters 159 = .ok (.iadd, 1) := dk_96 (dk_at dksX1_masters_6 17 rfl rfl)
theorem dX1_masters_160 : decode cX1_masters 160 = .ok (.iaload, 1) := dk_46 (dk_at dksX1_masters_6 18 rfl rfl)
theorem dX1_masters_161 : decode cX1_masters 161 = .ok (.iastore, 1) := dk_79 (dk_at dksX1_masters_6 19 rfl rfl)
theorem dX1_masters_162 : decode cX1_masters 162 = .ok (.iinc 3 (-1), 3) := dk_132 3 255 (dk_at dksX1_masters_6 20 rfl rfl)
theorem dX1_masters_165 : decode cX1_masters 165 = .ok (.iinc 5 1, 3) := dk_132 5 1 (dk_at dksX1_masters_7 0 rfl rfl)
theorem dX1_masters_168 : decode cX1_masters 168 = .ok (.goto (-115), 3) := dk_167 255 141 (dk_at dksX1_masters_7 3 rfl rfl)
theorem dX1_masters_171 : decode cX1_masters 171 = .ok (.iinc 4 1, 3) := dk_132 4 1 (dk_at dksX1_masters_7 6 rfl rfl)
theorem dX1_masters_174 : decode cX1_masters 174 = .ok (.goto (-128), 3) := dk_167 255 128 (dk_at dksX1_masters_7 9 rfl rfl)
theorem dX1_masters_177 : decode cX1_masters 177 = .ok (.aload_n 0, 1) := dk_42 (dk_at dksX1_masters_7 12 rfl rfl)
theorem dX1_masters_178 : decode cX1_masters 178 = .ok (.getfield 73, 3) := dk_180 0 73 (dk_at dksX1_masters_7 13 rfl rfl)
theorem dX1_masters_181 : decode cX1_masters 181 = .ok (.invokevirtual 296, 3) := dk_182 1 40 (dk_at dksX1_masters_7 16 rfl rfl)
theorem dX1_masters_184 : decode cX1_masters 184 = .ok (.ireturn, 1) := dk_172 (dk_at dksX1_masters_7 19 rfl rfl)
abbrev cX1_pupil : ByteArray := prog_1_method_47_code
def yX1_pupil : MethodName := ⟨RX1, "pupil", "(II[I)I"⟩
def dkwX1_pupil_6 : List UInt8 := [132, 5, 1, 167, 255, 213, 2, 172]
abbrev dktX1_pupil_6 : List UInt8 := dkwX1_pupil_6 ++ []
def dkwX1_pupil_5 : List UInt8 := [96, 46, 154, 0, 20, 45, 5, 21, 5, 104, 4, 96, 27, 100, 46, 28, 163, 0, 6, 21, 5, 172]
abbrev dktX1_pupil_5 : List UInt8 := dkwX1_pupil_5 ++ dktX1_pupil_6
def dkwX1_pupil_4 : List UInt8 := [21, 4, 172, 3, 54, 5, 21, 5, 42, 180, 0, 66, 180, 0, 228, 162, 0, 37, 45, 5, 21, 5, 104, 27]
abbrev dktX1_pupil_4 : List UInt8 := dkwX1_pupil_4 ++ dktX1_pupil_5
def dkwX1_pupil_3 : List UInt8 := [96, 27, 100, 46, 164, 0, 7, 21, 5, 54, 4, 132, 5, 1, 167, 255, 176, 21, 4, 2, 159, 0, 6]
abbrev dktX1_pupil_3 : List UInt8 := dkwX1_pupil_3 ++ dktX1_pupil_4
def dkwX1_pupil_2 : List UInt8 := [180, 0, 243, 5, 21, 5, 104, 4, 96, 27, 100, 46, 42, 180, 0, 66, 180, 0, 243, 5, 21, 4, 104, 4]
abbrev dktX1_pupil_2 : List UInt8 := dkwX1_pupil_2 ++ dktX1_pupil_3
def dkwX1_pupil_1 : List UInt8 := [154, 0, 59, 45, 5, 21, 5, 104, 4, 96, 46, 154, 0, 48, 21, 4, 2, 159, 0, 38, 42, 180, 0, 66]
abbrev dktX1_pupil_1 : List UInt8 := dkwX1_pupil_1 ++ dktX1_pupil_2
def dkwX1_pupil_0 : List UInt8 := [2, 54, 4, 3, 54, 5, 21, 5, 42, 180, 0, 66, 180, 0, 228, 162, 0, 74, 45, 5, 21, 5, 104, 46]
abbrev dktX1_pupil_0 : List UInt8 := dkwX1_pupil_0 ++ dktX1_pupil_1
theorem dksX1_pupil_0 : cX1_pupil.data.toList.drop 0 = dktX1_pupil_0 := by decide +kernel
theorem dksX1_pupil_1 : cX1_pupil.data.toList.drop 24 = dktX1_pupil_1 := dk_seg dksX1_pupil_0 24 rfl rfl
theorem dksX1_pupil_2 : cX1_pupil.data.toList.drop 48 = dktX1_pupil_2 := dk_seg dksX1_pupil_1 24 rfl rfl
theorem dksX1_pupil_3 : cX1_pupil.data.toList.drop 72 = dktX1_pupil_3 := dk_seg dksX1_pupil_2 24 rfl rfl
theorem dksX1_pupil_4 : cX1_pupil.data.toList.drop 95 = dktX1_pupil_4 := dk_seg dksX1_pupil_3 23 rfl rfl
theorem dksX1_pupil_5 : cX1_pupil.data.toList.drop 119 = dktX1_pupil_5 := dk_seg dksX1_pupil_4 24 rfl rfl
theorem dksX1_pupil_6 : cX1_pupil.data.toList.drop 141 = dktX1_pupil_6 := dk_seg dksX1_pupil_5 22 rfl rfl
theorem dX1_pupil_0 : decode cX1_pupil 0 = .ok (.iconst (-1), 1) := dk_2 (dk_at dksX1_pupil_0 0 rfl rfl)
theorem dX1_pupil_1 : decode cX1_pupil 1 = .ok (.istore 4, 2) := dk_54 4 (dk_at dksX1_pupil_0 1 rfl rfl)
theorem dX1_pupil_3 : decode cX1_pupil 3 = .ok (.iconst 0, 1) := dk_3 (dk_at dksX1_pupil_0 3 rfl rfl)
theorem dX1_pupil_4 : decode cX1_pupil 4 = .ok (.istore 5, 2) := dk_54 5 (dk_at dksX1_pupil_0 4 rfl rfl)
theorem dX1_pupil_6 : decode cX1_pupil 6 = .ok (.iload 5, 2) := dk_21 5 (dk_at dksX1_pupil_0 6 rfl rfl)
theorem dX1_pupil_8 : decode cX1_pupil 8 = .ok (.aload_n 0, 1) := dk_42 (dk_at dksX1_pupil_0 8 rfl rfl)
theorem dX1_pupil_9 : decode cX1_pupil 9 = .ok (.getfield 66, 3) := dk_180 0 66 (dk_at dksX1_pupil_0 9 rfl rfl)
theorem dX1_pupil_12 : decode cX1_pupil 12 = .ok (.getfield 228, 3) := dk_180 0 228 (dk_at dksX1_pupil_0 12 rfl rfl)
theorem dX1_pupil_15 : decode cX1_pupil 15 = .ok (.if_icmp .ge 74, 3) := dk_162 0 74 (dk_at dksX1_pupil_0 15 rfl rfl)
theorem dX1_pupil_18 : decode cX1_pupil 18 = .ok (.aload_n 3, 1) := dk_45 (dk_at dksX1_pupil_0 18 rfl rfl)
theorem dX1_pupil_19 : decode cX1_pupil 19 = .ok (.iconst 2, 1) := dk_5 (dk_at dksX1_pupil_0 19 rfl rfl)
theorem dX1_pupil_20 : decode cX1_pupil 20 = .ok (.iload 5, 2) := dk_21 5 (dk_at dksX1_pupil_0 20 rfl rfl)
theorem dX1_pupil_22 : decode cX1_pupil 22 = .ok (.imul, 1) := dk_104 (dk_at dksX1_pupil_0 22 rfl rfl)
theorem dX1_pupil_23 : decode cX1_pupil 23 = .ok (.iaload, 1) := dk_46 (dk_at dksX1_pupil_0 23 rfl rfl)
theorem dX1_pupil_24 : decode cX1_pupil 24 = .ok (.ifCond .ne 59, 3) := dk_154 0 59 (dk_at dksX1_pupil_1 0 rfl rfl)
theorem dX1_pupil_27 : decode cX1_pupil 27 = .ok (.aload_n 3, 1) := dk_45 (dk_at dksX1_pupil_1 3 rfl rfl)
theorem dX1_pupil_28 : decode cX1_pupil 28 = .ok (.iconst 2, 1) := dk_5 (dk_at dksX1_pupil_1 4 rfl rfl)
theorem dX1_pupil_29 : decode cX1_pupil 29 = .ok (.iload 5, 2) := dk_21 5 (dk_at dksX1_pupil_1 5 rfl rfl)
theorem dX1_pupil_31 : decode cX1_pupil 31 = .ok (.imul, 1) := dk_104 (dk_at dksX1_pupil_1 7 rfl rfl)
theorem dX1_pupil_32 : decode cX1_pupil 32 = .ok (.iconst 1, 1) := dk_4 (dk_at dksX1_pupil_1 8 rfl rfl)
theorem dX1_pupil_33 : decode cX1_pupil 33 = .ok (.iadd, 1) := dk_96 (dk_at dksX1_pupil_1 9 rfl rfl)
theorem dX1_pupil_34 : decode cX1_pupil 34 = .ok (.iaload, 1) := dk_46 (dk_at dksX1_pupil_1 10 rfl rfl)
theorem dX1_pupil_35 : decode cX1_pupil 35 = .ok (.ifCond .ne 48, 3) := dk_154 0 48 (dk_at dksX1_pupil_1 11 rfl rfl)
theorem dX1_pupil_38 : decode cX1_pupil 38 = .ok (.iload 4, 2) := dk_21 4 (dk_at dksX1_pupil_1 14 rfl rfl)
theorem dX1_pupil_40 : decode cX1_pupil 40 = .ok (.iconst (-1), 1) := dk_2 (dk_at dksX1_pupil_1 16 rfl rfl)
theorem dX1_pupil_41 : decode cX1_pupil 41 = .ok (.if_icmp .eq 38, 3) := dk_159 0 38 (dk_at dksX1_pupil_1 17 rfl rfl)
theorem dX1_pupil_44 : decode cX1_pupil 44 = .ok (.aload_n 0, 1) := dk_42 (dk_at dksX1_pupil_1 20 rfl rfl)
theorem dX1_pupil_45 : decode cX1_pupil 45 = .ok (.getfield 66, 3) := dk_180 0 66 (dk_at dksX1_pupil_1 21 rfl rfl)
theorem dX1_pupil_48 : decode cX1_pupil 48 = .ok (.getfield 243, 3) := dk_180 0 243 (dk_at dksX1_pupil_2 0 rfl rfl)
theorem dX1_pupil_51 : decode cX1_pupil 51 = .ok (.iconst 2, 1) := dk_5 (dk_at dksX1_pupil_2 3 rfl rfl)
theorem dX1_pupil_52 : decode cX1_pupil 52 = .ok (.iload 5, 2) := dk_21 5 (dk_at dksX1_pupil_2 4 rfl rfl)
theorem dX1_pupil_54 : decode cX1_pupil 54 = .ok (.imul, 1) := dk_104 (dk_at dksX1_pupil_2 6 rfl rfl)
theorem dX1_pupil_55 : decode cX1_pupil 55 = .ok (.iconst 1, 1) := dk_4 (dk_at dksX1_pupil_2 7 rfl rfl)
theorem dX1_pupil_56 : decode cX1_pupil 56 = .ok (.iadd, 1) := dk_96 (dk_at dksX1_pupil_2 8 rfl rfl)
theorem dX1_pupil_57 : decode cX1_pupil 57 = .ok (.iload_n 1, 1) := dk_27 (dk_at dksX1_pupil_2 9 rfl rfl)
theorem dX1_pupil_58 : decode cX1_pupil 58 = .ok (.isub, 1) := dk_100 (dk_at dksX1_pupil_2 10 rfl rfl)
theorem dX1_pupil_59 : decode cX1_pupil 59 = .ok (.iaload, 1) := dk_46 (dk_at dksX1_pupil_2 11 rfl rfl)
theorem dX1_pupil_60 : decode cX1_pupil 60 = .ok (.aload_n 0, 1) := dk_42 (dk_at dksX1_pupil_2 12 rfl rfl)
theorem dX1_pupil_61 : decode cX1_pupil 61 = .ok (.getfield 66, 3) := dk_180 0 66 (dk_at dksX1_pupil_2 13 rfl rfl)
theorem dX1_pupil_64 : decode cX1_pupil 64 = .ok (.getfield 243, 3) := dk_180 0 243 (dk_at dksX1_pupil_2 16 rfl rfl)
theorem dX1_pupil_67 : decode cX1_pupil 67 = .ok (.iconst 2, 1) := dk_5 (dk_at dksX1_pupil_2 19 rfl rfl)
theorem dX1_pupil_68 : decode cX1_pupil 68 = .ok (.iload 4, 2) := dk_21 4 (dk_at dksX1_pupil_2 20 rfl rfl)
theorem dX1_pupil_70 : decode cX1_pupil 70 = .ok (.imul, 1) := dk_104 (dk_at dksX1_pupil_2 22 rfl rfl)
theorem dX1_pupil_71 : decode cX1_pupil 71 = .ok (.iconst 1, 1) := dk_4 (dk_at dksX1_pupil_2 23 rfl rfl)
theorem dX1_pupil_72 : decode cX1_pupil 72 = .ok (.iadd, 1) := dk_96 (dk_at dksX1_pupil_3 0 rfl rfl)
theorem dX1_pupil_73 : decode cX1_pupil 73 = .ok (.iload_n 1, 1) := dk_27 (dk_at dksX1_pupil_3 1 rfl rfl)
theorem dX1_pupil_74 : decode cX1_pupil 74 = .ok (.isub, 1) := dk_100 (dk_at dksX1_pupil_3 2 rfl rfl)
theorem dX1_pupil_75 : decode cX1_pupil 75 = .ok (.iaload, 1) := dk_46 (dk_at dksX1_pupil_3 3 rfl rfl)
theorem dX1_pupil_76 : decode cX1_pupil 76 = .ok (.if_icmp .le 7, 3) := dk_164 0 7 (dk_at dksX1_pupil_3 4 rfl rfl)
theorem dX1_pupil_79 : decode cX1_pupil 79 = .ok (.iload 5, 2) := dk_21 5 (dk_at dksX1_pupil_3 7 rfl rfl)
theorem dX1_pupil_81 : decode cX1_pupil 81 = .ok (.istore 4, 2) := dk_54 4 (dk_at dksX1_pupil_3 9 rfl rfl)
theorem dX1_pupil_83 : decode cX1_pupil 83 = .ok (.iinc 5 1, 3) := dk_132 5 1 (dk_at dksX1_pupil_3 11 rfl rfl)
theorem dX1_pupil_86 : decode cX1_pupil 86 = .ok (.goto (-80), 3) := dk_167 255 176 (dk_at dksX1_pupil_3 14 rfl rfl)
theorem dX1_pupil_89 : decode cX1_pupil 89 = .ok (.iload 4, 2) := dk_21 4 (dk_at dksX1_pupil_3 17 rfl rfl)
theorem dX1_pupil_91 : decode cX1_pupil 91 = .ok (.iconst (-1), 1) := dk_2 (dk_at dksX1_pupil_3 19 rfl rfl)
theorem dX1_pupil_92 : decode cX1_pupil 92 = .ok (.if_icmp .eq 6, 3) := dk_159 0 6 (dk_at dksX1_pupil_3 20 rfl rfl)
theorem dX1_pupil_95 : decode cX1_pupil 95 = .ok (.iload 4, 2) := dk_21 4 (dk_at dksX1_pupil_4 0 rfl rfl)
theorem dX1_pupil_97 : decode cX1_pupil 97 = .ok (.ireturn, 1) := dk_172 (dk_at dksX1_pupil_4 2 rfl rfl)
theorem dX1_pupil_98 : decode cX1_pupil 98 = .ok (.iconst 0, 1) := dk_3 (dk_at dksX1_pupil_4 3 rfl rfl)
theorem dX1_pupil_99 : decode cX1_pupil 99 = .ok (.istore 5, 2) := dk_54 5 (dk_at dksX1_pupil_4 4 rfl rfl)
theorem dX1_pupil_101 : decode cX1_pupil 101 = .ok (.iload 5, 2) := dk_21 5 (dk_at dksX1_pupil_4 6 rfl rfl)
theorem dX1_pupil_103 : decode cX1_pupil 103 = .ok (.aload_n 0, 1) := dk_42 (dk_at dksX1_pupil_4 8 rfl rfl)
theorem dX1_pupil_104 : decode cX1_pupil 104 = .ok (.getfield 66, 3) := dk_180 0 66 (dk_at dksX1_pupil_4 9 rfl rfl)
theorem dX1_pupil_107 : decode cX1_pupil 107 = .ok (.getfield 228, 3) := dk_180 0 228 (dk_at dksX1_pupil_4 12 rfl rfl)
theorem dX1_pupil_110 : decode cX1_pupil 110 = .ok (.if_icmp .ge 37, 3) := dk_162 0 37 (dk_at dksX1_pupil_4 15 rfl rfl)
theorem dX1_pupil_113 : decode cX1_pupil 113 = .ok (.aload_n 3, 1) := dk_45 (dk_at dksX1_pupil_4 18 rfl rfl)
theorem dX1_pupil_114 : decode cX1_pupil 114 = .ok (.iconst 2, 1) := dk_5 (dk_at dksX1_pupil_4 19 rfl rfl)
theorem dX1_pupil_115 : decode cX1_pupil 115 = .ok (.iload 5, 2) := dk_21 5 (dk_at dksX1_pupil_4 20 rfl rfl)
theorem dX1_pupil_117 : decode cX1_pupil 117 = .ok (.imul, 1) := dk_104 (dk_at dksX1_pupil_4 22 rfl rfl)
theorem dX1_pupil_118 : decode cX1_pupil 118 = .ok (.iload_n 1, 1) := dk_27 (dk_at dksX1_pupil_4 23 rfl rfl)
theorem dX1_pupil_119 : decode cX1_pupil 119 = .ok (.iadd, 1) := dk_96 (dk_at dksX1_pupil_5 0 rfl rfl)
theorem dX1_pupil_120 : decode cX1_pupil 120 = .ok (.iaload, 1) := dk_46 (dk_at dksX1_pupil_5 1 rfl rfl)
theorem dX1_pupil_121 : decode cX1_pupil 121 = .ok (.ifCond .ne 20, 3) := dk_154 0 20 (dk_at dksX1_pupil_5 2 rfl rfl)
theorem dX1_pupil_124 : decode cX1_pupil 124 = .ok (.aload_n 3, 1) := dk_45 (dk_at dksX1_pupil_5 5 rfl rfl)
theorem dX1_pupil_125 : decode cX1_pupil 125 = .ok (.iconst 2, 1) := dk_5 (dk_at dksX1_pupil_5 6 rfl rfl)
theorem dX1_pupil_126 : decode cX1_pupil 126 = .ok (.iload 5, 2) := dk_21 5 (dk_at dksX1_pupil_5 7 rfl rfl)
theorem dX1_pupil_128 : decode cX1_pupil 128 = .ok (.imul, 1) := dk_104 (dk_at dksX1_pupil_5 9 rfl rfl)
theorem dX1_pupil_129 : decode cX1_pupil 129 = .ok (.iconst 1, 1) := dk_4 (dk_at dksX1_pupil_5 10 rfl rfl)
theorem dX1_pupil_130 : decode cX1_pupil 130 = .ok (.iadd, 1) := dk_96 (dk_at dksX1_pupil_5 11 rfl rfl)
theorem dX1_pupil_131 : decode cX1_pupil 131 = .ok (.iload_n 1, 1) := dk_27 (dk_at dksX1_pupil_5 12 rfl rfl)
theorem dX1_pupil_132 : decode cX1_pupil 132 = .ok (.isub, 1) := dk_100 (dk_at dksX1_pupil_5 13 rfl rfl)
theorem dX1_pupil_133 : decode cX1_pupil 133 = .ok (.iaload, 1) := dk_46 (dk_at dksX1_pupil_5 14 rfl rfl)
theorem dX1_pupil_134 : decode cX1_pupil 134 = .ok (.iload_n 2, 1) := dk_28 (dk_at dksX1_pupil_5 15 rfl rfl)
theorem dX1_pupil_135 : decode cX1_pupil 135 = .ok (.if_icmp .gt 6, 3) := dk_163 0 6 (dk_at dksX1_pupil_5 16 rfl rfl)
theorem dX1_pupil_138 : decode cX1_pupil 138 = .ok (.iload 5, 2) := dk_21 5 (dk_at dksX1_pupil_5 19 rfl rfl)
theorem dX1_pupil_140 : decode cX1_pupil 140 = .ok (.ireturn, 1) := dk_172 (dk_at dksX1_pupil_5 21 rfl rfl)
theorem dX1_pupil_141 : decode cX1_pupil 141 = .ok (.iinc 5 1, 3) := dk_132 5 1 (dk_at dksX1_pupil_6 0 rfl rfl)
theorem dX1_pupil_144 : decode cX1_pupil 144 = .ok (.goto (-43), 3) := dk_167 255 213 (dk_at dksX1_pupil_6 3 rfl rfl)
theorem dX1_pupil_147 : decode cX1_pupil 147 = .ok (.iconst (-1), 1) := dk_2 (dk_at dksX1_pupil_6 6 rfl rfl)
theorem dX1_pupil_148 : decode cX1_pupil 148 = .ok (.ireturn, 1) := dk_172 (dk_at dksX1_pupil_6 7 rfl rfl)
abbrev cX1_cook : ByteArray := prog_1_method_54_code
def yX1_cook : MethodName := ⟨RX1, "cook", "(I)I"⟩
def dkwX1_cook_1 : List UInt8 := [182, 1, 14, 42, 27, 182, 1, 153, 172]
abbrev dktX1_cook_1 : List UInt8 := dkwX1_cook_1 ++ []
def dkwX1_cook_0 : List UInt8 := [42, 180, 0, 66, 180, 0, 228, 153, 0, 12, 27, 3, 5, 184, 0, 231, 154, 0, 5, 2, 172, 42]
abbrev dktX1_cook_0 : List UInt8 := dkwX1_cook_0 ++ dktX1_cook_1
theorem dksX1_cook_0 : cX1_cook.data.toList.drop 0 = dktX1_cook_0 := by decide +kernel
theorem dksX1_cook_1 : cX1_cook.data.toList.drop 22 = dktX1_cook_1 := dk_seg dksX1_cook_0 22 rfl rfl
theorem dX1_cook_0 : decode cX1_cook 0 = .ok (.aload_n 0, 1) := dk_42 (dk_at dksX1_cook_0 0 rfl rfl)
theorem dX1_cook_1 : decode cX1_cook 1 = .ok (.getfield 66, 3) := dk_180 0 66 (dk_at dksX1_cook_0 1 rfl rfl)
theorem dX1_cook_4 : decode cX1_cook 4 = .ok (.getfield 228, 3) := dk_180 0 228 (dk_at dksX1_cook_0 4 rfl rfl)
theorem dX1_cook_7 : decode cX1_cook 7 = .ok (.ifCond .eq 12, 3) := dk_153 0 12 (dk_at dksX1_cook_0 7 rfl rfl)
theorem dX1_cook_10 : decode cX1_cook 10 = .ok (.iload_n 1, 1) := dk_27 (dk_at dksX1_cook_0 10 rfl rfl)
theorem dX1_cook_11 : decode cX1_cook 11 = .ok (.iconst 0, 1) := dk_3 (dk_at dksX1_cook_0 11 rfl rfl)
theorem dX1_cook_12 : decode cX1_cook 12 = .ok (.iconst 2, 1) := dk_5 (dk_at dksX1_cook_0 12 rfl rfl)
theorem dX1_cook_13 : decode cX1_cook 13 = .ok (.invokestatic 231, 3) := dk_184 0 231 (dk_at dksX1_cook_0 13 rfl rfl)
theorem dX1_cook_16 : decode cX1_cook 16 = .ok (.ifCond .ne 5, 3) := dk_154 0 5 (dk_at dksX1_cook_0 16 rfl rfl)
theorem dX1_cook_19 : decode cX1_cook 19 = .ok (.iconst (-1), 1) := dk_2 (dk_at dksX1_cook_0 19 rfl rfl)
theorem dX1_cook_20 : decode cX1_cook 20 = .ok (.ireturn, 1) := dk_172 (dk_at dksX1_cook_0 20 rfl rfl)
theorem dX1_cook_21 : decode cX1_cook 21 = .ok (.aload_n 0, 1) := dk_42 (dk_at dksX1_cook_0 21 rfl rfl)
theorem dX1_cook_22 : decode cX1_cook 22 = .ok (.invokevirtual 270, 3) := dk_182 1 14 (dk_at dksX1_cook_1 0 rfl rfl)
theorem dX1_cook_25 : decode cX1_cook 25 = .ok (.aload_n 0, 1) := dk_42 (dk_at dksX1_cook_1 3 rfl rfl)
theorem dX1_cook_26 : decode cX1_cook 26 = .ok (.iload_n 1, 1) := dk_27 (dk_at dksX1_cook_1 4 rfl rfl)
theorem dX1_cook_27 : decode cX1_cook 27 = .ok (.invokevirtual 409, 3) := dk_182 1 153 (dk_at dksX1_cook_1 5 rfl rfl)
theorem dX1_cook_30 : decode cX1_cook 30 = .ok (.ireturn, 1) := dk_172 (dk_at dksX1_cook_1 8 rfl rfl)
abbrev cX1_toasts : ByteArray := prog_1_method_56_code
def yX1_toasts : MethodName := ⟨RX1, "toasts", "(I)I"⟩
def dkwX1_toasts_10 : List UInt8 := [29, 172]
abbrev dktX1_toasts_10 : List UInt8 := dkwX1_toasts_10 ++ []
def dkwX1_toasts_9 : List UInt8 := [132, 2, 255, 42, 180, 0, 147, 21, 4, 21, 5, 79, 132, 4, 1, 167, 255, 133, 132, 3, 1, 167, 255, 109]
abbrev dktX1_toasts_9 : List UInt8 := dkwX1_toasts_9 ++ dktX1_toasts_10
def dkwX1_toasts_8 : List UInt8 := [79, 42, 180, 0, 138, 21, 5, 92, 46, 4, 100, 79, 42, 180, 0, 141, 21, 5, 29, 4, 96, 79]
abbrev dktX1_toasts_8 : List UInt8 := dkwX1_toasts_8 ++ dktX1_toasts_9
def dkwX1_toasts_7 : List UInt8 := [180, 0, 150, 21, 4, 42, 180, 0, 73, 21, 5, 5, 108, 21, 5, 5, 112, 29, 21, 4, 4, 182, 1, 79]
abbrev dktX1_toasts_7 : List UInt8 := dkwX1_toasts_7 ++ dktX1_toasts_8
def dkwX1_toasts_6 : List UInt8 := [180, 0, 73, 180, 1, 33, 42, 180, 0, 150, 21, 4, 46, 92, 46, 4, 96, 79, 167, 0, 29, 42]
abbrev dktX1_toasts_6 : List UInt8 := dkwX1_toasts_6 ++ dktX1_toasts_7
def dkwX1_toasts_5 : List UInt8 := [21, 4, 46, 54, 5, 21, 5, 2, 159, 0, 87, 21, 5, 42, 180, 0, 147, 21, 4, 46, 160, 0, 25, 42]
abbrev dktX1_toasts_5 : List UInt8 := dkwX1_toasts_5 ++ dktX1_toasts_6
def dkwX1_toasts_4 : List UInt8 := [29, 182, 1, 156, 3, 54, 4, 21, 4, 42, 180, 0, 66, 180, 1, 76, 162, 0, 117, 42, 180, 0, 144]
abbrev dktX1_toasts_4 : List UInt8 := dkwX1_toasts_4 ++ dktX1_toasts_5
def dkwX1_toasts_3 : List UInt8 := [167, 255, 241, 42, 180, 0, 66, 182, 1, 105, 61, 3, 62, 28, 158, 0, 149, 42, 42, 180, 0, 134, 27, 50]
abbrev dktX1_toasts_3 : List UInt8 := dkwX1_toasts_3 ++ dktX1_toasts_4
def dkwX1_toasts_2 : List UInt8 := [79, 132, 2, 1, 167, 255, 237, 3, 61, 28, 7, 162, 0, 16, 42, 180, 0, 147, 28, 2, 79, 132, 2, 1]
abbrev dktX1_toasts_2 : List UInt8 := dkwX1_toasts_2 ++ dktX1_toasts_3
def dkwX1_toasts_1 : List UInt8 := [180, 0, 138, 190, 184, 1, 70, 3, 61, 28, 42, 180, 0, 141, 190, 162, 0, 16, 42, 180, 0, 141, 28, 3]
abbrev dktX1_toasts_1 : List UInt8 := dkwX1_toasts_1 ++ dktX1_toasts_2
def dkwX1_toasts_0 : List UInt8 := [42, 180, 0, 73, 3, 181, 0, 213, 42, 180, 0, 66, 180, 0, 243, 3, 42, 180, 0, 138, 3, 42]
abbrev dktX1_toasts_0 : List UInt8 := dkwX1_toasts_0 ++ dktX1_toasts_1
theorem dksX1_toasts_0 : cX1_toasts.data.toList.drop 0 = dktX1_toasts_0 := by decide +kernel
theorem dksX1_toasts_1 : cX1_toasts.data.toList.drop 22 = dktX1_toasts_1 := dk_seg dksX1_toasts_0 22 rfl rfl
theorem dksX1_toasts_2 : cX1_toasts.data.toList.drop 46 = dktX1_toasts_2 := dk_seg dksX1_toasts_1 24 rfl rfl
theorem dksX1_toasts_3 : cX1_toasts.data.toList.drop 70 = dktX1_toasts_3 := dk_seg dksX1_toasts_2 24 rfl rfl
theorem dksX1_toasts_4 : cX1_toasts.data.toList.drop 94 = dktX1_toasts_4 := dk_seg dksX1_toasts_3 24 rfl rfl
theorem dksX1_toasts_5 : cX1_toasts.data.toList.drop 117 = dktX1_toasts_5 := dk_seg dksX1_toasts_4 23 rfl rfl
theorem dksX1_toasts_6 : cX1_toasts.data.toList.drop 141 = dktX1_toasts_6 := dk_seg dksX1_toasts_5 24 rfl rfl
theorem dksX1_toasts_7 : cX1_toasts.data.toList.drop 163 = dktX1_toasts_7 := dk_seg dksX1_toasts_6 22 rfl rfl
theorem dksX1_toasts_8 : cX1_toasts.data.toList.drop 187 = dktX1_toasts_8 := dk_seg dksX1_toasts_7 24 rfl rfl
theorem dksX1_toasts_9 : cX1_toasts.data.toList.drop 209 = dktX1_toasts_9 := dk_seg dksX1_toasts_8 22 rfl rfl
theorem dksX1_toasts_10 : cX1_toasts.data.toList.drop 233 = dktX1_toasts_10 := dk_seg dksX1_toasts_9 24 rfl rfl
theorem dX1_toasts_0 : decode cX1_toasts 0 = .ok (.aload_n 0, 1) := dk_42 (dk_at dksX1_toasts_0 0 rfl rfl)
theorem dX1_toasts_1 : decode cX1_toasts 1 = .ok (.getfield 73, 3) := dk_180 0 73 (dk_at dksX1_toasts_0 1 rfl rfl)
theorem dX1_toasts_4 : decode cX1_toasts 4 = .ok (.iconst 0, 1) := dk_3 (dk_at dksX1_toasts_0 4 rfl rfl)
theorem dX1_toasts_5 : decode cX1_toasts 5 = .ok (.putfield 213, 3) := dk_181 0 213 (dk_at dksX1_toasts_0 5 rfl rfl)
theorem dX1_toasts_8 : decode cX1_toasts 8 = .ok (.aload_n 0, 1) := dk_42 (dk_at dksX1_toasts_0 8 rfl rfl)
theorem dX1_toasts_9 : decode cX1_toasts 9 = .ok (.getfield 66, 3) := dk_180 0 66 (dk_at dksX1_toasts_0 9 rfl rfl)
theorem dX1_toasts_12 : decode cX1_toasts 12 = .ok (.getfield 243, 3) := dk_180 0 243 (dk_at dksX1_toasts_0 12 rfl rfl)
theorem dX1_toasts_15 : decode cX1_toasts 15 = .ok (.iconst 0, 1) := dk_3 (dk_at dksX1_toasts_0 15 rfl rfl)
theorem dX1_toasts_16 : decode cX1_toasts 16 = .ok (.aload_n 0, 1) := dk_42 (dk_at dksX1_toasts_0 16 rfl rfl)
theorem dX1_toasts_17 : decode cX1_toasts 17 = .ok (.getfield 138, 3) := dk_180 0 138 (dk_at dksX1_toasts_0 17 rfl rfl)
theorem dX1_toasts_20 : decode cX1_toasts 20 = .ok (.iconst 0, 1) := dk_3 (dk_at dksX1_toasts_0 20 rfl rfl)
theorem dX1_toasts_21 : decode cX1_toasts 21 = .ok (.aload_n 0, 1) := dk_42 (dk_at dksX1_toasts_0 21 rfl rfl)
theorem dX1_toasts_22 : decode cX1_toasts 22 = .ok (.getfield 138, 3) := dk_180 0 138 (dk_at dksX1_toasts_1 0 rfl rfl)
theorem dX1_toasts_25 : decode cX1_toasts 25 = .ok (.arraylength, 1) := dk_190 (dk_at dksX1_toasts_1 3 rfl rfl)
theorem dX1_toasts_26 : decode cX1_toasts 26 = .ok (.invokestatic 326, 3) := dk_184 1 70 (dk_at dksX1_toasts_1 4 rfl rfl)
theorem dX1_toasts_29 : decode cX1_toasts 29 = .ok (.iconst 0, 1) := dk_3 (dk_at dksX1_toasts_1 7 rfl rfl)
theorem dX1_toasts_30 : decode cX1_toasts 30 = .ok (.istore_n 2, 1) := dk_61 (dk_at dksX1_toasts_1 8 rfl rfl)
theorem dX1_toasts_31 : decode cX1_toasts 31 = .ok (.iload_n 2, 1) := dk_28 (dk_at dksX1_toasts_1 9 rfl rfl)
theorem dX1_toasts_32 : decode cX1_toasts 32 = .ok (.aload_n 0, 1) := dk_42 (dk_at dksX1_toasts_1 10 rfl rfl)
theorem dX1_toasts_33 : decode cX1_toasts 33 = .ok (.getfield 141, 3) := dk_180 0 141 (dk_at dksX1_toasts_1 11 rfl rfl)
theorem dX1_toasts_36 : decode cX1_toasts 36 = .ok (.arraylength, 1) := dk_190 (dk_at dksX1_toasts_1 14 rfl rfl)
theorem dX1_toasts_37 : decode cX1_toasts 37 = .ok (.if_icmp .ge 16, 3) := dk_162 0 16 (dk_at dksX1_toasts_1 15 rfl rfl)
theorem dX1_toasts_40 : decode cX1_toasts 40 = .ok (.aload_n 0, 1) := dk_42 (dk_at dksX1_toasts_1 18 rfl rfl)
theorem dX1_toasts_41 : decode cX1_toasts 41 = .ok (.getfield 141, 3) := dk_180 0 141 (dk_at dksX1_toasts_1 19 rfl rfl)
theorem dX1_toasts_44 : decode cX1_toasts 44 = .ok (.iload_n 2, 1) := dk_28 (dk_at dksX1_toasts_1 22 rfl rfl)
theorem dX1_toasts_45 : decode cX1_toasts 45 = .ok (.iconst 0, 1) := dk_3 (dk_at dksX1_toasts_1 23 rfl rfl)
theorem dX1_toasts_46 : decode cX1_toasts 46 = .ok (.iastore, 1) := dk_79 (dk_at dksX1_toasts_2 0 rfl rfl)
theorem dX1_toasts_47 : decode cX1_toasts 47 = .ok (.iinc 2 1, 3) := dk_132 2 1 (dk_at dksX1_toasts_2 1 rfl rfl)
theorem dX1_toasts_50 : decode cX1_toasts 50 = .ok (.goto (-19), 3) := dk_167 255 237 (dk_at dksX1_toasts_2 4 rfl rfl)
theorem dX1_toasts_53 : decode cX1_toasts 53 = .ok (.iconst 0, 1) := dk_3 (dk_at dksX1_toasts_2 7 rfl rfl)
theorem dX1_toasts_54 : decode cX1_toasts 54 = .ok (.istore_n 2, 1) := dk_61 (dk_at dksX1_toasts_2 8 rfl rfl)
theorem dX1_toasts_55 : decode cX1_toasts 55 = .ok (.iload_n 2, 1) := dk_28 (dk_at dksX1_toasts_2 9 rfl rfl)
theorem dX1_toasts_56 : decode cX1_toasts 56 = .ok (.iconst 4, 1) := dk_7 (dk_at dksX1_toasts_2 10 rfl rfl)
theorem dX1_toasts_57 : decode cX1_toasts 57 = .ok (.if_icmp .ge 16, 3) := dk_162 0 16 (dk_at dksX1_toasts_2 11 rfl rfl)
theorem dX1_toasts_60 : decode cX1_toasts 60 = .ok (.aload_n 0, 1) := dk_42 (dk_at dksX1_toasts_2 14 rfl rfl)
theorem dX1_toasts_61 : decode cX1_toasts 61 = .ok (.getfield 147, 3) := dk_180 0 147 (dk_at dksX1_toasts_2 15 rfl rfl)
theorem dX1_toasts_64 : decode cX1_toasts 64 = .ok (.iload_n 2, 1) := dk_28 (dk_at dksX1_toasts_2 18 rfl rfl)
theorem dX1_toasts_65 : decode cX1_toasts 65 = .ok (.iconst (-1), 1) := dk_2 (dk_at dksX1_toasts_2 19 rfl rfl)
theorem dX1_toasts_66 : decode cX1_toasts 66 = .ok (.iastore, 1) := dk_79 (dk_at dksX1_toasts_2 20 rfl rfl)
theorem dX1_toasts_67 : decode cX1_toasts 67 = .ok (.iinc 2 1, 3) := dk_132 2 1 (dk_at dksX1_toasts_2 21 rfl rfl)
theorem dX1_toasts_70 : decode cX1_toasts 70 = .ok (.goto (-15), 3) := dk_167 255 241 (dk_at dksX1_toasts_3 0 rfl rfl)
theorem dX1_toasts_73 : decode cX1_toasts 73 = .ok (.aload_n 0, 1) := dk_42 (dk_at dksX1_toasts_3 3 rfl rfl)
theorem dX1_toasts_74 : decode cX1_toasts 74 = .ok (.getfield 66, 3) := dk_180 0 66 (dk_at dksX1_toasts_3 4 rfl rfl)
theorem dX1_toasts_77 : decode cX1_toasts 77 = .ok (.invokevirtual 361, 3) := dk_182 1 105 (dk_at dksX1_toasts_3 7 rfl rfl)
theorem dX1_toasts_80 : decode cX1_toasts 80 = .ok (.istore_n 2, 1) := dk_61 (dk_at dksX1_toasts_3 10 rfl rfl)
theorem dX1_toasts_81 : decode cX1_toasts 81 = .ok (.iconst 0, 1) := dk_3 (dk_at dksX1_toasts_3 11 rfl rfl)
theorem dX1_toasts_82 : decode cX1_toasts 82 = .ok (.istore_n 3, 1) := dk_62 (dk_at dksX1_toasts_3 12 rfl rfl)
theorem dX1_toasts_83 : decode cX1_toasts 83 = .ok (.iload_n 2, 1) := dk_28 (dk_at dksX1_toasts_3 13 rfl rfl)
theorem dX1_toasts_84 : decode cX1_toasts 84 = .ok (.ifCond .le 149, 3) := dk_158 0 149 (dk_at dksX1_toasts_3 14 rfl rfl)
theorem dX1_toasts_87 : decode cX1_toasts 87 = .ok (.aload_n 0, 1) := dk_42 (dk_at dksX1_toasts_3 17 rfl rfl)
theorem dX1_toasts_88 : decode cX1_toasts 88 = .ok (.aload_n 0, 1) := dk_42 (dk_at dksX1_toasts_3 18 rfl rfl)
theorem dX1_toasts_89 : decode cX1_toasts 89 = .ok (.getfield 134, 3) := dk_180 0 134 (dk_at dksX1_toasts_3 19 rfl rfl)
theorem dX1_toasts_92 : decode cX1_toasts 92 = .ok (.iload_n 1, 1) := dk_27 (dk_at dksX1_toasts_3 22 rfl rfl)
theorem dX1_toasts_93 : decode cX1_toasts 93 = .ok (.aaload, 1) := dk_50 (dk_at dksX1_toasts_3 23 rfl rfl)
theorem dX1_toasts_94 : decode cX1_toasts 94 = .ok (.iload_n 3, 1) := dk_29 (dk_at dksX1_toasts_4 0 rfl rfl)
theorem dX1_toasts_95 : decode cX1_toasts 95 = .ok (.invokevirtual 412, 3) := dk_182 1 156 (dk_at dksX1_toasts_4 1 rfl rfl)
theorem dX1_toasts_98 : decode cX1_toasts 98 = .ok (.iconst 0, 1) := dk_3 (dk_at dksX1_toasts_4 4 rfl rfl)
theorem dX1_toasts_99 : decode cX1_toasts 99 = .ok (.istore 4, 2) := dk_54 4 (dk_at dksX1_toasts_4 5 rfl rfl)
theorem dX1_toasts_101 : decode cX1_toasts 101 = .ok (.iload 4, 2) := dk_21 4 (dk_at dksX1_toasts_4 7 rfl rfl)
theorem dX1_toasts_103 : decode cX1_toasts 103 = .ok (.aload_n 0, 1) := dk_42 (dk_at dksX1_toasts_4 9 rfl rfl)
theorem dX1_toasts_104 : decode cX1_toasts 104 = .ok (.getfield 66, 3) := dk_180 0 66 (dk_at dksX1_toasts_4 10 rfl rfl)
theorem dX1_toasts_107 : decode cX1_toasts 107 = .ok (.getfield 332, 3) := dk_180 1 76 (dk_at dksX1_toasts_4 13 rfl rfl)
theorem dX1_toasts_110 : decode cX1_toasts 110 = .ok (.if_icmp .ge 117, 3) := dk_162 0 117 (dk_at dksX1_toasts_4 16 rfl rfl)
theorem dX1_toasts_113 : decode cX1_toasts 113 = .ok (.aload_n 0, 1) := dk_42 (dk_at dksX1_toasts_4 19 rfl rfl)
theorem dX1_toasts_114 : decode cX1_toasts 114 = .ok (.getfield 144, 3) := dk_180 0 144 (dk_at dksX1_toasts_4 20 rfl rfl)
theorem dX1_toasts_117 : decode cX1_toasts 117 = .ok (.iload 4, 2) := dk_21 4 (dk_at dksX1_toasts_5 0 rfl rfl)
theorem dX1_toasts_119 : decode cX1_toasts 119 = .ok (.iaload, 1) := dk_46 (dk_at dksX1_toasts_5 2 rfl rfl)
theorem dX1_toasts_120 : decode cX1_toasts 120 = .ok (.istore 5, 2) := dk_54 5 (dk_at dksX1_toasts_5 3 rfl rfl)
theorem dX1_toasts_122 : decode cX1_toasts 122 = .ok (.iload 5, 2) := dk_21 5 (dk_at dksX1_toasts_5 5 rfl rfl)
theorem dX1_toasts_124 : decode cX1_toasts 124 = .ok (.iconst (-1), 1) := dk_2 (dk_at dksX1_toasts_5 7 rfl rfl)
theorem dX1_toasts_125 : decode cX1_toasts 125 = .ok (.if_icmp .eq 87, 3) := dk_159 0 87 (dk_at dksX1_toasts_5 8 rfl rfl)
theorem dX1_toasts_128 : decode cX1_toasts 128 = .ok (.iload 5, 2) := dk_21 5 (dk_at dksX1_toasts_5 11 rfl rfl)
theorem dX1_toasts_130 : decode cX1_toasts 130 = .ok (.aload_n 0, 1) := dk_42 (dk_at dksX1_toasts_5 13 rfl rfl)
theorem dX1_toasts_131 : decode cX1_toasts 131 = .ok (.getfield 147, 3) := dk_180 0 147 (dk_at dksX1_toasts_5 14 rfl rfl)
theorem dX1_toasts_134 : decode cX1_toasts 134 = .ok (.iload 4, 2) := dk_21 4 (dk_at dksX1_toasts_5 17 rfl rfl)
theorem dX1_toasts_136 : decode cX1_toasts 136 = .ok (.iaload, 1) := dk_46 (dk_at dksX1_toasts_5 19 rfl rfl)
theorem dX1_toasts_137 : decode cX1_toasts 137 = .ok (.if_icmp .ne 25, 3) := dk_160 0 25 (dk_at dksX1_toasts_5 20 rfl rfl)
theorem dX1_toasts_140 : decode cX1_toasts 140 = .ok (.aload_n 0, 1) := dk_42 (dk_at dksX1_toasts_5 23 rfl rfl)
theorem dX1_toasts_141 : decode cX1_toasts 141 = .ok (.getfield 73, 3) := dk_180 0 73 (dk_at dksX1_toasts_6 0 rfl rfl)
theorem dX1_toasts_144 : decode cX1_toasts 144 = .ok (.getfield 289, 3) := dk_180 1 33 (dk_at dksX1_toasts_6 3 rfl rfl)
theorem dX1_toasts_147 : decode cX1_toasts 147 = .ok (.aload_n 0, 1) := dk_42 (dk_at dksX1_toasts_6 6 rfl rfl)
theorem dX1_toasts_148 : decode cX1_toasts 148 = .ok (.getfield 150, 3) := dk_180 0 150 (dk_at dksX1_toasts_6 7 rfl rfl)
theorem dX1_toasts_151 : decode cX1_toasts 151 = .ok (.iload 4, 2) := dk_21 4 (dk_at dksX1_toasts_6 10 rfl rfl)
theorem dX1_toasts_153 : decode cX1_toasts 153 = .ok (.iaload, 1) := dk_46 (dk_at dksX1_toasts_6 12 rfl rfl)
theorem dX1_toasts_154 : decode cX1_toasts 154 = .ok (.dup2, 1) := dk_92 (dk_at dksX1_toasts_6 13 rfl rfl)
theorem dX1_toasts_155 : decode cX1_toasts 155 = .ok (.iaload, 1) := dk_46 (dk_at dksX1_toasts_6 14 rfl rfl)
theorem dX1_toasts_156 : decode cX1_toasts 156 = .ok (.iconst 1, 1) := dk_4 (dk_at dksX1_toasts_6 15 rfl rfl)
theorem dX1_toasts_157 : decode cX1_toasts 157 = .ok (.iadd, 1) := dk_96 (dk_at dksX1_toasts_6 16 rfl rfl)
theorem dX1_toasts_158 : decode cX1_toasts 158 = .ok (.iastore, 1) := dk_79 (dk_at dksX1_toasts_6 17 rfl rfl)
theorem dX1_toasts_159 : decode cX1_toasts 159 = .ok (.goto 29, 3) := dk_167 0 29 (dk_at dksX1_toasts_6 18 rfl rfl)
theorem dX1_toasts_162 : decode cX1_toasts 162 = .ok (.aload_n 0, 1) := dk_42 (dk_at dksX1_toasts_6 21 rfl rfl)
theorem dX1_toasts_163 : decode cX1_toasts 163 = .ok (.getfield 150, 3) := dk_180 0 150 (dk_at dksX1_toasts_7 0 rfl rfl)
theorem dX1_toasts_166 : decode cX1_toasts 166 = .ok (.iload 4, 2) := dk_21 4 (dk_at dksX1_toasts_7 3 rfl rfl)
theorem dX1_toasts_168 : decode cX1_toasts 168 = .ok (.aload_n 0, 1) := dk_42 (dk_at dksX1_toasts_7 5 rfl rfl)
theorem dX1_toasts_169 : decode cX1_toasts 169 = .ok (.getfield 73, 3) := dk_180 0 73 (dk_at dksX1_toasts_7 6 rfl rfl)
theorem dX1_toasts_172 : decode cX1_toasts 172 = .ok (.iload 5, 2) := dk_21 5 (dk_at dksX1_toasts_7 9 rfl rfl)
theorem dX1_toasts_174 : decode cX1_toasts 174 = .ok (.iconst 2, 1) := dk_5 (dk_at dksX1_toasts_7 11 rfl rfl)
theorem dX1_toasts_175 : decode cX1_toasts 175 = .ok (.idiv, 1) := dk_108 (dk_at dksX1_toasts_7 12 rfl rfl)
theorem dX1_toasts_176 : decode cX1_toasts 176 = .ok (.iload 5, 2) := dk_21 5 (dk_at dksX1_toasts_7 13 rfl rfl)
theorem dX1_toasts_178 : decode cX1_toasts 178 = .ok (.iconst 2, 1) := dk_5 (dk_at dksX1_toasts_7 15 rfl rfl)
theorem dX1_toasts_179 : decode cX1_toasts 179 = .ok (.irem, 1) := dk_112 (dk_at dksX1_toasts_7 16 rfl rfl)
theorem dX1_toasts_180 : decode cX1_toasts 180 = .ok (.iload_n 3, 1) := dk_29 (dk_at dksX1_toasts_7 17 rfl rfl)
theorem dX1_toasts_181 : decode cX1_toasts 181 = .ok (.iload 4, 2) := dk_21 4 (dk_at dksX1_toasts_7 18 rfl rfl)
theorem dX1_toasts_183 : decode cX1_toasts 183 = .ok (.iconst 1, 1) := dk_4 (dk_at dksX1_toasts_7 20 rfl rfl)
theorem dX1_toasts_184 : decode cX1_toasts 184 = .ok (.invokevirtual 335, 3) := dk_182 1 79 (dk_at dksX1_toasts_7 21 rfl rfl)
theorem dX1_toasts_187 : decode cX1_toasts 187 = .ok (.iastore, 1) := dk_79 (dk_at dksX1_toasts_8 0 rfl rfl)
theorem dX1_toasts_188 : decode cX1_toasts 188 = .ok (.aload_n 0, 1) := dk_42 (dk_at dksX1_toasts_8 1 rfl rfl)
theorem dX1_toasts_189 : decode cX1_toasts 189 = .ok (.getfield 138, 3) := dk_180 0 138 (dk_at dksX1_toasts_8 2 rfl rfl)
theorem dX1_toasts_192 : decode cX1_toasts 192 = .ok (.iload 5, 2) := dk_21 5 (dk_at dksX1_toasts_8 5 rfl rfl)
theorem dX1_toasts_194 : decode cX1_toasts 194 = .ok (.dup2, 1) := dk_92 (dk_at dksX1_toasts_8 7 rfl rfl)
theorem dX1_toasts_195 : decode cX1_toasts 195 = .ok (.iaload, 1) := dk_46 (dk_at dksX1_toasts_8 8 rfl rfl)
theorem dX1_toasts_196 : decode cX1_toasts 196 = .ok (.iconst 1, 1) := dk_4 (dk_at dksX1_toasts_8 9 rfl rfl)
theorem dX1_toasts_197 : decode cX1_toasts 197 = .ok (.isub, 1) := dk_100 (dk_at dksX1_toasts_8 10 rfl rfl)
theorem dX1_toasts_198 : decode cX1_toasts 198 = .ok (.iastore, 1) := dk_79 (dk_at dksX1_toasts_8 11 rfl rfl)
theorem dX1_toasts_199 : decode cX1_toasts 199 = .ok (.aload_n 0, 1) := dk_42 (dk_at dksX1_toasts_8 12 rfl rfl)
theorem dX1_toasts_200 : decode cX1_toasts 200 = .ok (.getfield 141, 3) := dk_180 0 141 (dk_at dksX1_toasts_8 13 rfl rfl)
theorem dX1_toasts_203 : decode cX1_toasts 203 = .ok (.iload 5, 2) := dk_21 5 (dk_at dksX1_toasts_8 16 rfl rfl)
theorem dX1_toasts_205 : decode cX1_toasts 205 = .ok (.iload_n 3, 1) := dk_29 (dk_at dksX1_toasts_8 18 rfl rfl)
theorem dX1_toasts_206 : decode cX1_toasts 206 = .ok (.iconst 1, 1) := dk_4 (dk_at dksX1_toasts_8 19 rfl rfl)
theorem dX1_toasts_207 : decode cX1_toasts 207 = .ok (.iadd, 1) := dk_96 (dk_at dksX1_toasts_8 20 rfl rfl)
theorem dX1_toasts_208 : decode cX1_toasts 208 = .ok (.iastore, 1) := dk_79 (dk_at dksX1_toasts_8 21 rfl rfl)
theorem dX1_toasts_209 : decode cX1_toasts 209 = .ok (.iinc 2 (-1), 3) := dk_132 2 255 (dk_at dksX1_toasts_9 0 rfl rfl)
theorem dX1_toasts_212 : decode cX1_toasts 212 = .ok (.aload_n 0, 1) := dk_42 (dk_at dksX1_toasts_9 3 rfl rfl)
theorem dX1_toasts_213 : decode cX1_toasts 213 = .ok (.getfield 147, 3) := dk_180 0 147 (dk_at dksX1_toasts_9 4 rfl rfl)
theorem dX1_toasts_216 : decode cX1_toasts 216 = .ok (.iload 4, 2) := dk_21 4 (dk_at dksX1_toasts_9 7 rfl rfl)
theorem dX1_toasts_218 : decode cX1_toasts 218 = .ok (.iload 5, 2) := dk_21 5 (dk_at dksX1_toasts_9 9 rfl rfl)
theorem dX1_toasts_220 : decode cX1_toasts 220 = .ok (.iastore, 1) := dk_79 (dk_at dksX1_toasts_9 11 rfl rfl)
theorem dX1_toasts_221 : decode cX1_toasts 221 = .ok (.iinc 4 1, 3) := dk_132 4 1 (dk_at dksX1_toasts_9 12 rfl rfl)
theorem dX1_toasts_224 : decode cX1_toasts 224 = .ok (.goto (-123), 3) := dk_167 255 133 (dk_at dksX1_toasts_9 15 rfl rfl)
theorem dX1_toasts_227 : decode cX1_toasts 227 = .ok (.iinc 3 1, 3) := dk_132 3 1 (dk_at dksX1_toasts_9 18 rfl rfl)
theorem dX1_toasts_230 : decode cX1_toasts 230 = .ok (.goto (-147), 3) := dk_167 255 109 (dk_at dksX1_toasts_9 21 rfl rfl)
theorem dX1_toasts_233 : decode cX1_toasts 233 = .ok (.iload_n 3, 1) := dk_29 (dk_at dksX1_toasts_10 0 rfl rfl)
theorem dX1_toasts_234 : decode cX1_toasts 234 = .ok (.ireturn, 1) := dk_172 (dk_at dksX1_toasts_10 1 rfl rfl)
abbrev cX1_minute : ByteArray := prog_1_method_53_code
def yX1_minute : MethodName := ⟨RX1, "minute", "(LPanSlices$Cook;I)V"⟩
def dkwX1_minute_5 : List UInt8 := [180, 0, 144, 42, 21, 5, 182, 1, 146, 21, 5, 79, 132, 3, 1, 167, 255, 195, 177]
abbrev dktX1_minute_5 : List UInt8 := dkwX1_minute_5 ++ []
def dkwX1_minute_4 : List UInt8 := [42, 43, 28, 182, 1, 149, 54, 4, 21, 4, 2, 160, 0, 4, 177, 42, 21, 4, 182, 1, 137, 54, 5, 42]
abbrev dktX1_minute_4 : List UInt8 := dkwX1_minute_4 ++ dktX1_minute_5
def dkwX1_minute_3 : List UInt8 := [3, 62, 29, 42, 180, 0, 66, 180, 1, 76, 162, 0, 56, 42, 16, 254, 182, 1, 146, 2, 160, 0, 4, 177]
abbrev dktX1_minute_3 : List UInt8 := dkwX1_minute_3 ++ dktX1_minute_4
def dkwX1_minute_2 : List UInt8 := [180, 0, 246, 21, 4, 5, 108, 51, 153, 0, 8, 21, 4, 167, 0, 4, 2, 79, 132, 3, 1, 167, 255, 191]
abbrev dktX1_minute_2 : List UInt8 := dkwX1_minute_2 ++ dktX1_minute_3
def dkwX1_minute_1 : List UInt8 := [180, 0, 144, 29, 21, 4, 2, 159, 0, 33, 42, 180, 0, 138, 21, 4, 46, 158, 0, 23, 42, 180, 0, 66]
abbrev dktX1_minute_1 : List UInt8 := dkwX1_minute_1 ++ dktX1_minute_2
def dkwX1_minute_0 : List UInt8 := [3, 62, 29, 42, 180, 0, 66, 180, 1, 76, 162, 0, 60, 42, 180, 0, 147, 29, 46, 54, 4, 42]
abbrev dktX1_minute_0 : List UInt8 := dkwX1_minute_0 ++ dktX1_minute_1
theorem dksX1_minute_0 : cX1_minute.data.toList.drop 0 = dktX1_minute_0 := by decide +kernel
theorem dksX1_minute_1 : cX1_minute.data.toList.drop 22 = dktX1_minute_1 := dk_seg dksX1_minute_0 22 rfl rfl
theorem dksX1_minute_2 : cX1_minute.data.toList.drop 46 = dktX1_minute_2 := dk_seg dksX1_minute_1 24 rfl rfl
theorem dksX1_minute_3 : cX1_minute.data.toList.drop 70 = dktX1_minute_3 := dk_seg dksX1_minute_2 24 rfl rfl
theorem dksX1_minute_4 : cX1_minute.data.toList.drop 94 = dktX1_minute_4 := dk_seg dksX1_minute_3 24 rfl rfl
theorem dksX1_minute_5 : cX1_minute.data.toList.drop 118 = dktX1_minute_5 := dk_seg dksX1_minute_4 24 rfl rfl
theorem dX1_minute_0 : decode cX1_minute 0 = .ok (.iconst 0, 1) := dk_3 (dk_at dksX1_minute_0 0 rfl rfl)
theorem dX1_minute_1 : decode cX1_minute 1 = .ok (.istore_n 3, 1) := dk_62 (dk_at dksX1_minute_0 1 rfl rfl)
theorem dX1_minute_2 : decode cX1_minute 2 = .ok (.iload_n 3, 1) := dk_29 (dk_at dksX1_minute_0 2 rfl rfl)
theorem dX1_minute_3 : decode cX1_minute 3 = .ok (.aload_n 0, 1) := dk_42 (dk_at dksX1_minute_0 3 rfl rfl)
theorem dX1_minute_4 : decode cX1_minute 4 = .ok (.getfield 66, 3) := dk_180 0 66 (dk_at dksX1_minute_0 4 rfl rfl)
theorem dX1_minute_7 : decode cX1_minute 7 = .ok (.getfield 332, 3) := dk_180 1 76 (dk_at dksX1_minute_0 7 rfl rfl)
theorem dX1_minute_10 : decode cX1_minute 10 = .ok (.if_icmp .ge 60, 3) := dk_162 0 60 (dk_at dksX1_minute_0 10 rfl rfl)
theorem dX1_minute_13 : decode cX1_minute 13 = .ok (.aload_n 0, 1) := dk_42 (dk_at dksX1_minute_0 13 rfl rfl)
theorem dX1_minute_14 : decode cX1_minute 14 = .ok (.getfield 147, 3) := dk_180 0 147 (dk_at dksX1_minute_0 14 rfl rfl)
theorem dX1_minute_17 : decode cX1_minute 17 = .ok (.iload_n 3, 1) := dk_29 (dk_at dksX1_minute_0 17 rfl rfl)
theorem dX1_minute_18 : decode cX1_minute 18 = .ok (.iaload, 1) := dk_46 (dk_at dksX1_minute_0 18 rfl rfl)
theorem dX1_minute_19 : decode cX1_minute 19 = .ok (.istore 4, 2) := dk_54 4 (dk_at dksX1_minute_0 19 rfl rfl)
theorem dX1_minute_21 : decode cX1_minute 21 = .ok (.aload_n 0, 1) := dk_42 (dk_at dksX1_minute_0 21 rfl rfl)
theorem dX1_minute_22 : decode cX1_minute 22 = .ok (.getfield 144, 3) := dk_180 0 144 (dk_at dksX1_minute_1 0 rfl rfl)
theorem dX1_minute_25 : decode cX1_minute 25 = .ok (.iload_n 3, 1) := dk_29 (dk_at dksX1_minute_1 3 rfl rfl)
theorem dX1_minute_26 : decode cX1_minute 26 = .ok (.iload 4, 2) := dk_21 4 (dk_at dksX1_minute_1 4 rfl rfl)
theorem dX1_minute_28 : decode cX1_minute 28 = .ok (.iconst (-1), 1) := dk_2 (dk_at dksX1_minute_1 6 rfl rfl)
theorem dX1_minute_29 : decode cX1_minute 29 = .ok (.if_icmp .eq 33, 3) := dk_159 0 33 (dk_at dksX1_minute_1 7 rfl rfl)
theorem dX1_minute_32 : decode cX1_minute 32 = .ok (.aload_n 0, 1) := dk_42 (dk_at dksX1_minute_1 10 rfl rfl)
theorem dX1_minute_33 : decode cX1_minute 33 = .ok (.getfield 138, 3) := dk_180 0 138 (dk_at dksX1_minute_1 11 rfl rfl)
theorem dX1_minute_36 : decode cX1_minute 36 = .ok (.iload 4, 2) := dk_21 4 (dk_at dksX1_minute_1 14 rfl rfl)
theorem dX1_minute_38 : decode cX1_minute 38 = .ok (.iaload, 1) := dk_46 (dk_at dksX1_minute_1 16 rfl rfl)
theorem dX1_minute_39 : decode cX1_minute 39 = .ok (.ifCond .le 23, 3) := dk_158 0 23 (dk_at dksX1_minute_1 17 rfl rfl)
theorem dX1_minute_42 : decode cX1_minute 42 = .ok (.aload_n 0, 1) := dk_42 (dk_at dksX1_minute_1 20 rfl rfl)
theorem dX1_minute_43 : decode cX1_minute 43 = .ok (.getfield 66, 3) := dk_180 0 66 (dk_at dksX1_minute_1 21 rfl rfl)
theorem dX1_minute_46 : decode cX1_minute 46 = .ok (.getfield 246, 3) := dk_180 0 246 (dk_at dksX1_minute_2 0 rfl rfl)
theorem dX1_minute_49 : decode cX1_minute 49 = .ok (.iload 4, 2) := dk_21 4 (dk_at dksX1_minute_2 3 rfl rfl)
theorem dX1_minute_51 : decode cX1_minute 51 = .ok (.iconst 2, 1) := dk_5 (dk_at dksX1_minute_2 5 rfl rfl)
theorem dX1_minute_52 : decode cX1_minute 52 = .ok (.idiv, 1) := dk_108 (dk_at dksX1_minute_2 6 rfl rfl)
theorem dX1_minute_53 : decode cX1_minute 53 = .ok (.baload, 1) := dk_51 (dk_at dksX1_minute_2 7 rfl rfl)
theorem dX1_minute_54 : decode cX1_minute 54 = .ok (.ifCond .eq 8, 3) := dk_153 0 8 (dk_at dksX1_minute_2 8 rfl rfl)
theorem dX1_minute_57 : decode cX1_minute 57 = .ok (.iload 4, 2) := dk_21 4 (dk_at dksX1_minute_2 11 rfl rfl)
theorem dX1_minute_59 : decode cX1_minute 59 = .ok (.goto 4, 3) := dk_167 0 4 (dk_at dksX1_minute_2 13 rfl rfl)
theorem dX1_minute_62 : decode cX1_minute 62 = .ok (.iconst (-1), 1) := dk_2 (dk_at dksX1_minute_2 16 rfl rfl)
theorem dX1_minute_63 : decode cX1_minute 63 = .ok (.iastore, 1) := dk_79 (dk_at dksX1_minute_2 17 rfl rfl)
theorem dX1_minute_64 : decode cX1_minute 64 = .ok (.iinc 3 1, 3) := dk_132 3 1 (dk_at dksX1_minute_2 18 rfl rfl)
theorem dX1_minute_67 : decode cX1_minute 67 = .ok (.goto (-65), 3) := dk_167 255 191 (dk_at dksX1_minute_2 21 rfl rfl)
theorem dX1_minute_70 : decode cX1_minute 70 = .ok (.iconst 0, 1) := dk_3 (dk_at dksX1_minute_3 0 rfl rfl)
theorem dX1_minute_71 : decode cX1_minute 71 = .ok (.istore_n 3, 1) := dk_62 (dk_at dksX1_minute_3 1 rfl rfl)
theorem dX1_minute_72 : decode cX1_minute 72 = .ok (.iload_n 3, 1) := dk_29 (dk_at dksX1_minute_3 2 rfl rfl)
theorem dX1_minute_73 : decode cX1_minute 73 = .ok (.aload_n 0, 1) := dk_42 (dk_at dksX1_minute_3 3 rfl rfl)
theorem dX1_minute_74 : decode cX1_minute 74 = .ok (.getfield 66, 3) := dk_180 0 66 (dk_at dksX1_minute_3 4 rfl rfl)
theorem dX1_minute_77 : decode cX1_minute 77 = .ok (.getfield 332, 3) := dk_180 1 76 (dk_at dksX1_minute_3 7 rfl rfl)
theorem dX1_minute_80 : decode cX1_minute 80 = .ok (.if_icmp .ge 56, 3) := dk_162 0 56 (dk_at dksX1_minute_3 10 rfl rfl)
theorem dX1_minute_83 : decode cX1_minute 83 = .ok (.aload_n 0, 1) := dk_42 (dk_at dksX1_minute_3 13 rfl rfl)
theorem dX1_minute_84 : decode cX1_minute 84 = .ok (.bipush (-2), 2) := dk_16 254 (dk_at dksX1_minute_3 14 rfl rfl)
theorem dX1_minute_86 : decode cX1_minute 86 = .ok (.invokevirtual 402, 3) := dk_182 1 146 (dk_at dksX1_minute_3 16 rfl rfl)
theorem dX1_minute_89 : decode cX1_minute 89 = .ok (.iconst (-1), 1) := dk_2 (dk_at dksX1_minute_3 19 rfl rfl)
theorem dX1_minute_90 : decode cX1_minute 90 = .ok (.if_icmp .ne 4, 3) := dk_160 0 4 (dk_at dksX1_minute_3 20 rfl rfl)
theorem dX1_minute_93 : decode cX1_minute 93 = .ok (.return_, 1) := dk_177 (dk_at dksX1_minute_3 23 rfl rfl)
theorem dX1_minute_94 : decode cX1_minute 94 = .ok (.aload_n 0, 1) := dk_42 (dk_at dksX1_minute_4 0 rfl rfl)
theorem dX1_minute_95 : decode cX1_minute 95 = .ok (.aload_n 1, 1) := dk_43 (dk_at dksX1_minute_4 1 rfl rfl)
theorem dX1_minute_96 : decode cX1_minute 96 = .ok (.iload_n 2, 1) := dk_28 (dk_at dksX1_minute_4 2 rfl rfl)
theorem dX1_minute_97 : decode cX1_minute 97 = .ok (.invokevirtual 405, 3) := dk_182 1 149 (dk_at dksX1_minute_4 3 rfl rfl)
theorem dX1_minute_100 : decode cX1_minute 100 = .ok (.istore 4, 2) := dk_54 4 (dk_at dksX1_minute_4 6 rfl rfl)
theorem dX1_minute_102 : decode cX1_minute 102 = .ok (.iload 4, 2) := dk_21 4 (dk_at dksX1_minute_4 8 rfl rfl)
theorem dX1_minute_104 : decode cX1_minute 104 = .ok (.iconst (-1), 1) := dk_2 (dk_at dksX1_minute_4 10 rfl rfl)
theorem dX1_minute_105 : decode cX1_minute 105 = .ok (.if_icmp .ne 4, 3) := dk_160 0 4 (dk_at dksX1_minute_4 11 rfl rfl)
theorem dX1_minute_108 : decode cX1_minute 108 = .ok (.return_, 1) := dk_177 (dk_at dksX1_minute_4 14 rfl rfl)
theorem dX1_minute_109 : decode cX1_minute 109 = .ok (.aload_n 0, 1) := dk_42 (dk_at dksX1_minute_4 15 rfl rfl)
theorem dX1_minute_110 : decode cX1_minute 110 = .ok (.iload 4, 2) := dk_21 4 (dk_at dksX1_minute_4 16 rfl rfl)
theorem dX1_minute_112 : decode cX1_minute 112 = .ok (.invokevirtual 393, 3) := dk_182 1 137 (dk_at dksX1_minute_4 18 rfl rfl)
theorem dX1_minute_115 : decode cX1_minute 115 = .ok (.istore 5, 2) := dk_54 5 (dk_at dksX1_minute_4 21 rfl rfl)
theorem dX1_minute_117 : decode cX1_minute 117 = .ok (.aload_n 0, 1) := dk_42 (dk_at dksX1_minute_4 23 rfl rfl)
theorem dX1_minute_118 : decode cX1_minute 118 = .ok (.getfield 144, 3) := dk_180 0 144 (dk_at dksX1_minute_5 0 rfl rfl)
theorem dX1_minute_121 : decode cX1_minute 121 = .ok (.aload_n 0, 1) := dk_42 (dk_at dksX1_minute_5 3 rfl rfl)
theorem dX1_minute_122 : decode cX1_minute 122 = .ok (.iload 5, 2) := dk_21 5 (dk_at dksX1_minute_5 4 rfl rfl)
theorem dX1_minute_124 : decode cX1_minute 124 = .ok (.invokevirtual 402, 3) := dk_182 1 146 (dk_at dksX1_minute_5 6 rfl rfl)
theorem dX1_minute_127 : decode cX1_minute 127 = .ok (.iload 5, 2) := dk_21 5 (dk_at dksX1_minute_5 9 rfl rfl)
theorem dX1_minute_129 : decode cX1_minute 129 = .ok (.iastore, 1) := dk_79 (dk_at dksX1_minute_5 11 rfl rfl)
theorem dX1_minute_130 : decode cX1_minute 130 = .ok (.iinc 3 1, 3) := dk_132 3 1 (dk_at dksX1_minute_5 12 rfl rfl)
theorem dX1_minute_133 : decode cX1_minute 133 = .ok (.goto (-61), 3) := dk_167 255 195 (dk_at dksX1_minute_5 15 rfl rfl)
theorem dX1_minute_136 : decode cX1_minute 136 = .ok (.return_, 1) := dk_177 (dk_at dksX1_minute_5 18 rfl rfl)
abbrev cX1_freePlace : ByteArray := prog_1_method_52_code
def yX1_freePlace : MethodName := ⟨RX1, "freePlace", "(I)I"⟩
def dkwX1_freePlace_2 : List UInt8 := [167, 255, 222, 28, 172]
abbrev dktX1_freePlace_2 : List UInt8 := dkwX1_freePlace_2 ++ []
def dkwX1_freePlace_1 : List UInt8 := [159, 0, 6, 167, 0, 17, 42, 180, 0, 147, 29, 46, 27, 160, 0, 5, 29, 172, 29, 61, 132, 3, 255]
abbrev dktX1_freePlace_1 : List UInt8 := dkwX1_freePlace_1 ++ dktX1_freePlace_2
def dkwX1_freePlace_0 : List UInt8 := [2, 61, 42, 180, 0, 66, 180, 1, 76, 4, 100, 62, 29, 155, 0, 36, 42, 180, 0, 144, 29, 46, 2]
abbrev dktX1_freePlace_0 : List UInt8 := dkwX1_freePlace_0 ++ dktX1_freePlace_1
theorem dksX1_freePlace_0 : cX1_freePlace.data.toList.drop 0 = dktX1_freePlace_0 := by decide +kernel
theorem dksX1_freePlace_1 : cX1_freePlace.data.toList.drop 23 = dktX1_freePlace_1 := dk_seg dksX1_freePlace_0 23 rfl rfl
theorem dksX1_freePlace_2 : cX1_freePlace.data.toList.drop 46 = dktX1_freePlace_2 := dk_seg dksX1_freePlace_1 23 rfl rfl
theorem dX1_freePlace_0 : decode cX1_freePlace 0 = .ok (.iconst (-1), 1) := dk_2 (dk_at dksX1_freePlace_0 0 rfl rfl)
theorem dX1_freePlace_1 : decode cX1_freePlace 1 = .ok (.istore_n 2, 1) := dk_61 (dk_at dksX1_freePlace_0 1 rfl rfl)
theorem dX1_freePlace_2 : decode cX1_freePlace 2 = .ok (.aload_n 0, 1) := dk_42 (dk_at dksX1_freePlace_0 2 rfl rfl)
theorem dX1_freePlace_3 : decode cX1_freePlace 3 = .ok (.getfield 66, 3) := dk_180 0 66 (dk_at dksX1_freePlace_0 3 rfl rfl)
theorem dX1_freePlace_6 : decode cX1_freePlace 6 = .ok (.getfield 332, 3) := dk_180 1 76 (dk_at dksX1_freePlace_0 6 rfl rfl)
theorem dX1_freePlace_9 : decode cX1_freePlace 9 = .ok (.iconst 1, 1) := dk_4 (dk_at dksX1_freePlace_0 9 rfl rfl)
theorem dX1_freePlace_10 : decode cX1_freePlace 10 = .ok (.isub, 1) := dk_100 (dk_at dksX1_freePlace_0 10 rfl rfl)
theorem dX1_freePlace_11 : decode cX1_freePlace 11 = .ok (.istore_n 3, 1) := dk_62 (dk_at dksX1_freePlace_0 11 rfl rfl)
theorem dX1_freePlace_12 : decode cX1_freePlace 12 = .ok (.iload_n 3, 1) := dk_29 (dk_at dksX1_freePlace_0 12 rfl rfl)
theorem dX1_freePlace_13 : decode cX1_freePlace 13 = .ok (.ifCond .lt 36, 3) := dk_155 0 36 (dk_at dksX1_freePlace_0 13 rfl rfl)
theorem dX1_freePlace_16 : decode cX1_freePlace 16 = .ok (.aload_n 0, 1) := dk_42 (dk_at dksX1_freePlace_0 16 rfl rfl)
theorem dX1_freePlace_17 : decode cX1_freePlace 17 = .ok (.getfield 144, 3) := dk_180 0 144 (dk_at dksX1_freePlace_0 17 rfl rfl)
theorem dX1_freePlace_20 : decode cX1_freePlace 20 = .ok (.iload_n 3, 1) := dk_29 (dk_at dksX1_freePlace_0 20 rfl rfl)
theorem dX1_freePlace_21 : decode cX1_freePlace 21 = .ok (.iaload, 1) := dk_46 (dk_at dksX1_freePlace_0 21 rfl rfl)
theorem dX1_freePlace_22 : decode cX1_freePlace 22 = .ok (.iconst (-1), 1) := dk_2 (dk_at dksX1_freePlace_0 22 rfl rfl)
theorem dX1_freePlace_23 : decode cX1_freePlace 23 = .ok (.if_icmp .eq 6, 3) := dk_159 0 6 (dk_at dksX1_freePlace_1 0 rfl rfl)
theorem dX1_freePlace_26 : decode cX1_freePlace 26 = .ok (.goto 17, 3) := dk_167 0 17 (dk_at dksX1_freePlace_1 3 rfl rfl)
theorem dX1_freePlace_29 : decode cX1_freePlace 29 = .ok (.aload_n 0, 1) := dk_42 (dk_at dksX1_freePlace_1 6 rfl rfl)
theorem dX1_freePlace_30 : decode cX1_freePlace 30 = .ok (.getfield 147, 3) := dk_180 0 147 (dk_at dksX1_freePlace_1 7 rfl rfl)
theorem dX1_freePlace_33 : decode cX1_freePlace 33 = .ok (.iload_n 3, 1) := dk_29 (dk_at dksX1_freePlace_1 10 rfl rfl)
theorem dX1_freePlace_34 : decode cX1_freePlace 34 = .ok (.iaload, 1) := dk_46 (dk_at dksX1_freePlace_1 11 rfl rfl)
theorem dX1_freePlace_35 : decode cX1_freePlace 35 = .ok (.iload_n 1, 1) := dk_27 (dk_at dksX1_freePlace_1 12 rfl rfl)
theorem dX1_freePlace_36 : decode cX1_freePlace 36 = .ok (.if_icmp .ne 5, 3) := dk_160 0 5 (dk_at dksX1_freePlace_1 13 rfl rfl)
theorem dX1_freePlace_39 : decode cX1_freePlace 39 = .ok (.iload_n 3, 1) := dk_29 (dk_at dksX1_freePlace_1 16 rfl rfl)
theorem dX1_freePlace_40 : decode cX1_freePlace 40 = .ok (.ireturn, 1) := dk_172 (dk_at dksX1_freePlace_1 17 rfl rfl)
theorem dX1_freePlace_41 : decode cX1_freePlace 41 = .ok (.iload_n 3, 1) := dk_29 (dk_at dksX1_freePlace_1 18 rfl rfl)
theorem dX1_freePlace_42 : decode cX1_freePlace 42 = .ok (.istore_n 2, 1) := dk_61 (dk_at dksX1_freePlace_1 19 rfl rfl)
theorem dX1_freePlace_43 : decode cX1_freePlace 43 = .ok (.iinc 3 (-1), 3) := dk_132 3 255 (dk_at dksX1_freePlace_1 20 rfl rfl)
theorem dX1_freePlace_46 : decode cX1_freePlace 46 = .ok (.goto (-34), 3) := dk_167 255 222 (dk_at dksX1_freePlace_2 0 rfl rfl)
theorem dX1_freePlace_49 : decode cX1_freePlace 49 = .ok (.iload_n 2, 1) := dk_28 (dk_at dksX1_freePlace_2 3 rfl rfl)
theorem dX1_freePlace_50 : decode cX1_freePlace 50 = .ok (.ireturn, 1) := dk_172 (dk_at dksX1_freePlace_2 4 rfl rfl)
abbrev cX1_chosen : ByteArray := prog_1_method_51_code
def yX1_chosen : MethodName := ⟨RX1, "chosen", "(LPanSlices$Cook;I)I"⟩
def dkwX1_chosen_3 : List UInt8 := [104, 4, 96, 46, 182, 1, 143, 164, 0, 6, 21, 4, 62, 132, 4, 1, 167, 255, 174, 29, 172]
abbrev dktX1_chosen_3 : List UInt8 := dkwX1_chosen_3 ++ []
def dkwX1_chosen_2 : List UInt8 := [21, 4, 104, 4, 96, 46, 182, 1, 143, 43, 42, 180, 0, 138, 5, 29, 104, 46, 42, 180, 0, 138, 5, 29]
abbrev dktX1_chosen_2 : List UInt8 := dkwX1_chosen_2 ++ dktX1_chosen_3
def dkwX1_chosen_1 : List UInt8 := [153, 0, 60, 29, 2, 159, 0, 52, 43, 42, 180, 0, 138, 5, 21, 4, 104, 46, 42, 180, 0, 138, 5]
abbrev dktX1_chosen_1 : List UInt8 := dkwX1_chosen_1 ++ dktX1_chosen_2
def dkwX1_chosen_0 : List UInt8 := [2, 62, 3, 54, 4, 21, 4, 42, 180, 0, 66, 180, 0, 228, 162, 0, 76, 42, 21, 4, 28, 182, 1, 140]
abbrev dktX1_chosen_0 : List UInt8 := dkwX1_chosen_0 ++ dktX1_chosen_1
theorem dksX1_chosen_0 : cX1_chosen.data.toList.drop 0 = dktX1_chosen_0 := by decide +kernel
theorem dksX1_chosen_1 : cX1_chosen.data.toList.drop 24 = dktX1_chosen_1 := dk_seg dksX1_chosen_0 24 rfl rfl
theorem dksX1_chosen_2 : cX1_chosen.data.toList.drop 47 = dktX1_chosen_2 := dk_seg dksX1_chosen_1 23 rfl rfl
theorem dksX1_chosen_3 : cX1_chosen.data.toList.drop 71 = dktX1_chosen_3 := dk_seg dksX1_chosen_2 24 rfl rfl
theorem dX1_chosen_0 : decode cX1_chosen 0 = .ok (.iconst (-1), 1) := dk_2 (dk_at dksX1_chosen_0 0 rfl rfl)
theorem dX1_chosen_1 : decode cX1_chosen 1 = .ok (.istore_n 3, 1) := dk_62 (dk_at dksX1_chosen_0 1 rfl rfl)
theorem dX1_chosen_2 : decode cX1_chosen 2 = .ok (.iconst 0, 1) := dk_3 (dk_at dksX1_chosen_0 2 rfl rfl)
theorem dX1_chosen_3 : decode cX1_chosen 3 = .ok (.istore 4, 2) := dk_54 4 (dk_at dksX1_chosen_0 3 rfl rfl)
theorem dX1_chosen_5 : decode cX1_chosen 5 = .ok (.iload 4, 2) := dk_21 4 (dk_at dksX1_chosen_0 5 rfl rfl)
theorem dX1_chosen_7 : decode cX1_chosen 7 = .ok (.aload_n 0, 1) := dk_42 (dk_at dksX1_chosen_0 7 rfl rfl)
theorem dX1_chosen_8 : decode cX1_chosen 8 = .ok (.getfield 66, 3) := dk_180 0 66 (dk_at dksX1_chosen_0 8 rfl rfl)
theorem dX1_chosen_11 : decode cX1_chosen 11 = .ok (.getfield 228, 3) := dk_180 0 228 (dk_at dksX1_chosen_0 11 rfl rfl)
theorem dX1_chosen_14 : decode cX1_chosen 14 = .ok (.if_icmp .ge 76, 3) := dk_162 0 76 (dk_at dksX1_chosen_0 14 rfl rfl)
theorem dX1_chosen_17 : decode cX1_chosen 17 = .ok (.aload_n 0, 1) := dk_42 (dk_at dksX1_chosen_0 17 rfl rfl)
theorem dX1_chosen_18 : decode cX1_chosen 18 = .ok (.iload 4, 2) := dk_21 4 (dk_at dksX1_chosen_0 18 rfl rfl)
theorem dX1_chosen_20 : decode cX1_chosen 20 = .ok (.iload_n 2, 1) := dk_28 (dk_at dksX1_chosen_0 20 rfl rfl)
theorem dX1_chosen_21 : decode cX1_chosen 21 = .ok (.invokevirtual 396, 3) := dk_182 1 140 (dk_at dksX1_chosen_0 21 rfl rfl)
theorem dX1_chosen_24 : decode cX1_chosen 24 = .ok (.ifCond .eq 60, 3) := dk_153 0 60 (dk_at dksX1_chosen_1 0 rfl rfl)
theorem dX1_chosen_27 : decode cX1_chosen 27 = .ok (.iload_n 3, 1) := dk_29 (dk_at dksX1_chosen_1 3 rfl rfl)
theorem dX1_chosen_28 : decode cX1_chosen 28 = .ok (.iconst (-1), 1) := dk_2 (dk_at dksX1_chosen_1 4 rfl rfl)
theorem dX1_chosen_29 : decode cX1_chosen 29 = .ok (.if_icmp .eq 52, 3) := dk_159 0 52 (dk_at dksX1_chosen_1 5 rfl rfl)
theorem dX1_chosen_32 : decode cX1_chosen 32 = .ok (.aload_n 1, 1) := dk_43 (dk_at dksX1_chosen_1 8 rfl rfl)
theorem dX1_chosen_33 : decode cX1_chosen 33 = .ok (.aload_n 0, 1) := dk_42 (dk_at dksX1_chosen_1 9 rfl rfl)
theorem dX1_chosen_34 : decode cX1_chosen 34 = .ok (.getfield 138, 3) := dk_180 0 138 (dk_at dksX1_chosen_1 10 rfl rfl)
theorem dX1_chosen_37 : decode cX1_chosen 37 = .ok (.iconst 2, 1) := dk_5 (dk_at dksX1_chosen_1 13 rfl rfl)
theorem dX1_chosen_38 : decode cX1_chosen 38 = .ok (.iload 4, 2) := dk_21 4 (dk_at dksX1_chosen_1 14 rfl rfl)
theorem dX1_chosen_40 : decode cX1_chosen 40 = .ok (.imul, 1) := dk_104 (dk_at dksX1_chosen_1 16 rfl rfl)
theorem dX1_chosen_41 : decode cX1_chosen 41 = .ok (.iaload, 1) := dk_46 (dk_at dksX1_chosen_1 17 rfl rfl)
theorem dX1_chosen_42 : decode cX1_chosen 42 = .ok (.aload_n 0, 1) := dk_42 (dk_at dksX1_chosen_1 18 rfl rfl)
theorem dX1_chosen_43 : decode cX1_chosen 43 = .ok (.getfield 138, 3) := dk_180 0 138 (dk_at dksX1_chosen_1 19 rfl rfl)
theorem dX1_chosen_46 : decode cX1_chosen 46 = .ok (.iconst 2, 1) := dk_5 (dk_at dksX1_chosen_1 22 rfl rfl)
theorem dX1_chosen_47 : decode cX1_chosen 47 = .ok (.iload 4, 2) := dk_21 4 (dk_at dksX1_chosen_2 0 rfl rfl)
theorem dX1_chosen_49 : decode cX1_chosen 49 = .ok (.imul, 1) := dk_104 (dk_at dksX1_chosen_2 2 rfl rfl)
theorem dX1_chosen_50 : decode cX1_chosen 50 = .ok (.iconst 1, 1) := dk_4 (dk_at dksX1_chosen_2 3 rfl rfl)
theorem dX1_chosen_51 : decode cX1_chosen 51 = .ok (.iadd, 1) := dk_96 (dk_at dksX1_chosen_2 4 rfl rfl)
theorem dX1_chosen_52 : decode cX1_chosen 52 = .ok (.iaload, 1) := dk_46 (dk_at dksX1_chosen_2 5 rfl rfl)
theorem dX1_chosen_53 : decode cX1_chosen 53 = .ok (.invokevirtual 399, 3) := dk_182 1 143 (dk_at dksX1_chosen_2 6 rfl rfl)
theorem dX1_chosen_56 : decode cX1_chosen 56 = .ok (.aload_n 1, 1) := dk_43 (dk_at dksX1_chosen_2 9 rfl rfl)
theorem dX1_chosen_57 : decode cX1_chosen 57 = .ok (.aload_n 0, 1) := dk_42 (dk_at dksX1_chosen_2 10 rfl rfl)
theorem dX1_chosen_58 : decode cX1_chosen 58 = .ok (.getfield 138, 3) := dk_180 0 138 (dk_at dksX1_chosen_2 11 rfl rfl)
theorem dX1_chosen_61 : decode cX1_chosen 61 = .ok (.iconst 2, 1) := dk_5 (dk_at dksX1_chosen_2 14 rfl rfl)
theorem dX1_chosen_62 : decode cX1_chosen 62 = .ok (.iload_n 3, 1) := dk_29 (dk_at dksX1_chosen_2 15 rfl rfl)
theorem dX1_chosen_63 : decode cX1_chosen 63 = .ok (.imul, 1) := dk_104 (dk_at dksX1_chosen_2 16 rfl rfl)
theorem dX1_chosen_64 : decode cX1_chosen 64 = .ok (.iaload, 1) := dk_46 (dk_at dksX1_chosen_2 17 rfl rfl)
theorem dX1_chosen_65 : decode cX1_chosen 65 = .ok (.aload_n 0, 1) := dk_42 (dk_at dksX1_chosen_2 18 rfl rfl)
theorem dX1_chosen_66 : decode cX1_chosen 66 = .ok (.getfield 138, 3) := dk_180 0 138 (dk_at dksX1_chosen_2 19 rfl rfl)
theorem dX1_chosen_69 : decode cX1_chosen 69 = .ok (.iconst 2, 1) := dk_5 (dk_at dksX1_chosen_2 22 rfl rfl)
theorem dX1_chosen_70 : decode cX1_chosen 70 = .ok (.iload_n 3, 1) := dk_29 (dk_at dksX1_chosen_2 23 rfl rfl)
theorem dX1_chosen_71 : decode cX1_chosen 71 = .ok (.imul, 1) := dk_104 (dk_at dksX1_chosen_3 0 rfl rfl)
theorem dX1_chosen_72 : decode cX1_chosen 72 = .ok (.iconst 1, 1) := dk_4 (dk_at dksX1_chosen_3 1 rfl rfl)
theorem dX1_chosen_73 : decode cX1_chosen 73 = .ok (.iadd, 1) := dk_96 (dk_at dksX1_chosen_3 2 rfl rfl)
theorem dX1_chosen_74 : decode cX1_chosen 74 = .ok (.iaload, 1) := dk_46 (dk_at dksX1_chosen_3 3 rfl rfl)
theorem dX1_chosen_75 : decode cX1_chosen 75 = .ok (.invokevirtual 399, 3) := dk_182 1 143 (dk_at dksX1_chosen_3 4 rfl rfl)
theorem dX1_chosen_78 : decode cX1_chosen 78 = .ok (.if_icmp .le 6, 3) := dk_164 0 6 (dk_at dksX1_chosen_3 7 rfl rfl)
theorem dX1_chosen_81 : decode cX1_chosen 81 = .ok (.iload 4, 2) := dk_21 4 (dk_at dksX1_chosen_3 10 rfl rfl)
theorem dX1_chosen_83 : decode cX1_chosen 83 = .ok (.istore_n 3, 1) := dk_62 (dk_at dksX1_chosen_3 12 rfl rfl)
theorem dX1_chosen_84 : decode cX1_chosen 84 = .ok (.iinc 4 1, 3) := dk_132 4 1 (dk_at dksX1_chosen_3 13 rfl rfl)
theorem dX1_chosen_87 : decode cX1_chosen 87 = .ok (.goto (-82), 3) := dk_167 255 174 (dk_at dksX1_chosen_3 16 rfl rfl)
theorem dX1_chosen_90 : decode cX1_chosen 90 = .ok (.iload_n 3, 1) := dk_29 (dk_at dksX1_chosen_3 19 rfl rfl)
theorem dX1_chosen_91 : decode cX1_chosen 91 = .ok (.ireturn, 1) := dk_172 (dk_at dksX1_chosen_3 20 rfl rfl)
abbrev cX1_canGo : ByteArray := prog_1_method_50_code
def yX1_canGo : MethodName := ⟨RX1, "canGo", "(II)Z"⟩
def dkwX1_canGo_3 : List UInt8 := [167, 0, 4, 3, 172]
abbrev dktX1_canGo_3 : List UInt8 := dkwX1_canGo_3 ++ []
def dkwX1_canGo_2 : List UInt8 := [153, 0, 21, 28, 42, 180, 0, 141, 29, 46, 100, 42, 180, 0, 66, 180, 1, 114, 161, 0, 7, 4]
abbrev dktX1_canGo_2 : List UInt8 := dkwX1_canGo_2 ++ dktX1_canGo_3
def dkwX1_canGo_1 : List UInt8 := [96, 46, 96, 154, 0, 5, 3, 172, 42, 27, 182, 1, 137, 4, 130, 62, 42, 180, 0, 141, 29, 46]
abbrev dktX1_canGo_1 : List UInt8 := dkwX1_canGo_1 ++ dktX1_canGo_2
def dkwX1_canGo_0 : List UInt8 := [42, 27, 182, 1, 134, 154, 0, 25, 42, 180, 0, 138, 5, 27, 104, 46, 42, 180, 0, 138, 5, 27, 104, 4]
abbrev dktX1_canGo_0 : List UInt8 := dkwX1_canGo_0 ++ dktX1_canGo_1
theorem dksX1_canGo_0 : cX1_canGo.data.toList.drop 0 = dktX1_canGo_0 := by decide +kernel
theorem dksX1_canGo_1 : cX1_canGo.data.toList.drop 24 = dktX1_canGo_1 := dk_seg dksX1_canGo_0 24 rfl rfl
theorem dksX1_canGo_2 : cX1_canGo.data.toList.drop 46 = dktX1_canGo_2 := dk_seg dksX1_canGo_1 22 rfl rfl
theorem dksX1_canGo_3 : cX1_canGo.data.toList.drop 68 = dktX1_canGo_3 := dk_seg dksX1_canGo_2 22 rfl rfl
theorem dX1_canGo_0 : decode cX1_canGo 0 = .ok (.aload_n 0, 1) := dk_42 (dk_at dksX1_canGo_0 0 rfl rfl)
theorem dX1_canGo_1 : decode cX1_canGo 1 = .ok (.iload_n 1, 1) := dk_27 (dk_at dksX1_canGo_0 1 rfl rfl)
theorem dX1_canGo_2 : decode cX1_canGo 2 = .ok (.invokevirtual 390, 3) := dk_182 1 134 (dk_at dksX1_canGo_0 2 rfl rfl)
theorem dX1_canGo_5 : decode cX1_canGo 5 = .ok (.ifCond .ne 25, 3) := dk_154 0 25 (dk_at dksX1_canGo_0 5 rfl rfl)
theorem dX1_canGo_8 : decode cX1_canGo 8 = .ok (.aload_n 0, 1) := dk_42 (dk_at dksX1_canGo_0 8 rfl rfl)
theorem dX1_canGo_9 : decode cX1_canGo 9 = .ok (.getfield 138, 3) := dk_180 0 138 (dk_at dksX1_canGo_0 9 rfl rfl)
theorem dX1_canGo_12 : decode cX1_canGo 12 = .ok (.iconst 2, 1) := dk_5 (dk_at dksX1_canGo_0 12 rfl rfl)
theorem dX1_canGo_13 : decode cX1_canGo 13 = .ok (.iload_n 1, 1) := dk_27 (dk_at dksX1_canGo_0 13 rfl rfl)
theorem dX1_canGo_14 : decode cX1_canGo 14 = .ok (.imul, 1) := dk_104 (dk_at dksX1_canGo_0 14 rfl rfl)
theorem dX1_canGo_15 : decode cX1_canGo 15 = .ok (.iaload, 1) := dk_46 (dk_at dksX1_canGo_0 15 rfl rfl)
theorem dX1_canGo_16 : decode cX1_canGo 16 = .ok (.aload_n 0, 1) := dk_42 (dk_at dksX1_canGo_0 16 rfl rfl)
theorem dX1_canGo_17 : decode cX1_canGo 17 = .ok (.getfield 138, 3) := dk_180 0 138 (dk_at dksX1_canGo_0 17 rfl rfl)
theorem dX1_canGo_20 : decode cX1_canGo 20 = .ok (.iconst 2, 1) := dk_5 (dk_at dksX1_canGo_0 20 rfl rfl)
theorem dX1_canGo_21 : decode cX1_canGo 21 = .ok (.iload_n 1, 1) := dk_27 (dk_at dksX1_canGo_0 21 rfl rfl)
theorem dX1_canGo_22 : decode cX1_canGo 22 = .ok (.imul, 1) := dk_104 (dk_at dksX1_canGo_0 22 rfl rfl)
theorem dX1_canGo_23 : decode cX1_canGo 23 = .ok (.iconst 1, 1) := dk_4 (dk_at dksX1_canGo_0 23 rfl rfl)
theorem dX1_canGo_24 : decode cX1_canGo 24 = .ok (.iadd, 1) := dk_96 (dk_at dksX1_canGo_1 0 rfl rfl)
theorem dX1_canGo_25 : decode cX1_canGo 25 = .ok (.iaload, 1) := dk_46 (dk_at dksX1_canGo_1 1 rfl rfl)
theorem dX1_canGo_26 : decode cX1_canGo 26 = .ok (.iadd, 1) := dk_96 (dk_at dksX1_canGo_1 2 rfl rfl)
theorem dX1_canGo_27 : decode cX1_canGo 27 = .ok (.ifCond .ne 5, 3) := dk_154 0 5 (dk_at dksX1_canGo_1 3 rfl rfl)
theorem dX1_canGo_30 : decode cX1_canGo 30 = .ok (.iconst 0, 1) := dk_3 (dk_at dksX1_canGo_1 6 rfl rfl)
theorem dX1_canGo_31 : decode cX1_canGo 31 = .ok (.ireturn, 1) := dk_172 (dk_at dksX1_canGo_1 7 rfl rfl)
theorem dX1_canGo_32 : decode cX1_canGo 32 = .ok (.aload_n 0, 1) := dk_42 (dk_at dksX1_canGo_1 8 rfl rfl)
theorem dX1_canGo_33 : decode cX1_canGo 33 = .ok (.iload_n 1, 1) := dk_27 (dk_at dksX1_canGo_1 9 rfl rfl)
theorem dX1_canGo_34 : decode cX1_canGo 34 = .ok (.invokevirtual 393, 3) := dk_182 1 137 (dk_at dksX1_canGo_1 10 rfl rfl)
theorem dX1_canGo_37 : decode cX1_canGo 37 = .ok (.iconst 1, 1) := dk_4 (dk_at dksX1_canGo_1 13 rfl rfl)
theorem dX1_canGo_38 : decode cX1_canGo 38 = .ok (.ixor, 1) := dk_130 (dk_at dksX1_canGo_1 14 rfl rfl)
theorem dX1_canGo_39 : decode cX1_canGo 39 = .ok (.istore_n 3, 1) := dk_62 (dk_at dksX1_canGo_1 15 rfl rfl)
theorem dX1_canGo_40 : decode cX1_canGo 40 = .ok (.aload_n 0, 1) := dk_42 (dk_at dksX1_canGo_1 16 rfl rfl)
theorem dX1_canGo_41 : decode cX1_canGo 41 = .ok (.getfield 141, 3) := dk_180 0 141 (dk_at dksX1_canGo_1 17 rfl rfl)
theorem dX1_canGo_44 : decode cX1_canGo 44 = .ok (.iload_n 3, 1) := dk_29 (dk_at dksX1_canGo_1 20 rfl rfl)
theorem dX1_canGo_45 : decode cX1_canGo 45 = .ok (.iaload, 1) := dk_46 (dk_at dksX1_canGo_1 21 rfl rfl)
theorem dX1_canGo_46 : decode cX1_canGo 46 = .ok (.ifCond .eq 21, 3) := dk_153 0 21 (dk_at dksX1_canGo_2 0 rfl rfl)
theorem dX1_canGo_49 : decode cX1_canGo 49 = .ok (.iload_n 2, 1) := dk_28 (dk_at dksX1_canGo_2 3 rfl rfl)
theorem dX1_canGo_50 : decode cX1_canGo 50 = .ok (.aload_n 0, 1) := dk_42 (dk_at dksX1_canGo_2 4 rfl rfl)
theorem dX1_canGo_51 : decode cX1_canGo 51 = .ok (.getfield 141, 3) := dk_180 0 141 (dk_at dksX1_canGo_2 5 rfl rfl)
theorem dX1_canGo_54 : decode cX1_canGo 54 = .ok (.iload_n 3, 1) := dk_29 (dk_at dksX1_canGo_2 8 rfl rfl)
theorem dX1_canGo_55 : decode cX1_canGo 55 = .ok (.iaload, 1) := dk_46 (dk_at dksX1_canGo_2 9 rfl rfl)
theorem dX1_canGo_56 : decode cX1_canGo 56 = .ok (.isub, 1) := dk_100 (dk_at dksX1_canGo_2 10 rfl rfl)
theorem dX1_canGo_57 : decode cX1_canGo 57 = .ok (.aload_n 0, 1) := dk_42 (dk_at dksX1_canGo_2 11 rfl rfl)
theorem dX1_canGo_58 : decode cX1_canGo 58 = .ok (.getfield 66, 3) := dk_180 0 66 (dk_at dksX1_canGo_2 12 rfl rfl)
theorem dX1_canGo_61 : decode cX1_canGo 61 = .ok (.getfield 370, 3) := dk_180 1 114 (dk_at dksX1_canGo_2 15 rfl rfl)
theorem dX1_canGo_64 : decode cX1_canGo 64 = .ok (.if_icmp .lt 7, 3) := dk_161 0 7 (dk_at dksX1_canGo_2 18 rfl rfl)
theorem dX1_canGo_67 : decode cX1_canGo 67 = .ok (.iconst 1, 1) := dk_4 (dk_at dksX1_canGo_2 21 rfl rfl)
theorem dX1_canGo_68 : decode cX1_canGo 68 = .ok (.goto 4, 3) := dk_167 0 4 (dk_at dksX1_canGo_3 0 rfl rfl)
theorem dX1_canGo_71 : decode cX1_canGo 71 = .ok (.iconst 0, 1) := dk_3 (dk_at dksX1_canGo_3 3 rfl rfl)
theorem dX1_canGo_72 : decode cX1_canGo 72 = .ok (.ireturn, 1) := dk_172 (dk_at dksX1_canGo_3 4 rfl rfl)
abbrev cX1_isOn : ByteArray := prog_1_method_49_code
def yX1_isOn : MethodName := ⟨RX1, "isOn", "(I)Z"⟩
def dkwX1_isOn_1 : List UInt8 := [180, 0, 144, 28, 46, 5, 108, 27, 160, 0, 5, 4, 172, 132, 2, 1, 167, 255, 218, 3, 172]
abbrev dktX1_isOn_1 : List UInt8 := dkwX1_isOn_1 ++ []
def dkwX1_isOn_0 : List UInt8 := [3, 61, 28, 42, 180, 0, 66, 180, 1, 76, 162, 0, 33, 42, 180, 0, 144, 28, 46, 2, 159, 0, 17, 42]
abbrev dktX1_isOn_0 : List UInt8 := dkwX1_isOn_0 ++ dktX1_isOn_1
theorem dksX1_isOn_0 : cX1_isOn.data.toList.drop 0 = dktX1_isOn_0 := by decide +kernel
theorem dksX1_isOn_1 : cX1_isOn.data.toList.drop 24 = dktX1_isOn_1 := dk_seg dksX1_isOn_0 24 rfl rfl
theorem dX1_isOn_0 : decode cX1_isOn 0 = .ok (.iconst 0, 1) := dk_3 (dk_at dksX1_isOn_0 0 rfl rfl)
theorem dX1_isOn_1 : decode cX1_isOn 1 = .ok (.istore_n 2, 1) := dk_61 (dk_at dksX1_isOn_0 1 rfl rfl)
theorem dX1_isOn_2 : decode cX1_isOn 2 = .ok (.iload_n 2, 1) := dk_28 (dk_at dksX1_isOn_0 2 rfl rfl)
theorem dX1_isOn_3 : decode cX1_isOn 3 = .ok (.aload_n 0, 1) := dk_42 (dk_at dksX1_isOn_0 3 rfl rfl)
theorem dX1_isOn_4 : decode cX1_isOn 4 = .ok (.getfield 66, 3) := dk_180 0 66 (dk_at dksX1_isOn_0 4 rfl rfl)
theorem dX1_isOn_7 : decode cX1_isOn 7 = .ok (.getfield 332, 3) := dk_180 1 76 (dk_at dksX1_isOn_0 7 rfl rfl)
theorem dX1_isOn_10 : decode cX1_isOn 10 = .ok (.if_icmp .ge 33, 3) := dk_162 0 33 (dk_at dksX1_isOn_0 10 rfl rfl)
theorem dX1_isOn_13 : decode cX1_isOn 13 = .ok (.aload_n 0, 1) := dk_42 (dk_at dksX1_isOn_0 13 rfl rfl)
theorem dX1_isOn_14 : decode cX1_isOn 14 = .ok (.getfield 144, 3) := dk_180 0 144 (dk_at dksX1_isOn_0 14 rfl rfl)
theorem dX1_isOn_17 : decode cX1_isOn 17 = .ok (.iload_n 2, 1) := dk_28 (dk_at dksX1_isOn_0 17 rfl rfl)
theorem dX1_isOn_18 : decode cX1_isOn 18 = .ok (.iaload, 1) := dk_46 (dk_at dksX1_isOn_0 18 rfl rfl)
theorem dX1_isOn_19 : decode cX1_isOn 19 = .ok (.iconst (-1), 1) := dk_2 (dk_at dksX1_isOn_0 19 rfl rfl)
theorem dX1_isOn_20 : decode cX1_isOn 20 = .ok (.if_icmp .eq 17, 3) := dk_159 0 17 (dk_at dksX1_isOn_0 20 rfl rfl)
theorem dX1_isOn_23 : decode cX1_isOn 23 = .ok (.aload_n 0, 1) := dk_42 (dk_at dksX1_isOn_0 23 rfl rfl)
theorem dX1_isOn_24 : decode cX1_isOn 24 = .ok (.getfield 144, 3) := dk_180 0 144 (dk_at dksX1_isOn_1 0 rfl rfl)
theorem dX1_isOn_27 : decode cX1_isOn 27 = .ok (.iload_n 2, 1) := dk_28 (dk_at dksX1_isOn_1 3 rfl rfl)
theorem dX1_isOn_28 : decode cX1_isOn 28 = .ok (.iaload, 1) := dk_46 (dk_at dksX1_isOn_1 4 rfl rfl)
theorem dX1_isOn_29 : decode cX1_isOn 29 = .ok (.iconst 2, 1) := dk_5 (dk_at dksX1_isOn_1 5 rfl rfl)
theorem dX1_isOn_30 : decode cX1_isOn 30 = .ok (.idiv, 1) := dk_108 (dk_at dksX1_isOn_1 6 rfl rfl)
theorem dX1_isOn_31 : decode cX1_isOn 31 = .ok (.iload_n 1, 1) := dk_27 (dk_at dksX1_isOn_1 7 rfl rfl)
theorem dX1_isOn_32 : decode cX1_isOn 32 = .ok (.if_icmp .ne 5, 3) := dk_160 0 5 (dk_at dksX1_isOn_1 8 rfl rfl)
theorem dX1_isOn_35 : decode cX1_isOn 35 = .ok (.iconst 1, 1) := dk_4 (dk_at dksX1_isOn_1 11 rfl rfl)
theorem dX1_isOn_36 : decode cX1_isOn 36 = .ok (.ireturn, 1) := dk_172 (dk_at dksX1_isOn_1 12 rfl rfl)
theorem dX1_isOn_37 : decode cX1_isOn 37 = .ok (.iinc 2 1, 3) := dk_132 2 1 (dk_at dksX1_isOn_1 13 rfl rfl)
theorem dX1_isOn_40 : decode cX1_isOn 40 = .ok (.goto (-38), 3) := dk_167 255 218 (dk_at dksX1_isOn_1 16 rfl rfl)
theorem dX1_isOn_43 : decode cX1_isOn 43 = .ok (.iconst 0, 1) := dk_3 (dk_at dksX1_isOn_1 19 rfl rfl)
theorem dX1_isOn_44 : decode cX1_isOn 44 = .ok (.ireturn, 1) := dk_172 (dk_at dksX1_isOn_1 20 rfl rfl)
abbrev cX1_sideOf : ByteArray := prog_1_method_48_code
def yX1_sideOf : MethodName := ⟨RX1, "sideOf", "(I)I"⟩
def dkwX1_sideOf_3 : List UInt8 := [167, 0, 8, 5, 27, 104, 4, 96, 172]
abbrev dktX1_sideOf_3 : List UInt8 := dkwX1_sideOf_3 ++ []
def dkwX1_sideOf_2 : List UInt8 := [104, 28, 96, 172, 132, 2, 1, 167, 255, 203, 42, 180, 0, 138, 5, 27, 104, 46, 158, 0, 9, 5, 27, 104]
abbrev dktX1_sideOf_2 : List UInt8 := dkwX1_sideOf_2 ++ dktX1_sideOf_3
def dkwX1_sideOf_1 : List UInt8 := [5, 27, 104, 28, 96, 46, 42, 180, 0, 66, 180, 0, 243, 5, 27, 104, 28, 96, 46, 162, 0, 9, 5, 27]
abbrev dktX1_sideOf_1 : List UInt8 := dkwX1_sideOf_1 ++ dktX1_sideOf_2
def dkwX1_sideOf_0 : List UInt8 := [3, 61, 28, 5, 162, 0, 54, 42, 180, 0, 138, 5, 27, 104, 28, 96, 46, 158, 0, 35, 42, 180, 0, 138]
abbrev dktX1_sideOf_0 : List UInt8 := dkwX1_sideOf_0 ++ dktX1_sideOf_1
theorem dksX1_sideOf_0 : cX1_sideOf.data.toList.drop 0 = dktX1_sideOf_0 := by decide +kernel
theorem dksX1_sideOf_1 : cX1_sideOf.data.toList.drop 24 = dktX1_sideOf_1 := dk_seg dksX1_sideOf_0 24 rfl rfl
theorem dksX1_sideOf_2 : cX1_sideOf.data.toList.drop 48 = dktX1_sideOf_2 := dk_seg dksX1_sideOf_1 24 rfl rfl
theorem dksX1_sideOf_3 : cX1_sideOf.data.toList.drop 72 = dktX1_sideOf_3 := dk_seg dksX1_sideOf_2 24 rfl rfl
theorem dX1_sideOf_0 : decode cX1_sideOf 0 = .ok (.iconst 0, 1) := dk_3 (dk_at dksX1_sideOf_0 0 rfl rfl)
theorem dX1_sideOf_1 : decode cX1_sideOf 1 = .ok (.istore_n 2, 1) := dk_61 (dk_at dksX1_sideOf_0 1 rfl rfl)
theorem dX1_sideOf_2 : decode cX1_sideOf 2 = .ok (.iload_n 2, 1) := dk_28 (dk_at dksX1_sideOf_0 2 rfl rfl)
theorem dX1_sideOf_3 : decode cX1_sideOf 3 = .ok (.iconst 2, 1) := dk_5 (dk_at dksX1_sideOf_0 3 rfl rfl)
theorem dX1_sideOf_4 : decode cX1_sideOf 4 = .ok (.if_icmp .ge 54, 3) := dk_162 0 54 (dk_at dksX1_sideOf_0 4 rfl rfl)
theorem dX1_sideOf_7 : decode cX1_sideOf 7 = .ok (.aload_n 0, 1) := dk_42 (dk_at dksX1_sideOf_0 7 rfl rfl)
theorem dX1_sideOf_8 : decode cX1_sideOf 8 = .ok (.getfield 138, 3) := dk_180 0 138 (dk_at dksX1_sideOf_0 8 rfl rfl)
theorem dX1_sideOf_11 : decode cX1_sideOf 11 = .ok (.iconst 2, 1) := dk_5 (dk_at dksX1_sideOf_0 11 rfl rfl)
theorem dX1_sideOf_12 : decode cX1_sideOf 12 = .ok (.iload_n 1, 1) := dk_27 (dk_at dksX1_sideOf_0 12 rfl rfl)
theorem dX1_sideOf_13 : decode cX1_sideOf 13 = .ok (.imul, 1) := dk_104 (dk_at dksX1_sideOf_0 13 rfl rfl)
theorem dX1_sideOf_14 : decode cX1_sideOf 14 = .ok (.iload_n 2, 1) := dk_28 (dk_at dksX1_sideOf_0 14 rfl rfl)
theorem dX1_sideOf_15 : decode cX1_sideOf 15 = .ok (.iadd, 1) := dk_96 (dk_at dksX1_sideOf_0 15 rfl rfl)
theorem dX1_sideOf_16 : decode cX1_sideOf 16 = .ok (.iaload, 1) := dk_46 (dk_at dksX1_sideOf_0 16 rfl rfl)
theorem dX1_sideOf_17 : decode cX1_sideOf 17 = .ok (.ifCond .le 35, 3) := dk_158 0 35 (dk_at dksX1_sideOf_0 17 rfl rfl)
theorem dX1_sideOf_20 : decode cX1_sideOf 20 = .ok (.aload_n 0, 1) := dk_42 (dk_at dksX1_sideOf_0 20 rfl rfl)
theorem dX1_sideOf_21 : decode cX1_sideOf 21 = .ok (.getfield 138, 3) := dk_180 0 138 (dk_at dksX1_sideOf_0 21 rfl rfl)
theorem dX1_sideOf_24 : decode cX1_sideOf 24 = .ok (.iconst 2, 1) := dk_5 (dk_at dksX1_sideOf_1 0 rfl rfl)
theorem dX1_sideOf_25 : decode cX1_sideOf 25 = .ok (.iload_n 1, 1) := dk_27 (dk_at dksX1_sideOf_1 1 rfl rfl)
theorem dX1_sideOf_26 : decode cX1_sideOf 26 = .ok (.imul, 1) := dk_104 (dk_at dksX1_sideOf_1 2 rfl rfl)
theorem dX1_sideOf_27 : decode cX1_sideOf 27 = .ok (.iload_n 2, 1) := dk_28 (dk_at dksX1_sideOf_1 3 rfl rfl)
theorem dX1_sideOf_28 : decode cX1_sideOf 28 = .ok (.iadd, 1) := dk_96 (dk_at dksX1_sideOf_1 4 rfl rfl)
theorem dX1_sideOf_29 : decode cX1_sideOf 29 = .ok (.iaload, 1) := dk_46 (dk_at dksX1_sideOf_1 5 rfl rfl)
theorem dX1_sideOf_30 : decode cX1_sideOf 30 = .ok (.aload_n 0, 1) := dk_42 (dk_at dksX1_sideOf_1 6 rfl rfl)
theorem dX1_sideOf_31 : decode cX1_sideOf 31 = .ok (.getfield 66, 3) := dk_180 0 66 (dk_at dksX1_sideOf_1 7 rfl rfl)
theorem dX1_sideOf_34 : decode cX1_sideOf 34 = .ok (.getfield 243, 3) := dk_180 0 243 (dk_at dksX1_sideOf_1 10 rfl rfl)
theorem dX1_sideOf_37 : decode cX1_sideOf 37 = .ok (.iconst 2, 1) := dk_5 (dk_at dksX1_sideOf_1 13 rfl rfl)
theorem dX1_sideOf_38 : decode cX1_sideOf 38 = .ok (.iload_n 1, 1) := dk_27 (dk_at dksX1_sideOf_1 14 rfl rfl)
theorem dX1_sideOf_39 : decode cX1_sideOf 39 = .ok (.imul, 1) := dk_104 (dk_at dksX1_sideOf_1 15 rfl rfl)
theorem dX1_sideOf_40 : decode cX1_sideOf 40 = .ok (.iload_n 2, 1) := dk_28 (dk_at dksX1_sideOf_1 16 rfl rfl)
theorem dX1_sideOf_41 : decode cX1_sideOf 41 = .ok (.iadd, 1) := dk_96 (dk_at dksX1_sideOf_1 17 rfl rfl)
theorem dX1_sideOf_42 : decode cX1_sideOf 42 = .ok (.iaload, 1) := dk_46 (dk_at dksX1_sideOf_1 18 rfl rfl)
theorem dX1_sideOf_43 : decode cX1_sideOf 43 = .ok (.if_icmp .ge 9, 3) := dk_162 0 9 (dk_at dksX1_sideOf_1 19 rfl rfl)
theorem dX1_sideOf_46 : decode cX1_sideOf 46 = .ok (.iconst 2, 1) := dk_5 (dk_at dksX1_sideOf_1 22 rfl rfl)
theorem dX1_sideOf_47 : decode cX1_sideOf 47 = .ok (.iload_n 1, 1) := dk_27 (dk_at dksX1_sideOf_1 23 rfl rfl)
theorem dX1_sideOf_48 : decode cX1_sideOf 48 = .ok (.imul, 1) := dk_104 (dk_at dksX1_sideOf_2 0 rfl rfl)
theorem dX1_sideOf_49 : decode cX1_sideOf 49 = .ok (.iload_n 2, 1) := dk_28 (dk_at dksX1_sideOf_2 1 rfl rfl)
theorem dX1_sideOf_50 : decode cX1_sideOf 50 = .ok (.iadd, 1) := dk_96 (dk_at dksX1_sideOf_2 2 rfl rfl)
theorem dX1_sideOf_51 : decode cX1_sideOf 51 = .ok (.ireturn, 1) := dk_172 (dk_at dksX1_sideOf_2 3 rfl rfl)
theorem dX1_sideOf_52 : decode cX1_sideOf 52 = .ok (.iinc 2 1, 3) := dk_132 2 1 (dk_at dksX1_sideOf_2 4 rfl rfl)
theorem dX1_sideOf_55 : decode cX1_sideOf 55 = .ok (.goto (-53), 3) := dk_167 255 203 (dk_at dksX1_sideOf_2 7 rfl rfl)
theorem dX1_sideOf_58 : decode cX1_sideOf 58 = .ok (.aload_n 0, 1) := dk_42 (dk_at dksX1_sideOf_2 10 rfl rfl)
theorem dX1_sideOf_59 : decode cX1_sideOf 59 = .ok (.getfield 138, 3) := dk_180 0 138 (dk_at dksX1_sideOf_2 11 rfl rfl)
theorem dX1_sideOf_62 : decode cX1_sideOf 62 = .ok (.iconst 2, 1) := dk_5 (dk_at dksX1_sideOf_2 14 rfl rfl)
theorem dX1_sideOf_63 : decode cX1_sideOf 63 = .ok (.iload_n 1, 1) := dk_27 (dk_at dksX1_sideOf_2 15 rfl rfl)
theorem dX1_sideOf_64 : decode cX1_sideOf 64 = .ok (.imul, 1) := dk_104 (dk_at dksX1_sideOf_2 16 rfl rfl)
theorem dX1_sideOf_65 : decode cX1_sideOf 65 = .ok (.iaload, 1) := dk_46 (dk_at dksX1_sideOf_2 17 rfl rfl)
theorem dX1_sideOf_66 : decode cX1_sideOf 66 = .ok (.ifCond .le 9, 3) := dk_158 0 9 (dk_at dksX1_sideOf_2 18 rfl rfl)
theorem dX1_sideOf_69 : decode cX1_sideOf 69 = .ok (.iconst 2, 1) := dk_5 (dk_at dksX1_sideOf_2 21 rfl rfl)
theorem dX1_sideOf_70 : decode cX1_sideOf 70 = .ok (.iload_n 1, 1) := dk_27 (dk_at dksX1_sideOf_2 22 rfl rfl)
theorem dX1_sideOf_71 : decode cX1_sideOf 71 = .ok (.imul, 1) := dk_104 (dk_at dksX1_sideOf_2 23 rfl rfl)
theorem dX1_sideOf_72 : decode cX1_sideOf 72 = .ok (.goto 8, 3) := dk_167 0 8 (dk_at dksX1_sideOf_3 0 rfl rfl)
theorem dX1_sideOf_75 : decode cX1_sideOf 75 = .ok (.iconst 2, 1) := dk_5 (dk_at dksX1_sideOf_3 3 rfl rfl)
theorem dX1_sideOf_76 : decode cX1_sideOf 76 = .ok (.iload_n 1, 1) := dk_27 (dk_at dksX1_sideOf_3 4 rfl rfl)
theorem dX1_sideOf_77 : decode cX1_sideOf 77 = .ok (.imul, 1) := dk_104 (dk_at dksX1_sideOf_3 5 rfl rfl)
theorem dX1_sideOf_78 : decode cX1_sideOf 78 = .ok (.iconst 1, 1) := dk_4 (dk_at dksX1_sideOf_3 6 rfl rfl)
theorem dX1_sideOf_79 : decode cX1_sideOf 79 = .ok (.iadd, 1) := dk_96 (dk_at dksX1_sideOf_3 7 rfl rfl)
theorem dX1_sideOf_80 : decode cX1_sideOf 80 = .ok (.ireturn, 1) := dk_172 (dk_at dksX1_sideOf_3 8 rfl rfl)
abbrev cX1_best : ByteArray := prog_1_method_55_code
def yX1_best : MethodName := ⟨RX1, "best", "()I"⟩
def dkwX1_best_3 : List UInt8 := [42, 180, 0, 77, 182, 1, 17, 27, 172]
abbrev dktX1_best_3 : List UInt8 := dkwX1_best_3 ++ []
def dkwX1_best_2 : List UInt8 := [21, 4, 28, 161, 0, 6, 167, 0, 8, 21, 4, 61, 29, 60, 132, 3, 1, 167, 255, 223, 42, 180, 0, 73]
abbrev dktX1_best_2 : List UInt8 := dkwX1_best_2 ++ dktX1_best_3
def dkwX1_best_1 : List UInt8 := [60, 19, 1, 129, 61, 3, 62, 29, 42, 180, 0, 134, 190, 162, 0, 30, 42, 29, 182, 1, 153, 54, 4]
abbrev dktX1_best_1 : List UInt8 := dkwX1_best_1 ++ dktX1_best_2
def dkwX1_best_0 : List UInt8 := [42, 180, 0, 66, 180, 0, 228, 154, 0, 5, 2, 172, 42, 180, 0, 77, 42, 180, 0, 73, 182, 1, 17, 3]
abbrev dktX1_best_0 : List UInt8 := dkwX1_best_0 ++ dktX1_best_1
theorem dksX1_best_0 : cX1_best.data.toList.drop 0 = dktX1_best_0 := by decide +kernel
theorem dksX1_best_1 : cX1_best.data.toList.drop 24 = dktX1_best_1 := dk_seg dksX1_best_0 24 rfl rfl
theorem dksX1_best_2 : cX1_best.data.toList.drop 47 = dktX1_best_2 := dk_seg dksX1_best_1 23 rfl rfl
theorem dksX1_best_3 : cX1_best.data.toList.drop 71 = dktX1_best_3 := dk_seg dksX1_best_2 24 rfl rfl
theorem dX1_best_0 : decode cX1_best 0 = .ok (.aload_n 0, 1) := dk_42 (dk_at dksX1_best_0 0 rfl rfl)
theorem dX1_best_1 : decode cX1_best 1 = .ok (.getfield 66, 3) := dk_180 0 66 (dk_at dksX1_best_0 1 rfl rfl)
theorem dX1_best_4 : decode cX1_best 4 = .ok (.getfield 228, 3) := dk_180 0 228 (dk_at dksX1_best_0 4 rfl rfl)
theorem dX1_best_7 : decode cX1_best 7 = .ok (.ifCond .ne 5, 3) := dk_154 0 5 (dk_at dksX1_best_0 7 rfl rfl)
theorem dX1_best_10 : decode cX1_best 10 = .ok (.iconst (-1), 1) := dk_2 (dk_at dksX1_best_0 10 rfl rfl)
theorem dX1_best_11 : decode cX1_best 11 = .ok (.ireturn, 1) := dk_172 (dk_at dksX1_best_0 11 rfl rfl)
theorem dX1_best_12 : decode cX1_best 12 = .ok (.aload_n 0, 1) := dk_42 (dk_at dksX1_best_0 12 rfl rfl)
theorem dX1_best_13 : decode cX1_best 13 = .ok (.getfield 77, 3) := dk_180 0 77 (dk_at dksX1_best_0 13 rfl rfl)
theorem dX1_best_16 : decode cX1_best 16 = .ok (.aload_n 0, 1) := dk_42 (dk_at dksX1_best_0 16 rfl rfl)
theorem dX1_best_17 : decode cX1_best 17 = .ok (.getfield 73, 3) := dk_180 0 73 (dk_at dksX1_best_0 17 rfl rfl)
theorem dX1_best_20 : decode cX1_best 20 = .ok (.invokevirtual 273, 3) := dk_182 1 17 (dk_at dksX1_best_0 20 rfl rfl)
theorem dX1_best_23 : decode cX1_best 23 = .ok (.iconst 0, 1) := dk_3 (dk_at dksX1_best_0 23 rfl rfl)
theorem dX1_best_24 : decode cX1_best 24 = .ok (.istore_n 1, 1) := dk_60 (dk_at dksX1_best_1 0 rfl rfl)
theorem dX1_best_25 : decode cX1_best 25 = .ok (.ldc_w 385, 3) := dk_19 1 129 (dk_at dksX1_best_1 1 rfl rfl)
theorem dX1_best_28 : decode cX1_best 28 = .ok (.istore_n 2, 1) := dk_61 (dk_at dksX1_best_1 4 rfl rfl)
theorem dX1_best_29 : decode cX1_best 29 = .ok (.iconst 0, 1) := dk_3 (dk_at dksX1_best_1 5 rfl rfl)
theorem dX1_best_30 : decode cX1_best 30 = .ok (.istore_n 3, 1) := dk_62 (dk_at dksX1_best_1 6 rfl rfl)
theorem dX1_best_31 : decode cX1_best 31 = .ok (.iload_n 3, 1) := dk_29 (dk_at dksX1_best_1 7 rfl rfl)
theorem dX1_best_32 : decode cX1_best 32 = .ok (.aload_n 0, 1) := dk_42 (dk_at dksX1_best_1 8 rfl rfl)
theorem dX1_best_33 : decode cX1_best 33 = .ok (.getfield 134, 3) := dk_180 0 134 (dk_at dksX1_best_1 9 rfl rfl)
theorem dX1_best_36 : decode cX1_best 36 = .ok (.arraylength, 1) := dk_190 (dk_at dksX1_best_1 12 rfl rfl)
theorem dX1_best_37 : decode cX1_best 37 = .ok (.if_icmp .ge 30, 3) := dk_162 0 30 (dk_at dksX1_best_1 13 rfl rfl)
theorem dX1_best_40 : decode cX1_best 40 = .ok (.aload_n 0, 1) := dk_42 (dk_at dksX1_best_1 16 rfl rfl)
theorem dX1_best_41 : decode cX1_best 41 = .ok (.iload_n 3, 1) := dk_29 (dk_at dksX1_best_1 17 rfl rfl)
theorem dX1_best_42 : decode cX1_best 42 = .ok (.invokevirtual 409, 3) := dk_182 1 153 (dk_at dksX1_best_1 18 rfl rfl)
theorem dX1_best_45 : decode cX1_best 45 = .ok (.istore 4, 2) := dk_54 4 (dk_at dksX1_best_1 21 rfl rfl)
theorem dX1_best_47 : decode cX1_best 47 = .ok (.iload 4, 2) := dk_21 4 (dk_at dksX1_best_2 0 rfl rfl)
theorem dX1_best_49 : decode cX1_best 49 = .ok (.iload_n 2, 1) := dk_28 (dk_at dksX1_best_2 2 rfl rfl)
theorem dX1_best_50 : decode cX1_best 50 = .ok (.if_icmp .lt 6, 3) := dk_161 0 6 (dk_at dksX1_best_2 3 rfl rfl)
theorem dX1_best_53 : decode cX1_best 53 = .ok (.goto 8, 3) := dk_167 0 8 (dk_at dksX1_best_2 6 rfl rfl)
theorem dX1_best_56 : decode cX1_best 56 = .ok (.iload 4, 2) := dk_21 4 (dk_at dksX1_best_2 9 rfl rfl)
theorem dX1_best_58 : decode cX1_best 58 = .ok (.istore_n 2, 1) := dk_61 (dk_at dksX1_best_2 11 rfl rfl)
theorem dX1_best_59 : decode cX1_best 59 = .ok (.iload_n 3, 1) := dk_29 (dk_at dksX1_best_2 12 rfl rfl)
theorem dX1_best_60 : decode cX1_best 60 = .ok (.istore_n 1, 1) := dk_60 (dk_at dksX1_best_2 13 rfl rfl)
theorem dX1_best_61 : decode cX1_best 61 = .ok (.iinc 3 1, 3) := dk_132 3 1 (dk_at dksX1_best_2 14 rfl rfl)
theorem dX1_best_64 : decode cX1_best 64 = .ok (.goto (-33), 3) := dk_167 255 223 (dk_at dksX1_best_2 17 rfl rfl)
theorem dX1_best_67 : decode cX1_best 67 = .ok (.aload_n 0, 1) := dk_42 (dk_at dksX1_best_2 20 rfl rfl)
theorem dX1_best_68 : decode cX1_best 68 = .ok (.getfield 73, 3) := dk_180 0 73 (dk_at dksX1_best_2 21 rfl rfl)
theorem dX1_best_71 : decode cX1_best 71 = .ok (.aload_n 0, 1) := dk_42 (dk_at dksX1_best_3 0 rfl rfl)
theorem dX1_best_72 : decode cX1_best 72 = .ok (.getfield 77, 3) := dk_180 0 77 (dk_at dksX1_best_3 1 rfl rfl)
theorem dX1_best_75 : decode cX1_best 75 = .ok (.invokevirtual 273, 3) := dk_182 1 17 (dk_at dksX1_best_3 4 rfl rfl)
theorem dX1_best_78 : decode cX1_best 78 = .ok (.iload_n 1, 1) := dk_27 (dk_at dksX1_best_3 7 rfl rfl)
theorem dX1_best_79 : decode cX1_best 79 = .ok (.ireturn, 1) := dk_172 (dk_at dksX1_best_3 8 rfl rfl)
abbrev cX1_alike : ByteArray := prog_1_method_59_code
def yX1_alike : MethodName := ⟨RX1, "alike", "(II)I"⟩
def dkwX1_alike_0 : List UInt8 := [27, 28, 184, 1, 160, 153, 0, 11, 27, 28, 184, 1, 163, 167, 0, 4, 2, 172]
abbrev dktX1_alike_0 : List UInt8 := dkwX1_alike_0 ++ []
theorem dksX1_alike_0 : cX1_alike.data.toList.drop 0 = dktX1_alike_0 := by decide +kernel
theorem dX1_alike_0 : decode cX1_alike 0 = .ok (.iload_n 1, 1) := dk_27 (dk_at dksX1_alike_0 0 rfl rfl)
theorem dX1_alike_1 : decode cX1_alike 1 = .ok (.iload_n 2, 1) := dk_28 (dk_at dksX1_alike_0 1 rfl rfl)
theorem dX1_alike_2 : decode cX1_alike 2 = .ok (.invokestatic 416, 3) := dk_184 1 160 (dk_at dksX1_alike_0 2 rfl rfl)
theorem dX1_alike_5 : decode cX1_alike 5 = .ok (.ifCond .eq 11, 3) := dk_153 0 11 (dk_at dksX1_alike_0 5 rfl rfl)
theorem dX1_alike_8 : decode cX1_alike 8 = .ok (.iload_n 1, 1) := dk_27 (dk_at dksX1_alike_0 8 rfl rfl)
theorem dX1_alike_9 : decode cX1_alike 9 = .ok (.iload_n 2, 1) := dk_28 (dk_at dksX1_alike_0 9 rfl rfl)
theorem dX1_alike_10 : decode cX1_alike 10 = .ok (.invokestatic 419, 3) := dk_184 1 163 (dk_at dksX1_alike_0 10 rfl rfl)
theorem dX1_alike_13 : decode cX1_alike 13 = .ok (.goto 4, 3) := dk_167 0 4 (dk_at dksX1_alike_0 13 rfl rfl)
theorem dX1_alike_16 : decode cX1_alike 16 = .ok (.iconst (-1), 1) := dk_2 (dk_at dksX1_alike_0 16 rfl rfl)
theorem dX1_alike_17 : decode cX1_alike 17 = .ok (.ireturn, 1) := dk_172 (dk_at dksX1_alike_0 17 rfl rfl)
abbrev cX1_areAlike : ByteArray := prog_1_method_58_code
def yX1_areAlike : MethodName := ⟨RX1, "areAlike", "(II)Z"⟩
def dkwX1_areAlike_1 : List UInt8 := [167, 0, 4, 3, 172]
abbrev dktX1_areAlike_1 : List UInt8 := dkwX1_areAlike_1 ++ []
def dkwX1_areAlike_0 : List UInt8 := [26, 4, 17, 15, 160, 184, 0, 231, 153, 0, 17, 27, 4, 16, 60, 184, 0, 231, 153, 0, 7, 4]
abbrev dktX1_areAlike_0 : List UInt8 := dkwX1_areAlike_0 ++ dktX1_areAlike_1
theorem dksX1_areAlike_0 : cX1_areAlike.data.toList.drop 0 = dktX1_areAlike_0 := by decide +kernel
theorem dksX1_areAlike_1 : cX1_areAlike.data.toList.drop 22 = dktX1_areAlike_1 := dk_seg dksX1_areAlike_0 22 rfl rfl
theorem dX1_areAlike_0 : decode cX1_areAlike 0 = .ok (.iload_n 0, 1) := dk_26 (dk_at dksX1_areAlike_0 0 rfl rfl)
theorem dX1_areAlike_1 : decode cX1_areAlike 1 = .ok (.iconst 1, 1) := dk_4 (dk_at dksX1_areAlike_0 1 rfl rfl)
theorem dX1_areAlike_2 : decode cX1_areAlike 2 = .ok (.sipush 4000, 3) := dk_17 15 160 (dk_at dksX1_areAlike_0 2 rfl rfl)
theorem dX1_areAlike_5 : decode cX1_areAlike 5 = .ok (.invokestatic 231, 3) := dk_184 0 231 (dk_at dksX1_areAlike_0 5 rfl rfl)
theorem dX1_areAlike_8 : decode cX1_areAlike 8 = .ok (.ifCond .eq 17, 3) := dk_153 0 17 (dk_at dksX1_areAlike_0 8 rfl rfl)
theorem dX1_areAlike_11 : decode cX1_areAlike 11 = .ok (.iload_n 1, 1) := dk_27 (dk_at dksX1_areAlike_0 11 rfl rfl)
theorem dX1_areAlike_12 : decode cX1_areAlike 12 = .ok (.iconst 1, 1) := dk_4 (dk_at dksX1_areAlike_0 12 rfl rfl)
theorem dX1_areAlike_13 : decode cX1_areAlike 13 = .ok (.bipush 60, 2) := dk_16 60 (dk_at dksX1_areAlike_0 13 rfl rfl)
theorem dX1_areAlike_15 : decode cX1_areAlike 15 = .ok (.invokestatic 231, 3) := dk_184 0 231 (dk_at dksX1_areAlike_0 15 rfl rfl)
theorem dX1_areAlike_18 : decode cX1_areAlike 18 = .ok (.ifCond .eq 7, 3) := dk_153 0 7 (dk_at dksX1_areAlike_0 18 rfl rfl)
theorem dX1_areAlike_21 : decode cX1_areAlike 21 = .ok (.iconst 1, 1) := dk_4 (dk_at dksX1_areAlike_0 21 rfl rfl)
theorem dX1_areAlike_22 : decode cX1_areAlike 22 = .ok (.goto 4, 3) := dk_167 0 4 (dk_at dksX1_areAlike_1 0 rfl rfl)
theorem dX1_areAlike_25 : decode cX1_areAlike 25 = .ok (.iconst 0, 1) := dk_3 (dk_at dksX1_areAlike_1 3 rfl rfl)
theorem dX1_areAlike_26 : decode cX1_areAlike 26 = .ok (.ireturn, 1) := dk_172 (dk_at dksX1_areAlike_1 4 rfl rfl)
abbrev cX1_alikeTime : ByteArray := prog_1_method_57_code
def yX1_alikeTime : MethodName := ⟨RX1, "alikeTime", "(II)I"⟩
def dkwX1_alikeTime_0 : List UInt8 := [5, 5, 26, 104, 27, 96, 4, 100, 27, 108, 184, 1, 99, 172]
abbrev dktX1_alikeTime_0 : List UInt8 := dkwX1_alikeTime_0 ++ []
theorem dksX1_alikeTime_0 : cX1_alikeTime.data.toList.drop 0 = dktX1_alikeTime_0 := by decide +kernel
theorem dX1_alikeTime_0 : decode cX1_alikeTime 0 = .ok (.iconst 2, 1) := dk_5 (dk_at dksX1_alikeTime_0 0 rfl rfl)
theorem dX1_alikeTime_1 : decode cX1_alikeTime 1 = .ok (.iconst 2, 1) := dk_5 (dk_at dksX1_alikeTime_0 1 rfl rfl)
theorem dX1_alikeTime_2 : decode cX1_alikeTime 2 = .ok (.iload_n 0, 1) := dk_26 (dk_at dksX1_alikeTime_0 2 rfl rfl)
theorem dX1_alikeTime_3 : decode cX1_alikeTime 3 = .ok (.imul, 1) := dk_104 (dk_at dksX1_alikeTime_0 3 rfl rfl)
theorem dX1_alikeTime_4 : decode cX1_alikeTime 4 = .ok (.iload_n 1, 1) := dk_27 (dk_at dksX1_alikeTime_0 4 rfl rfl)
theorem dX1_alikeTime_5 : decode cX1_alikeTime 5 = .ok (.iadd, 1) := dk_96 (dk_at dksX1_alikeTime_0 5 rfl rfl)
theorem dX1_alikeTime_6 : decode cX1_alikeTime 6 = .ok (.iconst 1, 1) := dk_4 (dk_at dksX1_alikeTime_0 6 rfl rfl)
theorem dX1_alikeTime_7 : decode cX1_alikeTime 7 = .ok (.isub, 1) := dk_100 (dk_at dksX1_alikeTime_0 7 rfl rfl)
theorem dX1_alikeTime_8 : decode cX1_alikeTime 8 = .ok (.iload_n 1, 1) := dk_27 (dk_at dksX1_alikeTime_0 8 rfl rfl)
theorem dX1_alikeTime_9 : decode cX1_alikeTime 9 = .ok (.idiv, 1) := dk_108 (dk_at dksX1_alikeTime_0 9 rfl rfl)
theorem dX1_alikeTime_10 : decode cX1_alikeTime 10 = .ok (.invokestatic 355, 3) := dk_184 1 99 (dk_at dksX1_alikeTime_0 10 rfl rfl)
theorem dX1_alikeTime_13 : decode cX1_alikeTime 13 = .ok (.ireturn, 1) := dk_172 (dk_at dksX1_alikeTime_0 13 rfl rfl)
abbrev cX1_alikeAt : ByteArray := prog_1_method_60_code
def yX1_alikeAt : MethodName := ⟨RX1, "alikeAt", "(IIII)I"⟩
def dkwX1_alikeAt_2 : List UInt8 := [54, 5, 21, 5, 5, 27, 104, 162, 0, 8, 21, 5, 167, 0, 4, 2, 172]
abbrev dktX1_alikeAt_2 : List UInt8 := dkwX1_alikeAt_2 ++ []
def dkwX1_alikeAt_1 : List UInt8 := [184, 1, 163, 4, 100, 184, 0, 231, 154, 0, 5, 2, 172, 21, 4, 27, 28, 184, 1, 163, 104, 29, 96]
abbrev dktX1_alikeAt_1 : List UInt8 := dkwX1_alikeAt_1 ++ dktX1_alikeAt_2
def dkwX1_alikeAt_0 : List UInt8 := [27, 28, 184, 1, 160, 153, 0, 30, 21, 4, 3, 28, 4, 100, 184, 0, 231, 153, 0, 18, 29, 3, 27, 28]
abbrev dktX1_alikeAt_0 : List UInt8 := dkwX1_alikeAt_0 ++ dktX1_alikeAt_1
theorem dksX1_alikeAt_0 : cX1_alikeAt.data.toList.drop 0 = dktX1_alikeAt_0 := by decide +kernel
theorem dksX1_alikeAt_1 : cX1_alikeAt.data.toList.drop 24 = dktX1_alikeAt_1 := dk_seg dksX1_alikeAt_0 24 rfl rfl
theorem dksX1_alikeAt_2 : cX1_alikeAt.data.toList.drop 47 = dktX1_alikeAt_2 := dk_seg dksX1_alikeAt_1 23 rfl rfl
theorem dX1_alikeAt_0 : decode cX1_alikeAt 0 = .ok (.iload_n 1, 1) := dk_27 (dk_at dksX1_alikeAt_0 0 rfl rfl)
theorem dX1_alikeAt_1 : decode cX1_alikeAt 1 = .ok (.iload_n 2, 1) := dk_28 (dk_at dksX1_alikeAt_0 1 rfl rfl)
theorem dX1_alikeAt_2 : decode cX1_alikeAt 2 = .ok (.invokestatic 416, 3) := dk_184 1 160 (dk_at dksX1_alikeAt_0 2 rfl rfl)
theorem dX1_alikeAt_5 : decode cX1_alikeAt 5 = .ok (.ifCond .eq 30, 3) := dk_153 0 30 (dk_at dksX1_alikeAt_0 5 rfl rfl)
theorem dX1_alikeAt_8 : decode cX1_alikeAt 8 = .ok (.iload 4, 2) := dk_21 4 (dk_at dksX1_alikeAt_0 8 rfl rfl)
theorem dX1_alikeAt_10 : decode cX1_alikeAt 10 = .ok (.iconst 0, 1) := dk_3 (dk_at dksX1_alikeAt_0 10 rfl rfl)
theorem dX1_alikeAt_11 : decode cX1_alikeAt 11 = .ok (.iload_n 2, 1) := dk_28 (dk_at dksX1_alikeAt_0 11 rfl rfl)
theorem dX1_alikeAt_12 : decode cX1_alikeAt 12 = .ok (.iconst 1, 1) := dk_4 (dk_at dksX1_alikeAt_0 12 rfl rfl)
theorem dX1_alikeAt_13 : decode cX1_alikeAt 13 = .ok (.isub, 1) := dk_100 (dk_at dksX1_alikeAt_0 13 rfl rfl)
theorem dX1_alikeAt_14 : decode cX1_alikeAt 14 = .ok (.invokestatic 231, 3) := dk_184 0 231 (dk_at dksX1_alikeAt_0 14 rfl rfl)
theorem dX1_alikeAt_17 : decode cX1_alikeAt 17 = .ok (.ifCond .eq 18, 3) := dk_153 0 18 (dk_at dksX1_alikeAt_0 17 rfl rfl)
theorem dX1_alikeAt_20 : decode cX1_alikeAt 20 = .ok (.iload_n 3, 1) := dk_29 (dk_at dksX1_alikeAt_0 20 rfl rfl)
theorem dX1_alikeAt_21 : decode cX1_alikeAt 21 = .ok (.iconst 0, 1) := dk_3 (dk_at dksX1_alikeAt_0 21 rfl rfl)
theorem dX1_alikeAt_22 : decode cX1_alikeAt 22 = .ok (.iload_n 1, 1) := dk_27 (dk_at dksX1_alikeAt_0 22 rfl rfl)
theorem dX1_alikeAt_23 : decode cX1_alikeAt 23 = .ok (.iload_n 2, 1) := dk_28 (dk_at dksX1_alikeAt_0 23 rfl rfl)
theorem dX1_alikeAt_24 : decode cX1_alikeAt 24 = .ok (.invokestatic 419, 3) := dk_184 1 163 (dk_at dksX1_alikeAt_1 0 rfl rfl)
theorem dX1_alikeAt_27 : decode cX1_alikeAt 27 = .ok (.iconst 1, 1) := dk_4 (dk_at dksX1_alikeAt_1 3 rfl rfl)
theorem dX1_alikeAt_28 : decode cX1_alikeAt 28 = .ok (.isub, 1) := dk_100 (dk_at dksX1_alikeAt_1 4 rfl rfl)
theorem dX1_alikeAt_29 : decode cX1_alikeAt 29 = .ok (.invokestatic 231, 3) := dk_184 0 231 (dk_at dksX1_alikeAt_1 5 rfl rfl)
theorem dX1_alikeAt_32 : decode cX1_alikeAt 32 = .ok (.ifCond .ne 5, 3) := dk_154 0 5 (dk_at dksX1_alikeAt_1 8 rfl rfl)
theorem dX1_alikeAt_35 : decode cX1_alikeAt 35 = .ok (.iconst (-1), 1) := dk_2 (dk_at dksX1_alikeAt_1 11 rfl rfl)
theorem dX1_alikeAt_36 : decode cX1_alikeAt 36 = .ok (.ireturn, 1) := dk_172 (dk_at dksX1_alikeAt_1 12 rfl rfl)
theorem dX1_alikeAt_37 : decode cX1_alikeAt 37 = .ok (.iload 4, 2) := dk_21 4 (dk_at dksX1_alikeAt_1 13 rfl rfl)
theorem dX1_alikeAt_39 : decode cX1_alikeAt 39 = .ok (.iload_n 1, 1) := dk_27 (dk_at dksX1_alikeAt_1 15 rfl rfl)
theorem dX1_alikeAt_40 : decode cX1_alikeAt 40 = .ok (.iload_n 2, 1) := dk_28 (dk_at dksX1_alikeAt_1 16 rfl rfl)
theorem dX1_alikeAt_41 : decode cX1_alikeAt 41 = .ok (.invokestatic 419, 3) := dk_184 1 163 (dk_at dksX1_alikeAt_1 17 rfl rfl)
theorem dX1_alikeAt_44 : decode cX1_alikeAt 44 = .ok (.imul, 1) := dk_104 (dk_at dksX1_alikeAt_1 20 rfl rfl)
theorem dX1_alikeAt_45 : decode cX1_alikeAt 45 = .ok (.iload_n 3, 1) := dk_29 (dk_at dksX1_alikeAt_1 21 rfl rfl)
theorem dX1_alikeAt_46 : decode cX1_alikeAt 46 = .ok (.iadd, 1) := dk_96 (dk_at dksX1_alikeAt_1 22 rfl rfl)
theorem dX1_alikeAt_47 : decode cX1_alikeAt 47 = .ok (.istore 5, 2) := dk_54 5 (dk_at dksX1_alikeAt_2 0 rfl rfl)
theorem dX1_alikeAt_49 : decode cX1_alikeAt 49 = .ok (.iload 5, 2) := dk_21 5 (dk_at dksX1_alikeAt_2 2 rfl rfl)
theorem dX1_alikeAt_51 : decode cX1_alikeAt 51 = .ok (.iconst 2, 1) := dk_5 (dk_at dksX1_alikeAt_2 4 rfl rfl)
theorem dX1_alikeAt_52 : decode cX1_alikeAt 52 = .ok (.iload_n 1, 1) := dk_27 (dk_at dksX1_alikeAt_2 5 rfl rfl)
theorem dX1_alikeAt_53 : decode cX1_alikeAt 53 = .ok (.imul, 1) := dk_104 (dk_at dksX1_alikeAt_2 6 rfl rfl)
theorem dX1_alikeAt_54 : decode cX1_alikeAt 54 = .ok (.if_icmp .ge 8, 3) := dk_162 0 8 (dk_at dksX1_alikeAt_2 7 rfl rfl)
theorem dX1_alikeAt_57 : decode cX1_alikeAt 57 = .ok (.iload 5, 2) := dk_21 5 (dk_at dksX1_alikeAt_2 10 rfl rfl)
theorem dX1_alikeAt_59 : decode cX1_alikeAt 59 = .ok (.goto 4, 3) := dk_167 0 4 (dk_at dksX1_alikeAt_2 12 rfl rfl)
theorem dX1_alikeAt_62 : decode cX1_alikeAt 62 = .ok (.iconst (-1), 1) := dk_2 (dk_at dksX1_alikeAt_2 15 rfl rfl)
theorem dX1_alikeAt_63 : decode cX1_alikeAt 63 = .ok (.ireturn, 1) := dk_172 (dk_at dksX1_alikeAt_2 16 rfl rfl)
abbrev cX1_served : ByteArray := prog_1_method_63_code
def yX1_served : MethodName := ⟨RX1, "served", "(I)I"⟩
def dkwX1_served_17 : List UInt8 := [21, 7, 128, 54, 5, 132, 6, 1, 167, 255, 120, 42, 180, 0, 153, 3, 46, 172]
abbrev dktX1_served_17 : List UInt8 := dkwX1_served_17 ++ []
def dkwX1_served_16 : List UInt8 := [153, 0, 16, 42, 180, 0, 156, 21, 8, 27, 21, 6, 4, 96, 104, 79, 132, 8, 1, 167, 255, 224, 21, 5]
abbrev dktX1_served_16 : List UInt8 := dkwX1_served_16 ++ dktX1_served_17
def dkwX1_served_15 : List UInt8 := [132, 7, 1, 167, 255, 180, 3, 54, 8, 21, 8, 29, 162, 0, 32, 21, 7, 21, 8, 184, 1, 168]
abbrev dktX1_served_15 : List UInt8 := dkwX1_served_15 ++ dktX1_served_16
def dkwX1_served_14 : List UInt8 := [21, 7, 128, 96, 46, 96, 42, 180, 0, 153, 17, 1, 0, 21, 6, 104, 21, 5, 96, 46, 159, 0, 9]
abbrev dktX1_served_14 : List UInt8 := dkwX1_served_14 ++ dktX1_served_15
def dkwX1_served_13 : List UInt8 := [27, 21, 6, 4, 96, 104, 29, 182, 1, 179, 42, 180, 0, 153, 17, 1, 0, 21, 6, 4, 96, 104, 21, 5]
abbrev dktX1_served_13 : List UInt8 := dkwX1_served_13 ++ dktX1_served_14
def dkwX1_served_12 : List UInt8 := [21, 5, 126, 154, 0, 68, 21, 7, 184, 1, 174, 42, 180, 0, 66, 180, 1, 76, 163, 0, 53, 42, 21, 7]
abbrev dktX1_served_12 : List UInt8 := dkwX1_served_12 ++ dktX1_served_13
def dkwX1_served_11 : List UInt8 := [132, 5, 1, 167, 255, 238, 3, 54, 5, 3, 54, 6, 21, 6, 28, 162, 0, 136, 3, 54, 7, 21, 7]
abbrev dktX1_served_11 : List UInt8 := dkwX1_served_11 ++ dktX1_served_12
def dkwX1_served_10 : List UInt8 := [42, 29, 181, 0, 159, 3, 54, 5, 21, 5, 16, 8, 162, 0, 17, 42, 180, 0, 156, 21, 5, 2, 79]
abbrev dktX1_served_10 : List UInt8 := dkwX1_served_10 ++ dktX1_served_11
def dkwX1_served_9 : List UInt8 := [17, 1, 0, 21, 5, 104, 21, 6, 96, 21, 7, 79, 132, 6, 1, 167, 255, 139, 132, 5, 255, 167, 255, 125]
abbrev dktX1_served_9 : List UInt8 := dkwX1_served_9 ++ dktX1_served_10
def dkwX1_served_8 : List UInt8 := [154, 0, 6, 167, 0, 15, 21, 9, 4, 100, 21, 8, 126, 54, 9, 167, 255, 184, 42, 180, 0, 153]
abbrev dktX1_served_8 : List UInt8 := dkwX1_served_8 ++ dktX1_served_9
def dkwX1_served_7 : List UInt8 := [17, 1, 0, 21, 5, 4, 96, 104, 21, 6, 21, 9, 128, 96, 46, 96, 184, 1, 99, 54, 7, 21, 9]
abbrev dktX1_served_7 : List UInt8 := dkwX1_served_7 ++ dktX1_served_8
def dkwX1_served_6 : List UInt8 := [163, 0, 43, 21, 7, 42, 21, 9, 27, 21, 5, 4, 96, 104, 29, 182, 1, 179, 42, 180, 0, 153]
abbrev dktX1_served_6 : List UInt8 := dkwX1_served_6 ++ dktX1_served_7
def dkwX1_served_5 : List UInt8 := [21, 6, 2, 130, 126, 54, 8, 21, 8, 54, 9, 21, 9, 184, 1, 174, 42, 180, 0, 66, 180, 1, 76]
abbrev dktX1_served_5 : List UInt8 := dkwX1_served_5 ++ dktX1_served_6
def dkwX1_served_4 : List UInt8 := [4, 100, 54, 5, 21, 5, 155, 0, 132, 3, 54, 6, 21, 6, 21, 4, 163, 0, 116, 3, 54, 7, 21, 4]
abbrev dktX1_served_4 : List UInt8 := dkwX1_served_4 ++ dktX1_served_5
def dkwX1_served_3 : List UInt8 := [163, 0, 23, 42, 180, 0, 153, 17, 1, 0, 28, 104, 21, 5, 96, 3, 79, 132, 5, 1, 167, 255, 232, 28]
abbrev dktX1_served_3 : List UInt8 := dkwX1_served_3 ++ dktX1_served_4
def dkwX1_served_2 : List UInt8 := [17, 1, 0, 104, 188, 10, 181, 0, 153, 4, 29, 120, 4, 100, 54, 4, 3, 54, 5, 21, 5, 21, 4]
abbrev dktX1_served_2 : List UInt8 := dkwX1_served_2 ++ dktX1_served_3
def dkwX1_served_1 : List UInt8 := [180, 0, 249, 62, 42, 180, 0, 153, 190, 28, 4, 96, 17, 1, 0, 104, 162, 0, 16, 42, 28, 4, 96]
abbrev dktX1_served_1 : List UInt8 := dkwX1_served_1 ++ dktX1_served_2
def dkwX1_served_0 : List UInt8 := [27, 4, 16, 40, 184, 0, 231, 154, 0, 5, 2, 172, 17, 1, 84, 27, 108, 4, 96, 61, 42, 180, 0, 66]
abbrev dktX1_served_0 : List UInt8 := dkwX1_served_0 ++ dktX1_served_1
theorem dksX1_served_0 : cX1_served.data.toList.drop 0 = dktX1_served_0 := by decide +kernel
theorem dksX1_served_1 : cX1_served.data.toList.drop 24 = dktX1_served_1 := dk_seg dksX1_served_0 24 rfl rfl
theorem dksX1_served_2 : cX1_served.data.toList.drop 47 = dktX1_served_2 := dk_seg dksX1_served_1 23 rfl rfl
theorem dksX1_served_3 : cX1_served.data.toList.drop 70 = dktX1_served_3 := dk_seg dksX1_served_2 23 rfl rfl
theorem dksX1_served_4 : cX1_served.data.toList.drop 94 = dktX1_served_4 := dk_seg dksX1_served_3 24 rfl rfl
theorem dksX1_served_5 : cX1_served.data.toList.drop 118 = dktX1_served_5 := dk_seg dksX1_served_4 24 rfl rfl
theorem dksX1_served_6 : cX1_served.data.toList.drop 141 = dktX1_served_6 := dk_seg dksX1_served_5 23 rfl rfl
theorem dksX1_served_7 : cX1_served.data.toList.drop 163 = dktX1_served_7 := dk_seg dksX1_served_6 22 rfl rfl
theorem dksX1_served_8 : cX1_served.data.toList.drop 186 = dktX1_served_8 := dk_seg dksX1_served_7 23 rfl rfl
theorem dksX1_served_9 : cX1_served.data.toList.drop 208 = dktX1_served_9 := dk_seg dksX1_served_8 22 rfl rfl
theorem dksX1_served_10 : cX1_served.data.toList.drop 232 = dktX1_served_10 := dk_seg dksX1_served_9 24 rfl rfl
theorem dksX1_served_11 : cX1_served.data.toList.drop 255 = dktX1_served_11 := dk_seg dksX1_served_10 23 rfl rfl
theorem dksX1_served_12 : cX1_served.data.toList.drop 278 = dktX1_served_12 := dk_seg dksX1_served_11 23 rfl rfl
theorem dksX1_served_13 : cX1_served.data.toList.drop 302 = dktX1_served_13 := dk_seg dksX1_served_12 24 rfl rfl
theorem dksX1_served_14 : cX1_served.data.toList.drop 326 = dktX1_served_14 := dk_seg dksX1_served_13 24 rfl rfl
theorem dksX1_served_15 : cX1_served.data.toList.drop 349 = dktX1_served_15 := dk_seg dksX1_served_14 23 rfl rfl
theorem dksX1_served_16 : cX1_served.data.toList.drop 371 = dktX1_served_16 := dk_seg dksX1_served_15 22 rfl rfl
theorem dksX1_served_17 : cX1_served.data.toList.drop 395 = dktX1_served_17 := dk_seg dksX1_served_16 24 rfl rfl
theorem dX1_served_0 : decode cX1_served 0 = .ok (.iload_n 1, 1) := dk_27 (dk_at dksX1_served_0 0 rfl rfl)
theorem dX1_served_1 : decode cX1_served 1 = .ok (.iconst 1, 1) := dk_4 (dk_at dksX1_served_0 1 rfl rfl)
theorem dX1_served_2 : decode cX1_served 2 = .ok (.bipush 40, 2) := dk_16 40 (dk_at dksX1_served_0 2 rfl rfl)
theorem dX1_served_4 : decode cX1_served 4 = .ok (.invokestatic 231, 3) := dk_184 0 231 (dk_at dksX1_served_0 4 rfl rfl)
theorem dX1_served_7 : decode cX1_served 7 = .ok (.ifCond .ne 5, 3) := dk_154 0 5 (dk_at dksX1_served_0 7 rfl rfl)
theorem dX1_served_10 : decode cX1_served 10 = .ok (.iconst (-1), 1) := dk_2 (dk_at dksX1_served_0 10 rfl rfl)
theorem dX1_served_11 : decode cX1_served 11 = .ok (.ireturn, 1) := dk_172 (dk_at dksX1_served_0 11 rfl rfl)
theorem dX1_served_12 : decode cX1_served 12 = .ok (.sipush 340, 3) := dk_17 1 84 (dk_at dksX1_served_0 12 rfl rfl)
theorem dX1_served_15 : decode cX1_served 15 = .ok (.iload_n 1, 1) := dk_27 (dk_at dksX1_served_0 15 rfl rfl)
theorem dX1_served_16 : decode cX1_served 16 = .ok (.idiv, 1) := dk_108 (dk_at dksX1_served_0 16 rfl rfl)
theorem dX1_served_17 : decode cX1_served 17 = .ok (.iconst 1, 1) := dk_4 (dk_at dksX1_served_0 17 rfl rfl)
theorem dX1_served_18 : decode cX1_served 18 = .ok (.iadd, 1) := dk_96 (dk_at dksX1_served_0 18 rfl rfl)
theorem dX1_served_19 : decode cX1_served 19 = .ok (.istore_n 2, 1) := dk_61 (dk_at dksX1_served_0 19 rfl rfl)
theorem dX1_served_20 : decode cX1_served 20 = .ok (.aload_n 0, 1) := dk_42 (dk_at dksX1_served_0 20 rfl rfl)
theorem dX1_served_21 : decode cX1_served 21 = .ok (.getfield 66, 3) := dk_180 0 66 (dk_at dksX1_served_0 21 rfl rfl)
theorem dX1_served_24 : decode cX1_served 24 = .ok (.getfield 249, 3) := dk_180 0 249 (dk_at dksX1_served_1 0 rfl rfl)
theorem dX1_served_27 : decode cX1_served 27 = .ok (.istore_n 3, 1) := dk_62 (dk_at dksX1_served_1 3 rfl rfl)
theorem dX1_served_28 : decode cX1_served 28 = .ok (.aload_n 0, 1) := dk_42 (dk_at dksX1_served_1 4 rfl rfl)
theorem dX1_served_29 : decode cX1_served 29 = .ok (.getfield 153, 3) := dk_180 0 153 (dk_at dksX1_served_1 5 rfl rfl)
theorem dX1_served_32 : decode cX1_served 32 = .ok (.arraylength, 1) := dk_190 (dk_at dksX1_served_1 8 rfl rfl)
theorem dX1_served_33 : decode cX1_served 33 = .ok (.iload_n 2, 1) := dk_28 (dk_at dksX1_served_1 9 rfl rfl)
theorem dX1_served_34 : decode cX1_served 34 = .ok (.iconst 1, 1) := dk_4 (dk_at dksX1_served_1 10 rfl rfl)
theorem dX1_served_35 : decode cX1_served 35 = .ok (.iadd, 1) := dk_96 (dk_at dksX1_served_1 11 rfl rfl)
theorem dX1_served_36 : decode cX1_served 36 = .ok (.sipush 256, 3) := dk_17 1 0 (dk_at dksX1_served_1 12 rfl rfl)
theorem dX1_served_39 : decode cX1_served 39 = .ok (.imul, 1) := dk_104 (dk_at dksX1_served_1 15 rfl rfl)
theorem dX1_served_40 : decode cX1_served 40 = .ok (.if_icmp .ge 16, 3) := dk_162 0 16 (dk_at dksX1_served_1 16 rfl rfl)
theorem dX1_served_43 : decode cX1_served 43 = .ok (.aload_n 0, 1) := dk_42 (dk_at dksX1_served_1 19 rfl rfl)
theorem dX1_served_44 : decode cX1_served 44 = .ok (.iload_n 2, 1) := dk_28 (dk_at dksX1_served_1 20 rfl rfl)
theorem dX1_served_45 : decode cX1_served 45 = .ok (.iconst 1, 1) := dk_4 (dk_at dksX1_served_1 21 rfl rfl)
theorem dX1_served_46 : decode cX1_served 46 = .ok (.iadd, 1) := dk_96 (dk_at dksX1_served_1 22 rfl rfl)
theorem dX1_served_47 : decode cX1_served 47 = .ok (.sipush 256, 3) := dk_17 1 0 (dk_at dksX1_served_2 0 rfl rfl)
theorem dX1_served_50 : decode cX1_served 50 = .ok (.imul, 1) := dk_104 (dk_at dksX1_served_2 3 rfl rfl)
theorem dX1_served_51 : decode cX1_served 51 = .ok (.newarray .int, 2) := dk_188_10 (dk_at dksX1_served_2 4 rfl rfl)
theorem dX1_served_53 : decode cX1_served 53 = .ok (.putfield 153, 3) := dk_181 0 153 (dk_at dksX1_served_2 6 rfl rfl)
theorem dX1_served_56 : decode cX1_served 56 = .ok (.iconst 1, 1) := dk_4 (dk_at dksX1_served_2 9 rfl rfl)
theorem dX1_served_57 : decode cX1_served 57 = .ok (.iload_n 3, 1) := dk_29 (dk_at dksX1_served_2 10 rfl rfl)
theorem dX1_served_58 : decode cX1_served 58 = .ok (.ishl, 1) := dk_120 (dk_at dksX1_served_2 11 rfl rfl)
theorem dX1_served_59 : decode cX1_served 59 = .ok (.iconst 1, 1) := dk_4 (dk_at dksX1_served_2 12 rfl rfl)
theorem dX1_served_60 : decode cX1_served 60 = .ok (.isub, 1) := dk_100 (dk_at dksX1_served_2 13 rfl rfl)
theorem dX1_served_61 : decode cX1_served 61 = .ok (.istore 4, 2) := dk_54 4 (dk_at dksX1_served_2 14 rfl rfl)
theorem dX1_served_63 : decode cX1_served 63 = .ok (.iconst 0, 1) := dk_3 (dk_at dksX1_served_2 16 rfl rfl)
theorem dX1_served_64 : decode cX1_served 64 = .ok (.istore 5, 2) := dk_54 5 (dk_at dksX1_served_2 17 rfl rfl)
theorem dX1_served_66 : decode cX1_served 66 = .ok (.iload 5, 2) := dk_21 5 (dk_at dksX1_served_2 19 rfl rfl)
theorem dX1_served_68 : decode cX1_served 68 = .ok (.iload 4, 2) := dk_21 4 (dk_at dksX1_served_2 21 rfl rfl)
theorem dX1_served_70 : decode cX1_served 70 = .ok (.if_icmp .gt 23, 3) := dk_163 0 23 (dk_at dksX1_served_3 0 rfl rfl)
theorem dX1_served_73 : decode cX1_served 73 = .ok (.aload_n 0, 1) := dk_42 (dk_at dksX1_served_3 3 rfl rfl)
theorem dX1_served_74 : decode cX1_served 74 = .ok (.getfield 153, 3) := dk_180 0 153 (dk_at dksX1_served_3 4 rfl rfl)
theorem dX1_served_77 : decode cX1_served 77 = .ok (.sipush 256, 3) := dk_17 1 0 (dk_at dksX1_served_3 7 rfl rfl)
theorem dX1_served_80 : decode cX1_served 80 = .ok (.iload_n 2, 1) := dk_28 (dk_at dksX1_served_3 10 rfl rfl)
theorem dX1_served_81 : decode cX1_served 81 = .ok (.imul, 1) := dk_104 (dk_at dksX1_served_3 11 rfl rfl)
theorem dX1_served_82 : decode cX1_served 82 = .ok (.iload 5, 2) := dk_21 5 (dk_at dksX1_served_3 12 rfl rfl)
theorem dX1_served_84 : decode cX1_served 84 = .ok (.iadd, 1) := dk_96 (dk_at dksX1_served_3 14 rfl rfl)
theorem dX1_served_85 : decode cX1_served 85 = .ok (.iconst 0, 1) := dk_3 (dk_at dksX1_served_3 15 rfl rfl)
theorem dX1_served_86 : decode cX1_served 86 = .ok (.iastore, 1) := dk_79 (dk_at dksX1_served_3 16 rfl rfl)
theorem dX1_served_87 : decode cX1_served 87 = .ok (.iinc 5 1, 3) := dk_132 5 1 (dk_at dksX1_served_3 17 rfl rfl)
theorem dX1_served_90 : decode cX1_served 90 = .ok (.goto (-24), 3) := dk_167 255 232 (dk_at dksX1_served_3 20 rfl rfl)
theorem dX1_served_93 : decode cX1_served 93 = .ok (.iload_n 2, 1) := dk_28 (dk_at dksX1_served_3 23 rfl rfl)
theorem dX1_served_94 : decode cX1_served 94 = .ok (.iconst 1, 1) := dk_4 (dk_at dksX1_served_4 0 rfl rfl)
theorem dX1_served_95 : decode cX1_served 95 = .ok (.isub, 1) := dk_100 (dk_at dksX1_served_4 1 rfl rfl)
theorem dX1_served_96 : decode cX1_served 96 = .ok (.istore 5, 2) := dk_54 5 (dk_at dksX1_served_4 2 rfl rfl)
theorem dX1_served_98 : decode cX1_served 98 = .ok (.iload 5, 2) := dk_21 5 (dk_at dksX1_served_4 4 rfl rfl)
theorem dX1_served_100 : decode cX1_served 100 = .ok (.ifCond .lt 132, 3) := dk_155 0 132 (dk_at dksX1_served_4 6 rfl rfl)
theorem dX1_served_103 : decode cX1_served 103 = .ok (.iconst 0, 1) := dk_3 (dk_at dksX1_served_4 9 rfl rfl)
theorem dX1_served_104 : decode cX1_served 104 = .ok (.istore 6, 2) := dk_54 6 (dk_at dksX1_served_4 10 rfl rfl)
theorem dX1_served_106 : decode cX1_served 106 = .ok (.iload 6, 2) := dk_21 6 (dk_at dksX1_served_4 12 rfl rfl)
theorem dX1_served_108 : decode cX1_served 108 = .ok (.iload 4, 2) := dk_21 4 (dk_at dksX1_served_4 14 rfl rfl)
theorem dX1_served_110 : decode cX1_served 110 = .ok (.if_icmp .gt 116, 3) := dk_163 0 116 (dk_at dksX1_served_4 16 rfl rfl)
theorem dX1_served_113 : decode cX1_served 113 = .ok (.iconst 0, 1) := dk_3 (dk_at dksX1_served_4 19 rfl rfl)
theorem dX1_served_114 : decode cX1_served 114 = .ok (.istore 7, 2) := dk_54 7 (dk_at dksX1_served_4 20 rfl rfl)
theorem dX1_served_116 : decode cX1_served 116 = .ok (.iload 4, 2) := dk_21 4 (dk_at dksX1_served_4 22 rfl rfl)
theorem dX1_served_118 : decode cX1_served 118 = .ok (.iload 6, 2) := dk_21 6 (dk_at dksX1_served_5 0 rfl rfl)
theorem dX1_served_120 : decode cX1_served 120 = .ok (.iconst (-1), 1) := dk_2 (dk_at dksX1_served_5 2 rfl rfl)
theorem dX1_served_121 : decode cX1_served 121 = .ok (.ixor, 1) := dk_130 (dk_at dksX1_served_5 3 rfl rfl)
theorem dX1_served_122 : decode cX1_served 122 = .ok (.iand, 1) := dk_126 (dk_at dksX1_served_5 4 rfl rfl)
theorem dX1_served_123 : decode cX1_served 123 = .ok (.istore 8, 2) := dk_54 8 (dk_at dksX1_served_5 5 rfl rfl)
theorem dX1_served_125 : decode cX1_served 125 = .ok (.iload 8, 2) := dk_21 8 (dk_at dksX1_served_5 7 rfl rfl)
theorem dX1_served_127 : decode cX1_served 127 = .ok (.istore 9, 2) := dk_54 9 (dk_at dksX1_served_5 9 rfl rfl)
theorem dX1_served_129 : decode cX1_served 129 = .ok (.iload 9, 2) := dk_21 9 (dk_at dksX1_served_5 11 rfl rfl)
theorem dX1_served_131 : decode cX1_served 131 = .ok (.invokestatic 430, 3) := dk_184 1 174 (dk_at dksX1_served_5 13 rfl rfl)
theorem dX1_served_134 : decode cX1_served 134 = .ok (.aload_n 0, 1) := dk_42 (dk_at dksX1_served_5 16 rfl rfl)
theorem dX1_served_135 : decode cX1_served 135 = .ok (.getfield 66, 3) := dk_180 0 66 (dk_at dksX1_served_5 17 rfl rfl)
theorem dX1_served_138 : decode cX1_served 138 = .ok (.getfield 332, 3) := dk_180 1 76 (dk_at dksX1_served_5 20 rfl rfl)
theorem dX1_served_141 : decode cX1_served 141 = .ok (.if_icmp .gt 43, 3) := dk_163 0 43 (dk_at dksX1_served_6 0 rfl rfl)
theorem dX1_served_144 : decode cX1_served 144 = .ok (.iload 7, 2) := dk_21 7 (dk_at dksX1_served_6 3 rfl rfl)
theorem dX1_served_146 : decode cX1_served 146 = .ok (.aload_n 0, 1) := dk_42 (dk_at dksX1_served_6 5 rfl rfl)
theorem dX1_served_147 : decode cX1_served 147 = .ok (.iload 9, 2) := dk_21 9 (dk_at dksX1_served_6 6 rfl rfl)
theorem dX1_served_149 : decode cX1_served 149 = .ok (.iload_n 1, 1) := dk_27 (dk_at dksX1_served_6 8 rfl rfl)
theorem dX1_served_150 : decode cX1_served 150 = .ok (.iload 5, 2) := dk_21 5 (dk_at dksX1_served_6 9 rfl rfl)
theorem dX1_served_152 : decode cX1_served 152 = .ok (.iconst 1, 1) := dk_4 (dk_at dksX1_served_6 11 rfl rfl)
theorem dX1_served_153 : decode cX1_served 153 = .ok (.iadd, 1) := dk_96 (dk_at dksX1_served_6 12 rfl rfl)
theorem dX1_served_154 : decode cX1_served 154 = .ok (.imul, 1) := dk_104 (dk_at dksX1_served_6 13 rfl rfl)
theorem dX1_served_155 : decode cX1_served 155 = .ok (.iload_n 3, 1) := dk_29 (dk_at dksX1_served_6 14 rfl rfl)
theorem dX1_served_156 : decode cX1_served 156 = .ok (.invokevirtual 435, 3) := dk_182 1 179 (dk_at dksX1_served_6 15 rfl rfl)
theorem dX1_served_159 : decode cX1_served 159 = .ok (.aload_n 0, 1) := dk_42 (dk_at dksX1_served_6 18 rfl rfl)
theorem dX1_served_160 : decode cX1_served 160 = .ok (.getfield 153, 3) := dk_180 0 153 (dk_at dksX1_served_6 19 rfl rfl)
theorem dX1_served_163 : decode cX1_served 163 = .ok (.sipush 256, 3) := dk_17 1 0 (dk_at dksX1_served_7 0 rfl rfl)
theorem dX1_served_166 : decode cX1_served 166 = .ok (.iload 5, 2) := dk_21 5 (dk_at dksX1_served_7 3 rfl rfl)
theorem dX1_served_168 : decode cX1_served 168 = .ok (.iconst 1, 1) := dk_4 (dk_at dksX1_served_7 5 rfl rfl)
theorem dX1_served_169 : decode cX1_served 169 = .ok (.iadd, 1) := dk_96 (dk_at dksX1_served_7 6 rfl rfl)
theorem dX1_served_170 : decode cX1_served 170 = .ok (.imul, 1) := dk_104 (dk_at dksX1_served_7 7 rfl rfl)
theorem dX1_served_171 : decode cX1_served 171 = .ok (.iload 6, 2) := dk_21 6 (dk_at dksX1_served_7 8 rfl rfl)
theorem dX1_served_173 : decode cX1_served 173 = .ok (.iload 9, 2) := dk_21 9 (dk_at dksX1_served_7 10 rfl rfl)
theorem dX1_served_175 : decode cX1_served 175 = .ok (.ior, 1) := dk_128 (dk_at dksX1_served_7 12 rfl rfl)
theorem dX1_served_176 : decode cX1_served 176 = .ok (.iadd, 1) := dk_96 (dk_at dksX1_served_7 13 rfl rfl)
theorem dX1_served_177 : decode cX1_served 177 = .ok (.iaload, 1) := dk_46 (dk_at dksX1_served_7 14 rfl rfl)
theorem dX1_served_178 : decode cX1_served 178 = .ok (.iadd, 1) := dk_96 (dk_at dksX1_served_7 15 rfl rfl)
theorem dX1_served_179 : decode cX1_served 179 = .ok (.invokestatic 355, 3) := dk_184 1 99 (dk_at dksX1_served_7 16 rfl rfl)
theorem dX1_served_182 : decode cX1_served 182 = .ok (.istore 7, 2) := dk_54 7 (dk_at dksX1_served_7 19 rfl rfl)
theorem dX1_served_184 : decode cX1_served 184 = .ok (.iload 9, 2) := dk_21 9 (dk_at dksX1_served_7 21 rfl rfl)
theorem dX1_served_186 : decode cX1_served 186 = .ok (.ifCond .ne 6, 3) := dk_154 0 6 (dk_at dksX1_served_8 0 rfl rfl)
theorem dX1_served_189 : decode cX1_served 189 = .ok (.goto 15, 3) := dk_167 0 15 (dk_at dksX1_served_8 3 rfl rfl)
theorem dX1_served_192 : decode cX1_served 192 = .ok (.iload 9, 2) := dk_21 9 (dk_at dksX1_served_8 6 rfl rfl)
theorem dX1_served_194 : decode cX1_served 194 = .ok (.iconst 1, 1) := dk_4 (dk_at dksX1_served_8 8 rfl rfl)
theorem dX1_served_195 : decode cX1_served 195 = .ok (.isub, 1) := dk_100 (dk_at dksX1_served_8 9 rfl rfl)
theorem dX1_served_196 : decode cX1_served 196 = .ok (.iload 8, 2) := dk_21 8 (dk_at dksX1_served_8 10 rfl rfl)
theorem dX1_served_198 : decode cX1_served 198 = .ok (.iand, 1) := dk_126 (dk_at dksX1_served_8 12 rfl rfl)
theorem dX1_served_199 : decode cX1_served 199 = .ok (.istore 9, 2) := dk_54 9 (dk_at dksX1_served_8 13 rfl rfl)
theorem dX1_served_201 : decode cX1_served 201 = .ok (.goto (-72), 3) := dk_167 255 184 (dk_at dksX1_served_8 15 rfl rfl)
theorem dX1_served_204 : decode cX1_served 204 = .ok (.aload_n 0, 1) := dk_42 (dk_at dksX1_served_8 18 rfl rfl)
theorem dX1_served_205 : decode cX1_served 205 = .ok (.getfield 153, 3) := dk_180 0 153 (dk_at dksX1_served_8 19 rfl rfl)
theorem dX1_served_208 : decode cX1_served 208 = .ok (.sipush 256, 3) := dk_17 1 0 (dk_at dksX1_served_9 0 rfl rfl)
theorem dX1_served_211 : decode cX1_served 211 = .ok (.iload 5, 2) := dk_21 5 (dk_at dksX1_served_9 3 rfl rfl)
theorem dX1_served_213 : decode cX1_served 213 = .ok (.imul, 1) := dk_104 (dk_at dksX1_served_9 5 rfl rfl)
theorem dX1_served_214 : decode cX1_served 214 = .ok (.iload 6, 2) := dk_21 6 (dk_at dksX1_served_9 6 rfl rfl)
theorem dX1_served_216 : decode cX1_served 216 = .ok (.iadd, 1) := dk_96 (dk_at dksX1_served_9 8 rfl rfl)
theorem dX1_served_217 : decode cX1_served 217 = .ok (.iload 7, 2) := dk_21 7 (dk_at dksX1_served_9 9 rfl rfl)
theorem dX1_served_219 : decode cX1_served 219 = .ok (.iastore, 1) := dk_79 (dk_at dksX1_served_9 11 rfl rfl)
theorem dX1_served_220 : decode cX1_served 220 = .ok (.iinc 6 1, 3) := dk_132 6 1 (dk_at dksX1_served_9 12 rfl rfl)
theorem dX1_served_223 : decode cX1_served 223 = .ok (.goto (-117), 3) := dk_167 255 139 (dk_at dksX1_served_9 15 rfl rfl)
theorem dX1_served_226 : decode cX1_served 226 = .ok (.iinc 5 (-1), 3) := dk_132 5 255 (dk_at dksX1_served_9 18 rfl rfl)
theorem dX1_served_229 : decode cX1_served 229 = .ok (.goto (-131), 3) := dk_167 255 125 (dk_at dksX1_served_9 21 rfl rfl)
theorem dX1_served_232 : decode cX1_served 232 = .ok (.aload_n 0, 1) := dk_42 (dk_at dksX1_served_10 0 rfl rfl)
theorem dX1_served_233 : decode cX1_served 233 = .ok (.iload_n 3, 1) := dk_29 (dk_at dksX1_served_10 1 rfl rfl)
theorem dX1_served_234 : decode cX1_served 234 = .ok (.putfield 159, 3) := dk_181 0 159 (dk_at dksX1_served_10 2 rfl rfl)
theorem dX1_served_237 : decode cX1_served 237 = .ok (.iconst 0, 1) := dk_3 (dk_at dksX1_served_10 5 rfl rfl)
theorem dX1_served_238 : decode cX1_served 238 = .ok (.istore 5, 2) := dk_54 5 (dk_at dksX1_served_10 6 rfl rfl)
theorem dX1_served_240 : decode cX1_served 240 = .ok (.iload 5, 2) := dk_21 5 (dk_at dksX1_served_10 8 rfl rfl)
theorem dX1_served_242 : decode cX1_served 242 = .ok (.bipush 8, 2) := dk_16 8 (dk_at dksX1_served_10 10 rfl rfl)
theorem dX1_served_244 : decode cX1_served 244 = .ok (.if_icmp .ge 17, 3) := dk_162 0 17 (dk_at dksX1_served_10 12 rfl rfl)
theorem dX1_served_247 : decode cX1_served 247 = .ok (.aload_n 0, 1) := dk_42 (dk_at dksX1_served_10 15 rfl rfl)
theorem dX1_served_248 : decode cX1_served 248 = .ok (.getfield 156, 3) := dk_180 0 156 (dk_at dksX1_served_10 16 rfl rfl)
theorem dX1_served_251 : decode cX1_served 251 = .ok (.iload 5, 2) := dk_21 5 (dk_at dksX1_served_10 19 rfl rfl)
theorem dX1_served_253 : decode cX1_served 253 = .ok (.iconst (-1), 1) := dk_2 (dk_at dksX1_served_10 21 rfl rfl)
theorem dX1_served_254 : decode cX1_served 254 = .ok (.iastore, 1) := dk_79 (dk_at dksX1_served_10 22 rfl rfl)
theorem dX1_served_255 : decode cX1_served 255 = .ok (.iinc 5 1, 3) := dk_132 5 1 (dk_at dksX1_served_11 0 rfl rfl)
theorem dX1_served_258 : decode cX1_served 258 = .ok (.goto (-18), 3) := dk_167 255 238 (dk_at dksX1_served_11 3 rfl rfl)
theorem dX1_served_261 : decode cX1_served 261 = .ok (.iconst 0, 1) := dk_3 (dk_at dksX1_served_11 6 rfl rfl)
theorem dX1_served_262 : decode cX1_served 262 = .ok (.istore 5, 2) := dk_54 5 (dk_at dksX1_served_11 7 rfl rfl)
theorem dX1_served_264 : decode cX1_served 264 = .ok (.iconst 0, 1) := dk_3 (dk_at dksX1_served_11 9 rfl rfl)
theorem dX1_served_265 : decode cX1_served 265 = .ok (.istore 6, 2) := dk_54 6 (dk_at dksX1_served_11 10 rfl rfl)
theorem dX1_served_267 : decode cX1_served 267 = .ok (.iload 6, 2) := dk_21 6 (dk_at dksX1_served_11 12 rfl rfl)
theorem dX1_served_269 : decode cX1_served 269 = .ok (.iload_n 2, 1) := dk_28 (dk_at dksX1_served_11 14 rfl rfl)
theorem dX1_served_270 : decode cX1_served 270 = .ok (.if_icmp .ge 136, 3) := dk_162 0 136 (dk_at dksX1_served_11 15 rfl rfl)
theorem dX1_served_273 : decode cX1_served 273 = .ok (.iconst 0, 1) := dk_3 (dk_at dksX1_served_11 18 rfl rfl)
theorem dX1_served_274 : decode cX1_served 274 = .ok (.istore 7, 2) := dk_54 7 (dk_at dksX1_served_11 19 rfl rfl)
theorem dX1_served_276 : decode cX1_served 276 = .ok (.iload 7, 2) := dk_21 7 (dk_at dksX1_served_11 21 rfl rfl)
theorem dX1_served_278 : decode cX1_served 278 = .ok (.iload 5, 2) := dk_21 5 (dk_at dksX1_served_12 0 rfl rfl)
theorem dX1_served_280 : decode cX1_served 280 = .ok (.iand, 1) := dk_126 (dk_at dksX1_served_12 2 rfl rfl)
theorem dX1_served_281 : decode cX1_served 281 = .ok (.ifCond .ne 68, 3) := dk_154 0 68 (dk_at dksX1_served_12 3 rfl rfl)
theorem dX1_served_284 : decode cX1_served 284 = .ok (.iload 7, 2) := dk_21 7 (dk_at dksX1_served_12 6 rfl rfl)
theorem dX1_served_286 : decode cX1_served 286 = .ok (.invokestatic 430, 3) := dk_184 1 174 (dk_at dksX1_served_12 8 rfl rfl)
theorem dX1_served_289 : decode cX1_served 289 = .ok (.aload_n 0, 1) := dk_42 (dk_at dksX1_served_12 11 rfl rfl)
theorem dX1_served_290 : decode cX1_served 290 = .ok (.getfield 66, 3) := dk_180 0 66 (dk_at dksX1_served_12 12 rfl rfl)
theorem dX1_served_293 : decode cX1_served 293 = .ok (.getfield 332, 3) := dk_180 1 76 (dk_at dksX1_served_12 15 rfl rfl)
theorem dX1_served_296 : decode cX1_served 296 = .ok (.if_icmp .gt 53, 3) := dk_163 0 53 (dk_at dksX1_served_12 18 rfl rfl)
theorem dX1_served_299 : decode cX1_served 299 = .ok (.aload_n 0, 1) := dk_42 (dk_at dksX1_served_12 21 rfl rfl)
theorem dX1_served_300 : decode cX1_served 300 = .ok (.iload 7, 2) := dk_21 7 (dk_at dksX1_served_12 22 rfl rfl)
theorem dX1_served_302 : decode cX1_served 302 = .ok (.iload_n 1, 1) := dk_27 (dk_at dksX1_served_13 0 rfl rfl)
theorem dX1_served_303 : decode cX1_served 303 = .ok (.iload 6, 2) := dk_21 6 (dk_at dksX1_served_13 1 rfl rfl)
theorem dX1_served_305 : decode cX1_served 305 = .ok (.iconst 1, 1) := dk_4 (dk_at dksX1_served_13 3 rfl rfl)
theorem dX1_served_306 : decode cX1_served 306 = .ok (.iadd, 1) := dk_96 (dk_at dksX1_served_13 4 rfl rfl)
theorem dX1_served_307 : decode cX1_served 307 = .ok (.imul, 1) := dk_104 (dk_at dksX1_served_13 5 rfl rfl)
theorem dX1_served_308 : decode cX1_served 308 = .ok (.iload_n 3, 1) := dk_29 (dk_at dksX1_served_13 6 rfl rfl)
theorem dX1_served_309 : decode cX1_served 309 = .ok (.invokevirtual 435, 3) := dk_182 1 179 (dk_at dksX1_served_13 7 rfl rfl)
theorem dX1_served_312 : decode cX1_served 312 = .ok (.aload_n 0, 1) := dk_42 (dk_at dksX1_served_13 10 rfl rfl)
theorem dX1_served_313 : decode cX1_served 313 = .ok (.getfield 153, 3) := dk_180 0 153 (dk_at dksX1_served_13 11 rfl rfl)
theorem dX1_served_316 : decode cX1_served 316 = .ok (.sipush 256, 3) := dk_17 1 0 (dk_at dksX1_served_13 14 rfl rfl)
theorem dX1_served_319 : decode cX1_served 319 = .ok (.iload 6, 2) := dk_21 6 (dk_at dksX1_served_13 17 rfl rfl)
theorem dX1_served_321 : decode cX1_served 321 = .ok (.iconst 1, 1) := dk_4 (dk_at dksX1_served_13 19 rfl rfl)
theorem dX1_served_322 : decode cX1_served 322 = .ok (.iadd, 1) := dk_96 (dk_at dksX1_served_13 20 rfl rfl)
theorem dX1_served_323 : decode cX1_served 323 = .ok (.imul, 1) := dk_104 (dk_at dksX1_served_13 21 rfl rfl)
theorem dX1_served_324 : decode cX1_served 324 = .ok (.iload 5, 2) := dk_21 5 (dk_at dksX1_served_13 22 rfl rfl)
theorem dX1_served_326 : decode cX1_served 326 = .ok (.iload 7, 2) := dk_21 7 (dk_at dksX1_served_14 0 rfl rfl)
theorem dX1_served_328 : decode cX1_served 328 = .ok (.ior, 1) := dk_128 (dk_at dksX1_served_14 2 rfl rfl)
theorem dX1_served_329 : decode cX1_served 329 = .ok (.iadd, 1) := dk_96 (dk_at dksX1_served_14 3 rfl rfl)
theorem dX1_served_330 : decode cX1_served 330 = .ok (.iaload, 1) := dk_46 (dk_at dksX1_served_14 4 rfl rfl)
theorem dX1_served_331 : decode cX1_served 331 = .ok (.iadd, 1) := dk_96 (dk_at dksX1_served_14 5 rfl rfl)
theorem dX1_served_332 : decode cX1_served 332 = .ok (.aload_n 0, 1) := dk_42 (dk_at dksX1_served_14 6 rfl rfl)
theorem dX1_served_333 : decode cX1_served 333 = .ok (.getfield 153, 3) := dk_180 0 153 (dk_at dksX1_served_14 7 rfl rfl)
theorem dX1_served_336 : decode cX1_served 336 = .ok (.sipush 256, 3) := dk_17 1 0 (dk_at dksX1_served_14 10 rfl rfl)
theorem dX1_served_339 : decode cX1_served 339 = .ok (.iload 6, 2) := dk_21 6 (dk_at dksX1_served_14 13 rfl rfl)
theorem dX1_served_341 : decode cX1_served 341 = .ok (.imul, 1) := dk_104 (dk_at dksX1_served_14 15 rfl rfl)
theorem dX1_served_342 : decode cX1_served 342 = .ok (.iload 5, 2) := dk_21 5 (dk_at dksX1_served_14 16 rfl rfl)
theorem dX1_served_344 : decode cX1_served 344 = .ok (.iadd, 1) := dk_96 (dk_at dksX1_served_14 18 rfl rfl)
theorem dX1_served_345 : decode cX1_served 345 = .ok (.iaload, 1) := dk_46 (dk_at dksX1_served_14 19 rfl rfl)
theorem dX1_served_346 : decode cX1_served 346 = .ok (.if_icmp .eq 9, 3) := dk_159 0 9 (dk_at dksX1_served_14 20 rfl rfl)
theorem dX1_served_349 : decode cX1_served 349 = .ok (.iinc 7 1, 3) := dk_132 7 1 (dk_at dksX1_served_15 0 rfl rfl)
theorem dX1_served_352 : decode cX1_served 352 = .ok (.goto (-76), 3) := dk_167 255 180 (dk_at dksX1_served_15 3 rfl rfl)
theorem dX1_served_355 : decode cX1_served 355 = .ok (.iconst 0, 1) := dk_3 (dk_at dksX1_served_15 6 rfl rfl)
theorem dX1_served_356 : decode cX1_served 356 = .ok (.istore 8, 2) := dk_54 8 (dk_at dksX1_served_15 7 rfl rfl)
theorem dX1_served_358 : decode cX1_served 358 = .ok (.iload 8, 2) := dk_21 8 (dk_at dksX1_served_15 9 rfl rfl)
theorem dX1_served_360 : decode cX1_served 360 = .ok (.iload_n 3, 1) := dk_29 (dk_at dksX1_served_15 11 rfl rfl)
theorem dX1_served_361 : decode cX1_served 361 = .ok (.if_icmp .ge 32, 3) := dk_162 0 32 (dk_at dksX1_served_15 12 rfl rfl)
theorem dX1_served_364 : decode cX1_served 364 = .ok (.iload 7, 2) := dk_21 7 (dk_at dksX1_served_15 15 rfl rfl)
theorem dX1_served_366 : decode cX1_served 366 = .ok (.iload 8, 2) := dk_21 8 (dk_at dksX1_served_15 17 rfl rfl)
theorem dX1_served_368 : decode cX1_served 368 = .ok (.invokestatic 424, 3) := dk_184 1 168 (dk_at dksX1_served_15 19 rfl rfl)
theorem dX1_served_371 : decode cX1_served 371 = .ok (.ifCond .eq 16, 3) := dk_153 0 16 (dk_at dksX1_served_16 0 rfl rfl)
theorem dX1_served_374 : decode cX1_served 374 = .ok (.aload_n 0, 1) := dk_42 (dk_at dksX1_served_16 3 rfl rfl)
theorem dX1_served_375 : decode cX1_served 375 = .ok (.getfield 156, 3) := dk_180 0 156 (dk_at dksX1_served_16 4 rfl rfl)
theorem dX1_served_378 : decode cX1_served 378 = .ok (.iload 8, 2) := dk_21 8 (dk_at dksX1_served_16 7 rfl rfl)
theorem dX1_served_380 : decode cX1_served 380 = .ok (.iload_n 1, 1) := dk_27 (dk_at dksX1_served_16 9 rfl rfl)
theorem dX1_served_381 : decode cX1_served 381 = .ok (.iload 6, 2) := dk_21 6 (dk_at dksX1_served_16 10 rfl rfl)
theorem dX1_served_383 : decode cX1_served 383 = .ok (.iconst 1, 1) := dk_4 (dk_at dksX1_served_16 12 rfl rfl)
theorem dX1_served_384 : decode cX1_served 384 = .ok (.iadd, 1) := dk_96 (dk_at dksX1_served_16 13 rfl rfl)
theorem dX1_served_385 : decode cX1_served 385 = .ok (.imul, 1) := dk_104 (dk_at dksX1_served_16 14 rfl rfl)
theorem dX1_served_386 : decode cX1_served 386 = .ok (.iastore, 1) := dk_79 (dk_at dksX1_served_16 15 rfl rfl)
theorem dX1_served_387 : decode cX1_served 387 = .ok (.iinc 8 1, 3) := dk_132 8 1 (dk_at dksX1_served_16 16 rfl rfl)
theorem dX1_served_390 : decode cX1_served 390 = .ok (.goto (-32), 3) := dk_167 255 224 (dk_at dksX1_served_16 19 rfl rfl)
theorem dX1_served_393 : decode cX1_served 393 = .ok (.iload 5, 2) := dk_21 5 (dk_at dksX1_served_16 22 rfl rfl)
theorem dX1_served_395 : decode cX1_served 395 = .ok (.iload 7, 2) := dk_21 7 (dk_at dksX1_served_17 0 rfl rfl)
theorem dX1_served_397 : decode cX1_served 397 = .ok (.ior, 1) := dk_128 (dk_at dksX1_served_17 2 rfl rfl)
theorem dX1_served_398 : decode cX1_served 398 = .ok (.istore 5, 2) := dk_54 5 (dk_at dksX1_served_17 3 rfl rfl)
theorem dX1_served_400 : decode cX1_served 400 = .ok (.iinc 6 1, 3) := dk_132 6 1 (dk_at dksX1_served_17 5 rfl rfl)
theorem dX1_served_403 : decode cX1_served 403 = .ok (.goto (-136), 3) := dk_167 255 120 (dk_at dksX1_served_17 8 rfl rfl)
theorem dX1_served_406 : decode cX1_served 406 = .ok (.aload_n 0, 1) := dk_42 (dk_at dksX1_served_17 11 rfl rfl)
theorem dX1_served_407 : decode cX1_served 407 = .ok (.getfield 153, 3) := dk_180 0 153 (dk_at dksX1_served_17 12 rfl rfl)
theorem dX1_served_410 : decode cX1_served 410 = .ok (.iconst 0, 1) := dk_3 (dk_at dksX1_served_17 15 rfl rfl)
theorem dX1_served_411 : decode cX1_served 411 = .ok (.iaload, 1) := dk_46 (dk_at dksX1_served_17 16 rfl rfl)
theorem dX1_served_412 : decode cX1_served 412 = .ok (.ireturn, 1) := dk_172 (dk_at dksX1_served_17 17 rfl rfl)
abbrev cX1_worthOf : ByteArray := prog_1_method_62_code
def yX1_worthOf : MethodName := ⟨RX1, "worthOf", "(III)I"⟩
def dkwX1_worthOf_1 : List UInt8 := [21, 5, 28, 182, 1, 171, 96, 54, 4, 132, 5, 1, 167, 255, 226, 21, 4, 172]
abbrev dktX1_worthOf_1 : List UInt8 := dkwX1_worthOf_1 ++ []
def dkwX1_worthOf_0 : List UInt8 := [3, 54, 4, 3, 54, 5, 21, 5, 29, 162, 0, 30, 27, 21, 5, 184, 1, 168, 153, 0, 15, 21, 4, 42]
abbrev dktX1_worthOf_0 : List UInt8 := dkwX1_worthOf_0 ++ dktX1_worthOf_1
theorem dksX1_worthOf_0 : cX1_worthOf.data.toList.drop 0 = dktX1_worthOf_0 := by decide +kernel
theorem dksX1_worthOf_1 : cX1_worthOf.data.toList.drop 24 = dktX1_worthOf_1 := dk_seg dksX1_worthOf_0 24 rfl rfl
theorem dX1_worthOf_0 : decode cX1_worthOf 0 = .ok (.iconst 0, 1) := dk_3 (dk_at dksX1_worthOf_0 0 rfl rfl)
theorem dX1_worthOf_1 : decode cX1_worthOf 1 = .ok (.istore 4, 2) := dk_54 4 (dk_at dksX1_worthOf_0 1 rfl rfl)
theorem dX1_worthOf_3 : decode cX1_worthOf 3 = .ok (.iconst 0, 1) := dk_3 (dk_at dksX1_worthOf_0 3 rfl rfl)
theorem dX1_worthOf_4 : decode cX1_worthOf 4 = .ok (.istore 5, 2) := dk_54 5 (dk_at dksX1_worthOf_0 4 rfl rfl)
theorem dX1_worthOf_6 : decode cX1_worthOf 6 = .ok (.iload 5, 2) := dk_21 5 (dk_at dksX1_worthOf_0 6 rfl rfl)
theorem dX1_worthOf_8 : decode cX1_worthOf 8 = .ok (.iload_n 3, 1) := dk_29 (dk_at dksX1_worthOf_0 8 rfl rfl)
theorem dX1_worthOf_9 : decode cX1_worthOf 9 = .ok (.if_icmp .ge 30, 3) := dk_162 0 30 (dk_at dksX1_worthOf_0 9 rfl rfl)
theorem dX1_worthOf_12 : decode cX1_worthOf 12 = .ok (.iload_n 1, 1) := dk_27 (dk_at dksX1_worthOf_0 12 rfl rfl)
theorem dX1_worthOf_13 : decode cX1_worthOf 13 = .ok (.iload 5, 2) := dk_21 5 (dk_at dksX1_worthOf_0 13 rfl rfl)
theorem dX1_worthOf_15 : decode cX1_worthOf 15 = .ok (.invokestatic 424, 3) := dk_184 1 168 (dk_at dksX1_worthOf_0 15 rfl rfl)
theorem dX1_worthOf_18 : decode cX1_worthOf 18 = .ok (.ifCond .eq 15, 3) := dk_153 0 15 (dk_at dksX1_worthOf_0 18 rfl rfl)
theorem dX1_worthOf_21 : decode cX1_worthOf 21 = .ok (.iload 4, 2) := dk_21 4 (dk_at dksX1_worthOf_0 21 rfl rfl)
theorem dX1_worthOf_23 : decode cX1_worthOf 23 = .ok (.aload_n 0, 1) := dk_42 (dk_at dksX1_worthOf_0 23 rfl rfl)
theorem dX1_worthOf_24 : decode cX1_worthOf 24 = .ok (.iload 5, 2) := dk_21 5 (dk_at dksX1_worthOf_1 0 rfl rfl)
theorem dX1_worthOf_26 : decode cX1_worthOf 26 = .ok (.iload_n 2, 1) := dk_28 (dk_at dksX1_worthOf_1 2 rfl rfl)
theorem dX1_worthOf_27 : decode cX1_worthOf 27 = .ok (.invokevirtual 427, 3) := dk_182 1 171 (dk_at dksX1_worthOf_1 3 rfl rfl)
theorem dX1_worthOf_30 : decode cX1_worthOf 30 = .ok (.iadd, 1) := dk_96 (dk_at dksX1_worthOf_1 6 rfl rfl)
theorem dX1_worthOf_31 : decode cX1_worthOf 31 = .ok (.istore 4, 2) := dk_54 4 (dk_at dksX1_worthOf_1 7 rfl rfl)
theorem dX1_worthOf_33 : decode cX1_worthOf 33 = .ok (.iinc 5 1, 3) := dk_132 5 1 (dk_at dksX1_worthOf_1 9 rfl rfl)
theorem dX1_worthOf_36 : decode cX1_worthOf 36 = .ok (.goto (-30), 3) := dk_167 255 226 (dk_at dksX1_worthOf_1 12 rfl rfl)
theorem dX1_worthOf_39 : decode cX1_worthOf 39 = .ok (.iload 4, 2) := dk_21 4 (dk_at dksX1_worthOf_1 15 rfl rfl)
theorem dX1_worthOf_41 : decode cX1_worthOf 41 = .ok (.ireturn, 1) := dk_172 (dk_at dksX1_worthOf_1 17 rfl rfl)
abbrev cX1_worthOf_2 : ByteArray := prog_1_method_61_code
def yX1_worthOf_2 : MethodName := ⟨RX1, "worthOf", "(II)I"⟩
def dkwX1_worthOf_2_1 : List UInt8 := [3, 167, 0, 22, 3, 42, 180, 0, 66, 180, 0, 255, 27, 46, 3, 29, 184, 1, 99, 100, 184, 1, 99, 172]
abbrev dktX1_worthOf_2_1 : List UInt8 := dkwX1_worthOf_2_1 ++ []
def dkwX1_worthOf_2_0 : List UInt8 := [28, 42, 180, 0, 66, 180, 0, 252, 27, 46, 100, 62, 29, 42, 180, 0, 66, 180, 1, 166, 116, 162, 0, 7]
abbrev dktX1_worthOf_2_0 : List UInt8 := dkwX1_worthOf_2_0 ++ dktX1_worthOf_2_1
theorem dksX1_worthOf_2_0 : cX1_worthOf_2.data.toList.drop 0 = dktX1_worthOf_2_0 := by decide +kernel
theorem dksX1_worthOf_2_1 : cX1_worthOf_2.data.toList.drop 24 = dktX1_worthOf_2_1 := dk_seg dksX1_worthOf_2_0 24 rfl rfl
theorem dX1_worthOf_2_0 : decode cX1_worthOf_2 0 = .ok (.iload_n 2, 1) := dk_28 (dk_at dksX1_worthOf_2_0 0 rfl rfl)
theorem dX1_worthOf_2_1 : decode cX1_worthOf_2 1 = .ok (.aload_n 0, 1) := dk_42 (dk_at dksX1_worthOf_2_0 1 rfl rfl)
theorem dX1_worthOf_2_2 : decode cX1_worthOf_2 2 = .ok (.getfield 66, 3) := dk_180 0 66 (dk_at dksX1_worthOf_2_0 2 rfl rfl)
theorem dX1_worthOf_2_5 : decode cX1_worthOf_2 5 = .ok (.getfield 252, 3) := dk_180 0 252 (dk_at dksX1_worthOf_2_0 5 rfl rfl)
theorem dX1_worthOf_2_8 : decode cX1_worthOf_2 8 = .ok (.iload_n 1, 1) := dk_27 (dk_at dksX1_worthOf_2_0 8 rfl rfl)
theorem dX1_worthOf_2_9 : decode cX1_worthOf_2 9 = .ok (.iaload, 1) := dk_46 (dk_at dksX1_worthOf_2_0 9 rfl rfl)
theorem dX1_worthOf_2_10 : decode cX1_worthOf_2 10 = .ok (.isub, 1) := dk_100 (dk_at dksX1_worthOf_2_0 10 rfl rfl)
theorem dX1_worthOf_2_11 : decode cX1_worthOf_2 11 = .ok (.istore_n 3, 1) := dk_62 (dk_at dksX1_worthOf_2_0 11 rfl rfl)
theorem dX1_worthOf_2_12 : decode cX1_worthOf_2 12 = .ok (.iload_n 3, 1) := dk_29 (dk_at dksX1_worthOf_2_0 12 rfl rfl)
theorem dX1_worthOf_2_13 : decode cX1_worthOf_2 13 = .ok (.aload_n 0, 1) := dk_42 (dk_at dksX1_worthOf_2_0 13 rfl rfl)
theorem dX1_worthOf_2_14 : decode cX1_worthOf_2 14 = .ok (.getfield 66, 3) := dk_180 0 66 (dk_at dksX1_worthOf_2_0 14 rfl rfl)
theorem dX1_worthOf_2_17 : decode cX1_worthOf_2 17 = .ok (.getfield 422, 3) := dk_180 1 166 (dk_at dksX1_worthOf_2_0 17 rfl rfl)
theorem dX1_worthOf_2_20 : decode cX1_worthOf_2 20 = .ok (.ineg, 1) := dk_116 (dk_at dksX1_worthOf_2_0 20 rfl rfl)
theorem dX1_worthOf_2_21 : decode cX1_worthOf_2 21 = .ok (.if_icmp .ge 7, 3) := dk_162 0 7 (dk_at dksX1_worthOf_2_0 21 rfl rfl)
theorem dX1_worthOf_2_24 : decode cX1_worthOf_2 24 = .ok (.iconst 0, 1) := dk_3 (dk_at dksX1_worthOf_2_1 0 rfl rfl)
theorem dX1_worthOf_2_25 : decode cX1_worthOf_2 25 = .ok (.goto 22, 3) := dk_167 0 22 (dk_at dksX1_worthOf_2_1 1 rfl rfl)
theorem dX1_worthOf_2_28 : decode cX1_worthOf_2 28 = .ok (.iconst 0, 1) := dk_3 (dk_at dksX1_worthOf_2_1 4 rfl rfl)
theorem dX1_worthOf_2_29 : decode cX1_worthOf_2 29 = .ok (.aload_n 0, 1) := dk_42 (dk_at dksX1_worthOf_2_1 5 rfl rfl)
theorem dX1_worthOf_2_30 : decode cX1_worthOf_2 30 = .ok (.getfield 66, 3) := dk_180 0 66 (dk_at dksX1_worthOf_2_1 6 rfl rfl)
theorem dX1_worthOf_2_33 : decode cX1_worthOf_2 33 = .ok (.getfield 255, 3) := dk_180 0 255 (dk_at dksX1_worthOf_2_1 9 rfl rfl)
theorem dX1_worthOf_2_36 : decode cX1_worthOf_2 36 = .ok (.iload_n 1, 1) := dk_27 (dk_at dksX1_worthOf_2_1 12 rfl rfl)
theorem dX1_worthOf_2_37 : decode cX1_worthOf_2 37 = .ok (.iaload, 1) := dk_46 (dk_at dksX1_worthOf_2_1 13 rfl rfl)
theorem dX1_worthOf_2_38 : decode cX1_worthOf_2 38 = .ok (.iconst 0, 1) := dk_3 (dk_at dksX1_worthOf_2_1 14 rfl rfl)
theorem dX1_worthOf_2_39 : decode cX1_worthOf_2 39 = .ok (.iload_n 3, 1) := dk_29 (dk_at dksX1_worthOf_2_1 15 rfl rfl)
theorem dX1_worthOf_2_40 : decode cX1_worthOf_2 40 = .ok (.invokestatic 355, 3) := dk_184 1 99 (dk_at dksX1_worthOf_2_1 16 rfl rfl)
theorem dX1_worthOf_2_43 : decode cX1_worthOf_2 43 = .ok (.isub, 1) := dk_100 (dk_at dksX1_worthOf_2_1 19 rfl rfl)
theorem dX1_worthOf_2_44 : decode cX1_worthOf_2 44 = .ok (.invokestatic 355, 3) := dk_184 1 99 (dk_at dksX1_worthOf_2_1 20 rfl rfl)
theorem dX1_worthOf_2_47 : decode cX1_worthOf_2 47 = .ok (.ireturn, 1) := dk_172 (dk_at dksX1_worthOf_2_1 23 rfl rfl)
abbrev cX1_servedAt : ByteArray := prog_1_method_64_code
def yX1_servedAt : MethodName := ⟨RX1, "servedAt", "(I)I"⟩
def dkwX1_servedAt_1 : List UInt8 := [172]
abbrev dktX1_servedAt_1 : List UInt8 := dkwX1_servedAt_1 ++ []
def dkwX1_servedAt_0 : List UInt8 := [27, 3, 42, 180, 0, 159, 4, 100, 184, 0, 231, 153, 0, 12, 42, 180, 0, 156, 27, 46, 167, 0, 4, 2]
abbrev dktX1_servedAt_0 : List UInt8 := dkwX1_servedAt_0 ++ dktX1_servedAt_1
theorem dksX1_servedAt_0 : cX1_servedAt.data.toList.drop 0 = dktX1_servedAt_0 := by decide +kernel
theorem dksX1_servedAt_1 : cX1_servedAt.data.toList.drop 24 = dktX1_servedAt_1 := dk_seg dksX1_servedAt_0 24 rfl rfl
theorem dX1_servedAt_0 : decode cX1_servedAt 0 = .ok (.iload_n 1, 1) := dk_27 (dk_at dksX1_servedAt_0 0 rfl rfl)
theorem dX1_servedAt_1 : decode cX1_servedAt 1 = .ok (.iconst 0, 1) := dk_3 (dk_at dksX1_servedAt_0 1 rfl rfl)
theorem dX1_servedAt_2 : decode cX1_servedAt 2 = .ok (.aload_n 0, 1) := dk_42 (dk_at dksX1_servedAt_0 2 rfl rfl)
theorem dX1_servedAt_3 : decode cX1_servedAt 3 = .ok (.getfield 159, 3) := dk_180 0 159 (dk_at dksX1_servedAt_0 3 rfl rfl)
theorem dX1_servedAt_6 : decode cX1_servedAt 6 = .ok (.iconst 1, 1) := dk_4 (dk_at dksX1_servedAt_0 6 rfl rfl)
theorem dX1_servedAt_7 : decode cX1_servedAt 7 = .ok (.isub, 1) := dk_100 (dk_at dksX1_servedAt_0 7 rfl rfl)
theorem dX1_servedAt_8 : decode cX1_servedAt 8 = .ok (.invokestatic 231, 3) := dk_184 0 231 (dk_at dksX1_servedAt_0 8 rfl rfl)
theorem dX1_servedAt_11 : decode cX1_servedAt 11 = .ok (.ifCond .eq 12, 3) := dk_153 0 12 (dk_at dksX1_servedAt_0 11 rfl rfl)
theorem dX1_servedAt_14 : decode cX1_servedAt 14 = .ok (.aload_n 0, 1) := dk_42 (dk_at dksX1_servedAt_0 14 rfl rfl)
theorem dX1_servedAt_15 : decode cX1_servedAt 15 = .ok (.getfield 156, 3) := dk_180 0 156 (dk_at dksX1_servedAt_0 15 rfl rfl)
theorem dX1_servedAt_18 : decode cX1_servedAt 18 = .ok (.iload_n 1, 1) := dk_27 (dk_at dksX1_servedAt_0 18 rfl rfl)
theorem dX1_servedAt_19 : decode cX1_servedAt 19 = .ok (.iaload, 1) := dk_46 (dk_at dksX1_servedAt_0 19 rfl rfl)
theorem dX1_servedAt_20 : decode cX1_servedAt 20 = .ok (.goto 4, 3) := dk_167 0 4 (dk_at dksX1_servedAt_0 20 rfl rfl)
theorem dX1_servedAt_23 : decode cX1_servedAt 23 = .ok (.iconst (-1), 1) := dk_2 (dk_at dksX1_servedAt_0 23 rfl rfl)
theorem dX1_servedAt_24 : decode cX1_servedAt 24 = .ok (.ireturn, 1) := dk_172 (dk_at dksX1_servedAt_1 0 rfl rfl)
abbrev cX1_hotel : ByteArray := prog_1_method_67_code
def yX1_hotel : MethodName := ⟨RX1, "hotel", "(III)I"⟩
def dkwX1_hotel_15 : List UInt8 := [167, 255, 167, 42, 180, 0, 165, 21, 5, 46, 172]
abbrev dktX1_hotel_15 : List UInt8 := dkwX1_hotel_15 ++ []
def dkwX1_hotel_14 : List UInt8 := [184, 1, 99, 54, 6, 42, 180, 0, 162, 21, 7, 92, 46, 4, 96, 79, 167, 255, 193, 132, 7, 1]
abbrev dktX1_hotel_14 : List UInt8 := dkwX1_hotel_14 ++ dktX1_hotel_15
def dkwX1_hotel_13 : List UInt8 := [104, 21, 6, 96, 46, 159, 0, 36, 3, 21, 6, 42, 180, 0, 66, 180, 1, 5, 21, 7, 46, 100]
abbrev dktX1_hotel_13 : List UInt8 := dkwX1_hotel_13 ++ dktX1_hotel_14
def dkwX1_hotel_12 : List UInt8 := [180, 0, 165, 17, 1, 145, 21, 7, 4, 96, 104, 21, 6, 96, 46, 42, 180, 0, 165, 17, 1, 145, 21, 7]
abbrev dktX1_hotel_12 : List UInt8 := dkwX1_hotel_12 ++ dktX1_hotel_13
def dkwX1_hotel_11 : List UInt8 := [3, 54, 7, 21, 7, 42, 180, 0, 66, 180, 1, 2, 162, 0, 83, 42, 180, 0, 162, 21, 7, 3, 79, 42]
abbrev dktX1_hotel_11 : List UInt8 := dkwX1_hotel_11 ++ dktX1_hotel_12
def dkwX1_hotel_10 : List UInt8 := [167, 255, 158, 132, 6, 255, 167, 255, 144, 42, 42, 180, 0, 66, 180, 1, 2, 181, 0, 168, 21, 5, 54, 6]
abbrev dktX1_hotel_10 : List UInt8 := dkwX1_hotel_10 ++ dktX1_hotel_11
def dkwX1_hotel_9 : List UInt8 := [180, 0, 165, 17, 1, 145, 21, 6, 4, 96, 104, 21, 7, 96, 46, 21, 8, 184, 1, 111, 79, 132, 7, 1]
abbrev dktX1_hotel_9 : List UInt8 := dkwX1_hotel_9 ++ dktX1_hotel_10
def dkwX1_hotel_8 : List UInt8 := [180, 1, 8, 21, 6, 46, 96, 54, 8, 42, 180, 0, 165, 17, 1, 145, 21, 6, 104, 21, 7, 96, 42]
abbrev dktX1_hotel_8 : List UInt8 := dkwX1_hotel_8 ++ dktX1_hotel_9
def dkwX1_hotel_7 : List UInt8 := [3, 21, 7, 42, 180, 0, 66, 180, 1, 5, 21, 6, 46, 100, 184, 1, 99, 96, 46, 42, 180, 0, 66]
abbrev dktX1_hotel_7 : List UInt8 := dkwX1_hotel_7 ++ dktX1_hotel_8
def dkwX1_hotel_6 : List UInt8 := [163, 0, 97, 21, 7, 154, 0, 9, 19, 1, 129, 167, 0, 43, 42, 180, 0, 165, 17, 1, 145, 21, 6, 104]
abbrev dktX1_hotel_6 : List UInt8 := dkwX1_hotel_6 ++ dktX1_hotel_7
def dkwX1_hotel_5 : List UInt8 := [180, 0, 66, 180, 1, 2, 4, 100, 54, 6, 21, 6, 155, 0, 113, 3, 54, 7, 21, 7, 21, 5]
abbrev dktX1_hotel_5 : List UInt8 := dkwX1_hotel_5 ++ dktX1_hotel_6
def dkwX1_hotel_4 : List UInt8 := [21, 6, 96, 21, 6, 154, 0, 7, 3, 167, 0, 6, 19, 1, 129, 79, 132, 6, 1, 167, 255, 215, 42]
abbrev dktX1_hotel_4 : List UInt8 := dkwX1_hotel_4 ++ dktX1_hotel_5
def dkwX1_hotel_3 : List UInt8 := [54, 6, 21, 6, 21, 5, 163, 0, 40, 42, 180, 0, 165, 17, 1, 145, 42, 180, 0, 66, 180, 1, 2, 104]
abbrev dktX1_hotel_3 : List UInt8 := dkwX1_hotel_3 ++ dktX1_hotel_4
def dkwX1_hotel_2 : List UInt8 := [154, 0, 5, 2, 172, 29, 28, 108, 54, 4, 5, 27, 104, 21, 4, 96, 4, 100, 21, 4, 108, 54, 5, 3]
abbrev dktX1_hotel_2 : List UInt8 := dkwX1_hotel_2 ++ dktX1_hotel_3
def dkwX1_hotel_1 : List UInt8 := [17, 1, 144, 184, 0, 231, 153, 0, 20, 29, 28, 108, 5, 161, 0, 13, 42, 180, 0, 66, 180, 1, 2]
abbrev dktX1_hotel_1 : List UInt8 := dkwX1_hotel_1 ++ dktX1_hotel_2
def dkwX1_hotel_0 : List UInt8 := [27, 4, 17, 0, 200, 184, 0, 231, 153, 0, 41, 28, 4, 16, 20, 184, 0, 231, 153, 0, 31, 29, 4]
abbrev dktX1_hotel_0 : List UInt8 := dkwX1_hotel_0 ++ dktX1_hotel_1
theorem dksX1_hotel_0 : cX1_hotel.data.toList.drop 0 = dktX1_hotel_0 := by decide +kernel
theorem dksX1_hotel_1 : cX1_hotel.data.toList.drop 23 = dktX1_hotel_1 := dk_seg dksX1_hotel_0 23 rfl rfl
theorem dksX1_hotel_2 : cX1_hotel.data.toList.drop 46 = dktX1_hotel_2 := dk_seg dksX1_hotel_1 23 rfl rfl
theorem dksX1_hotel_3 : cX1_hotel.data.toList.drop 70 = dktX1_hotel_3 := dk_seg dksX1_hotel_2 24 rfl rfl
theorem dksX1_hotel_4 : cX1_hotel.data.toList.drop 94 = dktX1_hotel_4 := dk_seg dksX1_hotel_3 24 rfl rfl
theorem dksX1_hotel_5 : cX1_hotel.data.toList.drop 117 = dktX1_hotel_5 := dk_seg dksX1_hotel_4 23 rfl rfl
theorem dksX1_hotel_6 : cX1_hotel.data.toList.drop 139 = dktX1_hotel_6 := dk_seg dksX1_hotel_5 22 rfl rfl
theorem dksX1_hotel_7 : cX1_hotel.data.toList.drop 163 = dktX1_hotel_7 := dk_seg dksX1_hotel_6 24 rfl rfl
theorem dksX1_hotel_8 : cX1_hotel.data.toList.drop 186 = dktX1_hotel_8 := dk_seg dksX1_hotel_7 23 rfl rfl
theorem dksX1_hotel_9 : cX1_hotel.data.toList.drop 209 = dktX1_hotel_9 := dk_seg dksX1_hotel_8 23 rfl rfl
theorem dksX1_hotel_10 : cX1_hotel.data.toList.drop 233 = dktX1_hotel_10 := dk_seg dksX1_hotel_9 24 rfl rfl
theorem dksX1_hotel_11 : cX1_hotel.data.toList.drop 257 = dktX1_hotel_11 := dk_seg dksX1_hotel_10 24 rfl rfl
theorem dksX1_hotel_12 : cX1_hotel.data.toList.drop 281 = dktX1_hotel_12 := dk_seg dksX1_hotel_11 24 rfl rfl
theorem dksX1_hotel_13 : cX1_hotel.data.toList.drop 305 = dktX1_hotel_13 := dk_seg dksX1_hotel_12 24 rfl rfl
theorem dksX1_hotel_14 : cX1_hotel.data.toList.drop 327 = dktX1_hotel_14 := dk_seg dksX1_hotel_13 22 rfl rfl
theorem dksX1_hotel_15 : cX1_hotel.data.toList.drop 349 = dktX1_hotel_15 := dk_seg dksX1_hotel_14 22 rfl rfl
theorem dX1_hotel_0 : decode cX1_hotel 0 = .ok (.iload_n 1, 1) := dk_27 (dk_at dksX1_hotel_0 0 rfl rfl)
theorem dX1_hotel_1 : decode cX1_hotel 1 = .ok (.iconst 1, 1) := dk_4 (dk_at dksX1_hotel_0 1 rfl rfl)
theorem dX1_hotel_2 : decode cX1_hotel 2 = .ok (.sipush 200, 3) := dk_17 0 200 (dk_at dksX1_hotel_0 2 rfl rfl)
theorem dX1_hotel_5 : decode cX1_hotel 5 = .ok (.invokestatic 231, 3) := dk_184 0 231 (dk_at dksX1_hotel_0 5 rfl rfl)
theorem dX1_hotel_8 : decode cX1_hotel 8 = .ok (.ifCond .eq 41, 3) := dk_153 0 41 (dk_at dksX1_hotel_0 8 rfl rfl)
theorem dX1_hotel_11 : decode cX1_hotel 11 = .ok (.iload_n 2, 1) := dk_28 (dk_at dksX1_hotel_0 11 rfl rfl)
theorem dX1_hotel_12 : decode cX1_hotel 12 = .ok (.iconst 1, 1) := dk_4 (dk_at dksX1_hotel_0 12 rfl rfl)
theorem dX1_hotel_13 : decode cX1_hotel 13 = .ok (.bipush 20, 2) := dk_16 20 (dk_at dksX1_hotel_0 13 rfl rfl)
theorem dX1_hotel_15 : decode cX1_hotel 15 = .ok (.invokestatic 231, 3) := dk_184 0 231 (dk_at dksX1_hotel_0 15 rfl rfl)
theorem dX1_hotel_18 : decode cX1_hotel 18 = .ok (.ifCond .eq 31, 3) := dk_153 0 31 (dk_at dksX1_hotel_0 18 rfl rfl)
theorem dX1_hotel_21 : decode cX1_hotel 21 = .ok (.iload_n 3, 1) := dk_29 (dk_at dksX1_hotel_0 21 rfl rfl)
theorem dX1_hotel_22 : decode cX1_hotel 22 = .ok (.iconst 1, 1) := dk_4 (dk_at dksX1_hotel_0 22 rfl rfl)
theorem dX1_hotel_23 : decode cX1_hotel 23 = .ok (.sipush 400, 3) := dk_17 1 144 (dk_at dksX1_hotel_1 0 rfl rfl)
theorem dX1_hotel_26 : decode cX1_hotel 26 = .ok (.invokestatic 231, 3) := dk_184 0 231 (dk_at dksX1_hotel_1 3 rfl rfl)
theorem dX1_hotel_29 : decode cX1_hotel 29 = .ok (.ifCond .eq 20, 3) := dk_153 0 20 (dk_at dksX1_hotel_1 6 rfl rfl)
theorem dX1_hotel_32 : decode cX1_hotel 32 = .ok (.iload_n 3, 1) := dk_29 (dk_at dksX1_hotel_1 9 rfl rfl)
theorem dX1_hotel_33 : decode cX1_hotel 33 = .ok (.iload_n 2, 1) := dk_28 (dk_at dksX1_hotel_1 10 rfl rfl)
theorem dX1_hotel_34 : decode cX1_hotel 34 = .ok (.idiv, 1) := dk_108 (dk_at dksX1_hotel_1 11 rfl rfl)
theorem dX1_hotel_35 : decode cX1_hotel 35 = .ok (.iconst 2, 1) := dk_5 (dk_at dksX1_hotel_1 12 rfl rfl)
theorem dX1_hotel_36 : decode cX1_hotel 36 = .ok (.if_icmp .lt 13, 3) := dk_161 0 13 (dk_at dksX1_hotel_1 13 rfl rfl)
theorem dX1_hotel_39 : decode cX1_hotel 39 = .ok (.aload_n 0, 1) := dk_42 (dk_at dksX1_hotel_1 16 rfl rfl)
theorem dX1_hotel_40 : decode cX1_hotel 40 = .ok (.getfield 66, 3) := dk_180 0 66 (dk_at dksX1_hotel_1 17 rfl rfl)
theorem dX1_hotel_43 : decode cX1_hotel 43 = .ok (.getfield 258, 3) := dk_180 1 2 (dk_at dksX1_hotel_1 20 rfl rfl)
theorem dX1_hotel_46 : decode cX1_hotel 46 = .ok (.ifCond .ne 5, 3) := dk_154 0 5 (dk_at dksX1_hotel_2 0 rfl rfl)
theorem dX1_hotel_49 : decode cX1_hotel 49 = .ok (.iconst (-1), 1) := dk_2 (dk_at dksX1_hotel_2 3 rfl rfl)
theorem dX1_hotel_50 : decode cX1_hotel 50 = .ok (.ireturn, 1) := dk_172 (dk_at dksX1_hotel_2 4 rfl rfl)
theorem dX1_hotel_51 : decode cX1_hotel 51 = .ok (.iload_n 3, 1) := dk_29 (dk_at dksX1_hotel_2 5 rfl rfl)
theorem dX1_hotel_52 : decode cX1_hotel 52 = .ok (.iload_n 2, 1) := dk_28 (dk_at dksX1_hotel_2 6 rfl rfl)
theorem dX1_hotel_53 : decode cX1_hotel 53 = .ok (.idiv, 1) := dk_108 (dk_at dksX1_hotel_2 7 rfl rfl)
theorem dX1_hotel_54 : decode cX1_hotel 54 = .ok (.istore 4, 2) := dk_54 4 (dk_at dksX1_hotel_2 8 rfl rfl)
theorem dX1_hotel_56 : decode cX1_hotel 56 = .ok (.iconst 2, 1) := dk_5 (dk_at dksX1_hotel_2 10 rfl rfl)
theorem dX1_hotel_57 : decode cX1_hotel 57 = .ok (.iload_n 1, 1) := dk_27 (dk_at dksX1_hotel_2 11 rfl rfl)
theorem dX1_hotel_58 : decode cX1_hotel 58 = .ok (.imul, 1) := dk_104 (dk_at dksX1_hotel_2 12 rfl rfl)
theorem dX1_hotel_59 : decode cX1_hotel 59 = .ok (.iload 4, 2) := dk_21 4 (dk_at dksX1_hotel_2 13 rfl rfl)
theorem dX1_hotel_61 : decode cX1_hotel 61 = .ok (.iadd, 1) := dk_96 (dk_at dksX1_hotel_2 15 rfl rfl)
theorem dX1_hotel_62 : decode cX1_hotel 62 = .ok (.iconst 1, 1) := dk_4 (dk_at dksX1_hotel_2 16 rfl rfl)
theorem dX1_hotel_63 : decode cX1_hotel 63 = .ok (.isub, 1) := dk_100 (dk_at dksX1_hotel_2 17 rfl rfl)
theorem dX1_hotel_64 : decode cX1_hotel 64 = .ok (.iload 4, 2) := dk_21 4 (dk_at dksX1_hotel_2 18 rfl rfl)
theorem dX1_hotel_66 : decode cX1_hotel 66 = .ok (.idiv, 1) := dk_108 (dk_at dksX1_hotel_2 20 rfl rfl)
theorem dX1_hotel_67 : decode cX1_hotel 67 = .ok (.istore 5, 2) := dk_54 5 (dk_at dksX1_hotel_2 21 rfl rfl)
theorem dX1_hotel_69 : decode cX1_hotel 69 = .ok (.iconst 0, 1) := dk_3 (dk_at dksX1_hotel_2 23 rfl rfl)
theorem dX1_hotel_70 : decode cX1_hotel 70 = .ok (.istore 6, 2) := dk_54 6 (dk_at dksX1_hotel_3 0 rfl rfl)
theorem dX1_hotel_72 : decode cX1_hotel 72 = .ok (.iload 6, 2) := dk_21 6 (dk_at dksX1_hotel_3 2 rfl rfl)
theorem dX1_hotel_74 : decode cX1_hotel 74 = .ok (.iload 5, 2) := dk_21 5 (dk_at dksX1_hotel_3 4 rfl rfl)
theorem dX1_hotel_76 : decode cX1_hotel 76 = .ok (.if_icmp .gt 40, 3) := dk_163 0 40 (dk_at dksX1_hotel_3 6 rfl rfl)
theorem dX1_hotel_79 : decode cX1_hotel 79 = .ok (.aload_n 0, 1) := dk_42 (dk_at dksX1_hotel_3 9 rfl rfl)
theorem dX1_hotel_80 : decode cX1_hotel 80 = .ok (.getfield 165, 3) := dk_180 0 165 (dk_at dksX1_hotel_3 10 rfl rfl)
theorem dX1_hotel_83 : decode cX1_hotel 83 = .ok (.sipush 401, 3) := dk_17 1 145 (dk_at dksX1_hotel_3 13 rfl rfl)
theorem dX1_hotel_86 : decode cX1_hotel 86 = .ok (.aload_n 0, 1) := dk_42 (dk_at dksX1_hotel_3 16 rfl rfl)
theorem dX1_hotel_87 : decode cX1_hotel 87 = .ok (.getfield 66, 3) := dk_180 0 66 (dk_at dksX1_hotel_3 17 rfl rfl)
theorem dX1_hotel_90 : decode cX1_hotel 90 = .ok (.getfield 258, 3) := dk_180 1 2 (dk_at dksX1_hotel_3 20 rfl rfl)
theorem dX1_hotel_93 : decode cX1_hotel 93 = .ok (.imul, 1) := dk_104 (dk_at dksX1_hotel_3 23 rfl rfl)
theorem dX1_hotel_94 : decode cX1_hotel 94 = .ok (.iload 6, 2) := dk_21 6 (dk_at dksX1_hotel_4 0 rfl rfl)
theorem dX1_hotel_96 : decode cX1_hotel 96 = .ok (.iadd, 1) := dk_96 (dk_at dksX1_hotel_4 2 rfl rfl)
theorem dX1_hotel_97 : decode cX1_hotel 97 = .ok (.iload 6, 2) := dk_21 6 (dk_at dksX1_hotel_4 3 rfl rfl)
theorem dX1_hotel_99 : decode cX1_hotel 99 = .ok (.ifCond .ne 7, 3) := dk_154 0 7 (dk_at dksX1_hotel_4 5 rfl rfl)
theorem dX1_hotel_102 : decode cX1_hotel 102 = .ok (.iconst 0, 1) := dk_3 (dk_at dksX1_hotel_4 8 rfl rfl)
theorem dX1_hotel_103 : decode cX1_hotel 103 = .ok (.goto 6, 3) := dk_167 0 6 (dk_at dksX1_hotel_4 9 rfl rfl)
theorem dX1_hotel_106 : decode cX1_hotel 106 = .ok (.ldc_w 385, 3) := dk_19 1 129 (dk_at dksX1_hotel_4 12 rfl rfl)
theorem dX1_hotel_109 : decode cX1_hotel 109 = .ok (.iastore, 1) := dk_79 (dk_at dksX1_hotel_4 15 rfl rfl)
theorem dX1_hotel_110 : decode cX1_hotel 110 = .ok (.iinc 6 1, 3) := dk_132 6 1 (dk_at dksX1_hotel_4 16 rfl rfl)
theorem dX1_hotel_113 : decode cX1_hotel 113 = .ok (.goto (-41), 3) := dk_167 255 215 (dk_at dksX1_hotel_4 19 rfl rfl)
theorem dX1_hotel_116 : decode cX1_hotel 116 = .ok (.aload_n 0, 1) := dk_42 (dk_at dksX1_hotel_4 22 rfl rfl)
theorem dX1_hotel_117 : decode cX1_hotel 117 = .ok (.getfield 66, 3) := dk_180 0 66 (dk_at dksX1_hotel_5 0 rfl rfl)
theorem dX1_hotel_120 : decode cX1_hotel 120 = .ok (.getfield 258, 3) := dk_180 1 2 (dk_at dksX1_hotel_5 3 rfl rfl)
theorem dX1_hotel_123 : decode cX1_hotel 123 = .ok (.iconst 1, 1) := dk_4 (dk_at dksX1_hotel_5 6 rfl rfl)
theorem dX1_hotel_124 : decode cX1_hotel 124 = .ok (.isub, 1) := dk_100 (dk_at dksX1_hotel_5 7 rfl rfl)
theorem dX1_hotel_125 : decode cX1_hotel 125 = .ok (.istore 6, 2) := dk_54 6 (dk_at dksX1_hotel_5 8 rfl rfl)
theorem dX1_hotel_127 : decode cX1_hotel 127 = .ok (.iload 6, 2) := dk_21 6 (dk_at dksX1_hotel_5 10 rfl rfl)
theorem dX1_hotel_129 : decode cX1_hotel 129 = .ok (.ifCond .lt 113, 3) := dk_155 0 113 (dk_at dksX1_hotel_5 12 rfl rfl)
theorem dX1_hotel_132 : decode cX1_hotel 132 = .ok (.iconst 0, 1) := dk_3 (dk_at dksX1_hotel_5 15 rfl rfl)
theorem dX1_hotel_133 : decode cX1_hotel 133 = .ok (.istore 7, 2) := dk_54 7 (dk_at dksX1_hotel_5 16 rfl rfl)
theorem dX1_hotel_135 : decode cX1_hotel 135 = .ok (.iload 7, 2) := dk_21 7 (dk_at dksX1_hotel_5 18 rfl rfl)
theorem dX1_hotel_137 : decode cX1_hotel 137 = .ok (.iload 5, 2) := dk_21 5 (dk_at dksX1_hotel_5 20 rfl rfl)
theorem dX1_hotel_139 : decode cX1_hotel 139 = .ok (.if_icmp .gt 97, 3) := dk_163 0 97 (dk_at dksX1_hotel_6 0 rfl rfl)
theorem dX1_hotel_142 : decode cX1_hotel 142 = .ok (.iload 7, 2) := dk_21 7 (dk_at dksX1_hotel_6 3 rfl rfl)
theorem dX1_hotel_144 : decode cX1_hotel 144 = .ok (.ifCond .ne 9, 3) := dk_154 0 9 (dk_at dksX1_hotel_6 5 rfl rfl)
theorem dX1_hotel_147 : decode cX1_hotel 147 = .ok (.ldc_w 385, 3) := dk_19 1 129 (dk_at dksX1_hotel_6 8 rfl rfl)
theorem dX1_hotel_150 : decode cX1_hotel 150 = .ok (.goto 43, 3) := dk_167 0 43 (dk_at dksX1_hotel_6 11 rfl rfl)
theorem dX1_hotel_153 : decode cX1_hotel 153 = .ok (.aload_n 0, 1) := dk_42 (dk_at dksX1_hotel_6 14 rfl rfl)
theorem dX1_hotel_154 : decode cX1_hotel 154 = .ok (.getfield 165, 3) := dk_180 0 165 (dk_at dksX1_hotel_6 15 rfl rfl)
theorem dX1_hotel_157 : decode cX1_hotel 157 = .ok (.sipush 401, 3) := dk_17 1 145 (dk_at dksX1_hotel_6 18 rfl rfl)
theorem dX1_hotel_160 : decode cX1_hotel 160 = .ok (.iload 6, 2) := dk_21 6 (dk_at dksX1_hotel_6 21 rfl rfl)
theorem dX1_hotel_162 : decode cX1_hotel 162 = .ok (.imul, 1) := dk_104 (dk_at dksX1_hotel_6 23 rfl rfl)
theorem dX1_hotel_163 : decode cX1_hotel 163 = .ok (.iconst 0, 1) := dk_3 (dk_at dksX1_hotel_7 0 rfl rfl)
theorem dX1_hotel_164 : decode cX1_hotel 164 = .ok (.iload 7, 2) := dk_21 7 (dk_at dksX1_hotel_7 1 rfl rfl)
theorem dX1_hotel_166 : decode cX1_hotel 166 = .ok (.aload_n 0, 1) := dk_42 (dk_at dksX1_hotel_7 3 rfl rfl)
theorem dX1_hotel_167 : decode cX1_hotel 167 = .ok (.getfield 66, 3) := dk_180 0 66 (dk_at dksX1_hotel_7 4 rfl rfl)
theorem dX1_hotel_170 : decode cX1_hotel 170 = .ok (.getfield 261, 3) := dk_180 1 5 (dk_at dksX1_hotel_7 7 rfl rfl)
theorem dX1_hotel_173 : decode cX1_hotel 173 = .ok (.iload 6, 2) := dk_21 6 (dk_at dksX1_hotel_7 10 rfl rfl)
theorem dX1_hotel_175 : decode cX1_hotel 175 = .ok (.iaload, 1) := dk_46 (dk_at dksX1_hotel_7 12 rfl rfl)
theorem dX1_hotel_176 : decode cX1_hotel 176 = .ok (.isub, 1) := dk_100 (dk_at dksX1_hotel_7 13 rfl rfl)
theorem dX1_hotel_177 : decode cX1_hotel 177 = .ok (.invokestatic 355, 3) := dk_184 1 99 (dk_at dksX1_hotel_7 14 rfl rfl)
theorem dX1_hotel_180 : decode cX1_hotel 180 = .ok (.iadd, 1) := dk_96 (dk_at dksX1_hotel_7 17 rfl rfl)
theorem dX1_hotel_181 : decode cX1_hotel 181 = .ok (.iaload, 1) := dk_46 (dk_at dksX1_hotel_7 18 rfl rfl)
theorem dX1_hotel_182 : decode cX1_hotel 182 = .ok (.aload_n 0, 1) := dk_42 (dk_at dksX1_hotel_7 19 rfl rfl)
theorem dX1_hotel_183 : decode cX1_hotel 183 = .ok (.getfield 66, 3) := dk_180 0 66 (dk_at dksX1_hotel_7 20 rfl rfl)
theorem dX1_hotel_186 : decode cX1_hotel 186 = .ok (.getfield 264, 3) := dk_180 1 8 (dk_at dksX1_hotel_8 0 rfl rfl)
theorem dX1_hotel_189 : decode cX1_hotel 189 = .ok (.iload 6, 2) := dk_21 6 (dk_at dksX1_hotel_8 3 rfl rfl)
theorem dX1_hotel_191 : decode cX1_hotel 191 = .ok (.iaload, 1) := dk_46 (dk_at dksX1_hotel_8 5 rfl rfl)
theorem dX1_hotel_192 : decode cX1_hotel 192 = .ok (.iadd, 1) := dk_96 (dk_at dksX1_hotel_8 6 rfl rfl)
theorem dX1_hotel_193 : decode cX1_hotel 193 = .ok (.istore 8, 2) := dk_54 8 (dk_at dksX1_hotel_8 7 rfl rfl)
theorem dX1_hotel_195 : decode cX1_hotel 195 = .ok (.aload_n 0, 1) := dk_42 (dk_at dksX1_hotel_8 9 rfl rfl)
theorem dX1_hotel_196 : decode cX1_hotel 196 = .ok (.getfield 165, 3) := dk_180 0 165 (dk_at dksX1_hotel_8 10 rfl rfl)
theorem dX1_hotel_199 : decode cX1_hotel 199 = .ok (.sipush 401, 3) := dk_17 1 145 (dk_at dksX1_hotel_8 13 rfl rfl)
theorem dX1_hotel_202 : decode cX1_hotel 202 = .ok (.iload 6, 2) := dk_21 6 (dk_at dksX1_hotel_8 16 rfl rfl)
theorem dX1_hotel_204 : decode cX1_hotel 204 = .ok (.imul, 1) := dk_104 (dk_at dksX1_hotel_8 18 rfl rfl)
theorem dX1_hotel_205 : decode cX1_hotel 205 = .ok (.iload 7, 2) := dk_21 7 (dk_at dksX1_hotel_8 19 rfl rfl)
theorem dX1_hotel_207 : decode cX1_hotel 207 = .ok (.iadd, 1) := dk_96 (dk_at dksX1_hotel_8 21 rfl rfl)
theorem dX1_hotel_208 : decode cX1_hotel 208 = .ok (.aload_n 0, 1) := dk_42 (dk_at dksX1_hotel_8 22 rfl rfl)
theorem dX1_hotel_209 : decode cX1_hotel 209 = .ok (.getfield 165, 3) := dk_180 0 165 (dk_at dksX1_hotel_9 0 rfl rfl)
theorem dX1_hotel_212 : decode cX1_hotel 212 = .ok (.sipush 401, 3) := dk_17 1 145 (dk_at dksX1_hotel_9 3 rfl rfl)
theorem dX1_hotel_215 : decode cX1_hotel 215 = .ok (.iload 6, 2) := dk_21 6 (dk_at dksX1_hotel_9 6 rfl rfl)
theorem dX1_hotel_217 : decode cX1_hotel 217 = .ok (.iconst 1, 1) := dk_4 (dk_at dksX1_hotel_9 8 rfl rfl)
theorem dX1_hotel_218 : decode cX1_hotel 218 = .ok (.iadd, 1) := dk_96 (dk_at dksX1_hotel_9 9 rfl rfl)
theorem dX1_hotel_219 : decode cX1_hotel 219 = .ok (.imul, 1) := dk_104 (dk_at dksX1_hotel_9 10 rfl rfl)
theorem dX1_hotel_220 : decode cX1_hotel 220 = .ok (.iload 7, 2) := dk_21 7 (dk_at dksX1_hotel_9 11 rfl rfl)
theorem dX1_hotel_222 : decode cX1_hotel 222 = .ok (.iadd, 1) := dk_96 (dk_at dksX1_hotel_9 13 rfl rfl)
theorem dX1_hotel_223 : decode cX1_hotel 223 = .ok (.iaload, 1) := dk_46 (dk_at dksX1_hotel_9 14 rfl rfl)
theorem dX1_hotel_224 : decode cX1_hotel 224 = .ok (.iload 8, 2) := dk_21 8 (dk_at dksX1_hotel_9 15 rfl rfl)
theorem dX1_hotel_226 : decode cX1_hotel 226 = .ok (.invokestatic 367, 3) := dk_184 1 111 (dk_at dksX1_hotel_9 17 rfl rfl)
theorem dX1_hotel_229 : decode cX1_hotel 229 = .ok (.iastore, 1) := dk_79 (dk_at dksX1_hotel_9 20 rfl rfl)
theorem dX1_hotel_230 : decode cX1_hotel 230 = .ok (.iinc 7 1, 3) := dk_132 7 1 (dk_at dksX1_hotel_9 21 rfl rfl)
theorem dX1_hotel_233 : decode cX1_hotel 233 = .ok (.goto (-98), 3) := dk_167 255 158 (dk_at dksX1_hotel_10 0 rfl rfl)
theorem dX1_hotel_236 : decode cX1_hotel 236 = .ok (.iinc 6 (-1), 3) := dk_132 6 255 (dk_at dksX1_hotel_10 3 rfl rfl)
theorem dX1_hotel_239 : decode cX1_hotel 239 = .ok (.goto (-112), 3) := dk_167 255 144 (dk_at dksX1_hotel_10 6 rfl rfl)
theorem dX1_hotel_242 : decode cX1_hotel 242 = .ok (.aload_n 0, 1) := dk_42 (dk_at dksX1_hotel_10 9 rfl rfl)
theorem dX1_hotel_243 : decode cX1_hotel 243 = .ok (.aload_n 0, 1) := dk_42 (dk_at dksX1_hotel_10 10 rfl rfl)
theorem dX1_hotel_244 : decode cX1_hotel 244 = .ok (.getfield 66, 3) := dk_180 0 66 (dk_at dksX1_hotel_10 11 rfl rfl)
theorem dX1_hotel_247 : decode cX1_hotel 247 = .ok (.getfield 258, 3) := dk_180 1 2 (dk_at dksX1_hotel_10 14 rfl rfl)
theorem dX1_hotel_250 : decode cX1_hotel 250 = .ok (.putfield 168, 3) := dk_181 0 168 (dk_at dksX1_hotel_10 17 rfl rfl)
theorem dX1_hotel_253 : decode cX1_hotel 253 = .ok (.iload 5, 2) := dk_21 5 (dk_at dksX1_hotel_10 20 rfl rfl)
theorem dX1_hotel_255 : decode cX1_hotel 255 = .ok (.istore 6, 2) := dk_54 6 (dk_at dksX1_hotel_10 22 rfl rfl)
theorem dX1_hotel_257 : decode cX1_hotel 257 = .ok (.iconst 0, 1) := dk_3 (dk_at dksX1_hotel_11 0 rfl rfl)
theorem dX1_hotel_258 : decode cX1_hotel 258 = .ok (.istore 7, 2) := dk_54 7 (dk_at dksX1_hotel_11 1 rfl rfl)
theorem dX1_hotel_260 : decode cX1_hotel 260 = .ok (.iload 7, 2) := dk_21 7 (dk_at dksX1_hotel_11 3 rfl rfl)
theorem dX1_hotel_262 : decode cX1_hotel 262 = .ok (.aload_n 0, 1) := dk_42 (dk_at dksX1_hotel_11 5 rfl rfl)
theorem dX1_hotel_263 : decode cX1_hotel 263 = .ok (.getfield 66, 3) := dk_180 0 66 (dk_at dksX1_hotel_11 6 rfl rfl)
theorem dX1_hotel_266 : decode cX1_hotel 266 = .ok (.getfield 258, 3) := dk_180 1 2 (dk_at dksX1_hotel_11 9 rfl rfl)
theorem dX1_hotel_269 : decode cX1_hotel 269 = .ok (.if_icmp .ge 83, 3) := dk_162 0 83 (dk_at dksX1_hotel_11 12 rfl rfl)
theorem dX1_hotel_272 : decode cX1_hotel 272 = .ok (.aload_n 0, 1) := dk_42 (dk_at dksX1_hotel_11 15 rfl rfl)
theorem dX1_hotel_273 : decode cX1_hotel 273 = .ok (.getfield 162, 3) := dk_180 0 162 (dk_at dksX1_hotel_11 16 rfl rfl)
theorem dX1_hotel_276 : decode cX1_hotel 276 = .ok (.iload 7, 2) := dk_21 7 (dk_at dksX1_hotel_11 19 rfl rfl)
theorem dX1_hotel_278 : decode cX1_hotel 278 = .ok (.iconst 0, 1) := dk_3 (dk_at dksX1_hotel_11 21 rfl rfl)
theorem dX1_hotel_279 : decode cX1_hotel 279 = .ok (.iastore, 1) := dk_79 (dk_at dksX1_hotel_11 22 rfl rfl)
theorem dX1_hotel_280 : decode cX1_hotel 280 = .ok (.aload_n 0, 1) := dk_42 (dk_at dksX1_hotel_11 23 rfl rfl)
theorem dX1_hotel_281 : decode cX1_hotel 281 = .ok (.getfield 165, 3) := dk_180 0 165 (dk_at dksX1_hotel_12 0 rfl rfl)
theorem dX1_hotel_284 : decode cX1_hotel 284 = .ok (.sipush 401, 3) := dk_17 1 145 (dk_at dksX1_hotel_12 3 rfl rfl)
theorem dX1_hotel_287 : decode cX1_hotel 287 = .ok (.iload 7, 2) := dk_21 7 (dk_at dksX1_hotel_12 6 rfl rfl)
theorem dX1_hotel_289 : decode cX1_hotel 289 = .ok (.iconst 1, 1) := dk_4 (dk_at dksX1_hotel_12 8 rfl rfl)
theorem dX1_hotel_290 : decode cX1_hotel 290 = .ok (.iadd, 1) := dk_96 (dk_at dksX1_hotel_12 9 rfl rfl)
theorem dX1_hotel_291 : decode cX1_hotel 291 = .ok (.imul, 1) := dk_104 (dk_at dksX1_hotel_12 10 rfl rfl)
theorem dX1_hotel_292 : decode cX1_hotel 292 = .ok (.iload 6, 2) := dk_21 6 (dk_at dksX1_hotel_12 11 rfl rfl)
theorem dX1_hotel_294 : decode cX1_hotel 294 = .ok (.iadd, 1) := dk_96 (dk_at dksX1_hotel_12 13 rfl rfl)
theorem dX1_hotel_295 : decode cX1_hotel 295 = .ok (.iaload, 1) := dk_46 (dk_at dksX1_hotel_12 14 rfl rfl)
theorem dX1_hotel_296 : decode cX1_hotel 296 = .ok (.aload_n 0, 1) := dk_42 (dk_at dksX1_hotel_12 15 rfl rfl)
theorem dX1_hotel_297 : decode cX1_hotel 297 = .ok (.getfield 165, 3) := dk_180 0 165 (dk_at dksX1_hotel_12 16 rfl rfl)
theorem dX1_hotel_300 : decode cX1_hotel 300 = .ok (.sipush 401, 3) := dk_17 1 145 (dk_at dksX1_hotel_12 19 rfl rfl)
theorem dX1_hotel_303 : decode cX1_hotel 303 = .ok (.iload 7, 2) := dk_21 7 (dk_at dksX1_hotel_12 22 rfl rfl)
theorem dX1_hotel_305 : decode cX1_hotel 305 = .ok (.imul, 1) := dk_104 (dk_at dksX1_hotel_13 0 rfl rfl)
theorem dX1_hotel_306 : decode cX1_hotel 306 = .ok (.iload 6, 2) := dk_21 6 (dk_at dksX1_hotel_13 1 rfl rfl)
theorem dX1_hotel_308 : decode cX1_hotel 308 = .ok (.iadd, 1) := dk_96 (dk_at dksX1_hotel_13 3 rfl rfl)
theorem dX1_hotel_309 : decode cX1_hotel 309 = .ok (.iaload, 1) := dk_46 (dk_at dksX1_hotel_13 4 rfl rfl)
theorem dX1_hotel_310 : decode cX1_hotel 310 = .ok (.if_icmp .eq 36, 3) := dk_159 0 36 (dk_at dksX1_hotel_13 5 rfl rfl)
theorem dX1_hotel_313 : decode cX1_hotel 313 = .ok (.iconst 0, 1) := dk_3 (dk_at dksX1_hotel_13 8 rfl rfl)
theorem dX1_hotel_314 : decode cX1_hotel 314 = .ok (.iload 6, 2) := dk_21 6 (dk_at dksX1_hotel_13 9 rfl rfl)
theorem dX1_hotel_316 : decode cX1_hotel 316 = .ok (.aload_n 0, 1) := dk_42 (dk_at dksX1_hotel_13 11 rfl rfl)
theorem dX1_hotel_317 : decode cX1_hotel 317 = .ok (.getfield 66, 3) := dk_180 0 66 (dk_at dksX1_hotel_13 12 rfl rfl)
theorem dX1_hotel_320 : decode cX1_hotel 320 = .ok (.getfield 261, 3) := dk_180 1 5 (dk_at dksX1_hotel_13 15 rfl rfl)
theorem dX1_hotel_323 : decode cX1_hotel 323 = .ok (.iload 7, 2) := dk_21 7 (dk_at dksX1_hotel_13 18 rfl rfl)
theorem dX1_hotel_325 : decode cX1_hotel 325 = .ok (.iaload, 1) := dk_46 (dk_at dksX1_hotel_13 20 rfl rfl)
theorem dX1_hotel_326 : decode cX1_hotel 326 = .ok (.isub, 1) := dk_100 (dk_at dksX1_hotel_13 21 rfl rfl)
theorem dX1_hotel_327 : decode cX1_hotel 327 = .ok (.invokestatic 355, 3) := dk_184 1 99 (dk_at dksX1_hotel_14 0 rfl rfl)
theorem dX1_hotel_330 : decode cX1_hotel 330 = .ok (.istore 6, 2) := dk_54 6 (dk_at dksX1_hotel_14 3 rfl rfl)
theorem dX1_hotel_332 : decode cX1_hotel 332 = .ok (.aload_n 0, 1) := dk_42 (dk_at dksX1_hotel_14 5 rfl rfl)
theorem dX1_hotel_333 : decode cX1_hotel 333 = .ok (.getfield 162, 3) := dk_180 0 162 (dk_at dksX1_hotel_14 6 rfl rfl)
theorem dX1_hotel_336 : decode cX1_hotel 336 = .ok (.iload 7, 2) := dk_21 7 (dk_at dksX1_hotel_14 9 rfl rfl)
theorem dX1_hotel_338 : decode cX1_hotel 338 = .ok (.dup2, 1) := dk_92 (dk_at dksX1_hotel_14 11 rfl rfl)
theorem dX1_hotel_339 : decode cX1_hotel 339 = .ok (.iaload, 1) := dk_46 (dk_at dksX1_hotel_14 12 rfl rfl)
theorem dX1_hotel_340 : decode cX1_hotel 340 = .ok (.iconst 1, 1) := dk_4 (dk_at dksX1_hotel_14 13 rfl rfl)
theorem dX1_hotel_341 : decode cX1_hotel 341 = .ok (.iadd, 1) := dk_96 (dk_at dksX1_hotel_14 14 rfl rfl)
theorem dX1_hotel_342 : decode cX1_hotel 342 = .ok (.iastore, 1) := dk_79 (dk_at dksX1_hotel_14 15 rfl rfl)
theorem dX1_hotel_343 : decode cX1_hotel 343 = .ok (.goto (-63), 3) := dk_167 255 193 (dk_at dksX1_hotel_14 16 rfl rfl)
theorem dX1_hotel_346 : decode cX1_hotel 346 = .ok (.iinc 7 1, 3) := dk_132 7 1 (dk_at dksX1_hotel_14 19 rfl rfl)
theorem dX1_hotel_349 : decode cX1_hotel 349 = .ok (.goto (-89), 3) := dk_167 255 167 (dk_at dksX1_hotel_15 0 rfl rfl)
theorem dX1_hotel_352 : decode cX1_hotel 352 = .ok (.aload_n 0, 1) := dk_42 (dk_at dksX1_hotel_15 3 rfl rfl)
theorem dX1_hotel_353 : decode cX1_hotel 353 = .ok (.getfield 165, 3) := dk_180 0 165 (dk_at dksX1_hotel_15 4 rfl rfl)
theorem dX1_hotel_356 : decode cX1_hotel 356 = .ok (.iload 5, 2) := dk_21 5 (dk_at dksX1_hotel_15 7 rfl rfl)
theorem dX1_hotel_358 : decode cX1_hotel 358 = .ok (.iaload, 1) := dk_46 (dk_at dksX1_hotel_15 9 rfl rfl)
theorem dX1_hotel_359 : decode cX1_hotel 359 = .ok (.ireturn, 1) := dk_172 (dk_at dksX1_hotel_15 10 rfl rfl)
abbrev cX1_pans : ByteArray := prog_1_method_68_code
def yX1_pans : MethodName := ⟨RX1, "pans", "(I)I"⟩
def dkwX1_pans_1 : List UInt8 := [172]
abbrev dktX1_pans_1 : List UInt8 := dkwX1_pans_1 ++ []
def dkwX1_pans_0 : List UInt8 := [27, 3, 42, 180, 0, 168, 4, 100, 184, 0, 231, 153, 0, 12, 42, 180, 0, 162, 27, 46, 167, 0, 4, 2]
abbrev dktX1_pans_0 : List UInt8 := dkwX1_pans_0 ++ dktX1_pans_1
theorem dksX1_pans_0 : cX1_pans.data.toList.drop 0 = dktX1_pans_0 := by decide +kernel
theorem dksX1_pans_1 : cX1_pans.data.toList.drop 24 = dktX1_pans_1 := dk_seg dksX1_pans_0 24 rfl rfl
theorem dX1_pans_0 : decode cX1_pans 0 = .ok (.iload_n 1, 1) := dk_27 (dk_at dksX1_pans_0 0 rfl rfl)
theorem dX1_pans_1 : decode cX1_pans 1 = .ok (.iconst 0, 1) := dk_3 (dk_at dksX1_pans_0 1 rfl rfl)
theorem dX1_pans_2 : decode cX1_pans 2 = .ok (.aload_n 0, 1) := dk_42 (dk_at dksX1_pans_0 2 rfl rfl)
theorem dX1_pans_3 : decode cX1_pans 3 = .ok (.getfield 168, 3) := dk_180 0 168 (dk_at dksX1_pans_0 3 rfl rfl)
theorem dX1_pans_6 : decode cX1_pans 6 = .ok (.iconst 1, 1) := dk_4 (dk_at dksX1_pans_0 6 rfl rfl)
theorem dX1_pans_7 : decode cX1_pans 7 = .ok (.isub, 1) := dk_100 (dk_at dksX1_pans_0 7 rfl rfl)
theorem dX1_pans_8 : decode cX1_pans 8 = .ok (.invokestatic 231, 3) := dk_184 0 231 (dk_at dksX1_pans_0 8 rfl rfl)
theorem dX1_pans_11 : decode cX1_pans 11 = .ok (.ifCond .eq 12, 3) := dk_153 0 12 (dk_at dksX1_pans_0 11 rfl rfl)
theorem dX1_pans_14 : decode cX1_pans 14 = .ok (.aload_n 0, 1) := dk_42 (dk_at dksX1_pans_0 14 rfl rfl)
theorem dX1_pans_15 : decode cX1_pans 15 = .ok (.getfield 162, 3) := dk_180 0 162 (dk_at dksX1_pans_0 15 rfl rfl)
theorem dX1_pans_18 : decode cX1_pans 18 = .ok (.iload_n 1, 1) := dk_27 (dk_at dksX1_pans_0 18 rfl rfl)
theorem dX1_pans_19 : decode cX1_pans 19 = .ok (.iaload, 1) := dk_46 (dk_at dksX1_pans_0 19 rfl rfl)
theorem dX1_pans_20 : decode cX1_pans 20 = .ok (.goto 4, 3) := dk_167 0 4 (dk_at dksX1_pans_0 20 rfl rfl)
theorem dX1_pans_23 : decode cX1_pans 23 = .ok (.iconst (-1), 1) := dk_2 (dk_at dksX1_pans_0 23 rfl rfl)
theorem dX1_pans_24 : decode cX1_pans 24 = .ok (.ireturn, 1) := dk_172 (dk_at dksX1_pans_1 0 rfl rfl)
abbrev cX1_brown : ByteArray := prog_1_method_70_code
def yX1_brown : MethodName := ⟨RX1, "brown", "(II)J"⟩
def dkwX1_brown_9 : List UInt8 := [58, 4, 132, 5, 1, 167, 255, 142, 25, 4, 29, 47, 173]
abbrev dktX1_brown_9 : List UInt8 := dkwX1_brown_9 ++ []
def dkwX1_brown_8 : List UInt8 := [167, 0, 15, 21, 9, 4, 100, 21, 8, 126, 54, 9, 167, 255, 214, 132, 7, 1, 167, 255, 168, 25, 6]
abbrev dktX1_brown_8 : List UInt8 := dkwX1_brown_8 ++ dktX1_brown_9
def dkwX1_brown_7 : List UInt8 := [153, 0, 19, 25, 6, 21, 7, 21, 9, 128, 92, 47, 25, 4, 21, 7, 47, 97, 80, 21, 9, 154, 0, 6]
abbrev dktX1_brown_7 : List UInt8 := dkwX1_brown_7 ++ dktX1_brown_8
def dkwX1_brown_6 : List UInt8 := [154, 0, 6, 167, 0, 60, 29, 21, 7, 2, 130, 126, 54, 8, 21, 8, 54, 9, 21, 9, 28, 184, 1, 197]
abbrev dktX1_brown_6 : List UInt8 := dkwX1_brown_6 ++ dktX1_brown_7
def dkwX1_brown_5 : List UInt8 := [21, 7, 29, 163, 0, 88, 21, 7, 29, 2, 130, 126, 154, 0, 73, 25, 4, 21, 7, 47, 9, 148]
abbrev dktX1_brown_5 : List UInt8 := dkwX1_brown_5 ++ dktX1_brown_6
def dkwX1_brown_4 : List UInt8 := [25, 4, 3, 10, 80, 3, 54, 5, 21, 5, 27, 162, 0, 114, 29, 4, 96, 188, 11, 58, 6, 3, 54, 7]
abbrev dktX1_brown_4 : List UInt8 := dkwX1_brown_4 ++ dktX1_brown_5
def dkwX1_brown_3 : List UInt8 := [182, 1, 194, 5, 21, 4, 104, 120, 128, 62, 132, 4, 1, 167, 255, 216, 29, 4, 96, 188, 11, 58, 4]
abbrev dktX1_brown_3 : List UInt8 := dkwX1_brown_3 ++ dktX1_brown_4
def dkwX1_brown_2 : List UInt8 := [180, 0, 198, 162, 0, 37, 42, 21, 4, 182, 1, 194, 6, 164, 0, 7, 20, 1, 192, 173, 29, 42, 21, 4]
abbrev dktX1_brown_2 : List UInt8 := dkwX1_brown_2 ++ dktX1_brown_3
def dkwX1_brown_1 : List UInt8 := [180, 0, 198, 4, 8, 184, 0, 231, 154, 0, 7, 20, 1, 192, 173, 3, 62, 3, 54, 4, 21, 4, 42]
abbrev dktX1_brown_1 : List UInt8 := dkwX1_brown_1 ++ dktX1_brown_2
def dkwX1_brown_0 : List UInt8 := [42, 182, 0, 204, 27, 3, 16, 10, 184, 0, 231, 153, 0, 24, 28, 4, 7, 184, 0, 231, 153, 0, 15, 42]
abbrev dktX1_brown_0 : List UInt8 := dkwX1_brown_0 ++ dktX1_brown_1
theorem dksX1_brown_0 : cX1_brown.data.toList.drop 0 = dktX1_brown_0 := by decide +kernel
theorem dksX1_brown_1 : cX1_brown.data.toList.drop 24 = dktX1_brown_1 := dk_seg dksX1_brown_0 24 rfl rfl
theorem dksX1_brown_2 : cX1_brown.data.toList.drop 47 = dktX1_brown_2 := dk_seg dksX1_brown_1 23 rfl rfl
theorem dksX1_brown_3 : cX1_brown.data.toList.drop 71 = dktX1_brown_3 := dk_seg dksX1_brown_2 24 rfl rfl
theorem dksX1_brown_4 : cX1_brown.data.toList.drop 94 = dktX1_brown_4 := dk_seg dksX1_brown_3 23 rfl rfl
theorem dksX1_brown_5 : cX1_brown.data.toList.drop 118 = dktX1_brown_5 := dk_seg dksX1_brown_4 24 rfl rfl
theorem dksX1_brown_6 : cX1_brown.data.toList.drop 140 = dktX1_brown_6 := dk_seg dksX1_brown_5 22 rfl rfl
theorem dksX1_brown_7 : cX1_brown.data.toList.drop 164 = dktX1_brown_7 := dk_seg dksX1_brown_6 24 rfl rfl
theorem dksX1_brown_8 : cX1_brown.data.toList.drop 188 = dktX1_brown_8 := dk_seg dksX1_brown_7 24 rfl rfl
theorem dksX1_brown_9 : cX1_brown.data.toList.drop 211 = dktX1_brown_9 := dk_seg dksX1_brown_8 23 rfl rfl
theorem dX1_brown_0 : decode cX1_brown 0 = .ok (.aload_n 0, 1) := dk_42 (dk_at dksX1_brown_0 0 rfl rfl)
theorem dX1_brown_1 : decode cX1_brown 1 = .ok (.invokevirtual 204, 3) := dk_182 0 204 (dk_at dksX1_brown_0 1 rfl rfl)
theorem dX1_brown_4 : decode cX1_brown 4 = .ok (.iload_n 1, 1) := dk_27 (dk_at dksX1_brown_0 4 rfl rfl)
theorem dX1_brown_5 : decode cX1_brown 5 = .ok (.iconst 0, 1) := dk_3 (dk_at dksX1_brown_0 5 rfl rfl)
theorem dX1_brown_6 : decode cX1_brown 6 = .ok (.bipush 10, 2) := dk_16 10 (dk_at dksX1_brown_0 6 rfl rfl)
theorem dX1_brown_8 : decode cX1_brown 8 = .ok (.invokestatic 231, 3) := dk_184 0 231 (dk_at dksX1_brown_0 8 rfl rfl)
theorem dX1_brown_11 : decode cX1_brown 11 = .ok (.ifCond .eq 24, 3) := dk_153 0 24 (dk_at dksX1_brown_0 11 rfl rfl)
theorem dX1_brown_14 : decode cX1_brown 14 = .ok (.iload_n 2, 1) := dk_28 (dk_at dksX1_brown_0 14 rfl rfl)
theorem dX1_brown_15 : decode cX1_brown 15 = .ok (.iconst 1, 1) := dk_4 (dk_at dksX1_brown_0 15 rfl rfl)
theorem dX1_brown_16 : decode cX1_brown 16 = .ok (.iconst 4, 1) := dk_7 (dk_at dksX1_brown_0 16 rfl rfl)
theorem dX1_brown_17 : decode cX1_brown 17 = .ok (.invokestatic 231, 3) := dk_184 0 231 (dk_at dksX1_brown_0 17 rfl rfl)
theorem dX1_brown_20 : decode cX1_brown 20 = .ok (.ifCond .eq 15, 3) := dk_153 0 15 (dk_at dksX1_brown_0 20 rfl rfl)
theorem dX1_brown_23 : decode cX1_brown 23 = .ok (.aload_n 0, 1) := dk_42 (dk_at dksX1_brown_0 23 rfl rfl)
theorem dX1_brown_24 : decode cX1_brown 24 = .ok (.getfield 198, 3) := dk_180 0 198 (dk_at dksX1_brown_1 0 rfl rfl)
theorem dX1_brown_27 : decode cX1_brown 27 = .ok (.iconst 1, 1) := dk_4 (dk_at dksX1_brown_1 3 rfl rfl)
theorem dX1_brown_28 : decode cX1_brown 28 = .ok (.iconst 5, 1) := dk_8 (dk_at dksX1_brown_1 4 rfl rfl)
theorem dX1_brown_29 : decode cX1_brown 29 = .ok (.invokestatic 231, 3) := dk_184 0 231 (dk_at dksX1_brown_1 5 rfl rfl)
theorem dX1_brown_32 : decode cX1_brown 32 = .ok (.ifCond .ne 7, 3) := dk_154 0 7 (dk_at dksX1_brown_1 8 rfl rfl)
theorem dX1_brown_35 : decode cX1_brown 35 = .ok (.ldc2_w 448, 3) := dk_20 1 192 (dk_at dksX1_brown_1 11 rfl rfl)
theorem dX1_brown_38 : decode cX1_brown 38 = .ok (.lreturn, 1) := dk_173 (dk_at dksX1_brown_1 14 rfl rfl)
theorem dX1_brown_39 : decode cX1_brown 39 = .ok (.iconst 0, 1) := dk_3 (dk_at dksX1_brown_1 15 rfl rfl)
theorem dX1_brown_40 : decode cX1_brown 40 = .ok (.istore_n 3, 1) := dk_62 (dk_at dksX1_brown_1 16 rfl rfl)
theorem dX1_brown_41 : decode cX1_brown 41 = .ok (.iconst 0, 1) := dk_3 (dk_at dksX1_brown_1 17 rfl rfl)
theorem dX1_brown_42 : decode cX1_brown 42 = .ok (.istore 4, 2) := dk_54 4 (dk_at dksX1_brown_1 18 rfl rfl)
theorem dX1_brown_44 : decode cX1_brown 44 = .ok (.iload 4, 2) := dk_21 4 (dk_at dksX1_brown_1 20 rfl rfl)
theorem dX1_brown_46 : decode cX1_brown 46 = .ok (.aload_n 0, 1) := dk_42 (dk_at dksX1_brown_1 22 rfl rfl)
theorem dX1_brown_47 : decode cX1_brown 47 = .ok (.getfield 198, 3) := dk_180 0 198 (dk_at dksX1_brown_2 0 rfl rfl)
theorem dX1_brown_50 : decode cX1_brown 50 = .ok (.if_icmp .ge 37, 3) := dk_162 0 37 (dk_at dksX1_brown_2 3 rfl rfl)
theorem dX1_brown_53 : decode cX1_brown 53 = .ok (.aload_n 0, 1) := dk_42 (dk_at dksX1_brown_2 6 rfl rfl)
theorem dX1_brown_54 : decode cX1_brown 54 = .ok (.iload 4, 2) := dk_21 4 (dk_at dksX1_brown_2 7 rfl rfl)
theorem dX1_brown_56 : decode cX1_brown 56 = .ok (.invokevirtual 450, 3) := dk_182 1 194 (dk_at dksX1_brown_2 9 rfl rfl)
theorem dX1_brown_59 : decode cX1_brown 59 = .ok (.iconst 3, 1) := dk_6 (dk_at dksX1_brown_2 12 rfl rfl)
theorem dX1_brown_60 : decode cX1_brown 60 = .ok (.if_icmp .le 7, 3) := dk_164 0 7 (dk_at dksX1_brown_2 13 rfl rfl)
theorem dX1_brown_63 : decode cX1_brown 63 = .ok (.ldc2_w 448, 3) := dk_20 1 192 (dk_at dksX1_brown_2 16 rfl rfl)
theorem dX1_brown_66 : decode cX1_brown 66 = .ok (.lreturn, 1) := dk_173 (dk_at dksX1_brown_2 19 rfl rfl)
theorem dX1_brown_67 : decode cX1_brown 67 = .ok (.iload_n 3, 1) := dk_29 (dk_at dksX1_brown_2 20 rfl rfl)
theorem dX1_brown_68 : decode cX1_brown 68 = .ok (.aload_n 0, 1) := dk_42 (dk_at dksX1_brown_2 21 rfl rfl)
theorem dX1_brown_69 : decode cX1_brown 69 = .ok (.iload 4, 2) := dk_21 4 (dk_at dksX1_brown_2 22 rfl rfl)
theorem dX1_brown_71 : decode cX1_brown 71 = .ok (.invokevirtual 450, 3) := dk_182 1 194 (dk_at dksX1_brown_3 0 rfl rfl)
theorem dX1_brown_74 : decode cX1_brown 74 = .ok (.iconst 2, 1) := dk_5 (dk_at dksX1_brown_3 3 rfl rfl)
theorem dX1_brown_75 : decode cX1_brown 75 = .ok (.iload 4, 2) := dk_21 4 (dk_at dksX1_brown_3 4 rfl rfl)
theorem dX1_brown_77 : decode cX1_brown 77 = .ok (.imul, 1) := dk_104 (dk_at dksX1_brown_3 6 rfl rfl)
theorem dX1_brown_78 : decode cX1_brown 78 = .ok (.ishl, 1) := dk_120 (dk_at dksX1_brown_3 7 rfl rfl)
theorem dX1_brown_79 : decode cX1_brown 79 = .ok (.ior, 1) := dk_128 (dk_at dksX1_brown_3 8 rfl rfl)
theorem dX1_brown_80 : decode cX1_brown 80 = .ok (.istore_n 3, 1) := dk_62 (dk_at dksX1_brown_3 9 rfl rfl)
theorem dX1_brown_81 : decode cX1_brown 81 = .ok (.iinc 4 1, 3) := dk_132 4 1 (dk_at dksX1_brown_3 10 rfl rfl)
theorem dX1_brown_84 : decode cX1_brown 84 = .ok (.goto (-40), 3) := dk_167 255 216 (dk_at dksX1_brown_3 13 rfl rfl)
theorem dX1_brown_87 : decode cX1_brown 87 = .ok (.iload_n 3, 1) := dk_29 (dk_at dksX1_brown_3 16 rfl rfl)
theorem dX1_brown_88 : decode cX1_brown 88 = .ok (.iconst 1, 1) := dk_4 (dk_at dksX1_brown_3 17 rfl rfl)
theorem dX1_brown_89 : decode cX1_brown 89 = .ok (.iadd, 1) := dk_96 (dk_at dksX1_brown_3 18 rfl rfl)
theorem dX1_brown_90 : decode cX1_brown 90 = .ok (.newarray .long, 2) := dk_188_11 (dk_at dksX1_brown_3 19 rfl rfl)
theorem dX1_brown_92 : decode cX1_brown 92 = .ok (.astore 4, 2) := dk_58 4 (dk_at dksX1_brown_3 21 rfl rfl)
theorem dX1_brown_94 : decode cX1_brown 94 = .ok (.aload 4, 2) := dk_25 4 (dk_at dksX1_brown_4 0 rfl rfl)
theorem dX1_brown_96 : decode cX1_brown 96 = .ok (.iconst 0, 1) := dk_3 (dk_at dksX1_brown_4 2 rfl rfl)
theorem dX1_brown_97 : decode cX1_brown 97 = .ok (.lconst 1, 1) := dk_10 (dk_at dksX1_brown_4 3 rfl rfl)
theorem dX1_brown_98 : decode cX1_brown 98 = .ok (.lastore, 1) := dk_80 (dk_at dksX1_brown_4 4 rfl rfl)
theorem dX1_brown_99 : decode cX1_brown 99 = .ok (.iconst 0, 1) := dk_3 (dk_at dksX1_brown_4 5 rfl rfl)
theorem dX1_brown_100 : decode cX1_brown 100 = .ok (.istore 5, 2) := dk_54 5 (dk_at dksX1_brown_4 6 rfl rfl)
theorem dX1_brown_102 : decode cX1_brown 102 = .ok (.iload 5, 2) := dk_21 5 (dk_at dksX1_brown_4 8 rfl rfl)
theorem dX1_brown_104 : decode cX1_brown 104 = .ok (.iload_n 1, 1) := dk_27 (dk_at dksX1_brown_4 10 rfl rfl)
theorem dX1_brown_105 : decode cX1_brown 105 = .ok (.if_icmp .ge 114, 3) := dk_162 0 114 (dk_at dksX1_brown_4 11 rfl rfl)
theorem dX1_brown_108 : decode cX1_brown 108 = .ok (.iload_n 3, 1) := dk_29 (dk_at dksX1_brown_4 14 rfl rfl)
theorem dX1_brown_109 : decode cX1_brown 109 = .ok (.iconst 1, 1) := dk_4 (dk_at dksX1_brown_4 15 rfl rfl)
theorem dX1_brown_110 : decode cX1_brown 110 = .ok (.iadd, 1) := dk_96 (dk_at dksX1_brown_4 16 rfl rfl)
theorem dX1_brown_111 : decode cX1_brown 111 = .ok (.newarray .long, 2) := dk_188_11 (dk_at dksX1_brown_4 17 rfl rfl)
theorem dX1_brown_113 : decode cX1_brown 113 = .ok (.astore 6, 2) := dk_58 6 (dk_at dksX1_brown_4 19 rfl rfl)
theorem dX1_brown_115 : decode cX1_brown 115 = .ok (.iconst 0, 1) := dk_3 (dk_at dksX1_brown_4 21 rfl rfl)
theorem dX1_brown_116 : decode cX1_brown 116 = .ok (.istore 7, 2) := dk_54 7 (dk_at dksX1_brown_4 22 rfl rfl)
theorem dX1_brown_118 : decode cX1_brown 118 = .ok (.iload 7, 2) := dk_21 7 (dk_at dksX1_brown_5 0 rfl rfl)
theorem dX1_brown_120 : decode cX1_brown 120 = .ok (.iload_n 3, 1) := dk_29 (dk_at dksX1_brown_5 2 rfl rfl)
theorem dX1_brown_121 : decode cX1_brown 121 = .ok (.if_icmp .gt 88, 3) := dk_163 0 88 (dk_at dksX1_brown_5 3 rfl rfl)
theorem dX1_brown_124 : decode cX1_brown 124 = .ok (.iload 7, 2) := dk_21 7 (dk_at dksX1_brown_5 6 rfl rfl)
theorem dX1_brown_126 : decode cX1_brown 126 = .ok (.iload_n 3, 1) := dk_29 (dk_at dksX1_brown_5 8 rfl rfl)
theorem dX1_brown_127 : decode cX1_brown 127 = .ok (.iconst (-1), 1) := dk_2 (dk_at dksX1_brown_5 9 rfl rfl)
theorem dX1_brown_128 : decode cX1_brown 128 = .ok (.ixor, 1) := dk_130 (dk_at dksX1_brown_5 10 rfl rfl)
theorem dX1_brown_129 : decode cX1_brown 129 = .ok (.iand, 1) := dk_126 (dk_at dksX1_brown_5 11 rfl rfl)
theorem dX1_brown_130 : decode cX1_brown 130 = .ok (.ifCond .ne 73, 3) := dk_154 0 73 (dk_at dksX1_brown_5 12 rfl rfl)
theorem dX1_brown_133 : decode cX1_brown 133 = .ok (.aload 4, 2) := dk_25 4 (dk_at dksX1_brown_5 15 rfl rfl)
theorem dX1_brown_135 : decode cX1_brown 135 = .ok (.iload 7, 2) := dk_21 7 (dk_at dksX1_brown_5 17 rfl rfl)
theorem dX1_brown_137 : decode cX1_brown 137 = .ok (.laload, 1) := dk_47 (dk_at dksX1_brown_5 19 rfl rfl)
theorem dX1_brown_138 : decode cX1_brown 138 = .ok (.lconst 0, 1) := dk_9 (dk_at dksX1_brown_5 20 rfl rfl)
theorem dX1_brown_139 : decode cX1_brown 139 = .ok (.lcmp, 1) := dk_148 (dk_at dksX1_brown_5 21 rfl rfl)
theorem dX1_brown_140 : decode cX1_brown 140 = .ok (.ifCond .ne 6, 3) := dk_154 0 6 (dk_at dksX1_brown_6 0 rfl rfl)
theorem dX1_brown_143 : decode cX1_brown 143 = .ok (.goto 60, 3) := dk_167 0 60 (dk_at dksX1_brown_6 3 rfl rfl)
theorem dX1_brown_146 : decode cX1_brown 146 = .ok (.iload_n 3, 1) := dk_29 (dk_at dksX1_brown_6 6 rfl rfl)
theorem dX1_brown_147 : decode cX1_brown 147 = .ok (.iload 7, 2) := dk_21 7 (dk_at dksX1_brown_6 7 rfl rfl)
theorem dX1_brown_149 : decode cX1_brown 149 = .ok (.iconst (-1), 1) := dk_2 (dk_at dksX1_brown_6 9 rfl rfl)
theorem dX1_brown_150 : decode cX1_brown 150 = .ok (.ixor, 1) := dk_130 (dk_at dksX1_brown_6 10 rfl rfl)
theorem dX1_brown_151 : decode cX1_brown 151 = .ok (.iand, 1) := dk_126 (dk_at dksX1_brown_6 11 rfl rfl)
theorem dX1_brown_152 : decode cX1_brown 152 = .ok (.istore 8, 2) := dk_54 8 (dk_at dksX1_brown_6 12 rfl rfl)
theorem dX1_brown_154 : decode cX1_brown 154 = .ok (.iload 8, 2) := dk_21 8 (dk_at dksX1_brown_6 14 rfl rfl)
theorem dX1_brown_156 : decode cX1_brown 156 = .ok (.istore 9, 2) := dk_54 9 (dk_at dksX1_brown_6 16 rfl rfl)
theorem dX1_brown_158 : decode cX1_brown 158 = .ok (.iload 9, 2) := dk_21 9 (dk_at dksX1_brown_6 18 rfl rfl)
theorem dX1_brown_160 : decode cX1_brown 160 = .ok (.iload_n 2, 1) := dk_28 (dk_at dksX1_brown_6 20 rfl rfl)
theorem dX1_brown_161 : decode cX1_brown 161 = .ok (.invokestatic 453, 3) := dk_184 1 197 (dk_at dksX1_brown_6 21 rfl rfl)
theorem dX1_brown_164 : decode cX1_brown 164 = .ok (.ifCond .eq 19, 3) := dk_153 0 19 (dk_at dksX1_brown_7 0 rfl rfl)
theorem dX1_brown_167 : decode cX1_brown 167 = .ok (.aload 6, 2) := dk_25 6 (dk_at dksX1_brown_7 3 rfl rfl)
theorem dX1_brown_169 : decode cX1_brown 169 = .ok (.iload 7, 2) := dk_21 7 (dk_at dksX1_brown_7 5 rfl rfl)
theorem dX1_brown_171 : decode cX1_brown 171 = .ok (.iload 9, 2) := dk_21 9 (dk_at dksX1_brown_7 7 rfl rfl)
theorem dX1_brown_173 : decode cX1_brown 173 = .ok (.ior, 1) := dk_128 (dk_at dksX1_brown_7 9 rfl rfl)
theorem dX1_brown_174 : decode cX1_brown 174 = .ok (.dup2, 1) := dk_92 (dk_at dksX1_brown_7 10 rfl rfl)
theorem dX1_brown_175 : decode cX1_brown 175 = .ok (.laload, 1) := dk_47 (dk_at dksX1_brown_7 11 rfl rfl)
theorem dX1_brown_176 : decode cX1_brown 176 = .ok (.aload 4, 2) := dk_25 4 (dk_at dksX1_brown_7 12 rfl rfl)
theorem dX1_brown_178 : decode cX1_brown 178 = .ok (.iload 7, 2) := dk_21 7 (dk_at dksX1_brown_7 14 rfl rfl)
theorem dX1_brown_180 : decode cX1_brown 180 = .ok (.laload, 1) := dk_47 (dk_at dksX1_brown_7 16 rfl rfl)
theorem dX1_brown_181 : decode cX1_brown 181 = .ok (.ladd, 1) := dk_97 (dk_at dksX1_brown_7 17 rfl rfl)
theorem dX1_brown_182 : decode cX1_brown 182 = .ok (.lastore, 1) := dk_80 (dk_at dksX1_brown_7 18 rfl rfl)
theorem dX1_brown_183 : decode cX1_brown 183 = .ok (.iload 9, 2) := dk_21 9 (dk_at dksX1_brown_7 19 rfl rfl)
theorem dX1_brown_185 : decode cX1_brown 185 = .ok (.ifCond .ne 6, 3) := dk_154 0 6 (dk_at dksX1_brown_7 21 rfl rfl)
theorem dX1_brown_188 : decode cX1_brown 188 = .ok (.goto 15, 3) := dk_167 0 15 (dk_at dksX1_brown_8 0 rfl rfl)
theorem dX1_brown_191 : decode cX1_brown 191 = .ok (.iload 9, 2) := dk_21 9 (dk_at dksX1_brown_8 3 rfl rfl)
theorem dX1_brown_193 : decode cX1_brown 193 = .ok (.iconst 1, 1) := dk_4 (dk_at dksX1_brown_8 5 rfl rfl)
theorem dX1_brown_194 : decode cX1_brown 194 = .ok (.isub, 1) := dk_100 (dk_at dksX1_brown_8 6 rfl rfl)
theorem dX1_brown_195 : decode cX1_brown 195 = .ok (.iload 8, 2) := dk_21 8 (dk_at dksX1_brown_8 7 rfl rfl)
theorem dX1_brown_197 : decode cX1_brown 197 = .ok (.iand, 1) := dk_126 (dk_at dksX1_brown_8 9 rfl rfl)
theorem dX1_brown_198 : decode cX1_brown 198 = .ok (.istore 9, 2) := dk_54 9 (dk_at dksX1_brown_8 10 rfl rfl)
theorem dX1_brown_200 : decode cX1_brown 200 = .ok (.goto (-42), 3) := dk_167 255 214 (dk_at dksX1_brown_8 12 rfl rfl)
theorem dX1_brown_203 : decode cX1_brown 203 = .ok (.iinc 7 1, 3) := dk_132 7 1 (dk_at dksX1_brown_8 15 rfl rfl)
theorem dX1_brown_206 : decode cX1_brown 206 = .ok (.goto (-88), 3) := dk_167 255 168 (dk_at dksX1_brown_8 18 rfl rfl)
theorem dX1_brown_209 : decode cX1_brown 209 = .ok (.aload 6, 2) := dk_25 6 (dk_at dksX1_brown_8 21 rfl rfl)
theorem dX1_brown_211 : decode cX1_brown 211 = .ok (.astore 4, 2) := dk_58 4 (dk_at dksX1_brown_9 0 rfl rfl)
theorem dX1_brown_213 : decode cX1_brown 213 = .ok (.iinc 5 1, 3) := dk_132 5 1 (dk_at dksX1_brown_9 2 rfl rfl)
theorem dX1_brown_216 : decode cX1_brown 216 = .ok (.goto (-114), 3) := dk_167 255 142 (dk_at dksX1_brown_9 5 rfl rfl)
theorem dX1_brown_219 : decode cX1_brown 219 = .ok (.aload 4, 2) := dk_25 4 (dk_at dksX1_brown_9 8 rfl rfl)
theorem dX1_brown_221 : decode cX1_brown 221 = .ok (.iload_n 3, 1) := dk_29 (dk_at dksX1_brown_9 10 rfl rfl)
theorem dX1_brown_222 : decode cX1_brown 222 = .ok (.laload, 1) := dk_47 (dk_at dksX1_brown_9 11 rfl rfl)
theorem dX1_brown_223 : decode cX1_brown 223 = .ok (.lreturn, 1) := dk_173 (dk_at dksX1_brown_9 12 rfl rfl)
abbrev cX1_one_2 : ByteArray := prog_1_method_6_code
def yX1_one_2 : MethodName := ⟨RX1, "one", "(I)I"⟩
def dkwX1_one_2_0 : List UInt8 := [42, 180, 0, 9, 27, 51, 17, 0, 255, 126, 172]
abbrev dktX1_one_2_0 : List UInt8 := dkwX1_one_2_0 ++ []
theorem dksX1_one_2_0 : cX1_one_2.data.toList.drop 0 = dktX1_one_2_0 := by decide +kernel
theorem dX1_one_2_0 : decode cX1_one_2 0 = .ok (.aload_n 0, 1) := dk_42 (dk_at dksX1_one_2_0 0 rfl rfl)
theorem dX1_one_2_1 : decode cX1_one_2 1 = .ok (.getfield 9, 3) := dk_180 0 9 (dk_at dksX1_one_2_0 1 rfl rfl)
theorem dX1_one_2_4 : decode cX1_one_2 4 = .ok (.iload_n 1, 1) := dk_27 (dk_at dksX1_one_2_0 4 rfl rfl)
theorem dX1_one_2_5 : decode cX1_one_2 5 = .ok (.baload, 1) := dk_51 (dk_at dksX1_one_2_0 5 rfl rfl)
theorem dX1_one_2_6 : decode cX1_one_2 6 = .ok (.sipush 255, 3) := dk_17 0 255 (dk_at dksX1_one_2_0 6 rfl rfl)
theorem dX1_one_2_9 : decode cX1_one_2 9 = .ok (.iand, 1) := dk_126 (dk_at dksX1_one_2_0 9 rfl rfl)
theorem dX1_one_2_10 : decode cX1_one_2 10 = .ok (.ireturn, 1) := dk_172 (dk_at dksX1_one_2_0 10 rfl rfl)
abbrev cX1_isMinute : ByteArray := prog_1_method_69_code
def yX1_isMinute : MethodName := ⟨RX1, "isMinute", "(II)Z"⟩
def dkwX1_isMinute_1 : List UInt8 := [3, 172]
abbrev dktX1_isMinute_1 : List UInt8 := dkwX1_isMinute_1 ++ []
def dkwX1_isMinute_0 : List UInt8 := [26, 184, 1, 174, 27, 163, 0, 19, 26, 26, 4, 122, 126, 17, 1, 85, 126, 154, 0, 7, 4, 167, 0, 4]
abbrev dktX1_isMinute_0 : List UInt8 := dkwX1_isMinute_0 ++ dktX1_isMinute_1
theorem dksX1_isMinute_0 : cX1_isMinute.data.toList.drop 0 = dktX1_isMinute_0 := by decide +kernel
theorem dksX1_isMinute_1 : cX1_isMinute.data.toList.drop 24 = dktX1_isMinute_1 := dk_seg dksX1_isMinute_0 24 rfl rfl
theorem dX1_isMinute_0 : decode cX1_isMinute 0 = .ok (.iload_n 0, 1) := dk_26 (dk_at dksX1_isMinute_0 0 rfl rfl)
theorem dX1_isMinute_1 : decode cX1_isMinute 1 = .ok (.invokestatic 430, 3) := dk_184 1 174 (dk_at dksX1_isMinute_0 1 rfl rfl)
theorem dX1_isMinute_4 : decode cX1_isMinute 4 = .ok (.iload_n 1, 1) := dk_27 (dk_at dksX1_isMinute_0 4 rfl rfl)
theorem dX1_isMinute_5 : decode cX1_isMinute 5 = .ok (.if_icmp .gt 19, 3) := dk_163 0 19 (dk_at dksX1_isMinute_0 5 rfl rfl)
theorem dX1_isMinute_8 : decode cX1_isMinute 8 = .ok (.iload_n 0, 1) := dk_26 (dk_at dksX1_isMinute_0 8 rfl rfl)
theorem dX1_isMinute_9 : decode cX1_isMinute 9 = .ok (.iload_n 0, 1) := dk_26 (dk_at dksX1_isMinute_0 9 rfl rfl)
theorem dX1_isMinute_10 : decode cX1_isMinute 10 = .ok (.iconst 1, 1) := dk_4 (dk_at dksX1_isMinute_0 10 rfl rfl)
theorem dX1_isMinute_11 : decode cX1_isMinute 11 = .ok (.ishr, 1) := dk_122 (dk_at dksX1_isMinute_0 11 rfl rfl)
theorem dX1_isMinute_12 : decode cX1_isMinute 12 = .ok (.iand, 1) := dk_126 (dk_at dksX1_isMinute_0 12 rfl rfl)
theorem dX1_isMinute_13 : decode cX1_isMinute 13 = .ok (.sipush 341, 3) := dk_17 1 85 (dk_at dksX1_isMinute_0 13 rfl rfl)
theorem dX1_isMinute_16 : decode cX1_isMinute 16 = .ok (.iand, 1) := dk_126 (dk_at dksX1_isMinute_0 16 rfl rfl)
theorem dX1_isMinute_17 : decode cX1_isMinute 17 = .ok (.ifCond .ne 7, 3) := dk_154 0 7 (dk_at dksX1_isMinute_0 17 rfl rfl)
theorem dX1_isMinute_20 : decode cX1_isMinute 20 = .ok (.iconst 1, 1) := dk_4 (dk_at dksX1_isMinute_0 20 rfl rfl)
theorem dX1_isMinute_21 : decode cX1_isMinute 21 = .ok (.goto 4, 3) := dk_167 0 4 (dk_at dksX1_isMinute_0 21 rfl rfl)
theorem dX1_isMinute_24 : decode cX1_isMinute 24 = .ok (.iconst 0, 1) := dk_3 (dk_at dksX1_isMinute_1 0 rfl rfl)
theorem dX1_isMinute_25 : decode cX1_isMinute 25 = .ok (.ireturn, 1) := dk_172 (dk_at dksX1_isMinute_1 1 rfl rfl)
abbrev cX1_morning : ByteArray := prog_1_method_74_code
def yX1_morning : MethodName := ⟨RX1, "morning", "(I)I"⟩
def dkwX1_morning_0 : List UInt8 := [42, 180, 0, 66, 180, 0, 228, 154, 0, 7, 2, 167, 0, 8, 42, 27, 182, 1, 210, 172]
abbrev dktX1_morning_0 : List UInt8 := dkwX1_morning_0 ++ []
theorem dksX1_morning_0 : cX1_morning.data.toList.drop 0 = dktX1_morning_0 := by decide +kernel
theorem dX1_morning_0 : decode cX1_morning 0 = .ok (.aload_n 0, 1) := dk_42 (dk_at dksX1_morning_0 0 rfl rfl)
theorem dX1_morning_1 : decode cX1_morning 1 = .ok (.getfield 66, 3) := dk_180 0 66 (dk_at dksX1_morning_0 1 rfl rfl)
theorem dX1_morning_4 : decode cX1_morning 4 = .ok (.getfield 228, 3) := dk_180 0 228 (dk_at dksX1_morning_0 4 rfl rfl)
theorem dX1_morning_7 : decode cX1_morning 7 = .ok (.ifCond .ne 7, 3) := dk_154 0 7 (dk_at dksX1_morning_0 7 rfl rfl)
theorem dX1_morning_10 : decode cX1_morning 10 = .ok (.iconst (-1), 1) := dk_2 (dk_at dksX1_morning_0 10 rfl rfl)
theorem dX1_morning_11 : decode cX1_morning 11 = .ok (.goto 8, 3) := dk_167 0 8 (dk_at dksX1_morning_0 11 rfl rfl)
theorem dX1_morning_14 : decode cX1_morning 14 = .ok (.aload_n 0, 1) := dk_42 (dk_at dksX1_morning_0 14 rfl rfl)
theorem dX1_morning_15 : decode cX1_morning 15 = .ok (.iload_n 1, 1) := dk_27 (dk_at dksX1_morning_0 15 rfl rfl)
theorem dX1_morning_16 : decode cX1_morning 16 = .ok (.invokevirtual 466, 3) := dk_182 1 210 (dk_at dksX1_morning_0 16 rfl rfl)
theorem dX1_morning_19 : decode cX1_morning 19 = .ok (.ireturn, 1) := dk_172 (dk_at dksX1_morning_0 19 rfl rfl)
abbrev cX1_morningOf : ByteArray := prog_1_method_73_code
def yX1_morningOf : MethodName := ⟨RX1, "morningOf", "(I)I"⟩
def dkwX1_morningOf_7 : List UInt8 := [132, 3, 1, 167, 255, 127, 29, 172]
abbrev dktX1_morningOf_7 : List UInt8 := dkwX1_morningOf_7 ++ []
def dkwX1_morningOf_6 : List UInt8 := [180, 0, 138, 5, 21, 6, 104, 21, 7, 96, 92, 46, 4, 100, 79, 132, 2, 255, 132, 5, 1, 167, 255, 143]
abbrev dktX1_morningOf_6 : List UInt8 := dkwX1_morningOf_6 ++ dktX1_morningOf_7
def dkwX1_morningOf_5 : List UInt8 := [167, 0, 20, 42, 180, 0, 138, 5, 21, 6, 104, 46, 158, 0, 7, 3, 167, 0, 4, 4, 54, 7, 42]
abbrev dktX1_morningOf_5 : List UInt8 := dkwX1_morningOf_5 ++ dktX1_morningOf_6
def dkwX1_morningOf_4 : List UInt8 := [158, 0, 25, 42, 180, 0, 138, 5, 21, 6, 104, 4, 96, 46, 158, 0, 11, 42, 5, 182, 1, 204]
abbrev dktX1_morningOf_4 : List UInt8 := dkwX1_morningOf_4 ++ dktX1_morningOf_5
def dkwX1_morningOf_3 : List UInt8 := [160, 0, 6, 167, 0, 90, 21, 4, 4, 21, 6, 120, 128, 54, 4, 42, 180, 0, 138, 5, 21, 6, 104, 46]
abbrev dktX1_morningOf_3 : List UInt8 := dkwX1_morningOf_3 ++ dktX1_morningOf_4
def dkwX1_morningOf_2 : List UInt8 := [21, 5, 42, 180, 0, 66, 180, 1, 76, 162, 0, 107, 42, 21, 4, 182, 1, 207, 54, 6, 21, 6, 2]
abbrev dktX1_morningOf_2 : List UInt8 := dkwX1_morningOf_2 ++ dktX1_morningOf_3
def dkwX1_morningOf_1 : List UInt8 := [184, 1, 70, 42, 180, 0, 66, 182, 1, 105, 61, 3, 62, 28, 158, 0, 131, 3, 54, 4, 3, 54, 5]
abbrev dktX1_morningOf_1 : List UInt8 := dkwX1_morningOf_1 ++ dktX1_morningOf_2
def dkwX1_morningOf_0 : List UInt8 := [42, 27, 181, 1, 200, 42, 180, 0, 66, 180, 0, 243, 3, 42, 180, 0, 138, 3, 42, 180, 0, 138, 190]
abbrev dktX1_morningOf_0 : List UInt8 := dkwX1_morningOf_0 ++ dktX1_morningOf_1
theorem dksX1_morningOf_0 : cX1_morningOf.data.toList.drop 0 = dktX1_morningOf_0 := by decide +kernel
theorem dksX1_morningOf_1 : cX1_morningOf.data.toList.drop 23 = dktX1_morningOf_1 := dk_seg dksX1_morningOf_0 23 rfl rfl
theorem dksX1_morningOf_2 : cX1_morningOf.data.toList.drop 46 = dktX1_morningOf_2 := dk_seg dksX1_morningOf_1 23 rfl rfl
theorem dksX1_morningOf_3 : cX1_morningOf.data.toList.drop 69 = dktX1_morningOf_3 := dk_seg dksX1_morningOf_2 23 rfl rfl
theorem dksX1_morningOf_4 : cX1_morningOf.data.toList.drop 93 = dktX1_morningOf_4 := dk_seg dksX1_morningOf_3 24 rfl rfl
theorem dksX1_morningOf_5 : cX1_morningOf.data.toList.drop 115 = dktX1_morningOf_5 := dk_seg dksX1_morningOf_4 22 rfl rfl
theorem dksX1_morningOf_6 : cX1_morningOf.data.toList.drop 138 = dktX1_morningOf_6 := dk_seg dksX1_morningOf_5 23 rfl rfl
theorem dksX1_morningOf_7 : cX1_morningOf.data.toList.drop 162 = dktX1_morningOf_7 := dk_seg dksX1_morningOf_6 24 rfl rfl
theorem dX1_morningOf_0 : decode cX1_morningOf 0 = .ok (.aload_n 0, 1) := dk_42 (dk_at dksX1_morningOf_0 0 rfl rfl)
theorem dX1_morningOf_1 : decode cX1_morningOf 1 = .ok (.iload_n 1, 1) := dk_27 (dk_at dksX1_morningOf_0 1 rfl rfl)
theorem dX1_morningOf_2 : decode cX1_morningOf 2 = .ok (.putfield 456, 3) := dk_181 1 200 (dk_at dksX1_morningOf_0 2 rfl rfl)
theorem dX1_morningOf_5 : decode cX1_morningOf 5 = .ok (.aload_n 0, 1) := dk_42 (dk_at dksX1_morningOf_0 5 rfl rfl)
theorem dX1_morningOf_6 : decode cX1_morningOf 6 = .ok (.getfield 66, 3) := dk_180 0 66 (dk_at dksX1_morningOf_0 6 rfl rfl)
theorem dX1_morningOf_9 : decode cX1_morningOf 9 = .ok (.getfield 243, 3) := dk_180 0 243 (dk_at dksX1_morningOf_0 9 rfl rfl)
theorem dX1_morningOf_12 : decode cX1_morningOf 12 = .ok (.iconst 0, 1) := dk_3 (dk_at dksX1_morningOf_0 12 rfl rfl)
theorem dX1_morningOf_13 : decode cX1_morningOf 13 = .ok (.aload_n 0, 1) := dk_42 (dk_at dksX1_morningOf_0 13 rfl rfl)
theorem dX1_morningOf_14 : decode cX1_morningOf 14 = .ok (.getfield 138, 3) := dk_180 0 138 (dk_at dksX1_morningOf_0 14 rfl rfl)
theorem dX1_morningOf_17 : decode cX1_morningOf 17 = .ok (.iconst 0, 1) := dk_3 (dk_at dksX1_morningOf_0 17 rfl rfl)
theorem dX1_morningOf_18 : decode cX1_morningOf 18 = .ok (.aload_n 0, 1) := dk_42 (dk_at dksX1_morningOf_0 18 rfl rfl)
theorem dX1_morningOf_19 : decode cX1_morningOf 19 = .ok (.getfield 138, 3) := dk_180 0 138 (dk_at dksX1_morningOf_0 19 rfl rfl)
theorem dX1_morningOf_22 : decode cX1_morningOf 22 = .ok (.arraylength, 1) := dk_190 (dk_at dksX1_morningOf_0 22 rfl rfl)
theorem dX1_morningOf_23 : decode cX1_morningOf 23 = .ok (.invokestatic 326, 3) := dk_184 1 70 (dk_at dksX1_morningOf_1 0 rfl rfl)
theorem dX1_morningOf_26 : decode cX1_morningOf 26 = .ok (.aload_n 0, 1) := dk_42 (dk_at dksX1_morningOf_1 3 rfl rfl)
theorem dX1_morningOf_27 : decode cX1_morningOf 27 = .ok (.getfield 66, 3) := dk_180 0 66 (dk_at dksX1_morningOf_1 4 rfl rfl)
theorem dX1_morningOf_30 : decode cX1_morningOf 30 = .ok (.invokevirtual 361, 3) := dk_182 1 105 (dk_at dksX1_morningOf_1 7 rfl rfl)
theorem dX1_morningOf_33 : decode cX1_morningOf 33 = .ok (.istore_n 2, 1) := dk_61 (dk_at dksX1_morningOf_1 10 rfl rfl)
theorem dX1_morningOf_34 : decode cX1_morningOf 34 = .ok (.iconst 0, 1) := dk_3 (dk_at dksX1_morningOf_1 11 rfl rfl)
theorem dX1_morningOf_35 : decode cX1_morningOf 35 = .ok (.istore_n 3, 1) := dk_62 (dk_at dksX1_morningOf_1 12 rfl rfl)
theorem dX1_morningOf_36 : decode cX1_morningOf 36 = .ok (.iload_n 2, 1) := dk_28 (dk_at dksX1_morningOf_1 13 rfl rfl)
theorem dX1_morningOf_37 : decode cX1_morningOf 37 = .ok (.ifCond .le 131, 3) := dk_158 0 131 (dk_at dksX1_morningOf_1 14 rfl rfl)
theorem dX1_morningOf_40 : decode cX1_morningOf 40 = .ok (.iconst 0, 1) := dk_3 (dk_at dksX1_morningOf_1 17 rfl rfl)
theorem dX1_morningOf_41 : decode cX1_morningOf 41 = .ok (.istore 4, 2) := dk_54 4 (dk_at dksX1_morningOf_1 18 rfl rfl)
theorem dX1_morningOf_43 : decode cX1_morningOf 43 = .ok (.iconst 0, 1) := dk_3 (dk_at dksX1_morningOf_1 20 rfl rfl)
theorem dX1_morningOf_44 : decode cX1_morningOf 44 = .ok (.istore 5, 2) := dk_54 5 (dk_at dksX1_morningOf_1 21 rfl rfl)
theorem dX1_morningOf_46 : decode cX1_morningOf 46 = .ok (.iload 5, 2) := dk_21 5 (dk_at dksX1_morningOf_2 0 rfl rfl)
theorem dX1_morningOf_48 : decode cX1_morningOf 48 = .ok (.aload_n 0, 1) := dk_42 (dk_at dksX1_morningOf_2 2 rfl rfl)
theorem dX1_morningOf_49 : decode cX1_morningOf 49 = .ok (.getfield 66, 3) := dk_180 0 66 (dk_at dksX1_morningOf_2 3 rfl rfl)
theorem dX1_morningOf_52 : decode cX1_morningOf 52 = .ok (.getfield 332, 3) := dk_180 1 76 (dk_at dksX1_morningOf_2 6 rfl rfl)
theorem dX1_morningOf_55 : decode cX1_morningOf 55 = .ok (.if_icmp .ge 107, 3) := dk_162 0 107 (dk_at dksX1_morningOf_2 9 rfl rfl)
theorem dX1_morningOf_58 : decode cX1_morningOf 58 = .ok (.aload_n 0, 1) := dk_42 (dk_at dksX1_morningOf_2 12 rfl rfl)
theorem dX1_morningOf_59 : decode cX1_morningOf 59 = .ok (.iload 4, 2) := dk_21 4 (dk_at dksX1_morningOf_2 13 rfl rfl)
theorem dX1_morningOf_61 : decode cX1_morningOf 61 = .ok (.invokevirtual 463, 3) := dk_182 1 207 (dk_at dksX1_morningOf_2 15 rfl rfl)
theorem dX1_morningOf_64 : decode cX1_morningOf 64 = .ok (.istore 6, 2) := dk_54 6 (dk_at dksX1_morningOf_2 18 rfl rfl)
theorem dX1_morningOf_66 : decode cX1_morningOf 66 = .ok (.iload 6, 2) := dk_21 6 (dk_at dksX1_morningOf_2 20 rfl rfl)
theorem dX1_morningOf_68 : decode cX1_morningOf 68 = .ok (.iconst (-1), 1) := dk_2 (dk_at dksX1_morningOf_2 22 rfl rfl)
theorem dX1_morningOf_69 : decode cX1_morningOf 69 = .ok (.if_icmp .ne 6, 3) := dk_160 0 6 (dk_at dksX1_morningOf_3 0 rfl rfl)
theorem dX1_morningOf_72 : decode cX1_morningOf 72 = .ok (.goto 90, 3) := dk_167 0 90 (dk_at dksX1_morningOf_3 3 rfl rfl)
theorem dX1_morningOf_75 : decode cX1_morningOf 75 = .ok (.iload 4, 2) := dk_21 4 (dk_at dksX1_morningOf_3 6 rfl rfl)
theorem dX1_morningOf_77 : decode cX1_morningOf 77 = .ok (.iconst 1, 1) := dk_4 (dk_at dksX1_morningOf_3 8 rfl rfl)
theorem dX1_morningOf_78 : decode cX1_morningOf 78 = .ok (.iload 6, 2) := dk_21 6 (dk_at dksX1_morningOf_3 9 rfl rfl)
theorem dX1_morningOf_80 : decode cX1_morningOf 80 = .ok (.ishl, 1) := dk_120 (dk_at dksX1_morningOf_3 11 rfl rfl)
theorem dX1_morningOf_81 : decode cX1_morningOf 81 = .ok (.ior, 1) := dk_128 (dk_at dksX1_morningOf_3 12 rfl rfl)
theorem dX1_morningOf_82 : decode cX1_morningOf 82 = .ok (.istore 4, 2) := dk_54 4 (dk_at dksX1_morningOf_3 13 rfl rfl)
theorem dX1_morningOf_84 : decode cX1_morningOf 84 = .ok (.aload_n 0, 1) := dk_42 (dk_at dksX1_morningOf_3 15 rfl rfl)
theorem dX1_morningOf_85 : decode cX1_morningOf 85 = .ok (.getfield 138, 3) := dk_180 0 138 (dk_at dksX1_morningOf_3 16 rfl rfl)
theorem dX1_morningOf_88 : decode cX1_morningOf 88 = .ok (.iconst 2, 1) := dk_5 (dk_at dksX1_morningOf_3 19 rfl rfl)
theorem dX1_morningOf_89 : decode cX1_morningOf 89 = .ok (.iload 6, 2) := dk_21 6 (dk_at dksX1_morningOf_3 20 rfl rfl)
theorem dX1_morningOf_91 : decode cX1_morningOf 91 = .ok (.imul, 1) := dk_104 (dk_at dksX1_morningOf_3 22 rfl rfl)
theorem dX1_morningOf_92 : decode cX1_morningOf 92 = .ok (.iaload, 1) := dk_46 (dk_at dksX1_morningOf_3 23 rfl rfl)
theorem dX1_morningOf_93 : decode cX1_morningOf 93 = .ok (.ifCond .le 25, 3) := dk_158 0 25 (dk_at dksX1_morningOf_4 0 rfl rfl)
theorem dX1_morningOf_96 : decode cX1_morningOf 96 = .ok (.aload_n 0, 1) := dk_42 (dk_at dksX1_morningOf_4 3 rfl rfl)
theorem dX1_morningOf_97 : decode cX1_morningOf 97 = .ok (.getfield 138, 3) := dk_180 0 138 (dk_at dksX1_morningOf_4 4 rfl rfl)
theorem dX1_morningOf_100 : decode cX1_morningOf 100 = .ok (.iconst 2, 1) := dk_5 (dk_at dksX1_morningOf_4 7 rfl rfl)
theorem dX1_morningOf_101 : decode cX1_morningOf 101 = .ok (.iload 6, 2) := dk_21 6 (dk_at dksX1_morningOf_4 8 rfl rfl)
theorem dX1_morningOf_103 : decode cX1_morningOf 103 = .ok (.imul, 1) := dk_104 (dk_at dksX1_morningOf_4 10 rfl rfl)
theorem dX1_morningOf_104 : decode cX1_morningOf 104 = .ok (.iconst 1, 1) := dk_4 (dk_at dksX1_morningOf_4 11 rfl rfl)
theorem dX1_morningOf_105 : decode cX1_morningOf 105 = .ok (.iadd, 1) := dk_96 (dk_at dksX1_morningOf_4 12 rfl rfl)
theorem dX1_morningOf_106 : decode cX1_morningOf 106 = .ok (.iaload, 1) := dk_46 (dk_at dksX1_morningOf_4 13 rfl rfl)
theorem dX1_morningOf_107 : decode cX1_morningOf 107 = .ok (.ifCond .le 11, 3) := dk_158 0 11 (dk_at dksX1_morningOf_4 14 rfl rfl)
theorem dX1_morningOf_110 : decode cX1_morningOf 110 = .ok (.aload_n 0, 1) := dk_42 (dk_at dksX1_morningOf_4 17 rfl rfl)
theorem dX1_morningOf_111 : decode cX1_morningOf 111 = .ok (.iconst 2, 1) := dk_5 (dk_at dksX1_morningOf_4 18 rfl rfl)
theorem dX1_morningOf_112 : decode cX1_morningOf 112 = .ok (.invokevirtual 460, 3) := dk_182 1 204 (dk_at dksX1_morningOf_4 19 rfl rfl)
theorem dX1_morningOf_115 : decode cX1_morningOf 115 = .ok (.goto 20, 3) := dk_167 0 20 (dk_at dksX1_morningOf_5 0 rfl rfl)
theorem dX1_morningOf_118 : decode cX1_morningOf 118 = .ok (.aload_n 0, 1) := dk_42 (dk_at dksX1_morningOf_5 3 rfl rfl)
theorem dX1_morningOf_119 : decode cX1_morningOf 119 = .ok (.getfield 138, 3) := dk_180 0 138 (dk_at dksX1_morningOf_5 4 rfl rfl)
theorem dX1_morningOf_122 : decode cX1_morningOf 122 = .ok (.iconst 2, 1) := dk_5 (dk_at dksX1_morningOf_5 7 rfl rfl)
theorem dX1_morningOf_123 : decode cX1_morningOf 123 = .ok (.iload 6, 2) := dk_21 6 (dk_at dksX1_morningOf_5 8 rfl rfl)
theorem dX1_morningOf_125 : decode cX1_morningOf 125 = .ok (.imul, 1) := dk_104 (dk_at dksX1_morningOf_5 10 rfl rfl)
theorem dX1_morningOf_126 : decode cX1_morningOf 126 = .ok (.iaload, 1) := dk_46 (dk_at dksX1_morningOf_5 11 rfl rfl)
theorem dX1_morningOf_127 : decode cX1_morningOf 127 = .ok (.ifCond .le 7, 3) := dk_158 0 7 (dk_at dksX1_morningOf_5 12 rfl rfl)
theorem dX1_morningOf_130 : decode cX1_morningOf 130 = .ok (.iconst 0, 1) := dk_3 (dk_at dksX1_morningOf_5 15 rfl rfl)
theorem dX1_morningOf_131 : decode cX1_morningOf 131 = .ok (.goto 4, 3) := dk_167 0 4 (dk_at dksX1_morningOf_5 16 rfl rfl)
theorem dX1_morningOf_134 : decode cX1_morningOf 134 = .ok (.iconst 1, 1) := dk_4 (dk_at dksX1_morningOf_5 19 rfl rfl)
theorem dX1_morningOf_135 : decode cX1_morningOf 135 = .ok (.istore 7, 2) := dk_54 7 (dk_at dksX1_morningOf_5 20 rfl rfl)
theorem dX1_morningOf_137 : decode cX1_morningOf 137 = .ok (.aload_n 0, 1) := dk_42 (dk_at dksX1_morningOf_5 22 rfl rfl)
theorem dX1_morningOf_138 : decode cX1_morningOf 138 = .ok (.getfield 138, 3) := dk_180 0 138 (dk_at dksX1_morningOf_6 0 rfl rfl)
theorem dX1_morningOf_141 : decode cX1_morningOf 141 = .ok (.iconst 2, 1) := dk_5 (dk_at dksX1_morningOf_6 3 rfl rfl)
theorem dX1_morningOf_142 : decode cX1_morningOf 142 = .ok (.iload 6, 2) := dk_21 6 (dk_at dksX1_morningOf_6 4 rfl rfl)
theorem dX1_morningOf_144 : decode cX1_morningOf 144 = .ok (.imul, 1) := dk_104 (dk_at dksX1_morningOf_6 6 rfl rfl)
theorem dX1_morningOf_145 : decode cX1_morningOf 145 = .ok (.iload 7, 2) := dk_21 7 (dk_at dksX1_morningOf_6 7 rfl rfl)
theorem dX1_morningOf_147 : decode cX1_morningOf 147 = .ok (.iadd, 1) := dk_96 (dk_at dksX1_morningOf_6 9 rfl rfl)
theorem dX1_morningOf_148 : decode cX1_morningOf 148 = .ok (.dup2, 1) := dk_92 (dk_at dksX1_morningOf_6 10 rfl rfl)
theorem dX1_morningOf_149 : decode cX1_morningOf 149 = .ok (.iaload, 1) := dk_46 (dk_at dksX1_morningOf_6 11 rfl rfl)
theorem dX1_morningOf_150 : decode cX1_morningOf 150 = .ok (.iconst 1, 1) := dk_4 (dk_at dksX1_morningOf_6 12 rfl rfl)
theorem dX1_morningOf_151 : decode cX1_morningOf 151 = .ok (.isub, 1) := dk_100 (dk_at dksX1_morningOf_6 13 rfl rfl)
theorem dX1_morningOf_152 : decode cX1_morningOf 152 = .ok (.iastore, 1) := dk_79 (dk_at dksX1_morningOf_6 14 rfl rfl)
theorem dX1_morningOf_153 : decode cX1_morningOf 153 = .ok (.iinc 2 (-1), 3) := dk_132 2 255 (dk_at dksX1_morningOf_6 15 rfl rfl)
theorem dX1_morningOf_156 : decode cX1_morningOf 156 = .ok (.iinc 5 1, 3) := dk_132 5 1 (dk_at dksX1_morningOf_6 18 rfl rfl)
theorem dX1_morningOf_159 : decode cX1_morningOf 159 = .ok (.goto (-113), 3) := dk_167 255 143 (dk_at dksX1_morningOf_6 21 rfl rfl)
theorem dX1_morningOf_162 : decode cX1_morningOf 162 = .ok (.iinc 3 1, 3) := dk_132 3 1 (dk_at dksX1_morningOf_7 0 rfl rfl)
theorem dX1_morningOf_165 : decode cX1_morningOf 165 = .ok (.goto (-129), 3) := dk_167 255 127 (dk_at dksX1_morningOf_7 3 rfl rfl)
theorem dX1_morningOf_168 : decode cX1_morningOf 168 = .ok (.iload_n 3, 1) := dk_29 (dk_at dksX1_morningOf_7 6 rfl rfl)
theorem dX1_morningOf_169 : decode cX1_morningOf 169 = .ok (.ireturn, 1) := dk_172 (dk_at dksX1_morningOf_7 7 rfl rfl)
abbrev cX1_drawn : ByteArray := prog_1_method_72_code
def yX1_drawn : MethodName := ⟨RX1, "drawn", "(I)I"⟩
def dkwX1_drawn_5 : List UInt8 := [3, 100, 62, 167, 255, 208, 21, 4, 172]
abbrev dktX1_drawn_5 : List UInt8 := dkwX1_drawn_5 ++ []
def dkwX1_drawn_4 : List UInt8 := [5, 21, 4, 104, 46, 42, 180, 0, 138, 5, 21, 4, 104, 4, 96, 46, 96, 158, 0, 7, 4, 167, 0, 4]
abbrev dktX1_drawn_4 : List UInt8 := dkwX1_drawn_4 ++ dktX1_drawn_5
def dkwX1_drawn_3 : List UInt8 := [2, 54, 4, 29, 155, 0, 50, 132, 4, 1, 29, 27, 21, 4, 184, 1, 168, 154, 0, 31, 42, 180, 0, 138]
abbrev dktX1_drawn_3 : List UInt8 := dkwX1_drawn_3 ++ dktX1_drawn_4
def dkwX1_drawn_2 : List UInt8 := [167, 0, 4, 3, 96, 61, 132, 3, 1, 167, 255, 204, 28, 154, 0, 5, 2, 172, 42, 28, 182, 1, 204, 62]
abbrev dktX1_drawn_2 : List UInt8 := dkwX1_drawn_2 ++ dktX1_drawn_3
def dkwX1_drawn_1 : List UInt8 := [42, 180, 0, 138, 5, 29, 104, 46, 42, 180, 0, 138, 5, 29, 104, 4, 96, 46, 96, 158, 0, 7, 4]
abbrev dktX1_drawn_1 : List UInt8 := dkwX1_drawn_1 ++ dktX1_drawn_2
def dkwX1_drawn_0 : List UInt8 := [3, 61, 3, 62, 29, 42, 180, 0, 66, 180, 0, 228, 162, 0, 47, 28, 27, 29, 184, 1, 168, 154, 0, 29]
abbrev dktX1_drawn_0 : List UInt8 := dkwX1_drawn_0 ++ dktX1_drawn_1
theorem dksX1_drawn_0 : cX1_drawn.data.toList.drop 0 = dktX1_drawn_0 := by decide +kernel
theorem dksX1_drawn_1 : cX1_drawn.data.toList.drop 24 = dktX1_drawn_1 := dk_seg dksX1_drawn_0 24 rfl rfl
theorem dksX1_drawn_2 : cX1_drawn.data.toList.drop 47 = dktX1_drawn_2 := dk_seg dksX1_drawn_1 23 rfl rfl
theorem dksX1_drawn_3 : cX1_drawn.data.toList.drop 71 = dktX1_drawn_3 := dk_seg dksX1_drawn_2 24 rfl rfl
theorem dksX1_drawn_4 : cX1_drawn.data.toList.drop 95 = dktX1_drawn_4 := dk_seg dksX1_drawn_3 24 rfl rfl
theorem dksX1_drawn_5 : cX1_drawn.data.toList.drop 119 = dktX1_drawn_5 := dk_seg dksX1_drawn_4 24 rfl rfl
theorem dX1_drawn_0 : decode cX1_drawn 0 = .ok (.iconst 0, 1) := dk_3 (dk_at dksX1_drawn_0 0 rfl rfl)
theorem dX1_drawn_1 : decode cX1_drawn 1 = .ok (.istore_n 2, 1) := dk_61 (dk_at dksX1_drawn_0 1 rfl rfl)
theorem dX1_drawn_2 : decode cX1_drawn 2 = .ok (.iconst 0, 1) := dk_3 (dk_at dksX1_drawn_0 2 rfl rfl)
theorem dX1_drawn_3 : decode cX1_drawn 3 = .ok (.istore_n 3, 1) := dk_62 (dk_at dksX1_drawn_0 3 rfl rfl)
theorem dX1_drawn_4 : decode cX1_drawn 4 = .ok (.iload_n 3, 1) := dk_29 (dk_at dksX1_drawn_0 4 rfl rfl)
theorem dX1_drawn_5 : decode cX1_drawn 5 = .ok (.aload_n 0, 1) := dk_42 (dk_at dksX1_drawn_0 5 rfl rfl)
theorem dX1_drawn_6 : decode cX1_drawn 6 = .ok (.getfield 66, 3) := dk_180 0 66 (dk_at dksX1_drawn_0 6 rfl rfl)
theorem dX1_drawn_9 : decode cX1_drawn 9 = .ok (.getfield 228, 3) := dk_180 0 228 (dk_at dksX1_drawn_0 9 rfl rfl)
theorem dX1_drawn_12 : decode cX1_drawn 12 = .ok (.if_icmp .ge 47, 3) := dk_162 0 47 (dk_at dksX1_drawn_0 12 rfl rfl)
theorem dX1_drawn_15 : decode cX1_drawn 15 = .ok (.iload_n 2, 1) := dk_28 (dk_at dksX1_drawn_0 15 rfl rfl)
theorem dX1_drawn_16 : decode cX1_drawn 16 = .ok (.iload_n 1, 1) := dk_27 (dk_at dksX1_drawn_0 16 rfl rfl)
theorem dX1_drawn_17 : decode cX1_drawn 17 = .ok (.iload_n 3, 1) := dk_29 (dk_at dksX1_drawn_0 17 rfl rfl)
theorem dX1_drawn_18 : decode cX1_drawn 18 = .ok (.invokestatic 424, 3) := dk_184 1 168 (dk_at dksX1_drawn_0 18 rfl rfl)
theorem dX1_drawn_21 : decode cX1_drawn 21 = .ok (.ifCond .ne 29, 3) := dk_154 0 29 (dk_at dksX1_drawn_0 21 rfl rfl)
theorem dX1_drawn_24 : decode cX1_drawn 24 = .ok (.aload_n 0, 1) := dk_42 (dk_at dksX1_drawn_1 0 rfl rfl)
theorem dX1_drawn_25 : decode cX1_drawn 25 = .ok (.getfield 138, 3) := dk_180 0 138 (dk_at dksX1_drawn_1 1 rfl rfl)
theorem dX1_drawn_28 : decode cX1_drawn 28 = .ok (.iconst 2, 1) := dk_5 (dk_at dksX1_drawn_1 4 rfl rfl)
theorem dX1_drawn_29 : decode cX1_drawn 29 = .ok (.iload_n 3, 1) := dk_29 (dk_at dksX1_drawn_1 5 rfl rfl)
theorem dX1_drawn_30 : decode cX1_drawn 30 = .ok (.imul, 1) := dk_104 (dk_at dksX1_drawn_1 6 rfl rfl)
theorem dX1_drawn_31 : decode cX1_drawn 31 = .ok (.iaload, 1) := dk_46 (dk_at dksX1_drawn_1 7 rfl rfl)
theorem dX1_drawn_32 : decode cX1_drawn 32 = .ok (.aload_n 0, 1) := dk_42 (dk_at dksX1_drawn_1 8 rfl rfl)
theorem dX1_drawn_33 : decode cX1_drawn 33 = .ok (.getfield 138, 3) := dk_180 0 138 (dk_at dksX1_drawn_1 9 rfl rfl)
theorem dX1_drawn_36 : decode cX1_drawn 36 = .ok (.iconst 2, 1) := dk_5 (dk_at dksX1_drawn_1 12 rfl rfl)
theorem dX1_drawn_37 : decode cX1_drawn 37 = .ok (.iload_n 3, 1) := dk_29 (dk_at dksX1_drawn_1 13 rfl rfl)
theorem dX1_drawn_38 : decode cX1_drawn 38 = .ok (.imul, 1) := dk_104 (dk_at dksX1_drawn_1 14 rfl rfl)
theorem dX1_drawn_39 : decode cX1_drawn 39 = .ok (.iconst 1, 1) := dk_4 (dk_at dksX1_drawn_1 15 rfl rfl)
theorem dX1_drawn_40 : decode cX1_drawn 40 = .ok (.iadd, 1) := dk_96 (dk_at dksX1_drawn_1 16 rfl rfl)
theorem dX1_drawn_41 : decode cX1_drawn 41 = .ok (.iaload, 1) := dk_46 (dk_at dksX1_drawn_1 17 rfl rfl)
theorem dX1_drawn_42 : decode cX1_drawn 42 = .ok (.iadd, 1) := dk_96 (dk_at dksX1_drawn_1 18 rfl rfl)
theorem dX1_drawn_43 : decode cX1_drawn 43 = .ok (.ifCond .le 7, 3) := dk_158 0 7 (dk_at dksX1_drawn_1 19 rfl rfl)
theorem dX1_drawn_46 : decode cX1_drawn 46 = .ok (.iconst 1, 1) := dk_4 (dk_at dksX1_drawn_1 22 rfl rfl)
theorem dX1_drawn_47 : decode cX1_drawn 47 = .ok (.goto 4, 3) := dk_167 0 4 (dk_at dksX1_drawn_2 0 rfl rfl)
theorem dX1_drawn_50 : decode cX1_drawn 50 = .ok (.iconst 0, 1) := dk_3 (dk_at dksX1_drawn_2 3 rfl rfl)
theorem dX1_drawn_51 : decode cX1_drawn 51 = .ok (.iadd, 1) := dk_96 (dk_at dksX1_drawn_2 4 rfl rfl)
theorem dX1_drawn_52 : decode cX1_drawn 52 = .ok (.istore_n 2, 1) := dk_61 (dk_at dksX1_drawn_2 5 rfl rfl)
theorem dX1_drawn_53 : decode cX1_drawn 53 = .ok (.iinc 3 1, 3) := dk_132 3 1 (dk_at dksX1_drawn_2 6 rfl rfl)
theorem dX1_drawn_56 : decode cX1_drawn 56 = .ok (.goto (-52), 3) := dk_167 255 204 (dk_at dksX1_drawn_2 9 rfl rfl)
theorem dX1_drawn_59 : decode cX1_drawn 59 = .ok (.iload_n 2, 1) := dk_28 (dk_at dksX1_drawn_2 12 rfl rfl)
theorem dX1_drawn_60 : decode cX1_drawn 60 = .ok (.ifCond .ne 5, 3) := dk_154 0 5 (dk_at dksX1_drawn_2 13 rfl rfl)
theorem dX1_drawn_63 : decode cX1_drawn 63 = .ok (.iconst (-1), 1) := dk_2 (dk_at dksX1_drawn_2 16 rfl rfl)
theorem dX1_drawn_64 : decode cX1_drawn 64 = .ok (.ireturn, 1) := dk_172 (dk_at dksX1_drawn_2 17 rfl rfl)
theorem dX1_drawn_65 : decode cX1_drawn 65 = .ok (.aload_n 0, 1) := dk_42 (dk_at dksX1_drawn_2 18 rfl rfl)
theorem dX1_drawn_66 : decode cX1_drawn 66 = .ok (.iload_n 2, 1) := dk_28 (dk_at dksX1_drawn_2 19 rfl rfl)
theorem dX1_drawn_67 : decode cX1_drawn 67 = .ok (.invokevirtual 460, 3) := dk_182 1 204 (dk_at dksX1_drawn_2 20 rfl rfl)
theorem dX1_drawn_70 : decode cX1_drawn 70 = .ok (.istore_n 3, 1) := dk_62 (dk_at dksX1_drawn_2 23 rfl rfl)
theorem dX1_drawn_71 : decode cX1_drawn 71 = .ok (.iconst (-1), 1) := dk_2 (dk_at dksX1_drawn_3 0 rfl rfl)
theorem dX1_drawn_72 : decode cX1_drawn 72 = .ok (.istore 4, 2) := dk_54 4 (dk_at dksX1_drawn_3 1 rfl rfl)
theorem dX1_drawn_74 : decode cX1_drawn 74 = .ok (.iload_n 3, 1) := dk_29 (dk_at dksX1_drawn_3 3 rfl rfl)
theorem dX1_drawn_75 : decode cX1_drawn 75 = .ok (.ifCond .lt 50, 3) := dk_155 0 50 (dk_at dksX1_drawn_3 4 rfl rfl)
theorem dX1_drawn_78 : decode cX1_drawn 78 = .ok (.iinc 4 1, 3) := dk_132 4 1 (dk_at dksX1_drawn_3 7 rfl rfl)
theorem dX1_drawn_81 : decode cX1_drawn 81 = .ok (.iload_n 3, 1) := dk_29 (dk_at dksX1_drawn_3 10 rfl rfl)
theorem dX1_drawn_82 : decode cX1_drawn 82 = .ok (.iload_n 1, 1) := dk_27 (dk_at dksX1_drawn_3 11 rfl rfl)
theorem dX1_drawn_83 : decode cX1_drawn 83 = .ok (.iload 4, 2) := dk_21 4 (dk_at dksX1_drawn_3 12 rfl rfl)
theorem dX1_drawn_85 : decode cX1_drawn 85 = .ok (.invokestatic 424, 3) := dk_184 1 168 (dk_at dksX1_drawn_3 14 rfl rfl)
theorem dX1_drawn_88 : decode cX1_drawn 88 = .ok (.ifCond .ne 31, 3) := dk_154 0 31 (dk_at dksX1_drawn_3 17 rfl rfl)
theorem dX1_drawn_91 : decode cX1_drawn 91 = .ok (.aload_n 0, 1) := dk_42 (dk_at dksX1_drawn_3 20 rfl rfl)
theorem dX1_drawn_92 : decode cX1_drawn 92 = .ok (.getfield 138, 3) := dk_180 0 138 (dk_at dksX1_drawn_3 21 rfl rfl)
theorem dX1_drawn_95 : decode cX1_drawn 95 = .ok (.iconst 2, 1) := dk_5 (dk_at dksX1_drawn_4 0 rfl rfl)
theorem dX1_drawn_96 : decode cX1_drawn 96 = .ok (.iload 4, 2) := dk_21 4 (dk_at dksX1_drawn_4 1 rfl rfl)
theorem dX1_drawn_98 : decode cX1_drawn 98 = .ok (.imul, 1) := dk_104 (dk_at dksX1_drawn_4 3 rfl rfl)
theorem dX1_drawn_99 : decode cX1_drawn 99 = .ok (.iaload, 1) := dk_46 (dk_at dksX1_drawn_4 4 rfl rfl)
theorem dX1_drawn_100 : decode cX1_drawn 100 = .ok (.aload_n 0, 1) := dk_42 (dk_at dksX1_drawn_4 5 rfl rfl)
theorem dX1_drawn_101 : decode cX1_drawn 101 = .ok (.getfield 138, 3) := dk_180 0 138 (dk_at dksX1_drawn_4 6 rfl rfl)
theorem dX1_drawn_104 : decode cX1_drawn 104 = .ok (.iconst 2, 1) := dk_5 (dk_at dksX1_drawn_4 9 rfl rfl)
theorem dX1_drawn_105 : decode cX1_drawn 105 = .ok (.iload 4, 2) := dk_21 4 (dk_at dksX1_drawn_4 10 rfl rfl)
theorem dX1_drawn_107 : decode cX1_drawn 107 = .ok (.imul, 1) := dk_104 (dk_at dksX1_drawn_4 12 rfl rfl)
theorem dX1_drawn_108 : decode cX1_drawn 108 = .ok (.iconst 1, 1) := dk_4 (dk_at dksX1_drawn_4 13 rfl rfl)
theorem dX1_drawn_109 : decode cX1_drawn 109 = .ok (.iadd, 1) := dk_96 (dk_at dksX1_drawn_4 14 rfl rfl)
theorem dX1_drawn_110 : decode cX1_drawn 110 = .ok (.iaload, 1) := dk_46 (dk_at dksX1_drawn_4 15 rfl rfl)
theorem dX1_drawn_111 : decode cX1_drawn 111 = .ok (.iadd, 1) := dk_96 (dk_at dksX1_drawn_4 16 rfl rfl)
theorem dX1_drawn_112 : decode cX1_drawn 112 = .ok (.ifCond .le 7, 3) := dk_158 0 7 (dk_at dksX1_drawn_4 17 rfl rfl)
theorem dX1_drawn_115 : decode cX1_drawn 115 = .ok (.iconst 1, 1) := dk_4 (dk_at dksX1_drawn_4 20 rfl rfl)
theorem dX1_drawn_116 : decode cX1_drawn 116 = .ok (.goto 4, 3) := dk_167 0 4 (dk_at dksX1_drawn_4 21 rfl rfl)
theorem dX1_drawn_119 : decode cX1_drawn 119 = .ok (.iconst 0, 1) := dk_3 (dk_at dksX1_drawn_5 0 rfl rfl)
theorem dX1_drawn_120 : decode cX1_drawn 120 = .ok (.isub, 1) := dk_100 (dk_at dksX1_drawn_5 1 rfl rfl)
theorem dX1_drawn_121 : decode cX1_drawn 121 = .ok (.istore_n 3, 1) := dk_62 (dk_at dksX1_drawn_5 2 rfl rfl)
theorem dX1_drawn_122 : decode cX1_drawn 122 = .ok (.goto (-48), 3) := dk_167 255 208 (dk_at dksX1_drawn_5 3 rfl rfl)
theorem dX1_drawn_125 : decode cX1_drawn 125 = .ok (.iload 4, 2) := dk_21 4 (dk_at dksX1_drawn_5 6 rfl rfl)
theorem dX1_drawn_127 : decode cX1_drawn 127 = .ok (.ireturn, 1) := dk_172 (dk_at dksX1_drawn_5 8 rfl rfl)
abbrev cX1_draw : ByteArray := prog_1_method_71_code
def yX1_draw : MethodName := ⟨RX1, "draw", "(I)I"⟩
def dkwX1_draw_1 : List UInt8 := [112, 172]
abbrev dktX1_draw_1 : List UInt8 := dkwX1_draw_1 ++ []
def dkwX1_draw_0 : List UInt8 := [42, 42, 180, 1, 200, 19, 1, 203, 104, 17, 48, 57, 96, 181, 1, 200, 42, 180, 1, 200, 16, 8, 124, 27]
abbrev dktX1_draw_0 : List UInt8 := dkwX1_draw_0 ++ dktX1_draw_1
theorem dksX1_draw_0 : cX1_draw.data.toList.drop 0 = dktX1_draw_0 := by decide +kernel
theorem dksX1_draw_1 : cX1_draw.data.toList.drop 24 = dktX1_draw_1 := dk_seg dksX1_draw_0 24 rfl rfl
theorem dX1_draw_0 : decode cX1_draw 0 = .ok (.aload_n 0, 1) := dk_42 (dk_at dksX1_draw_0 0 rfl rfl)
theorem dX1_draw_1 : decode cX1_draw 1 = .ok (.aload_n 0, 1) := dk_42 (dk_at dksX1_draw_0 1 rfl rfl)
theorem dX1_draw_2 : decode cX1_draw 2 = .ok (.getfield 456, 3) := dk_180 1 200 (dk_at dksX1_draw_0 2 rfl rfl)
theorem dX1_draw_5 : decode cX1_draw 5 = .ok (.ldc_w 459, 3) := dk_19 1 203 (dk_at dksX1_draw_0 5 rfl rfl)
theorem dX1_draw_8 : decode cX1_draw 8 = .ok (.imul, 1) := dk_104 (dk_at dksX1_draw_0 8 rfl rfl)
theorem dX1_draw_9 : decode cX1_draw 9 = .ok (.sipush 12345, 3) := dk_17 48 57 (dk_at dksX1_draw_0 9 rfl rfl)
theorem dX1_draw_12 : decode cX1_draw 12 = .ok (.iadd, 1) := dk_96 (dk_at dksX1_draw_0 12 rfl rfl)
theorem dX1_draw_13 : decode cX1_draw 13 = .ok (.putfield 456, 3) := dk_181 1 200 (dk_at dksX1_draw_0 13 rfl rfl)
theorem dX1_draw_16 : decode cX1_draw 16 = .ok (.aload_n 0, 1) := dk_42 (dk_at dksX1_draw_0 16 rfl rfl)
theorem dX1_draw_17 : decode cX1_draw 17 = .ok (.getfield 456, 3) := dk_180 1 200 (dk_at dksX1_draw_0 17 rfl rfl)
theorem dX1_draw_20 : decode cX1_draw 20 = .ok (.bipush 8, 2) := dk_16 8 (dk_at dksX1_draw_0 20 rfl rfl)
theorem dX1_draw_22 : decode cX1_draw 22 = .ok (.iushr, 1) := dk_124 (dk_at dksX1_draw_0 22 rfl rfl)
theorem dX1_draw_23 : decode cX1_draw 23 = .ok (.iload_n 1, 1) := dk_27 (dk_at dksX1_draw_0 23 rfl rfl)
theorem dX1_draw_24 : decode cX1_draw 24 = .ok (.irem, 1) := dk_112 (dk_at dksX1_draw_1 0 rfl rfl)
theorem dX1_draw_25 : decode cX1_draw 25 = .ok (.ireturn, 1) := dk_172 (dk_at dksX1_draw_1 1 rfl rfl)
abbrev cX1_mornings : ByteArray := prog_1_method_75_code
def yX1_mornings : MethodName := ⟨RX1, "mornings", "(II)I"⟩
def dkwX1_mornings_2 : List UInt8 := [184, 1, 111, 62, 132, 4, 1, 167, 255, 234, 29, 172]
abbrev dktX1_mornings_2 : List UInt8 := dkwX1_mornings_2 ++ []
def dkwX1_mornings_1 : List UInt8 := [19, 1, 129, 62, 3, 54, 4, 21, 4, 27, 162, 0, 22, 29, 42, 28, 21, 4, 96, 182, 1, 210]
abbrev dktX1_mornings_1 : List UInt8 := dkwX1_mornings_1 ++ dktX1_mornings_2
def dkwX1_mornings_0 : List UInt8 := [42, 180, 0, 66, 180, 0, 228, 153, 0, 13, 27, 4, 16, 100, 184, 0, 231, 154, 0, 5, 2, 172]
abbrev dktX1_mornings_0 : List UInt8 := dkwX1_mornings_0 ++ dktX1_mornings_1
theorem dksX1_mornings_0 : cX1_mornings.data.toList.drop 0 = dktX1_mornings_0 := by decide +kernel
theorem dksX1_mornings_1 : cX1_mornings.data.toList.drop 22 = dktX1_mornings_1 := dk_seg dksX1_mornings_0 22 rfl rfl
theorem dksX1_mornings_2 : cX1_mornings.data.toList.drop 44 = dktX1_mornings_2 := dk_seg dksX1_mornings_1 22 rfl rfl
theorem dX1_mornings_0 : decode cX1_mornings 0 = .ok (.aload_n 0, 1) := dk_42 (dk_at dksX1_mornings_0 0 rfl rfl)
theorem dX1_mornings_1 : decode cX1_mornings 1 = .ok (.getfield 66, 3) := dk_180 0 66 (dk_at dksX1_mornings_0 1 rfl rfl)
theorem dX1_mornings_4 : decode cX1_mornings 4 = .ok (.getfield 228, 3) := dk_180 0 228 (dk_at dksX1_mornings_0 4 rfl rfl)
theorem dX1_mornings_7 : decode cX1_mornings 7 = .ok (.ifCond .eq 13, 3) := dk_153 0 13 (dk_at dksX1_mornings_0 7 rfl rfl)
theorem dX1_mornings_10 : decode cX1_mornings 10 = .ok (.iload_n 1, 1) := dk_27 (dk_at dksX1_mornings_0 10 rfl rfl)
theorem dX1_mornings_11 : decode cX1_mornings 11 = .ok (.iconst 1, 1) := dk_4 (dk_at dksX1_mornings_0 11 rfl rfl)
theorem dX1_mornings_12 : decode cX1_mornings 12 = .ok (.bipush 100, 2) := dk_16 100 (dk_at dksX1_mornings_0 12 rfl rfl)
theorem dX1_mornings_14 : decode cX1_mornings 14 = .ok (.invokestatic 231, 3) := dk_184 0 231 (dk_at dksX1_mornings_0 14 rfl rfl)
theorem dX1_mornings_17 : decode cX1_mornings 17 = .ok (.ifCond .ne 5, 3) := dk_154 0 5 (dk_at dksX1_mornings_0 17 rfl rfl)
theorem dX1_mornings_20 : decode cX1_mornings 20 = .ok (.iconst (-1), 1) := dk_2 (dk_at dksX1_mornings_0 20 rfl rfl)
theorem dX1_mornings_21 : decode cX1_mornings 21 = .ok (.ireturn, 1) := dk_172 (dk_at dksX1_mornings_0 21 rfl rfl)
theorem dX1_mornings_22 : decode cX1_mornings 22 = .ok (.ldc_w 385, 3) := dk_19 1 129 (dk_at dksX1_mornings_1 0 rfl rfl)
theorem dX1_mornings_25 : decode cX1_mornings 25 = .ok (.istore_n 3, 1) := dk_62 (dk_at dksX1_mornings_1 3 rfl rfl)
theorem dX1_mornings_26 : decode cX1_mornings 26 = .ok (.iconst 0, 1) := dk_3 (dk_at dksX1_mornings_1 4 rfl rfl)
theorem dX1_mornings_27 : decode cX1_mornings 27 = .ok (.istore 4, 2) := dk_54 4 (dk_at dksX1_mornings_1 5 rfl rfl)
theorem dX1_mornings_29 : decode cX1_mornings 29 = .ok (.iload 4, 2) := dk_21 4 (dk_at dksX1_mornings_1 7 rfl rfl)
theorem dX1_mornings_31 : decode cX1_mornings 31 = .ok (.iload_n 1, 1) := dk_27 (dk_at dksX1_mornings_1 9 rfl rfl)
theorem dX1_mornings_32 : decode cX1_mornings 32 = .ok (.if_icmp .ge 22, 3) := dk_162 0 22 (dk_at dksX1_mornings_1 10 rfl rfl)
theorem dX1_mornings_35 : decode cX1_mornings 35 = .ok (.iload_n 3, 1) := dk_29 (dk_at dksX1_mornings_1 13 rfl rfl)
theorem dX1_mornings_36 : decode cX1_mornings 36 = .ok (.aload_n 0, 1) := dk_42 (dk_at dksX1_mornings_1 14 rfl rfl)
theorem dX1_mornings_37 : decode cX1_mornings 37 = .ok (.iload_n 2, 1) := dk_28 (dk_at dksX1_mornings_1 15 rfl rfl)
theorem dX1_mornings_38 : decode cX1_mornings 38 = .ok (.iload 4, 2) := dk_21 4 (dk_at dksX1_mornings_1 16 rfl rfl)
theorem dX1_mornings_40 : decode cX1_mornings 40 = .ok (.iadd, 1) := dk_96 (dk_at dksX1_mornings_1 18 rfl rfl)
theorem dX1_mornings_41 : decode cX1_mornings 41 = .ok (.invokevirtual 466, 3) := dk_182 1 210 (dk_at dksX1_mornings_1 19 rfl rfl)
theorem dX1_mornings_44 : decode cX1_mornings 44 = .ok (.invokestatic 367, 3) := dk_184 1 111 (dk_at dksX1_mornings_2 0 rfl rfl)
theorem dX1_mornings_47 : decode cX1_mornings 47 = .ok (.istore_n 3, 1) := dk_62 (dk_at dksX1_mornings_2 3 rfl rfl)
theorem dX1_mornings_48 : decode cX1_mornings 48 = .ok (.iinc 4 1, 3) := dk_132 4 1 (dk_at dksX1_mornings_2 4 rfl rfl)
theorem dX1_mornings_51 : decode cX1_mornings 51 = .ok (.goto (-22), 3) := dk_167 255 234 (dk_at dksX1_mornings_2 7 rfl rfl)
theorem dX1_mornings_54 : decode cX1_mornings 54 = .ok (.iload_n 3, 1) := dk_29 (dk_at dksX1_mornings_2 10 rfl rfl)
theorem dX1_mornings_55 : decode cX1_mornings 55 = .ok (.ireturn, 1) := dk_172 (dk_at dksX1_mornings_2 11 rfl rfl)
abbrev cX1_sentence : ByteArray := prog_1_method_76_code
def yX1_sentence : MethodName := ⟨RX1, "sentence", "()I"⟩
def dkwX1_sentence_1 : List UInt8 := [180, 1, 216, 172, 76, 42, 43, 180, 0, 222, 181, 0, 206, 2, 43, 180, 0, 225, 100, 172]
abbrev dktX1_sentence_1 : List UInt8 := dkwX1_sentence_1 ++ []
def dkwX1_sentence_0 : List UInt8 := [42, 182, 0, 204, 42, 3, 181, 0, 206, 42, 42, 180, 0, 174, 182, 1, 213, 181, 0, 218, 42, 180, 0, 174]
abbrev dktX1_sentence_0 : List UInt8 := dkwX1_sentence_0 ++ dktX1_sentence_1
theorem dksX1_sentence_0 : cX1_sentence.data.toList.drop 0 = dktX1_sentence_0 := by decide +kernel
theorem dksX1_sentence_1 : cX1_sentence.data.toList.drop 24 = dktX1_sentence_1 := dk_seg dksX1_sentence_0 24 rfl rfl
theorem dX1_sentence_0 : decode cX1_sentence 0 = .ok (.aload_n 0, 1) := dk_42 (dk_at dksX1_sentence_0 0 rfl rfl)
theorem dX1_sentence_1 : decode cX1_sentence 1 = .ok (.invokevirtual 204, 3) := dk_182 0 204 (dk_at dksX1_sentence_0 1 rfl rfl)
theorem dX1_sentence_4 : decode cX1_sentence 4 = .ok (.aload_n 0, 1) := dk_42 (dk_at dksX1_sentence_0 4 rfl rfl)
theorem dX1_sentence_5 : decode cX1_sentence 5 = .ok (.iconst 0, 1) := dk_3 (dk_at dksX1_sentence_0 5 rfl rfl)
theorem dX1_sentence_6 : decode cX1_sentence 6 = .ok (.putfield 206, 3) := dk_181 0 206 (dk_at dksX1_sentence_0 6 rfl rfl)
theorem dX1_sentence_9 : decode cX1_sentence 9 = .ok (.aload_n 0, 1) := dk_42 (dk_at dksX1_sentence_0 9 rfl rfl)
theorem dX1_sentence_10 : decode cX1_sentence 10 = .ok (.aload_n 0, 1) := dk_42 (dk_at dksX1_sentence_0 10 rfl rfl)
theorem dX1_sentence_11 : decode cX1_sentence 11 = .ok (.getfield 174, 3) := dk_180 0 174 (dk_at dksX1_sentence_0 11 rfl rfl)
theorem dX1_sentence_14 : decode cX1_sentence 14 = .ok (.invokevirtual 469, 3) := dk_182 1 213 (dk_at dksX1_sentence_0 14 rfl rfl)
theorem dX1_sentence_17 : decode cX1_sentence 17 = .ok (.putfield 218, 3) := dk_181 0 218 (dk_at dksX1_sentence_0 17 rfl rfl)
theorem dX1_sentence_20 : decode cX1_sentence 20 = .ok (.aload_n 0, 1) := dk_42 (dk_at dksX1_sentence_0 20 rfl rfl)
theorem dX1_sentence_21 : decode cX1_sentence 21 = .ok (.getfield 174, 3) := dk_180 0 174 (dk_at dksX1_sentence_0 21 rfl rfl)
theorem dX1_sentence_24 : decode cX1_sentence 24 = .ok (.getfield 472, 3) := dk_180 1 216 (dk_at dksX1_sentence_1 0 rfl rfl)
theorem dX1_sentence_27 : decode cX1_sentence 27 = .ok (.ireturn, 1) := dk_172 (dk_at dksX1_sentence_1 3 rfl rfl)
theorem dX1_sentence_28 : decode cX1_sentence 28 = .ok (.astore_n 1, 1) := dk_76 (dk_at dksX1_sentence_1 4 rfl rfl)
theorem dX1_sentence_29 : decode cX1_sentence 29 = .ok (.aload_n 0, 1) := dk_42 (dk_at dksX1_sentence_1 5 rfl rfl)
theorem dX1_sentence_30 : decode cX1_sentence 30 = .ok (.aload_n 1, 1) := dk_43 (dk_at dksX1_sentence_1 6 rfl rfl)
theorem dX1_sentence_31 : decode cX1_sentence 31 = .ok (.getfield 222, 3) := dk_180 0 222 (dk_at dksX1_sentence_1 7 rfl rfl)
theorem dX1_sentence_34 : decode cX1_sentence 34 = .ok (.putfield 206, 3) := dk_181 0 206 (dk_at dksX1_sentence_1 10 rfl rfl)
theorem dX1_sentence_37 : decode cX1_sentence 37 = .ok (.iconst (-1), 1) := dk_2 (dk_at dksX1_sentence_1 13 rfl rfl)
theorem dX1_sentence_38 : decode cX1_sentence 38 = .ok (.aload_n 1, 1) := dk_43 (dk_at dksX1_sentence_1 14 rfl rfl)
theorem dX1_sentence_39 : decode cX1_sentence 39 = .ok (.getfield 225, 3) := dk_180 0 225 (dk_at dksX1_sentence_1 15 rfl rfl)
theorem dX1_sentence_42 : decode cX1_sentence 42 = .ok (.isub, 1) := dk_100 (dk_at dksX1_sentence_1 18 rfl rfl)
theorem dX1_sentence_43 : decode cX1_sentence 43 = .ok (.ireturn, 1) := dk_172 (dk_at dksX1_sentence_1 19 rfl rfl)
abbrev cX1_said : ByteArray := prog_1_method_77_code
def yX1_said : MethodName := ⟨RX1, "said", "(I)I"⟩
def dkwX1_said_3 : List UInt8 := [160, 0, 7, 28, 167, 0, 4, 2, 172]
abbrev dktX1_said_3 : List UInt8 := dkwX1_said_3 ++ []
def dkwX1_said_2 : List UInt8 := [154, 0, 6, 167, 0, 13, 28, 27, 160, 0, 5, 29, 172, 132, 2, 1, 132, 3, 1, 167, 255, 210, 27, 2]
abbrev dktX1_said_2 : List UInt8 := dkwX1_said_2 ++ dktX1_said_3
def dkwX1_said_1 : List UInt8 := [180, 0, 228, 162, 0, 41, 42, 180, 0, 218, 42, 180, 0, 66, 42, 180, 0, 73, 29, 182, 1, 219]
abbrev dktX1_said_1 : List UInt8 := dkwX1_said_1 ++ dktX1_said_2
def dkwX1_said_0 : List UInt8 := [42, 180, 0, 218, 198, 0, 8, 27, 2, 162, 0, 5, 2, 172, 3, 61, 3, 62, 29, 42, 180, 0, 66]
abbrev dktX1_said_0 : List UInt8 := dkwX1_said_0 ++ dktX1_said_1
theorem dksX1_said_0 : cX1_said.data.toList.drop 0 = dktX1_said_0 := by decide +kernel
theorem dksX1_said_1 : cX1_said.data.toList.drop 23 = dktX1_said_1 := dk_seg dksX1_said_0 23 rfl rfl
theorem dksX1_said_2 : cX1_said.data.toList.drop 45 = dktX1_said_2 := dk_seg dksX1_said_1 22 rfl rfl
theorem dksX1_said_3 : cX1_said.data.toList.drop 69 = dktX1_said_3 := dk_seg dksX1_said_2 24 rfl rfl
theorem dX1_said_0 : decode cX1_said 0 = .ok (.aload_n 0, 1) := dk_42 (dk_at dksX1_said_0 0 rfl rfl)
theorem dX1_said_1 : decode cX1_said 1 = .ok (.getfield 218, 3) := dk_180 0 218 (dk_at dksX1_said_0 1 rfl rfl)
theorem dX1_said_4 : decode cX1_said 4 = .ok (.ifnull 8, 3) := dk_198 0 8 (dk_at dksX1_said_0 4 rfl rfl)
theorem dX1_said_7 : decode cX1_said 7 = .ok (.iload_n 1, 1) := dk_27 (dk_at dksX1_said_0 7 rfl rfl)
theorem dX1_said_8 : decode cX1_said 8 = .ok (.iconst (-1), 1) := dk_2 (dk_at dksX1_said_0 8 rfl rfl)
theorem dX1_said_9 : decode cX1_said 9 = .ok (.if_icmp .ge 5, 3) := dk_162 0 5 (dk_at dksX1_said_0 9 rfl rfl)
theorem dX1_said_12 : decode cX1_said 12 = .ok (.iconst (-1), 1) := dk_2 (dk_at dksX1_said_0 12 rfl rfl)
theorem dX1_said_13 : decode cX1_said 13 = .ok (.ireturn, 1) := dk_172 (dk_at dksX1_said_0 13 rfl rfl)
theorem dX1_said_14 : decode cX1_said 14 = .ok (.iconst 0, 1) := dk_3 (dk_at dksX1_said_0 14 rfl rfl)
theorem dX1_said_15 : decode cX1_said 15 = .ok (.istore_n 2, 1) := dk_61 (dk_at dksX1_said_0 15 rfl rfl)
theorem dX1_said_16 : decode cX1_said 16 = .ok (.iconst 0, 1) := dk_3 (dk_at dksX1_said_0 16 rfl rfl)
theorem dX1_said_17 : decode cX1_said 17 = .ok (.istore_n 3, 1) := dk_62 (dk_at dksX1_said_0 17 rfl rfl)
theorem dX1_said_18 : decode cX1_said 18 = .ok (.iload_n 3, 1) := dk_29 (dk_at dksX1_said_0 18 rfl rfl)
theorem dX1_said_19 : decode cX1_said 19 = .ok (.aload_n 0, 1) := dk_42 (dk_at dksX1_said_0 19 rfl rfl)
theorem dX1_said_20 : decode cX1_said 20 = .ok (.getfield 66, 3) := dk_180 0 66 (dk_at dksX1_said_0 20 rfl rfl)
theorem dX1_said_23 : decode cX1_said 23 = .ok (.getfield 228, 3) := dk_180 0 228 (dk_at dksX1_said_1 0 rfl rfl)
theorem dX1_said_26 : decode cX1_said 26 = .ok (.if_icmp .ge 41, 3) := dk_162 0 41 (dk_at dksX1_said_1 3 rfl rfl)
theorem dX1_said_29 : decode cX1_said 29 = .ok (.aload_n 0, 1) := dk_42 (dk_at dksX1_said_1 6 rfl rfl)
theorem dX1_said_30 : decode cX1_said 30 = .ok (.getfield 218, 3) := dk_180 0 218 (dk_at dksX1_said_1 7 rfl rfl)
theorem dX1_said_33 : decode cX1_said 33 = .ok (.aload_n 0, 1) := dk_42 (dk_at dksX1_said_1 10 rfl rfl)
theorem dX1_said_34 : decode cX1_said 34 = .ok (.getfield 66, 3) := dk_180 0 66 (dk_at dksX1_said_1 11 rfl rfl)
theorem dX1_said_37 : decode cX1_said 37 = .ok (.aload_n 0, 1) := dk_42 (dk_at dksX1_said_1 14 rfl rfl)
theorem dX1_said_38 : decode cX1_said 38 = .ok (.getfield 73, 3) := dk_180 0 73 (dk_at dksX1_said_1 15 rfl rfl)
theorem dX1_said_41 : decode cX1_said 41 = .ok (.iload_n 3, 1) := dk_29 (dk_at dksX1_said_1 18 rfl rfl)
theorem dX1_said_42 : decode cX1_said 42 = .ok (.invokevirtual 475, 3) := dk_182 1 219 (dk_at dksX1_said_1 19 rfl rfl)
theorem dX1_said_45 : decode cX1_said 45 = .ok (.ifCond .ne 6, 3) := dk_154 0 6 (dk_at dksX1_said_2 0 rfl rfl)
theorem dX1_said_48 : decode cX1_said 48 = .ok (.goto 13, 3) := dk_167 0 13 (dk_at dksX1_said_2 3 rfl rfl)
theorem dX1_said_51 : decode cX1_said 51 = .ok (.iload_n 2, 1) := dk_28 (dk_at dksX1_said_2 6 rfl rfl)
theorem dX1_said_52 : decode cX1_said 52 = .ok (.iload_n 1, 1) := dk_27 (dk_at dksX1_said_2 7 rfl rfl)
theorem dX1_said_53 : decode cX1_said 53 = .ok (.if_icmp .ne 5, 3) := dk_160 0 5 (dk_at dksX1_said_2 8 rfl rfl)
theorem dX1_said_56 : decode cX1_said 56 = .ok (.iload_n 3, 1) := dk_29 (dk_at dksX1_said_2 11 rfl rfl)
theorem dX1_said_57 : decode cX1_said 57 = .ok (.ireturn, 1) := dk_172 (dk_at dksX1_said_2 12 rfl rfl)
theorem dX1_said_58 : decode cX1_said 58 = .ok (.iinc 2 1, 3) := dk_132 2 1 (dk_at dksX1_said_2 13 rfl rfl)
theorem dX1_said_61 : decode cX1_said 61 = .ok (.iinc 3 1, 3) := dk_132 3 1 (dk_at dksX1_said_2 16 rfl rfl)
theorem dX1_said_64 : decode cX1_said 64 = .ok (.goto (-46), 3) := dk_167 255 210 (dk_at dksX1_said_2 19 rfl rfl)
theorem dX1_said_67 : decode cX1_said 67 = .ok (.iload_n 1, 1) := dk_27 (dk_at dksX1_said_2 22 rfl rfl)
theorem dX1_said_68 : decode cX1_said 68 = .ok (.iconst (-1), 1) := dk_2 (dk_at dksX1_said_2 23 rfl rfl)
theorem dX1_said_69 : decode cX1_said 69 = .ok (.if_icmp .ne 7, 3) := dk_160 0 7 (dk_at dksX1_said_3 0 rfl rfl)
theorem dX1_said_72 : decode cX1_said 72 = .ok (.iload_n 2, 1) := dk_28 (dk_at dksX1_said_3 3 rfl rfl)
theorem dX1_said_73 : decode cX1_said 73 = .ok (.goto 4, 3) := dk_167 0 4 (dk_at dksX1_said_3 4 rfl rfl)
theorem dX1_said_76 : decode cX1_said 76 = .ok (.iconst (-1), 1) := dk_2 (dk_at dksX1_said_3 7 rfl rfl)
theorem dX1_said_77 : decode cX1_said 77 = .ok (.ireturn, 1) := dk_172 (dk_at dksX1_said_3 8 rfl rfl)
abbrev cX1_image : ByteArray := prog_1_method_78_code
def yX1_image : MethodName := ⟨RX1, "image", "(I)Z"⟩
def dkwX1_image_2 : List UInt8 := [50, 42, 180, 0, 73, 182, 1, 17, 42, 180, 0, 187, 27, 42, 180, 0, 218, 83, 4, 172]
abbrev dktX1_image_2 : List UInt8 := dkwX1_image_2 ++ []
def dkwX1_image_1 : List UInt8 := [27, 187, 0, 70, 89, 183, 0, 72, 83, 42, 180, 0, 178, 27, 42, 180, 0, 66, 83, 42, 180, 0, 182, 27]
abbrev dktX1_image_1 : List UInt8 := dkwX1_image_1 ++ dktX1_image_2
def dkwX1_image_0 : List UInt8 := [27, 3, 4, 184, 0, 231, 154, 0, 5, 3, 172, 42, 180, 0, 182, 27, 50, 199, 0, 16, 42, 180, 0, 182]
abbrev dktX1_image_0 : List UInt8 := dkwX1_image_0 ++ dktX1_image_1
theorem dksX1_image_0 : cX1_image.data.toList.drop 0 = dktX1_image_0 := by decide +kernel
theorem dksX1_image_1 : cX1_image.data.toList.drop 24 = dktX1_image_1 := dk_seg dksX1_image_0 24 rfl rfl
theorem dksX1_image_2 : cX1_image.data.toList.drop 48 = dktX1_image_2 := dk_seg dksX1_image_1 24 rfl rfl
theorem dX1_image_0 : decode cX1_image 0 = .ok (.iload_n 1, 1) := dk_27 (dk_at dksX1_image_0 0 rfl rfl)
theorem dX1_image_1 : decode cX1_image 1 = .ok (.iconst 0, 1) := dk_3 (dk_at dksX1_image_0 1 rfl rfl)
theorem dX1_image_2 : decode cX1_image 2 = .ok (.iconst 1, 1) := dk_4 (dk_at dksX1_image_0 2 rfl rfl)
theorem dX1_image_3 : decode cX1_image 3 = .ok (.invokestatic 231, 3) := dk_184 0 231 (dk_at dksX1_image_0 3 rfl rfl)
theorem dX1_image_6 : decode cX1_image 6 = .ok (.ifCond .ne 5, 3) := dk_154 0 5 (dk_at dksX1_image_0 6 rfl rfl)
theorem dX1_image_9 : decode cX1_image 9 = .ok (.iconst 0, 1) := dk_3 (dk_at dksX1_image_0 9 rfl rfl)
theorem dX1_image_10 : decode cX1_image 10 = .ok (.ireturn, 1) := dk_172 (dk_at dksX1_image_0 10 rfl rfl)
theorem dX1_image_11 : decode cX1_image 11 = .ok (.aload_n 0, 1) := dk_42 (dk_at dksX1_image_0 11 rfl rfl)
theorem dX1_image_12 : decode cX1_image 12 = .ok (.getfield 182, 3) := dk_180 0 182 (dk_at dksX1_image_0 12 rfl rfl)
theorem dX1_image_15 : decode cX1_image 15 = .ok (.iload_n 1, 1) := dk_27 (dk_at dksX1_image_0 15 rfl rfl)
theorem dX1_image_16 : decode cX1_image 16 = .ok (.aaload, 1) := dk_50 (dk_at dksX1_image_0 16 rfl rfl)
theorem dX1_image_17 : decode cX1_image 17 = .ok (.ifnonnull 16, 3) := dk_199 0 16 (dk_at dksX1_image_0 17 rfl rfl)
theorem dX1_image_20 : decode cX1_image 20 = .ok (.aload_n 0, 1) := dk_42 (dk_at dksX1_image_0 20 rfl rfl)
theorem dX1_image_21 : decode cX1_image 21 = .ok (.getfield 182, 3) := dk_180 0 182 (dk_at dksX1_image_0 21 rfl rfl)
theorem dX1_image_24 : decode cX1_image 24 = .ok (.iload_n 1, 1) := dk_27 (dk_at dksX1_image_1 0 rfl rfl)
theorem dX1_image_25 : decode cX1_image 25 = .ok (.new 70, 3) := dk_187 0 70 (dk_at dksX1_image_1 1 rfl rfl)
theorem dX1_image_28 : decode cX1_image 28 = .ok (.dup, 1) := dk_89 (dk_at dksX1_image_1 4 rfl rfl)
theorem dX1_image_29 : decode cX1_image 29 = .ok (.invokespecial 72, 3) := dk_183 0 72 (dk_at dksX1_image_1 5 rfl rfl)
theorem dX1_image_32 : decode cX1_image 32 = .ok (.aastore, 1) := dk_83 (dk_at dksX1_image_1 8 rfl rfl)
theorem dX1_image_33 : decode cX1_image 33 = .ok (.aload_n 0, 1) := dk_42 (dk_at dksX1_image_1 9 rfl rfl)
theorem dX1_image_34 : decode cX1_image 34 = .ok (.getfield 178, 3) := dk_180 0 178 (dk_at dksX1_image_1 10 rfl rfl)
theorem dX1_image_37 : decode cX1_image 37 = .ok (.iload_n 1, 1) := dk_27 (dk_at dksX1_image_1 13 rfl rfl)
theorem dX1_image_38 : decode cX1_image 38 = .ok (.aload_n 0, 1) := dk_42 (dk_at dksX1_image_1 14 rfl rfl)
theorem dX1_image_39 : decode cX1_image 39 = .ok (.getfield 66, 3) := dk_180 0 66 (dk_at dksX1_image_1 15 rfl rfl)
theorem dX1_image_42 : decode cX1_image 42 = .ok (.aastore, 1) := dk_83 (dk_at dksX1_image_1 18 rfl rfl)
theorem dX1_image_43 : decode cX1_image 43 = .ok (.aload_n 0, 1) := dk_42 (dk_at dksX1_image_1 19 rfl rfl)
theorem dX1_image_44 : decode cX1_image 44 = .ok (.getfield 182, 3) := dk_180 0 182 (dk_at dksX1_image_1 20 rfl rfl)
theorem dX1_image_47 : decode cX1_image 47 = .ok (.iload_n 1, 1) := dk_27 (dk_at dksX1_image_1 23 rfl rfl)
theorem dX1_image_48 : decode cX1_image 48 = .ok (.aaload, 1) := dk_50 (dk_at dksX1_image_2 0 rfl rfl)
theorem dX1_image_49 : decode cX1_image 49 = .ok (.aload_n 0, 1) := dk_42 (dk_at dksX1_image_2 1 rfl rfl)
theorem dX1_image_50 : decode cX1_image 50 = .ok (.getfield 73, 3) := dk_180 0 73 (dk_at dksX1_image_2 2 rfl rfl)
theorem dX1_image_53 : decode cX1_image 53 = .ok (.invokevirtual 273, 3) := dk_182 1 17 (dk_at dksX1_image_2 5 rfl rfl)
theorem dX1_image_56 : decode cX1_image 56 = .ok (.aload_n 0, 1) := dk_42 (dk_at dksX1_image_2 8 rfl rfl)
theorem dX1_image_57 : decode cX1_image 57 = .ok (.getfield 187, 3) := dk_180 0 187 (dk_at dksX1_image_2 9 rfl rfl)
theorem dX1_image_60 : decode cX1_image 60 = .ok (.iload_n 1, 1) := dk_27 (dk_at dksX1_image_2 12 rfl rfl)
theorem dX1_image_61 : decode cX1_image 61 = .ok (.aload_n 0, 1) := dk_42 (dk_at dksX1_image_2 13 rfl rfl)
theorem dX1_image_62 : decode cX1_image 62 = .ok (.getfield 218, 3) := dk_180 0 218 (dk_at dksX1_image_2 14 rfl rfl)
theorem dX1_image_65 : decode cX1_image 65 = .ok (.aastore, 1) := dk_83 (dk_at dksX1_image_2 17 rfl rfl)
theorem dX1_image_66 : decode cX1_image 66 = .ok (.iconst 1, 1) := dk_4 (dk_at dksX1_image_2 18 rfl rfl)
theorem dX1_image_67 : decode cX1_image 67 = .ok (.ireturn, 1) := dk_172 (dk_at dksX1_image_2 19 rfl rfl)
abbrev cX1_restore : ByteArray := prog_1_method_79_code
def yX1_restore : MethodName := ⟨RX1, "restore", "(I)Z"⟩
def dkwX1_restore_2 : List UInt8 := [180, 0, 187, 27, 50, 181, 0, 218, 42, 3, 181, 0, 215, 4, 172]
abbrev dktX1_restore_2 : List UInt8 := dkwX1_restore_2 ++ []
def dkwX1_restore_1 : List UInt8 := [180, 0, 178, 27, 50, 181, 0, 66, 42, 180, 0, 73, 42, 180, 0, 182, 27, 50, 182, 1, 17, 42, 42]
abbrev dktX1_restore_1 : List UInt8 := dkwX1_restore_1 ++ dktX1_restore_2
def dkwX1_restore_0 : List UInt8 := [27, 3, 4, 184, 0, 231, 153, 0, 12, 42, 180, 0, 182, 27, 50, 199, 0, 5, 3, 172, 42, 42]
abbrev dktX1_restore_0 : List UInt8 := dkwX1_restore_0 ++ dktX1_restore_1
theorem dksX1_restore_0 : cX1_restore.data.toList.drop 0 = dktX1_restore_0 := by decide +kernel
theorem dksX1_restore_1 : cX1_restore.data.toList.drop 22 = dktX1_restore_1 := dk_seg dksX1_restore_0 22 rfl rfl
theorem dksX1_restore_2 : cX1_restore.data.toList.drop 45 = dktX1_restore_2 := dk_seg dksX1_restore_1 23 rfl rfl
theorem dX1_restore_0 : decode cX1_restore 0 = .ok (.iload_n 1, 1) := dk_27 (dk_at dksX1_restore_0 0 rfl rfl)
theorem dX1_restore_1 : decode cX1_restore 1 = .ok (.iconst 0, 1) := dk_3 (dk_at dksX1_restore_0 1 rfl rfl)
theorem dX1_restore_2 : decode cX1_restore 2 = .ok (.iconst 1, 1) := dk_4 (dk_at dksX1_restore_0 2 rfl rfl)
theorem dX1_restore_3 : decode cX1_restore 3 = .ok (.invokestatic 231, 3) := dk_184 0 231 (dk_at dksX1_restore_0 3 rfl rfl)
theorem dX1_restore_6 : decode cX1_restore 6 = .ok (.ifCond .eq 12, 3) := dk_153 0 12 (dk_at dksX1_restore_0 6 rfl rfl)
theorem dX1_restore_9 : decode cX1_restore 9 = .ok (.aload_n 0, 1) := dk_42 (dk_at dksX1_restore_0 9 rfl rfl)
theorem dX1_restore_10 : decode cX1_restore 10 = .ok (.getfield 182, 3) := dk_180 0 182 (dk_at dksX1_restore_0 10 rfl rfl)
theorem dX1_restore_13 : decode cX1_restore 13 = .ok (.iload_n 1, 1) := dk_27 (dk_at dksX1_restore_0 13 rfl rfl)
theorem dX1_restore_14 : decode cX1_restore 14 = .ok (.aaload, 1) := dk_50 (dk_at dksX1_restore_0 14 rfl rfl)
theorem dX1_restore_15 : decode cX1_restore 15 = .ok (.ifnonnull 5, 3) := dk_199 0 5 (dk_at dksX1_restore_0 15 rfl rfl)
theorem dX1_restore_18 : decode cX1_restore 18 = .ok (.iconst 0, 1) := dk_3 (dk_at dksX1_restore_0 18 rfl rfl)
theorem dX1_restore_19 : decode cX1_restore 19 = .ok (.ireturn, 1) := dk_172 (dk_at dksX1_restore_0 19 rfl rfl)
theorem dX1_restore_20 : decode cX1_restore 20 = .ok (.aload_n 0, 1) := dk_42 (dk_at dksX1_restore_0 20 rfl rfl)
theorem dX1_restore_21 : decode cX1_restore 21 = .ok (.aload_n 0, 1) := dk_42 (dk_at dksX1_restore_0 21 rfl rfl)
theorem dX1_restore_22 : decode cX1_restore 22 = .ok (.getfield 178, 3) := dk_180 0 178 (dk_at dksX1_restore_1 0 rfl rfl)
theorem dX1_restore_25 : decode cX1_restore 25 = .ok (.iload_n 1, 1) := dk_27 (dk_at dksX1_restore_1 3 rfl rfl)
theorem dX1_restore_26 : decode cX1_restore 26 = .ok (.aaload, 1) := dk_50 (dk_at dksX1_restore_1 4 rfl rfl)
theorem dX1_restore_27 : decode cX1_restore 27 = .ok (.putfield 66, 3) := dk_181 0 66 (dk_at dksX1_restore_1 5 rfl rfl)
theorem dX1_restore_30 : decode cX1_restore 30 = .ok (.aload_n 0, 1) := dk_42 (dk_at dksX1_restore_1 8 rfl rfl)
theorem dX1_restore_31 : decode cX1_restore 31 = .ok (.getfield 73, 3) := dk_180 0 73 (dk_at dksX1_restore_1 9 rfl rfl)
theorem dX1_restore_34 : decode cX1_restore 34 = .ok (.aload_n 0, 1) := dk_42 (dk_at dksX1_restore_1 12 rfl rfl)
theorem dX1_restore_35 : decode cX1_restore 35 = .ok (.getfield 182, 3) := dk_180 0 182 (dk_at dksX1_restore_1 13 rfl rfl)
theorem dX1_restore_38 : decode cX1_restore 38 = .ok (.iload_n 1, 1) := dk_27 (dk_at dksX1_restore_1 16 rfl rfl)
theorem dX1_restore_39 : decode cX1_restore 39 = .ok (.aaload, 1) := dk_50 (dk_at dksX1_restore_1 17 rfl rfl)
theorem dX1_restore_40 : decode cX1_restore 40 = .ok (.invokevirtual 273, 3) := dk_182 1 17 (dk_at dksX1_restore_1 18 rfl rfl)
theorem dX1_restore_43 : decode cX1_restore 43 = .ok (.aload_n 0, 1) := dk_42 (dk_at dksX1_restore_1 21 rfl rfl)
theorem dX1_restore_44 : decode cX1_restore 44 = .ok (.aload_n 0, 1) := dk_42 (dk_at dksX1_restore_1 22 rfl rfl)
theorem dX1_restore_45 : decode cX1_restore 45 = .ok (.getfield 187, 3) := dk_180 0 187 (dk_at dksX1_restore_2 0 rfl rfl)
theorem dX1_restore_48 : decode cX1_restore 48 = .ok (.iload_n 1, 1) := dk_27 (dk_at dksX1_restore_2 3 rfl rfl)
theorem dX1_restore_49 : decode cX1_restore 49 = .ok (.aaload, 1) := dk_50 (dk_at dksX1_restore_2 4 rfl rfl)
theorem dX1_restore_50 : decode cX1_restore 50 = .ok (.putfield 218, 3) := dk_181 0 218 (dk_at dksX1_restore_2 5 rfl rfl)
theorem dX1_restore_53 : decode cX1_restore 53 = .ok (.aload_n 0, 1) := dk_42 (dk_at dksX1_restore_2 8 rfl rfl)
theorem dX1_restore_54 : decode cX1_restore 54 = .ok (.iconst 0, 1) := dk_3 (dk_at dksX1_restore_2 9 rfl rfl)
theorem dX1_restore_55 : decode cX1_restore 55 = .ok (.putfield 215, 3) := dk_181 0 215 (dk_at dksX1_restore_2 10 rfl rfl)
theorem dX1_restore_58 : decode cX1_restore 58 = .ok (.iconst 1, 1) := dk_4 (dk_at dksX1_restore_2 13 rfl rfl)
theorem dX1_restore_59 : decode cX1_restore 59 = .ok (.ireturn, 1) := dk_172 (dk_at dksX1_restore_2 14 rfl rfl)
abbrev cX1_count : ByteArray := prog_1_method_80_code
def yX1_count : MethodName := ⟨RX1, "count", "(I)I"⟩
def dkwX1_count_4 : List UInt8 := [42, 180, 0, 73, 180, 0, 213, 172, 42, 180, 0, 191, 172, 2, 172]
abbrev dktX1_count_4 : List UInt8 := dkwX1_count_4 ++ []
def dkwX1_count_3 : List UInt8 := [42, 180, 0, 66, 180, 0, 228, 172, 42, 180, 0, 66, 180, 0, 249, 172, 42, 180, 0, 66, 180, 1, 2, 172]
abbrev dktX1_count_3 : List UInt8 := dkwX1_count_3 ++ dktX1_count_4
def dkwX1_count_2 : List UInt8 := [42, 180, 0, 66, 180, 1, 76, 172, 42, 180, 0, 66, 180, 1, 114, 172, 42, 180, 0, 66, 180, 1, 166, 172]
abbrev dktX1_count_2 : List UInt8 := dkwX1_count_2 ++ dktX1_count_3
def dkwX1_count_1 : List UInt8 := [170, 0, 0, 0, 0, 0, 108, 0, 0, 0, 0, 0, 0, 0, 7, 0, 0, 0, 47, 0, 0, 0, 55, 0, 0, 0, 63, 0, 0, 0, 71, 0, 0, 0, 79, 0, 0, 0, 87, 0, 0, 0, 95, 0, 0, 0, 103]
abbrev dktX1_count_1 : List UInt8 := dkwX1_count_1 ++ dktX1_count_2
def dkwX1_count_0 : List UInt8 := [27]
abbrev dktX1_count_0 : List UInt8 := dkwX1_count_0 ++ dktX1_count_1
theorem dksX1_count_0 : cX1_count.data.toList.drop 0 = dktX1_count_0 := by decide +kernel
theorem dksX1_count_1 : cX1_count.data.toList.drop 1 = dktX1_count_1 := dk_seg dksX1_count_0 1 rfl rfl
theorem dksX1_count_2 : cX1_count.data.toList.drop 48 = dktX1_count_2 := dk_seg dksX1_count_1 47 rfl rfl
theorem dksX1_count_3 : cX1_count.data.toList.drop 72 = dktX1_count_3 := dk_seg dksX1_count_2 24 rfl rfl
theorem dksX1_count_4 : cX1_count.data.toList.drop 96 = dktX1_count_4 := dk_seg dksX1_count_3 24 rfl rfl
theorem dX1_count_0 : decode cX1_count 0 = .ok (.iload_n 1, 1) := dk_27 (dk_at dksX1_count_0 0 rfl rfl)
theorem dX1_count_1 : decode cX1_count 1 = .ok (.tableswitch 108 0 7 #[47, 55, 63, 71, 79, 87, 95, 103], 47) := by decide +kernel
theorem dX1_count_48 : decode cX1_count 48 = .ok (.aload_n 0, 1) := dk_42 (dk_at dksX1_count_2 0 rfl rfl)
theorem dX1_count_49 : decode cX1_count 49 = .ok (.getfield 66, 3) := dk_180 0 66 (dk_at dksX1_count_2 1 rfl rfl)
theorem dX1_count_52 : decode cX1_count 52 = .ok (.getfield 332, 3) := dk_180 1 76 (dk_at dksX1_count_2 4 rfl rfl)
theorem dX1_count_55 : decode cX1_count 55 = .ok (.ireturn, 1) := dk_172 (dk_at dksX1_count_2 7 rfl rfl)
theorem dX1_count_56 : decode cX1_count 56 = .ok (.aload_n 0, 1) := dk_42 (dk_at dksX1_count_2 8 rfl rfl)
theorem dX1_count_57 : decode cX1_count 57 = .ok (.getfield 66, 3) := dk_180 0 66 (dk_at dksX1_count_2 9 rfl rfl)
theorem dX1_count_60 : decode cX1_count 60 = .ok (.getfield 370, 3) := dk_180 1 114 (dk_at dksX1_count_2 12 rfl rfl)
theorem dX1_count_63 : decode cX1_count 63 = .ok (.ireturn, 1) := dk_172 (dk_at dksX1_count_2 15 rfl rfl)
theorem dX1_count_64 : decode cX1_count 64 = .ok (.aload_n 0, 1) := dk_42 (dk_at dksX1_count_2 16 rfl rfl)
theorem dX1_count_65 : decode cX1_count 65 = .ok (.getfield 66, 3) := dk_180 0 66 (dk_at dksX1_count_2 17 rfl rfl)
theorem dX1_count_68 : decode cX1_count 68 = .ok (.getfield 422, 3) := dk_180 1 166 (dk_at dksX1_count_2 20 rfl rfl)
theorem dX1_count_71 : decode cX1_count 71 = .ok (.ireturn, 1) := dk_172 (dk_at dksX1_count_2 23 rfl rfl)
theorem dX1_count_72 : decode cX1_count 72 = .ok (.aload_n 0, 1) := dk_42 (dk_at dksX1_count_3 0 rfl rfl)
theorem dX1_count_73 : decode cX1_count 73 = .ok (.getfield 66, 3) := dk_180 0 66 (dk_at dksX1_count_3 1 rfl rfl)
theorem dX1_count_76 : decode cX1_count 76 = .ok (.getfield 228, 3) := dk_180 0 228 (dk_at dksX1_count_3 4 rfl rfl)
theorem dX1_count_79 : decode cX1_count 79 = .ok (.ireturn, 1) := dk_172 (dk_at dksX1_count_3 7 rfl rfl)
theorem dX1_count_80 : decode cX1_count 80 = .ok (.aload_n 0, 1) := dk_42 (dk_at dksX1_count_3 8 rfl rfl)
theorem dX1_count_81 : decode cX1_count 81 = .ok (.getfield 66, 3) := dk_180 0 66 (dk_at dksX1_count_3 9 rfl rfl)
theorem dX1_count_84 : decode cX1_count 84 = .ok (.getfield 249, 3) := dk_180 0 249 (dk_at dksX1_count_3 12 rfl rfl)
theorem dX1_count_87 : decode cX1_count 87 = .ok (.ireturn, 1) := dk_172 (dk_at dksX1_count_3 15 rfl rfl)
theorem dX1_count_88 : decode cX1_count 88 = .ok (.aload_n 0, 1) := dk_42 (dk_at dksX1_count_3 16 rfl rfl)
theorem dX1_count_89 : decode cX1_count 89 = .ok (.getfield 66, 3) := dk_180 0 66 (dk_at dksX1_count_3 17 rfl rfl)
theorem dX1_count_92 : decode cX1_count 92 = .ok (.getfield 258, 3) := dk_180 1 2 (dk_at dksX1_count_3 20 rfl rfl)
theorem dX1_count_95 : decode cX1_count 95 = .ok (.ireturn, 1) := dk_172 (dk_at dksX1_count_3 23 rfl rfl)
theorem dX1_count_96 : decode cX1_count 96 = .ok (.aload_n 0, 1) := dk_42 (dk_at dksX1_count_4 0 rfl rfl)
theorem dX1_count_97 : decode cX1_count 97 = .ok (.getfield 73, 3) := dk_180 0 73 (dk_at dksX1_count_4 1 rfl rfl)
theorem dX1_count_100 : decode cX1_count 100 = .ok (.getfield 213, 3) := dk_180 0 213 (dk_at dksX1_count_4 4 rfl rfl)
theorem dX1_count_103 : decode cX1_count 103 = .ok (.ireturn, 1) := dk_172 (dk_at dksX1_count_4 7 rfl rfl)
theorem dX1_count_104 : decode cX1_count 104 = .ok (.aload_n 0, 1) := dk_42 (dk_at dksX1_count_4 8 rfl rfl)
theorem dX1_count_105 : decode cX1_count 105 = .ok (.getfield 191, 3) := dk_180 0 191 (dk_at dksX1_count_4 9 rfl rfl)
theorem dX1_count_108 : decode cX1_count 108 = .ok (.ireturn, 1) := dk_172 (dk_at dksX1_count_4 12 rfl rfl)
theorem dX1_count_109 : decode cX1_count 109 = .ok (.iconst (-1), 1) := dk_2 (dk_at dksX1_count_4 13 rfl rfl)
theorem dX1_count_110 : decode cX1_count 110 = .ok (.ireturn, 1) := dk_172 (dk_at dksX1_count_4 14 rfl rfl)
abbrev cX1_slice : ByteArray := prog_1_method_13_code
def yX1_slice : MethodName := ⟨RX1, "slice", "(II)I"⟩
def dkwX1_slice_2 : List UInt8 := [42, 180, 0, 66, 180, 0, 246, 27, 51, 153, 0, 7, 4, 167, 0, 4, 3, 172]
abbrev dktX1_slice_2 : List UInt8 := dkwX1_slice_2 ++ []
def dkwX1_slice_1 : List UInt8 := [184, 0, 239, 28, 5, 162, 0, 19, 42, 180, 0, 66, 180, 0, 243, 5, 27, 104, 28, 96, 46, 167, 0, 20]
abbrev dktX1_slice_1 : List UInt8 := dkwX1_slice_1 ++ dktX1_slice_2
def dkwX1_slice_0 : List UInt8 := [42, 27, 182, 0, 235, 153, 0, 16, 28, 3, 5, 184, 0, 231, 153, 0, 7, 4, 167, 0, 4, 3]
abbrev dktX1_slice_0 : List UInt8 := dkwX1_slice_0 ++ dktX1_slice_1
theorem dksX1_slice_0 : cX1_slice.data.toList.drop 0 = dktX1_slice_0 := by decide +kernel
theorem dksX1_slice_1 : cX1_slice.data.toList.drop 22 = dktX1_slice_1 := dk_seg dksX1_slice_0 22 rfl rfl
theorem dksX1_slice_2 : cX1_slice.data.toList.drop 46 = dktX1_slice_2 := dk_seg dksX1_slice_1 24 rfl rfl
theorem dX1_slice_0 : decode cX1_slice 0 = .ok (.aload_n 0, 1) := dk_42 (dk_at dksX1_slice_0 0 rfl rfl)
theorem dX1_slice_1 : decode cX1_slice 1 = .ok (.iload_n 1, 1) := dk_27 (dk_at dksX1_slice_0 1 rfl rfl)
theorem dX1_slice_2 : decode cX1_slice 2 = .ok (.invokevirtual 235, 3) := dk_182 0 235 (dk_at dksX1_slice_0 2 rfl rfl)
theorem dX1_slice_5 : decode cX1_slice 5 = .ok (.ifCond .eq 16, 3) := dk_153 0 16 (dk_at dksX1_slice_0 5 rfl rfl)
theorem dX1_slice_8 : decode cX1_slice 8 = .ok (.iload_n 2, 1) := dk_28 (dk_at dksX1_slice_0 8 rfl rfl)
theorem dX1_slice_9 : decode cX1_slice 9 = .ok (.iconst 0, 1) := dk_3 (dk_at dksX1_slice_0 9 rfl rfl)
theorem dX1_slice_10 : decode cX1_slice 10 = .ok (.iconst 2, 1) := dk_5 (dk_at dksX1_slice_0 10 rfl rfl)
theorem dX1_slice_11 : decode cX1_slice 11 = .ok (.invokestatic 231, 3) := dk_184 0 231 (dk_at dksX1_slice_0 11 rfl rfl)
theorem dX1_slice_14 : decode cX1_slice 14 = .ok (.ifCond .eq 7, 3) := dk_153 0 7 (dk_at dksX1_slice_0 14 rfl rfl)
theorem dX1_slice_17 : decode cX1_slice 17 = .ok (.iconst 1, 1) := dk_4 (dk_at dksX1_slice_0 17 rfl rfl)
theorem dX1_slice_18 : decode cX1_slice 18 = .ok (.goto 4, 3) := dk_167 0 4 (dk_at dksX1_slice_0 18 rfl rfl)
theorem dX1_slice_21 : decode cX1_slice 21 = .ok (.iconst 0, 1) := dk_3 (dk_at dksX1_slice_0 21 rfl rfl)
theorem dX1_slice_22 : decode cX1_slice 22 = .ok (.invokestatic 239, 3) := dk_184 0 239 (dk_at dksX1_slice_1 0 rfl rfl)
theorem dX1_slice_25 : decode cX1_slice 25 = .ok (.iload_n 2, 1) := dk_28 (dk_at dksX1_slice_1 3 rfl rfl)
theorem dX1_slice_26 : decode cX1_slice 26 = .ok (.iconst 2, 1) := dk_5 (dk_at dksX1_slice_1 4 rfl rfl)
theorem dX1_slice_27 : decode cX1_slice 27 = .ok (.if_icmp .ge 19, 3) := dk_162 0 19 (dk_at dksX1_slice_1 5 rfl rfl)
theorem dX1_slice_30 : decode cX1_slice 30 = .ok (.aload_n 0, 1) := dk_42 (dk_at dksX1_slice_1 8 rfl rfl)
theorem dX1_slice_31 : decode cX1_slice 31 = .ok (.getfield 66, 3) := dk_180 0 66 (dk_at dksX1_slice_1 9 rfl rfl)
theorem dX1_slice_34 : decode cX1_slice 34 = .ok (.getfield 243, 3) := dk_180 0 243 (dk_at dksX1_slice_1 12 rfl rfl)
theorem dX1_slice_37 : decode cX1_slice 37 = .ok (.iconst 2, 1) := dk_5 (dk_at dksX1_slice_1 15 rfl rfl)
theorem dX1_slice_38 : decode cX1_slice 38 = .ok (.iload_n 1, 1) := dk_27 (dk_at dksX1_slice_1 16 rfl rfl)
theorem dX1_slice_39 : decode cX1_slice 39 = .ok (.imul, 1) := dk_104 (dk_at dksX1_slice_1 17 rfl rfl)
theorem dX1_slice_40 : decode cX1_slice 40 = .ok (.iload_n 2, 1) := dk_28 (dk_at dksX1_slice_1 18 rfl rfl)
theorem dX1_slice_41 : decode cX1_slice 41 = .ok (.iadd, 1) := dk_96 (dk_at dksX1_slice_1 19 rfl rfl)
theorem dX1_slice_42 : decode cX1_slice 42 = .ok (.iaload, 1) := dk_46 (dk_at dksX1_slice_1 20 rfl rfl)
theorem dX1_slice_43 : decode cX1_slice 43 = .ok (.goto 20, 3) := dk_167 0 20 (dk_at dksX1_slice_1 21 rfl rfl)
theorem dX1_slice_46 : decode cX1_slice 46 = .ok (.aload_n 0, 1) := dk_42 (dk_at dksX1_slice_2 0 rfl rfl)
theorem dX1_slice_47 : decode cX1_slice 47 = .ok (.getfield 66, 3) := dk_180 0 66 (dk_at dksX1_slice_2 1 rfl rfl)
theorem dX1_slice_50 : decode cX1_slice 50 = .ok (.getfield 246, 3) := dk_180 0 246 (dk_at dksX1_slice_2 4 rfl rfl)
theorem dX1_slice_53 : decode cX1_slice 53 = .ok (.iload_n 1, 1) := dk_27 (dk_at dksX1_slice_2 7 rfl rfl)
theorem dX1_slice_54 : decode cX1_slice 54 = .ok (.baload, 1) := dk_51 (dk_at dksX1_slice_2 8 rfl rfl)
theorem dX1_slice_55 : decode cX1_slice 55 = .ok (.ifCond .eq 7, 3) := dk_153 0 7 (dk_at dksX1_slice_2 9 rfl rfl)
theorem dX1_slice_58 : decode cX1_slice 58 = .ok (.iconst 1, 1) := dk_4 (dk_at dksX1_slice_2 12 rfl rfl)
theorem dX1_slice_59 : decode cX1_slice 59 = .ok (.goto 4, 3) := dk_167 0 4 (dk_at dksX1_slice_2 13 rfl rfl)
theorem dX1_slice_62 : decode cX1_slice 62 = .ok (.iconst 0, 1) := dk_3 (dk_at dksX1_slice_2 16 rfl rfl)
theorem dX1_slice_63 : decode cX1_slice 63 = .ok (.ireturn, 1) := dk_172 (dk_at dksX1_slice_2 17 rfl rfl)
abbrev cX1_must : ByteArray := prog_1_method_8_code
def yX1_must : MethodName := ⟨RX1, "must", "(Z)V"⟩
def dkwX1_must_0 : List UInt8 := [26, 154, 0, 11, 187, 0, 201, 89, 183, 0, 203, 191, 177]
abbrev dktX1_must_0 : List UInt8 := dkwX1_must_0 ++ []
theorem dksX1_must_0 : cX1_must.data.toList.drop 0 = dktX1_must_0 := by decide +kernel
theorem dX1_must_0 : decode cX1_must 0 = .ok (.iload_n 0, 1) := dk_26 (dk_at dksX1_must_0 0 rfl rfl)
theorem dX1_must_1 : decode cX1_must 1 = .ok (.ifCond .ne 11, 3) := dk_154 0 11 (dk_at dksX1_must_0 1 rfl rfl)
theorem dX1_must_4 : decode cX1_must 4 = .ok (.new 201, 3) := dk_187 0 201 (dk_at dksX1_must_0 4 rfl rfl)
theorem dX1_must_7 : decode cX1_must 7 = .ok (.dup, 1) := dk_89 (dk_at dksX1_must_0 7 rfl rfl)
theorem dX1_must_8 : decode cX1_must 8 = .ok (.invokespecial 203, 3) := dk_183 0 203 (dk_at dksX1_must_0 8 rfl rfl)
theorem dX1_must_11 : decode cX1_must 11 = .ok (.athrow, 1) := dk_191 (dk_at dksX1_must_0 11 rfl rfl)
theorem dX1_must_12 : decode cX1_must 12 = .ok (.return_, 1) := dk_177 (dk_at dksX1_must_0 12 rfl rfl)
abbrev cX1_guest : ByteArray := prog_1_method_14_code
def yX1_guest : MethodName := ⟨RX1, "guest", "(II)I"⟩
def dkwX1_guest_2 : List UInt8 := [167, 0, 12, 42, 180, 0, 66, 180, 0, 255, 27, 46, 172]
abbrev dktX1_guest_2 : List UInt8 := dkwX1_guest_2 ++ []
def dkwX1_guest_1 : List UInt8 := [153, 0, 7, 4, 167, 0, 4, 3, 184, 0, 239, 28, 154, 0, 15, 42, 180, 0, 66, 180, 0, 252, 27, 46]
abbrev dktX1_guest_1 : List UInt8 := dkwX1_guest_1 ++ dktX1_guest_2
def dkwX1_guest_0 : List UInt8 := [27, 3, 42, 180, 0, 66, 180, 0, 249, 4, 100, 184, 0, 231, 153, 0, 16, 28, 3, 4, 184, 0, 231]
abbrev dktX1_guest_0 : List UInt8 := dkwX1_guest_0 ++ dktX1_guest_1
theorem dksX1_guest_0 : cX1_guest.data.toList.drop 0 = dktX1_guest_0 := by decide +kernel
theorem dksX1_guest_1 : cX1_guest.data.toList.drop 23 = dktX1_guest_1 := dk_seg dksX1_guest_0 23 rfl rfl
theorem dksX1_guest_2 : cX1_guest.data.toList.drop 47 = dktX1_guest_2 := dk_seg dksX1_guest_1 24 rfl rfl
theorem dX1_guest_0 : decode cX1_guest 0 = .ok (.iload_n 1, 1) := dk_27 (dk_at dksX1_guest_0 0 rfl rfl)
theorem dX1_guest_1 : decode cX1_guest 1 = .ok (.iconst 0, 1) := dk_3 (dk_at dksX1_guest_0 1 rfl rfl)
theorem dX1_guest_2 : decode cX1_guest 2 = .ok (.aload_n 0, 1) := dk_42 (dk_at dksX1_guest_0 2 rfl rfl)
theorem dX1_guest_3 : decode cX1_guest 3 = .ok (.getfield 66, 3) := dk_180 0 66 (dk_at dksX1_guest_0 3 rfl rfl)
theorem dX1_guest_6 : decode cX1_guest 6 = .ok (.getfield 249, 3) := dk_180 0 249 (dk_at dksX1_guest_0 6 rfl rfl)
theorem dX1_guest_9 : decode cX1_guest 9 = .ok (.iconst 1, 1) := dk_4 (dk_at dksX1_guest_0 9 rfl rfl)
theorem dX1_guest_10 : decode cX1_guest 10 = .ok (.isub, 1) := dk_100 (dk_at dksX1_guest_0 10 rfl rfl)
theorem dX1_guest_11 : decode cX1_guest 11 = .ok (.invokestatic 231, 3) := dk_184 0 231 (dk_at dksX1_guest_0 11 rfl rfl)
theorem dX1_guest_14 : decode cX1_guest 14 = .ok (.ifCond .eq 16, 3) := dk_153 0 16 (dk_at dksX1_guest_0 14 rfl rfl)
theorem dX1_guest_17 : decode cX1_guest 17 = .ok (.iload_n 2, 1) := dk_28 (dk_at dksX1_guest_0 17 rfl rfl)
theorem dX1_guest_18 : decode cX1_guest 18 = .ok (.iconst 0, 1) := dk_3 (dk_at dksX1_guest_0 18 rfl rfl)
theorem dX1_guest_19 : decode cX1_guest 19 = .ok (.iconst 1, 1) := dk_4 (dk_at dksX1_guest_0 19 rfl rfl)
theorem dX1_guest_20 : decode cX1_guest 20 = .ok (.invokestatic 231, 3) := dk_184 0 231 (dk_at dksX1_guest_0 20 rfl rfl)
theorem dX1_guest_23 : decode cX1_guest 23 = .ok (.ifCond .eq 7, 3) := dk_153 0 7 (dk_at dksX1_guest_1 0 rfl rfl)
theorem dX1_guest_26 : decode cX1_guest 26 = .ok (.iconst 1, 1) := dk_4 (dk_at dksX1_guest_1 3 rfl rfl)
theorem dX1_guest_27 : decode cX1_guest 27 = .ok (.goto 4, 3) := dk_167 0 4 (dk_at dksX1_guest_1 4 rfl rfl)
theorem dX1_guest_30 : decode cX1_guest 30 = .ok (.iconst 0, 1) := dk_3 (dk_at dksX1_guest_1 7 rfl rfl)
theorem dX1_guest_31 : decode cX1_guest 31 = .ok (.invokestatic 239, 3) := dk_184 0 239 (dk_at dksX1_guest_1 8 rfl rfl)
theorem dX1_guest_34 : decode cX1_guest 34 = .ok (.iload_n 2, 1) := dk_28 (dk_at dksX1_guest_1 11 rfl rfl)
theorem dX1_guest_35 : decode cX1_guest 35 = .ok (.ifCond .ne 15, 3) := dk_154 0 15 (dk_at dksX1_guest_1 12 rfl rfl)
theorem dX1_guest_38 : decode cX1_guest 38 = .ok (.aload_n 0, 1) := dk_42 (dk_at dksX1_guest_1 15 rfl rfl)
theorem dX1_guest_39 : decode cX1_guest 39 = .ok (.getfield 66, 3) := dk_180 0 66 (dk_at dksX1_guest_1 16 rfl rfl)
theorem dX1_guest_42 : decode cX1_guest 42 = .ok (.getfield 252, 3) := dk_180 0 252 (dk_at dksX1_guest_1 19 rfl rfl)
theorem dX1_guest_45 : decode cX1_guest 45 = .ok (.iload_n 1, 1) := dk_27 (dk_at dksX1_guest_1 22 rfl rfl)
theorem dX1_guest_46 : decode cX1_guest 46 = .ok (.iaload, 1) := dk_46 (dk_at dksX1_guest_1 23 rfl rfl)
theorem dX1_guest_47 : decode cX1_guest 47 = .ok (.goto 12, 3) := dk_167 0 12 (dk_at dksX1_guest_2 0 rfl rfl)
theorem dX1_guest_50 : decode cX1_guest 50 = .ok (.aload_n 0, 1) := dk_42 (dk_at dksX1_guest_2 3 rfl rfl)
theorem dX1_guest_51 : decode cX1_guest 51 = .ok (.getfield 66, 3) := dk_180 0 66 (dk_at dksX1_guest_2 4 rfl rfl)
theorem dX1_guest_54 : decode cX1_guest 54 = .ok (.getfield 255, 3) := dk_180 0 255 (dk_at dksX1_guest_2 7 rfl rfl)
theorem dX1_guest_57 : decode cX1_guest 57 = .ok (.iload_n 1, 1) := dk_27 (dk_at dksX1_guest_2 10 rfl rfl)
theorem dX1_guest_58 : decode cX1_guest 58 = .ok (.iaload, 1) := dk_46 (dk_at dksX1_guest_2 11 rfl rfl)
theorem dX1_guest_59 : decode cX1_guest 59 = .ok (.ireturn, 1) := dk_172 (dk_at dksX1_guest_2 12 rfl rfl)
abbrev cX1_sort : ByteArray := prog_1_method_15_code
def yX1_sort : MethodName := ⟨RX1, "sort", "(II)I"⟩
def dkwX1_sort_2 : List UInt8 := [167, 0, 12, 42, 180, 0, 66, 180, 1, 8, 27, 46, 172]
abbrev dktX1_sort_2 : List UInt8 := dkwX1_sort_2 ++ []
def dkwX1_sort_1 : List UInt8 := [153, 0, 7, 4, 167, 0, 4, 3, 184, 0, 239, 28, 154, 0, 15, 42, 180, 0, 66, 180, 1, 5, 27, 46]
abbrev dktX1_sort_1 : List UInt8 := dkwX1_sort_1 ++ dktX1_sort_2
def dkwX1_sort_0 : List UInt8 := [27, 3, 42, 180, 0, 66, 180, 1, 2, 4, 100, 184, 0, 231, 153, 0, 16, 28, 3, 4, 184, 0, 231]
abbrev dktX1_sort_0 : List UInt8 := dkwX1_sort_0 ++ dktX1_sort_1
theorem dksX1_sort_0 : cX1_sort.data.toList.drop 0 = dktX1_sort_0 := by decide +kernel
theorem dksX1_sort_1 : cX1_sort.data.toList.drop 23 = dktX1_sort_1 := dk_seg dksX1_sort_0 23 rfl rfl
theorem dksX1_sort_2 : cX1_sort.data.toList.drop 47 = dktX1_sort_2 := dk_seg dksX1_sort_1 24 rfl rfl
theorem dX1_sort_0 : decode cX1_sort 0 = .ok (.iload_n 1, 1) := dk_27 (dk_at dksX1_sort_0 0 rfl rfl)
theorem dX1_sort_1 : decode cX1_sort 1 = .ok (.iconst 0, 1) := dk_3 (dk_at dksX1_sort_0 1 rfl rfl)
theorem dX1_sort_2 : decode cX1_sort 2 = .ok (.aload_n 0, 1) := dk_42 (dk_at dksX1_sort_0 2 rfl rfl)
theorem dX1_sort_3 : decode cX1_sort 3 = .ok (.getfield 66, 3) := dk_180 0 66 (dk_at dksX1_sort_0 3 rfl rfl)
theorem dX1_sort_6 : decode cX1_sort 6 = .ok (.getfield 258, 3) := dk_180 1 2 (dk_at dksX1_sort_0 6 rfl rfl)
theorem dX1_sort_9 : decode cX1_sort 9 = .ok (.iconst 1, 1) := dk_4 (dk_at dksX1_sort_0 9 rfl rfl)
theorem dX1_sort_10 : decode cX1_sort 10 = .ok (.isub, 1) := dk_100 (dk_at dksX1_sort_0 10 rfl rfl)
theorem dX1_sort_11 : decode cX1_sort 11 = .ok (.invokestatic 231, 3) := dk_184 0 231 (dk_at dksX1_sort_0 11 rfl rfl)
theorem dX1_sort_14 : decode cX1_sort 14 = .ok (.ifCond .eq 16, 3) := dk_153 0 16 (dk_at dksX1_sort_0 14 rfl rfl)
theorem dX1_sort_17 : decode cX1_sort 17 = .ok (.iload_n 2, 1) := dk_28 (dk_at dksX1_sort_0 17 rfl rfl)
theorem dX1_sort_18 : decode cX1_sort 18 = .ok (.iconst 0, 1) := dk_3 (dk_at dksX1_sort_0 18 rfl rfl)
theorem dX1_sort_19 : decode cX1_sort 19 = .ok (.iconst 1, 1) := dk_4 (dk_at dksX1_sort_0 19 rfl rfl)
theorem dX1_sort_20 : decode cX1_sort 20 = .ok (.invokestatic 231, 3) := dk_184 0 231 (dk_at dksX1_sort_0 20 rfl rfl)
theorem dX1_sort_23 : decode cX1_sort 23 = .ok (.ifCond .eq 7, 3) := dk_153 0 7 (dk_at dksX1_sort_1 0 rfl rfl)
theorem dX1_sort_26 : decode cX1_sort 26 = .ok (.iconst 1, 1) := dk_4 (dk_at dksX1_sort_1 3 rfl rfl)
theorem dX1_sort_27 : decode cX1_sort 27 = .ok (.goto 4, 3) := dk_167 0 4 (dk_at dksX1_sort_1 4 rfl rfl)
theorem dX1_sort_30 : decode cX1_sort 30 = .ok (.iconst 0, 1) := dk_3 (dk_at dksX1_sort_1 7 rfl rfl)
theorem dX1_sort_31 : decode cX1_sort 31 = .ok (.invokestatic 239, 3) := dk_184 0 239 (dk_at dksX1_sort_1 8 rfl rfl)
theorem dX1_sort_34 : decode cX1_sort 34 = .ok (.iload_n 2, 1) := dk_28 (dk_at dksX1_sort_1 11 rfl rfl)
theorem dX1_sort_35 : decode cX1_sort 35 = .ok (.ifCond .ne 15, 3) := dk_154 0 15 (dk_at dksX1_sort_1 12 rfl rfl)
theorem dX1_sort_38 : decode cX1_sort 38 = .ok (.aload_n 0, 1) := dk_42 (dk_at dksX1_sort_1 15 rfl rfl)
theorem dX1_sort_39 : decode cX1_sort 39 = .ok (.getfield 66, 3) := dk_180 0 66 (dk_at dksX1_sort_1 16 rfl rfl)
theorem dX1_sort_42 : decode cX1_sort 42 = .ok (.getfield 261, 3) := dk_180 1 5 (dk_at dksX1_sort_1 19 rfl rfl)
theorem dX1_sort_45 : decode cX1_sort 45 = .ok (.iload_n 1, 1) := dk_27 (dk_at dksX1_sort_1 22 rfl rfl)
theorem dX1_sort_46 : decode cX1_sort 46 = .ok (.iaload, 1) := dk_46 (dk_at dksX1_sort_1 23 rfl rfl)
theorem dX1_sort_47 : decode cX1_sort 47 = .ok (.goto 12, 3) := dk_167 0 12 (dk_at dksX1_sort_2 0 rfl rfl)
theorem dX1_sort_50 : decode cX1_sort 50 = .ok (.aload_n 0, 1) := dk_42 (dk_at dksX1_sort_2 3 rfl rfl)
theorem dX1_sort_51 : decode cX1_sort 51 = .ok (.getfield 66, 3) := dk_180 0 66 (dk_at dksX1_sort_2 4 rfl rfl)
theorem dX1_sort_54 : decode cX1_sort 54 = .ok (.getfield 264, 3) := dk_180 1 8 (dk_at dksX1_sort_2 7 rfl rfl)
theorem dX1_sort_57 : decode cX1_sort 57 = .ok (.iload_n 1, 1) := dk_27 (dk_at dksX1_sort_2 10 rfl rfl)
theorem dX1_sort_58 : decode cX1_sort 58 = .ok (.iaload, 1) := dk_46 (dk_at dksX1_sort_2 11 rfl rfl)
theorem dX1_sort_59 : decode cX1_sort 59 = .ok (.ireturn, 1) := dk_172 (dk_at dksX1_sort_2 12 rfl rfl)
abbrev cX1_left : ByteArray := prog_1_method_20_code
def yX1_left : MethodName := ⟨RX1, "left", "(II)I"⟩
def dkwX1_left_1 : List UInt8 := [184, 0, 239, 42, 180, 0, 73, 42, 180, 0, 66, 27, 28, 182, 1, 36, 172]
abbrev dktX1_left_1 : List UInt8 := dkwX1_left_1 ++ []
def dkwX1_left_0 : List UInt8 := [42, 27, 182, 0, 235, 153, 0, 16, 28, 3, 4, 184, 0, 231, 153, 0, 7, 4, 167, 0, 4, 3]
abbrev dktX1_left_0 : List UInt8 := dkwX1_left_0 ++ dktX1_left_1
theorem dksX1_left_0 : cX1_left.data.toList.drop 0 = dktX1_left_0 := by decide +kernel
theorem dksX1_left_1 : cX1_left.data.toList.drop 22 = dktX1_left_1 := dk_seg dksX1_left_0 22 rfl rfl
theorem dX1_left_0 : decode cX1_left 0 = .ok (.aload_n 0, 1) := dk_42 (dk_at dksX1_left_0 0 rfl rfl)
theorem dX1_left_1 : decode cX1_left 1 = .ok (.iload_n 1, 1) := dk_27 (dk_at dksX1_left_0 1 rfl rfl)
theorem dX1_left_2 : decode cX1_left 2 = .ok (.invokevirtual 235, 3) := dk_182 0 235 (dk_at dksX1_left_0 2 rfl rfl)
theorem dX1_left_5 : decode cX1_left 5 = .ok (.ifCond .eq 16, 3) := dk_153 0 16 (dk_at dksX1_left_0 5 rfl rfl)
theorem dX1_left_8 : decode cX1_left 8 = .ok (.iload_n 2, 1) := dk_28 (dk_at dksX1_left_0 8 rfl rfl)
theorem dX1_left_9 : decode cX1_left 9 = .ok (.iconst 0, 1) := dk_3 (dk_at dksX1_left_0 9 rfl rfl)
theorem dX1_left_10 : decode cX1_left 10 = .ok (.iconst 1, 1) := dk_4 (dk_at dksX1_left_0 10 rfl rfl)
theorem dX1_left_11 : decode cX1_left 11 = .ok (.invokestatic 231, 3) := dk_184 0 231 (dk_at dksX1_left_0 11 rfl rfl)
theorem dX1_left_14 : decode cX1_left 14 = .ok (.ifCond .eq 7, 3) := dk_153 0 7 (dk_at dksX1_left_0 14 rfl rfl)
theorem dX1_left_17 : decode cX1_left 17 = .ok (.iconst 1, 1) := dk_4 (dk_at dksX1_left_0 17 rfl rfl)
theorem dX1_left_18 : decode cX1_left 18 = .ok (.goto 4, 3) := dk_167 0 4 (dk_at dksX1_left_0 18 rfl rfl)
theorem dX1_left_21 : decode cX1_left 21 = .ok (.iconst 0, 1) := dk_3 (dk_at dksX1_left_0 21 rfl rfl)
theorem dX1_left_22 : decode cX1_left 22 = .ok (.invokestatic 239, 3) := dk_184 0 239 (dk_at dksX1_left_1 0 rfl rfl)
theorem dX1_left_25 : decode cX1_left 25 = .ok (.aload_n 0, 1) := dk_42 (dk_at dksX1_left_1 3 rfl rfl)
theorem dX1_left_26 : decode cX1_left 26 = .ok (.getfield 73, 3) := dk_180 0 73 (dk_at dksX1_left_1 4 rfl rfl)
theorem dX1_left_29 : decode cX1_left 29 = .ok (.aload_n 0, 1) := dk_42 (dk_at dksX1_left_1 7 rfl rfl)
theorem dX1_left_30 : decode cX1_left 30 = .ok (.getfield 66, 3) := dk_180 0 66 (dk_at dksX1_left_1 8 rfl rfl)
theorem dX1_left_33 : decode cX1_left 33 = .ok (.iload_n 1, 1) := dk_27 (dk_at dksX1_left_1 11 rfl rfl)
theorem dX1_left_34 : decode cX1_left 34 = .ok (.iload_n 2, 1) := dk_28 (dk_at dksX1_left_1 12 rfl rfl)
theorem dX1_left_35 : decode cX1_left 35 = .ok (.invokevirtual 292, 3) := dk_182 1 36 (dk_at dksX1_left_1 13 rfl rfl)
theorem dX1_left_38 : decode cX1_left 38 = .ok (.ireturn, 1) := dk_172 (dk_at dksX1_left_1 16 rfl rfl)
abbrev cX1_mean : ByteArray := prog_1_method_66_code
def yX1_mean : MethodName := ⟨RX1, "mean", "(II)J"⟩
def dkwX1_mean_5 : List UInt8 := [173]
abbrev dktX1_mean_5 : List UInt8 := dkwX1_mean_5 ++ []
def dkwX1_mean_4 : List UInt8 := [22, 9, 184, 1, 182, 55, 11, 28, 154, 0, 11, 22, 7, 22, 11, 109, 167, 0, 8, 22, 9, 22, 11, 109]
abbrev dktX1_mean_4 : List UInt8 := dkwX1_mean_4 ++ dktX1_mean_5
def dkwX1_mean_3 : List UInt8 := [180, 0, 243, 5, 27, 104, 4, 96, 46, 133, 105, 97, 55, 7, 22, 5, 22, 5, 105, 55, 9, 22, 7]
abbrev dktX1_mean_3 : List UInt8 := dkwX1_mean_3 ++ dktX1_mean_4
def dkwX1_mean_2 : List UInt8 := [33, 33, 105, 42, 180, 0, 66, 180, 0, 243, 5, 27, 104, 46, 133, 105, 33, 22, 5, 105, 42, 180, 0, 66]
abbrev dktX1_mean_2 : List UInt8 := dkwX1_mean_2 ++ dktX1_mean_3
def dkwX1_mean_1 : List UInt8 := [184, 0, 239, 42, 180, 0, 66, 180, 1, 186, 133, 66, 33, 42, 180, 0, 66, 180, 1, 189, 133, 101, 55, 5]
abbrev dktX1_mean_1 : List UInt8 := dkwX1_mean_1 ++ dktX1_mean_2
def dkwX1_mean_0 : List UInt8 := [42, 27, 182, 0, 235, 153, 0, 16, 28, 3, 4, 184, 0, 231, 153, 0, 7, 4, 167, 0, 4, 3]
abbrev dktX1_mean_0 : List UInt8 := dkwX1_mean_0 ++ dktX1_mean_1
theorem dksX1_mean_0 : cX1_mean.data.toList.drop 0 = dktX1_mean_0 := by decide +kernel
theorem dksX1_mean_1 : cX1_mean.data.toList.drop 22 = dktX1_mean_1 := dk_seg dksX1_mean_0 22 rfl rfl
theorem dksX1_mean_2 : cX1_mean.data.toList.drop 46 = dktX1_mean_2 := dk_seg dksX1_mean_1 24 rfl rfl
theorem dksX1_mean_3 : cX1_mean.data.toList.drop 70 = dktX1_mean_3 := dk_seg dksX1_mean_2 24 rfl rfl
theorem dksX1_mean_4 : cX1_mean.data.toList.drop 93 = dktX1_mean_4 := dk_seg dksX1_mean_3 23 rfl rfl
theorem dksX1_mean_5 : cX1_mean.data.toList.drop 117 = dktX1_mean_5 := dk_seg dksX1_mean_4 24 rfl rfl
theorem dX1_mean_0 : decode cX1_mean 0 = .ok (.aload_n 0, 1) := dk_42 (dk_at dksX1_mean_0 0 rfl rfl)
theorem dX1_mean_1 : decode cX1_mean 1 = .ok (.iload_n 1, 1) := dk_27 (dk_at dksX1_mean_0 1 rfl rfl)
theorem dX1_mean_2 : decode cX1_mean 2 = .ok (.invokevirtual 235, 3) := dk_182 0 235 (dk_at dksX1_mean_0 2 rfl rfl)
theorem dX1_mean_5 : decode cX1_mean 5 = .ok (.ifCond .eq 16, 3) := dk_153 0 16 (dk_at dksX1_mean_0 5 rfl rfl)
theorem dX1_mean_8 : decode cX1_mean 8 = .ok (.iload_n 2, 1) := dk_28 (dk_at dksX1_mean_0 8 rfl rfl)
theorem dX1_mean_9 : decode cX1_mean 9 = .ok (.iconst 0, 1) := dk_3 (dk_at dksX1_mean_0 9 rfl rfl)
theorem dX1_mean_10 : decode cX1_mean 10 = .ok (.iconst 1, 1) := dk_4 (dk_at dksX1_mean_0 10 rfl rfl)
theorem dX1_mean_11 : decode cX1_mean 11 = .ok (.invokestatic 231, 3) := dk_184 0 231 (dk_at dksX1_mean_0 11 rfl rfl)
theorem dX1_mean_14 : decode cX1_mean 14 = .ok (.ifCond .eq 7, 3) := dk_153 0 7 (dk_at dksX1_mean_0 14 rfl rfl)
theorem dX1_mean_17 : decode cX1_mean 17 = .ok (.iconst 1, 1) := dk_4 (dk_at dksX1_mean_0 17 rfl rfl)
theorem dX1_mean_18 : decode cX1_mean 18 = .ok (.goto 4, 3) := dk_167 0 4 (dk_at dksX1_mean_0 18 rfl rfl)
theorem dX1_mean_21 : decode cX1_mean 21 = .ok (.iconst 0, 1) := dk_3 (dk_at dksX1_mean_0 21 rfl rfl)
theorem dX1_mean_22 : decode cX1_mean 22 = .ok (.invokestatic 239, 3) := dk_184 0 239 (dk_at dksX1_mean_1 0 rfl rfl)
theorem dX1_mean_25 : decode cX1_mean 25 = .ok (.aload_n 0, 1) := dk_42 (dk_at dksX1_mean_1 3 rfl rfl)
theorem dX1_mean_26 : decode cX1_mean 26 = .ok (.getfield 66, 3) := dk_180 0 66 (dk_at dksX1_mean_1 4 rfl rfl)
theorem dX1_mean_29 : decode cX1_mean 29 = .ok (.getfield 442, 3) := dk_180 1 186 (dk_at dksX1_mean_1 7 rfl rfl)
theorem dX1_mean_32 : decode cX1_mean 32 = .ok (.i2l, 1) := dk_133 (dk_at dksX1_mean_1 10 rfl rfl)
theorem dX1_mean_33 : decode cX1_mean 33 = .ok (.lstore_n 3, 1) := dk_66 (dk_at dksX1_mean_1 11 rfl rfl)
theorem dX1_mean_34 : decode cX1_mean 34 = .ok (.lload_n 3, 1) := dk_33 (dk_at dksX1_mean_1 12 rfl rfl)
theorem dX1_mean_35 : decode cX1_mean 35 = .ok (.aload_n 0, 1) := dk_42 (dk_at dksX1_mean_1 13 rfl rfl)
theorem dX1_mean_36 : decode cX1_mean 36 = .ok (.getfield 66, 3) := dk_180 0 66 (dk_at dksX1_mean_1 14 rfl rfl)
theorem dX1_mean_39 : decode cX1_mean 39 = .ok (.getfield 445, 3) := dk_180 1 189 (dk_at dksX1_mean_1 17 rfl rfl)
theorem dX1_mean_42 : decode cX1_mean 42 = .ok (.i2l, 1) := dk_133 (dk_at dksX1_mean_1 20 rfl rfl)
theorem dX1_mean_43 : decode cX1_mean 43 = .ok (.lsub, 1) := dk_101 (dk_at dksX1_mean_1 21 rfl rfl)
theorem dX1_mean_44 : decode cX1_mean 44 = .ok (.lstore 5, 2) := dk_55 5 (dk_at dksX1_mean_1 22 rfl rfl)
theorem dX1_mean_46 : decode cX1_mean 46 = .ok (.lload_n 3, 1) := dk_33 (dk_at dksX1_mean_2 0 rfl rfl)
theorem dX1_mean_47 : decode cX1_mean 47 = .ok (.lload_n 3, 1) := dk_33 (dk_at dksX1_mean_2 1 rfl rfl)
theorem dX1_mean_48 : decode cX1_mean 48 = .ok (.lmul, 1) := dk_105 (dk_at dksX1_mean_2 2 rfl rfl)
theorem dX1_mean_49 : decode cX1_mean 49 = .ok (.aload_n 0, 1) := dk_42 (dk_at dksX1_mean_2 3 rfl rfl)
theorem dX1_mean_50 : decode cX1_mean 50 = .ok (.getfield 66, 3) := dk_180 0 66 (dk_at dksX1_mean_2 4 rfl rfl)
theorem dX1_mean_53 : decode cX1_mean 53 = .ok (.getfield 243, 3) := dk_180 0 243 (dk_at dksX1_mean_2 7 rfl rfl)
theorem dX1_mean_56 : decode cX1_mean 56 = .ok (.iconst 2, 1) := dk_5 (dk_at dksX1_mean_2 10 rfl rfl)
theorem dX1_mean_57 : decode cX1_mean 57 = .ok (.iload_n 1, 1) := dk_27 (dk_at dksX1_mean_2 11 rfl rfl)
theorem dX1_mean_58 : decode cX1_mean 58 = .ok (.imul, 1) := dk_104 (dk_at dksX1_mean_2 12 rfl rfl)
theorem dX1_mean_59 : decode cX1_mean 59 = .ok (.iaload, 1) := dk_46 (dk_at dksX1_mean_2 13 rfl rfl)
theorem dX1_mean_60 : decode cX1_mean 60 = .ok (.i2l, 1) := dk_133 (dk_at dksX1_mean_2 14 rfl rfl)
theorem dX1_mean_61 : decode cX1_mean 61 = .ok (.lmul, 1) := dk_105 (dk_at dksX1_mean_2 15 rfl rfl)
theorem dX1_mean_62 : decode cX1_mean 62 = .ok (.lload_n 3, 1) := dk_33 (dk_at dksX1_mean_2 16 rfl rfl)
theorem dX1_mean_63 : decode cX1_mean 63 = .ok (.lload 5, 2) := dk_22 5 (dk_at dksX1_mean_2 17 rfl rfl)
theorem dX1_mean_65 : decode cX1_mean 65 = .ok (.lmul, 1) := dk_105 (dk_at dksX1_mean_2 19 rfl rfl)
theorem dX1_mean_66 : decode cX1_mean 66 = .ok (.aload_n 0, 1) := dk_42 (dk_at dksX1_mean_2 20 rfl rfl)
theorem dX1_mean_67 : decode cX1_mean 67 = .ok (.getfield 66, 3) := dk_180 0 66 (dk_at dksX1_mean_2 21 rfl rfl)
theorem dX1_mean_70 : decode cX1_mean 70 = .ok (.getfield 243, 3) := dk_180 0 243 (dk_at dksX1_mean_3 0 rfl rfl)
theorem dX1_mean_73 : decode cX1_mean 73 = .ok (.iconst 2, 1) := dk_5 (dk_at dksX1_mean_3 3 rfl rfl)
theorem dX1_mean_74 : decode cX1_mean 74 = .ok (.iload_n 1, 1) := dk_27 (dk_at dksX1_mean_3 4 rfl rfl)
theorem dX1_mean_75 : decode cX1_mean 75 = .ok (.imul, 1) := dk_104 (dk_at dksX1_mean_3 5 rfl rfl)
theorem dX1_mean_76 : decode cX1_mean 76 = .ok (.iconst 1, 1) := dk_4 (dk_at dksX1_mean_3 6 rfl rfl)
theorem dX1_mean_77 : decode cX1_mean 77 = .ok (.iadd, 1) := dk_96 (dk_at dksX1_mean_3 7 rfl rfl)
theorem dX1_mean_78 : decode cX1_mean 78 = .ok (.iaload, 1) := dk_46 (dk_at dksX1_mean_3 8 rfl rfl)
theorem dX1_mean_79 : decode cX1_mean 79 = .ok (.i2l, 1) := dk_133 (dk_at dksX1_mean_3 9 rfl rfl)
theorem dX1_mean_80 : decode cX1_mean 80 = .ok (.lmul, 1) := dk_105 (dk_at dksX1_mean_3 10 rfl rfl)
theorem dX1_mean_81 : decode cX1_mean 81 = .ok (.ladd, 1) := dk_97 (dk_at dksX1_mean_3 11 rfl rfl)
theorem dX1_mean_82 : decode cX1_mean 82 = .ok (.lstore 7, 2) := dk_55 7 (dk_at dksX1_mean_3 12 rfl rfl)
theorem dX1_mean_84 : decode cX1_mean 84 = .ok (.lload 5, 2) := dk_22 5 (dk_at dksX1_mean_3 14 rfl rfl)
theorem dX1_mean_86 : decode cX1_mean 86 = .ok (.lload 5, 2) := dk_22 5 (dk_at dksX1_mean_3 16 rfl rfl)
theorem dX1_mean_88 : decode cX1_mean 88 = .ok (.lmul, 1) := dk_105 (dk_at dksX1_mean_3 18 rfl rfl)
theorem dX1_mean_89 : decode cX1_mean 89 = .ok (.lstore 9, 2) := dk_55 9 (dk_at dksX1_mean_3 19 rfl rfl)
theorem dX1_mean_91 : decode cX1_mean 91 = .ok (.lload 7, 2) := dk_22 7 (dk_at dksX1_mean_3 21 rfl rfl)
theorem dX1_mean_93 : decode cX1_mean 93 = .ok (.lload 9, 2) := dk_22 9 (dk_at dksX1_mean_4 0 rfl rfl)
theorem dX1_mean_95 : decode cX1_mean 95 = .ok (.invokestatic 438, 3) := dk_184 1 182 (dk_at dksX1_mean_4 2 rfl rfl)
theorem dX1_mean_98 : decode cX1_mean 98 = .ok (.lstore 11, 2) := dk_55 11 (dk_at dksX1_mean_4 5 rfl rfl)
theorem dX1_mean_100 : decode cX1_mean 100 = .ok (.iload_n 2, 1) := dk_28 (dk_at dksX1_mean_4 7 rfl rfl)
theorem dX1_mean_101 : decode cX1_mean 101 = .ok (.ifCond .ne 11, 3) := dk_154 0 11 (dk_at dksX1_mean_4 8 rfl rfl)
theorem dX1_mean_104 : decode cX1_mean 104 = .ok (.lload 7, 2) := dk_22 7 (dk_at dksX1_mean_4 11 rfl rfl)
theorem dX1_mean_106 : decode cX1_mean 106 = .ok (.lload 11, 2) := dk_22 11 (dk_at dksX1_mean_4 13 rfl rfl)
theorem dX1_mean_108 : decode cX1_mean 108 = .ok (.ldiv, 1) := dk_109 (dk_at dksX1_mean_4 15 rfl rfl)
theorem dX1_mean_109 : decode cX1_mean 109 = .ok (.goto 8, 3) := dk_167 0 8 (dk_at dksX1_mean_4 16 rfl rfl)
theorem dX1_mean_112 : decode cX1_mean 112 = .ok (.lload 9, 2) := dk_22 9 (dk_at dksX1_mean_4 19 rfl rfl)
theorem dX1_mean_114 : decode cX1_mean 114 = .ok (.lload 11, 2) := dk_22 11 (dk_at dksX1_mean_4 21 rfl rfl)
theorem dX1_mean_116 : decode cX1_mean 116 = .ok (.ldiv, 1) := dk_109 (dk_at dksX1_mean_4 23 rfl rfl)
theorem dX1_mean_117 : decode cX1_mean 117 = .ok (.lreturn, 1) := dk_173 (dk_at dksX1_mean_5 0 rfl rfl)
abbrev cX1_common : ByteArray := prog_1_method_65_code
def yX1_common : MethodName := ⟨RX1, "common", "(JJ)J"⟩
def dkwX1_common_0 : List UInt8 := [32, 9, 148, 154, 0, 7, 30, 167, 0, 10, 32, 30, 32, 113, 184, 1, 182, 173]
abbrev dktX1_common_0 : List UInt8 := dkwX1_common_0 ++ []
theorem dksX1_common_0 : cX1_common.data.toList.drop 0 = dktX1_common_0 := by decide +kernel
theorem dX1_common_0 : decode cX1_common 0 = .ok (.lload_n 2, 1) := dk_32 (dk_at dksX1_common_0 0 rfl rfl)
theorem dX1_common_1 : decode cX1_common 1 = .ok (.lconst 0, 1) := dk_9 (dk_at dksX1_common_0 1 rfl rfl)
theorem dX1_common_2 : decode cX1_common 2 = .ok (.lcmp, 1) := dk_148 (dk_at dksX1_common_0 2 rfl rfl)
theorem dX1_common_3 : decode cX1_common 3 = .ok (.ifCond .ne 7, 3) := dk_154 0 7 (dk_at dksX1_common_0 3 rfl rfl)
theorem dX1_common_6 : decode cX1_common 6 = .ok (.lload_n 0, 1) := dk_30 (dk_at dksX1_common_0 6 rfl rfl)
theorem dX1_common_7 : decode cX1_common 7 = .ok (.goto 10, 3) := dk_167 0 10 (dk_at dksX1_common_0 7 rfl rfl)
theorem dX1_common_10 : decode cX1_common 10 = .ok (.lload_n 2, 1) := dk_32 (dk_at dksX1_common_0 10 rfl rfl)
theorem dX1_common_11 : decode cX1_common 11 = .ok (.lload_n 0, 1) := dk_30 (dk_at dksX1_common_0 11 rfl rfl)
theorem dX1_common_12 : decode cX1_common 12 = .ok (.lload_n 2, 1) := dk_32 (dk_at dksX1_common_0 12 rfl rfl)
theorem dX1_common_13 : decode cX1_common 13 = .ok (.lrem, 1) := dk_113 (dk_at dksX1_common_0 13 rfl rfl)
theorem dX1_common_14 : decode cX1_common 14 = .ok (.invokestatic 438, 3) := dk_184 1 182 (dk_at dksX1_common_0 14 rfl rfl)
theorem dX1_common_17 : decode cX1_common 17 = .ok (.lreturn, 1) := dk_173 (dk_at dksX1_common_0 17 rfl rfl)
theorem q107 : (Jvm.Cond.initialized "PanSlices") ∈ lw_all := lw_g (lw_at lw_m1 1 rfl) rfl
theorem q138 : (Jvm.Cond.instantiable "PanSlices" (42 : Nat)) ∈ lw_all := lw_g (lw_at lw_m1 32 rfl) rfl
theorem q140 : (Jvm.Cond.instanceMethod ({ cls := "PanSlices", name := "<init>", desc := "()V" } : Jvm.MethodName)) ∈ lw_all := lw_g (lw_at lw_m1 34 rfl) rfl
theorem q141 : (Jvm.Cond.code ({ cls := "PanSlices", name := "<init>", desc := "()V" } : Jvm.MethodName) prog_1_method_1_code (1 : Nat) (Option.none : Option Jvm.ClassFile.FieldType)) ∈ lw_all := lw_g (lw_at lw_m1 35 rfl) rfl
theorem q142 : (Jvm.Cond.methodLink "PanSlices" (3 : Nat) ({ cls := "java/lang/Object", name := "<init>", desc := "()V" } : Jvm.MethodName)) ∈ lw_all := lw_g (lw_at lw_m1 36 rfl) rfl
theorem q145 : (Jvm.Cond.classLink "PanSlices" (13 : Nat) "PanSlices$Fault") ∈ lw_all := lw_g (lw_at lw_m1 39 rfl) rfl
theorem q183 : (Jvm.Cond.methodLink "PanSlices" (15 : Nat) ({ cls := "PanSlices$Fault", name := "<init>", desc := "()V" } : Jvm.MethodName)) ∈ lw_all := lw_g (lw_at lw_m1 77 rfl) rfl
theorem q192 : (Jvm.Cond.fieldLink "PanSlices" (222 : Nat) "PanSlices$Fault" "kind" "I") ∈ lw_all := lw_g (lw_at lw_m1 86 rfl) rfl
theorem q194 : (Jvm.Cond.fieldLink "PanSlices" (225 : Nat) "PanSlices$Fault" "place" "I") ∈ lw_all := lw_g (lw_at lw_m1 88 rfl) rfl
theorem q214 : (Jvm.Cond.classLink "PanSlices" (20 : Nat) "java/lang/String") ∈ lw_all := lw_g (lw_at lw_m1 108 rfl) rfl
theorem q216 : (Jvm.Cond.stringRef "PanSlices" (22 : Nat) "pan") ∈ lw_tbl := lw_at lw_m1 110 rfl
theorem q217 : (Jvm.Cond.stringRef "PanSlices" (24 : Nat) "rest") ∈ lw_tbl := lw_at lw_m1 111 rfl
theorem q218 : (Jvm.Cond.stringRef "PanSlices" (26 : Nat) "cold") ∈ lw_tbl := lw_at lw_m1 112 rfl
theorem q219 : (Jvm.Cond.stringRef "PanSlices" (28 : Nat) "burn") ∈ lw_tbl := lw_at lw_m1 113 rfl
theorem q220 : (Jvm.Cond.stringRef "PanSlices" (30 : Nat) "slice") ∈ lw_tbl := lw_at lw_m1 114 rfl
theorem q221 : (Jvm.Cond.stringRef "PanSlices" (32 : Nat) "guest") ∈ lw_tbl := lw_at lw_m1 115 rfl
theorem q222 : (Jvm.Cond.stringRef "PanSlices" (34 : Nat) "sort") ∈ lw_tbl := lw_at lw_m1 116 rfl
theorem q223 : (Jvm.Cond.stringRef "PanSlices" (40 : Nat) "once") ∈ lw_tbl := lw_at lw_m1 117 rfl
theorem q224 : (Jvm.Cond.stringRef "PanSlices" (42 : Nat) "top") ∈ lw_tbl := lw_at lw_m1 118 rfl
theorem q225 : (Jvm.Cond.stringRef "PanSlices" (44 : Nat) "under") ∈ lw_tbl := lw_at lw_m1 119 rfl
theorem q226 : (Jvm.Cond.stringRef "PanSlices" (46 : Nat) "or") ∈ lw_tbl := lw_at lw_m1 120 rfl
theorem q227 : (Jvm.Cond.stringRef "PanSlices" (48 : Nat) "and") ∈ lw_tbl := lw_at lw_m1 121 rfl
theorem q228 : (Jvm.Cond.stringRef "PanSlices" (50 : Nat) "not") ∈ lw_tbl := lw_at lw_m1 122 rfl
theorem q229 : (Jvm.Cond.stringRef "PanSlices" (52 : Nat) "done") ∈ lw_tbl := lw_at lw_m1 123 rfl
theorem q230 : (Jvm.Cond.stringRef "PanSlices" (54 : Nat) "after") ∈ lw_tbl := lw_at lw_m1 124 rfl
theorem q231 : (Jvm.Cond.stringRef "PanSlices" (56 : Nat) "goes") ∈ lw_tbl := lw_at lw_m1 125 rfl
theorem q232 : (Jvm.Cond.stringRef "PanSlices" (58 : Nat) "ends") ∈ lw_tbl := lw_at lw_m1 126 rfl
theorem q233 : (Jvm.Cond.classLink "PanSlices" (63 : Nat) "PanSlices$Kitchen") ∈ lw_all := lw_g (lw_at lw_m1 127 rfl) rfl
theorem q235 : (Jvm.Cond.methodLinkNest "PanSlices" (65 : Nat) ({ cls := "PanSlices$Kitchen", name := "<init>", desc := "()V" } : Jvm.MethodName) "PanSlices") ∈ lw_tbl := lw_at lw_m1 129 rfl
theorem q242 : (Jvm.Cond.fieldLinkNest "PanSlices" (315 : Nat) "PanSlices$Kitchen" "names" "[J" "PanSlices") ∈ lw_tbl := lw_at lw_m1 136 rfl
theorem q249 : (Jvm.Cond.fieldLinkNest "PanSlices" (243 : Nat) "PanSlices$Kitchen" "minutes" "[I" "PanSlices") ∈ lw_tbl := lw_at lw_m1 143 rfl
theorem q252 : (Jvm.Cond.fieldLinkNest "PanSlices" (252 : Nat) "PanSlices$Kitchen" "comes" "[I" "PanSlices") ∈ lw_tbl := lw_at lw_m1 146 rfl
theorem q255 : (Jvm.Cond.fieldLinkNest "PanSlices" (255 : Nat) "PanSlices$Kitchen" "worth" "[I" "PanSlices") ∈ lw_tbl := lw_at lw_m1 149 rfl
theorem q258 : (Jvm.Cond.fieldLinkNest "PanSlices" (261 : Nat) "PanSlices$Kitchen" "sortPlaces" "[I" "PanSlices") ∈ lw_tbl := lw_at lw_m1 152 rfl
theorem q261 : (Jvm.Cond.fieldLinkNest "PanSlices" (264 : Nat) "PanSlices$Kitchen" "cost" "[I" "PanSlices") ∈ lw_tbl := lw_at lw_m1 155 rfl
theorem q266 : (Jvm.Cond.fieldLinkNest "PanSlices" (246 : Nat) "PanSlices$Kitchen" "once" "[Z" "PanSlices") ∈ lw_tbl := lw_at lw_m1 160 rfl
theorem q269 : (Jvm.Cond.fieldLinkNest "PanSlices" (228 : Nat) "PanSlices$Kitchen" "slices" "I" "PanSlices") ∈ lw_tbl := lw_at lw_m1 163 rfl
theorem q272 : (Jvm.Cond.fieldLinkNest "PanSlices" (249 : Nat) "PanSlices$Kitchen" "guests" "I" "PanSlices") ∈ lw_tbl := lw_at lw_m1 166 rfl
theorem q274 : (Jvm.Cond.fieldLinkNest "PanSlices" (258 : Nat) "PanSlices$Kitchen" "sorts" "I" "PanSlices") ∈ lw_tbl := lw_at lw_m1 168 rfl
theorem q278 : (Jvm.Cond.fieldLinkNest "PanSlices" (332 : Nat) "PanSlices$Kitchen" "places" "I" "PanSlices") ∈ lw_tbl := lw_at lw_m1 172 rfl
theorem q281 : (Jvm.Cond.fieldLinkNest "PanSlices" (370 : Nat) "PanSlices$Kitchen" "rest" "I" "PanSlices") ∈ lw_tbl := lw_at lw_m1 175 rfl
theorem q284 : (Jvm.Cond.fieldLinkNest "PanSlices" (422 : Nat) "PanSlices$Kitchen" "cold" "I" "PanSlices") ∈ lw_tbl := lw_at lw_m1 178 rfl
theorem q286 : (Jvm.Cond.fieldLinkNest "PanSlices" (445 : Nat) "PanSlices$Kitchen" "burns" "I" "PanSlices") ∈ lw_tbl := lw_at lw_m1 180 rfl
theorem q289 : (Jvm.Cond.fieldLinkNest "PanSlices" (442 : Nat) "PanSlices$Kitchen" "by" "I" "PanSlices") ∈ lw_tbl := lw_at lw_m1 183 rfl
theorem q326 : (Jvm.Cond.classLink "PanSlices" (70 : Nat) "PanSlices$Plan") ∈ lw_all := lw_g (lw_at lw_m1 220 rfl) rfl
theorem q328 : (Jvm.Cond.methodLinkNest "PanSlices" (72 : Nat) ({ cls := "PanSlices$Plan", name := "<init>", desc := "()V" } : Jvm.MethodName) "PanSlices") ∈ lw_tbl := lw_at lw_m1 222 rfl
theorem q333 : (Jvm.Cond.fieldLinkNest "PanSlices" (279 : Nat) "PanSlices$Plan" "slice" "[I" "PanSlices") ∈ lw_tbl := lw_at lw_m1 227 rfl
theorem q335 : (Jvm.Cond.fieldLinkNest "PanSlices" (281 : Nat) "PanSlices$Plan" "side" "[I" "PanSlices") ∈ lw_tbl := lw_at lw_m1 229 rfl
theorem q337 : (Jvm.Cond.fieldLinkNest "PanSlices" (284 : Nat) "PanSlices$Plan" "from" "[I" "PanSlices") ∈ lw_tbl := lw_at lw_m1 231 rfl
theorem q339 : (Jvm.Cond.fieldLinkNest "PanSlices" (287 : Nat) "PanSlices$Plan" "place" "[I" "PanSlices") ∈ lw_tbl := lw_at lw_m1 233 rfl
theorem q341 : (Jvm.Cond.fieldLinkNest "PanSlices" (289 : Nat) "PanSlices$Plan" "many" "[I" "PanSlices") ∈ lw_tbl := lw_at lw_m1 235 rfl
theorem q344 : (Jvm.Cond.fieldLinkNest "PanSlices" (213 : Nat) "PanSlices$Plan" "goes" "I" "PanSlices") ∈ lw_tbl := lw_at lw_m1 238 rfl
theorem q358 : (Jvm.Cond.classLink "PanSlices" (80 : Nat) "PanSlices$KitchenReader") ∈ lw_all := lw_g (lw_at lw_m2 12 rfl) rfl
theorem q360 : (Jvm.Cond.methodLink "PanSlices" (82 : Nat) ({ cls := "PanSlices$KitchenReader", name := "<init>", desc := "(LPanSlices;)V" } : Jvm.MethodName)) ∈ lw_all := lw_g (lw_at lw_m2 14 rfl) rfl
theorem q413 : (Jvm.Cond.classLink "PanSlices" (89 : Nat) "PanSlices$PlanReader") ∈ lw_all := lw_g (lw_at lw_m2 67 rfl) rfl
theorem q415 : (Jvm.Cond.methodLink "PanSlices" (91 : Nat) ({ cls := "PanSlices$PlanReader", name := "<init>", desc := "(LPanSlices;)V" } : Jvm.MethodName)) ∈ lw_all := lw_g (lw_at lw_m2 69 rfl) rfl
theorem q432 : (Jvm.Cond.classLink "PanSlices" (123 : Nat) "PanSlices$Cook") ∈ lw_all := lw_g (lw_at lw_m2 86 rfl) rfl
theorem q434 : (Jvm.Cond.classLink "PanSlices" (125 : Nat) "PanSlices$Next") ∈ lw_all := lw_g (lw_at lw_m2 88 rfl) rfl
theorem q436 : (Jvm.Cond.methodLinkNest "PanSlices" (127 : Nat) ({ cls := "PanSlices$Next", name := "<init>", desc := "()V" } : Jvm.MethodName) "PanSlices") ∈ lw_tbl := lw_at lw_m2 90 rfl
theorem q444 : (Jvm.Cond.classLink "PanSlices" (128 : Nat) "PanSlices$Longest") ∈ lw_all := lw_g (lw_at lw_m2 98 rfl) rfl
theorem q446 : (Jvm.Cond.methodLinkNest "PanSlices" (130 : Nat) ({ cls := "PanSlices$Longest", name := "<init>", desc := "()V" } : Jvm.MethodName) "PanSlices") ∈ lw_tbl := lw_at lw_m2 100 rfl
theorem q451 : (Jvm.Cond.classLink "PanSlices" (131 : Nat) "PanSlices$Half") ∈ lw_all := lw_g (lw_at lw_m2 105 rfl) rfl
theorem q453 : (Jvm.Cond.methodLinkNest "PanSlices" (133 : Nat) ({ cls := "PanSlices$Half", name := "<init>", desc := "()V" } : Jvm.MethodName) "PanSlices") ∈ lw_tbl := lw_at lw_m2 107 rfl
theorem q458 : (Jvm.Cond.classLink "PanSlices" (171 : Nat) "PanSlices$SentenceReader") ∈ lw_all := lw_g (lw_at lw_m2 112 rfl) rfl
theorem q460 : (Jvm.Cond.methodLink "PanSlices" (173 : Nat) ({ cls := "PanSlices$SentenceReader", name := "<init>", desc := "(LPanSlices;)V" } : Jvm.MethodName)) ∈ lw_all := lw_g (lw_at lw_m2 114 rfl) rfl
theorem q475 : (Jvm.Cond.fieldLinkNest "PanSlices" (472 : Nat) "PanSlices$SentenceReader" "ones" "I" "PanSlices") ∈ lw_tbl := lw_at lw_m2 129 rfl
theorem q495 : (Jvm.Cond.classLink "PanSlices" (185 : Nat) "PanSlices$Cond") ∈ lw_all := lw_g (lw_at lw_m2 149 rfl) rfl
theorem q497 : (Jvm.Cond.fieldLink "PanSlices" (9 : Nat) "PanSlices" "tape" "[B") ∈ lw_all := lw_g (lw_at lw_m2 151 rfl) rfl
theorem q499 : (Jvm.Cond.fieldLink "PanSlices" (191 : Nat) "PanSlices" "length" "I") ∈ lw_all := lw_g (lw_at lw_m2 153 rfl) rfl
theorem q501 : (Jvm.Cond.fieldLink "PanSlices" (198 : Nat) "PanSlices" "size" "I") ∈ lw_all := lw_g (lw_at lw_m2 155 rfl) rfl
theorem q502 : (Jvm.Cond.fieldLink "PanSlices" (16 : Nat) "PanSlices" "broken" "LPanSlices$Fault;") ∈ lw_all := lw_g (lw_at lw_m2 156 rfl) rfl
theorem q504 : (Jvm.Cond.fieldLink "PanSlices" (36 : Nat) "PanSlices" "lines" "[Ljava/lang/String;") ∈ lw_all := lw_g (lw_at lw_m2 158 rfl) rfl
theorem q507 : (Jvm.Cond.fieldLink "PanSlices" (60 : Nat) "PanSlices" "words" "[Ljava/lang/String;") ∈ lw_all := lw_g (lw_at lw_m2 161 rfl) rfl
theorem q509 : (Jvm.Cond.fieldLink "PanSlices" (66 : Nat) "PanSlices" "kitchen" "LPanSlices$Kitchen;") ∈ lw_all := lw_g (lw_at lw_m2 163 rfl) rfl
theorem q512 : (Jvm.Cond.fieldLink "PanSlices" (73 : Nat) "PanSlices" "plan" "LPanSlices$Plan;") ∈ lw_all := lw_g (lw_at lw_m2 166 rfl) rfl
theorem q513 : (Jvm.Cond.fieldLink "PanSlices" (77 : Nat) "PanSlices" "coming" "LPanSlices$Plan;") ∈ lw_all := lw_g (lw_at lw_m2 167 rfl) rfl
theorem q514 : (Jvm.Cond.fieldLink "PanSlices" (85 : Nat) "PanSlices" "kitchenReader" "LPanSlices$KitchenReader;") ∈ lw_all := lw_g (lw_at lw_m2 168 rfl) rfl
theorem q515 : (Jvm.Cond.fieldLink "PanSlices" (92 : Nat) "PanSlices" "planReader" "LPanSlices$PlanReader;") ∈ lw_all := lw_g (lw_at lw_m2 169 rfl) rfl
theorem q516 : (Jvm.Cond.fieldLink "PanSlices" (206 : Nat) "PanSlices" "fault" "I") ∈ lw_all := lw_g (lw_at lw_m2 170 rfl) rfl
theorem q517 : (Jvm.Cond.fieldLink "PanSlices" (96 : Nat) "PanSlices" "why" "I") ∈ lw_all := lw_g (lw_at lw_m2 171 rfl) rfl
theorem q518 : (Jvm.Cond.fieldLink "PanSlices" (100 : Nat) "PanSlices" "text" "[B") ∈ lw_all := lw_g (lw_at lw_m2 172 rfl) rfl
theorem q519 : (Jvm.Cond.fieldLink "PanSlices" (307 : Nat) "PanSlices" "textMany" "I") ∈ lw_all := lw_g (lw_at lw_m2 173 rfl) rfl
theorem q520 : (Jvm.Cond.fieldLink "PanSlices" (103 : Nat) "PanSlices" "ahead" "[LPanSlices$Plan;") ∈ lw_all := lw_g (lw_at lw_m2 174 rfl) rfl
theorem q521 : (Jvm.Cond.fieldLink "PanSlices" (215 : Nat) "PanSlices" "undoMany" "I") ∈ lw_all := lw_g (lw_at lw_m2 175 rfl) rfl
theorem q522 : (Jvm.Cond.fieldLink "PanSlices" (107 : Nat) "PanSlices" "starts" "[I") ∈ lw_all := lw_g (lw_at lw_m2 176 rfl) rfl
theorem q523 : (Jvm.Cond.fieldLink "PanSlices" (111 : Nat) "PanSlices" "order" "[I") ∈ lw_all := lw_g (lw_at lw_m2 177 rfl) rfl
theorem q524 : (Jvm.Cond.fieldLink "PanSlices" (114 : Nat) "PanSlices" "bestStarts" "[I") ∈ lw_all := lw_g (lw_at lw_m2 178 rfl) rfl
theorem q525 : (Jvm.Cond.fieldLink "PanSlices" (117 : Nat) "PanSlices" "bestOrder" "[I") ∈ lw_all := lw_g (lw_at lw_m2 179 rfl) rfl
theorem q526 : (Jvm.Cond.fieldLink "PanSlices" (120 : Nat) "PanSlices" "taken" "[I") ∈ lw_all := lw_g (lw_at lw_m2 180 rfl) rfl
theorem q527 : (Jvm.Cond.fieldLink "PanSlices" (372 : Nat) "PanSlices" "bestEnd" "I") ∈ lw_all := lw_g (lw_at lw_m2 181 rfl) rfl
theorem q528 : (Jvm.Cond.fieldLink "PanSlices" (134 : Nat) "PanSlices" "cooks" "[LPanSlices$Cook;") ∈ lw_all := lw_g (lw_at lw_m2 182 rfl) rfl
theorem q529 : (Jvm.Cond.fieldLink "PanSlices" (138 : Nat) "PanSlices" "lacks" "[I") ∈ lw_all := lw_g (lw_at lw_m2 183 rfl) rfl
theorem q530 : (Jvm.Cond.fieldLink "PanSlices" (141 : Nat) "PanSlices" "offs" "[I") ∈ lw_all := lw_g (lw_at lw_m2 184 rfl) rfl
theorem q531 : (Jvm.Cond.fieldLink "PanSlices" (144 : Nat) "PanSlices" "onNow" "[I") ∈ lw_all := lw_g (lw_at lw_m2 185 rfl) rfl
theorem q532 : (Jvm.Cond.fieldLink "PanSlices" (147 : Nat) "PanSlices" "onWas" "[I") ∈ lw_all := lw_g (lw_at lw_m2 186 rfl) rfl
theorem q533 : (Jvm.Cond.fieldLink "PanSlices" (150 : Nat) "PanSlices" "goNow" "[I") ∈ lw_all := lw_g (lw_at lw_m2 187 rfl) rfl
theorem q534 : (Jvm.Cond.fieldLink "PanSlices" (153 : Nat) "PanSlices" "most" "[I") ∈ lw_all := lw_g (lw_at lw_m2 188 rfl) rfl
theorem q535 : (Jvm.Cond.fieldLink "PanSlices" (156 : Nat) "PanSlices" "servedAt" "[I") ∈ lw_all := lw_g (lw_at lw_m2 189 rfl) rfl
theorem q536 : (Jvm.Cond.fieldLink "PanSlices" (159 : Nat) "PanSlices" "servedMany" "I") ∈ lw_all := lw_g (lw_at lw_m2 190 rfl) rfl
theorem q537 : (Jvm.Cond.fieldLink "PanSlices" (162 : Nat) "PanSlices" "hotelPans" "[I") ∈ lw_all := lw_g (lw_at lw_m2 191 rfl) rfl
theorem q538 : (Jvm.Cond.fieldLink "PanSlices" (165 : Nat) "PanSlices" "costs" "[I") ∈ lw_all := lw_g (lw_at lw_m2 192 rfl) rfl
theorem q539 : (Jvm.Cond.fieldLink "PanSlices" (168 : Nat) "PanSlices" "hotelMany" "I") ∈ lw_all := lw_g (lw_at lw_m2 193 rfl) rfl
theorem q540 : (Jvm.Cond.fieldLink "PanSlices" (456 : Nat) "PanSlices" "seed" "I") ∈ lw_all := lw_g (lw_at lw_m2 194 rfl) rfl
theorem q541 : (Jvm.Cond.fieldLink "PanSlices" (174 : Nat) "PanSlices" "sentenceReader" "LPanSlices$SentenceReader;") ∈ lw_all := lw_g (lw_at lw_m2 195 rfl) rfl
theorem q542 : (Jvm.Cond.fieldLink "PanSlices" (218 : Nat) "PanSlices" "sentence" "LPanSlices$Cond;") ∈ lw_all := lw_g (lw_at lw_m2 196 rfl) rfl
theorem q543 : (Jvm.Cond.fieldLink "PanSlices" (178 : Nat) "PanSlices" "kitchens" "[LPanSlices$Kitchen;") ∈ lw_all := lw_g (lw_at lw_m2 197 rfl) rfl
theorem q544 : (Jvm.Cond.fieldLink "PanSlices" (182 : Nat) "PanSlices" "plans" "[LPanSlices$Plan;") ∈ lw_all := lw_g (lw_at lw_m2 198 rfl) rfl
theorem q545 : (Jvm.Cond.fieldLink "PanSlices" (187 : Nat) "PanSlices" "sentences" "[LPanSlices$Cond;") ∈ lw_all := lw_g (lw_at lw_m2 199 rfl) rfl
theorem q546 : (Jvm.Cond.laysFinal "PanSlices" "PanSlices" "tape" "[B") ∈ lw_all := lw_g (lw_at lw_m2 200 rfl) rfl
theorem q547 : (Jvm.Cond.soleField "PanSlices" "tape") ∈ lw_all := lw_g (lw_at lw_m2 201 rfl) rfl
theorem q548 : (Jvm.Cond.lays "PanSlices" "PanSlices" "length" "I") ∈ lw_all := lw_g (lw_at lw_m2 202 rfl) rfl
theorem q549 : (Jvm.Cond.soleField "PanSlices" "length") ∈ lw_all := lw_g (lw_at lw_m2 203 rfl) rfl
theorem q550 : (Jvm.Cond.lays "PanSlices" "PanSlices" "size" "I") ∈ lw_all := lw_g (lw_at lw_m2 204 rfl) rfl
theorem q551 : (Jvm.Cond.soleField "PanSlices" "size") ∈ lw_all := lw_g (lw_at lw_m2 205 rfl) rfl
theorem q552 : (Jvm.Cond.lays "PanSlices" "PanSlices" "today" "I") ∈ lw_all := lw_g (lw_at lw_m2 206 rfl) rfl
theorem q553 : (Jvm.Cond.soleField "PanSlices" "today") ∈ lw_all := lw_g (lw_at lw_m2 207 rfl) rfl
theorem q554 : (Jvm.Cond.laysFinal "PanSlices" "PanSlices" "broken" "LPanSlices$Fault;") ∈ lw_all := lw_g (lw_at lw_m2 208 rfl) rfl
theorem q555 : (Jvm.Cond.soleField "PanSlices" "broken") ∈ lw_all := lw_g (lw_at lw_m2 209 rfl) rfl
theorem q556 : (Jvm.Cond.laysFinal "PanSlices" "PanSlices" "lines" "[Ljava/lang/String;") ∈ lw_all := lw_g (lw_at lw_m2 210 rfl) rfl
theorem q557 : (Jvm.Cond.soleField "PanSlices" "lines") ∈ lw_all := lw_g (lw_at lw_m2 211 rfl) rfl
theorem q558 : (Jvm.Cond.laysFinal "PanSlices" "PanSlices" "words" "[Ljava/lang/String;") ∈ lw_all := lw_g (lw_at lw_m2 212 rfl) rfl
theorem q559 : (Jvm.Cond.soleField "PanSlices" "words") ∈ lw_all := lw_g (lw_at lw_m2 213 rfl) rfl
theorem q560 : (Jvm.Cond.lays "PanSlices" "PanSlices" "kitchen" "LPanSlices$Kitchen;") ∈ lw_all := lw_g (lw_at lw_m2 214 rfl) rfl
theorem q561 : (Jvm.Cond.soleField "PanSlices" "kitchen") ∈ lw_all := lw_g (lw_at lw_m2 215 rfl) rfl
theorem q562 : (Jvm.Cond.laysFinal "PanSlices" "PanSlices" "plan" "LPanSlices$Plan;") ∈ lw_all := lw_g (lw_at lw_m2 216 rfl) rfl
theorem q563 : (Jvm.Cond.soleField "PanSlices" "plan") ∈ lw_all := lw_g (lw_at lw_m2 217 rfl) rfl
theorem q564 : (Jvm.Cond.laysFinal "PanSlices" "PanSlices" "coming" "LPanSlices$Plan;") ∈ lw_all := lw_g (lw_at lw_m2 218 rfl) rfl
theorem q565 : (Jvm.Cond.soleField "PanSlices" "coming") ∈ lw_all := lw_g (lw_at lw_m2 219 rfl) rfl
theorem q566 : (Jvm.Cond.laysFinal "PanSlices" "PanSlices" "kitchenReader" "LPanSlices$KitchenReader;") ∈ lw_all := lw_g (lw_at lw_m2 220 rfl) rfl
theorem q567 : (Jvm.Cond.soleField "PanSlices" "kitchenReader") ∈ lw_all := lw_g (lw_at lw_m2 221 rfl) rfl
theorem q568 : (Jvm.Cond.laysFinal "PanSlices" "PanSlices" "planReader" "LPanSlices$PlanReader;") ∈ lw_all := lw_g (lw_at lw_m2 222 rfl) rfl
theorem q569 : (Jvm.Cond.soleField "PanSlices" "planReader") ∈ lw_all := lw_g (lw_at lw_m2 223 rfl) rfl
theorem q570 : (Jvm.Cond.lays "PanSlices" "PanSlices" "fault" "I") ∈ lw_all := lw_g (lw_at lw_m2 224 rfl) rfl
theorem q571 : (Jvm.Cond.soleField "PanSlices" "fault") ∈ lw_all := lw_g (lw_at lw_m2 225 rfl) rfl
theorem q572 : (Jvm.Cond.lays "PanSlices" "PanSlices" "why" "I") ∈ lw_all := lw_g (lw_at lw_m2 226 rfl) rfl
theorem q573 : (Jvm.Cond.soleField "PanSlices" "why") ∈ lw_all := lw_g (lw_at lw_m2 227 rfl) rfl
theorem q574 : (Jvm.Cond.laysFinal "PanSlices" "PanSlices" "text" "[B") ∈ lw_all := lw_g (lw_at lw_m2 228 rfl) rfl
theorem q575 : (Jvm.Cond.soleField "PanSlices" "text") ∈ lw_all := lw_g (lw_at lw_m2 229 rfl) rfl
theorem q576 : (Jvm.Cond.lays "PanSlices" "PanSlices" "textMany" "I") ∈ lw_all := lw_g (lw_at lw_m2 230 rfl) rfl
theorem q577 : (Jvm.Cond.soleField "PanSlices" "textMany") ∈ lw_all := lw_g (lw_at lw_m2 231 rfl) rfl
theorem q578 : (Jvm.Cond.laysFinal "PanSlices" "PanSlices" "ahead" "[LPanSlices$Plan;") ∈ lw_all := lw_g (lw_at lw_m2 232 rfl) rfl
theorem q579 : (Jvm.Cond.soleField "PanSlices" "ahead") ∈ lw_all := lw_g (lw_at lw_m2 233 rfl) rfl
theorem q580 : (Jvm.Cond.lays "PanSlices" "PanSlices" "undoMany" "I") ∈ lw_all := lw_g (lw_at lw_m2 234 rfl) rfl
theorem q581 : (Jvm.Cond.soleField "PanSlices" "undoMany") ∈ lw_all := lw_g (lw_at lw_m2 235 rfl) rfl
theorem q582 : (Jvm.Cond.laysFinal "PanSlices" "PanSlices" "starts" "[I") ∈ lw_all := lw_g (lw_at lw_m2 236 rfl) rfl
theorem q583 : (Jvm.Cond.soleField "PanSlices" "starts") ∈ lw_all := lw_g (lw_at lw_m2 237 rfl) rfl
theorem q584 : (Jvm.Cond.laysFinal "PanSlices" "PanSlices" "order" "[I") ∈ lw_all := lw_g (lw_at lw_m2 238 rfl) rfl
theorem q585 : (Jvm.Cond.soleField "PanSlices" "order") ∈ lw_all := lw_g (lw_at lw_m2 239 rfl) rfl
theorem q586 : (Jvm.Cond.laysFinal "PanSlices" "PanSlices" "bestStarts" "[I") ∈ lw_all := lw_g (lw_at lw_m3 0 rfl) rfl
theorem q587 : (Jvm.Cond.soleField "PanSlices" "bestStarts") ∈ lw_all := lw_g (lw_at lw_m3 1 rfl) rfl
theorem q588 : (Jvm.Cond.laysFinal "PanSlices" "PanSlices" "bestOrder" "[I") ∈ lw_all := lw_g (lw_at lw_m3 2 rfl) rfl
theorem q589 : (Jvm.Cond.soleField "PanSlices" "bestOrder") ∈ lw_all := lw_g (lw_at lw_m3 3 rfl) rfl
theorem q590 : (Jvm.Cond.laysFinal "PanSlices" "PanSlices" "taken" "[I") ∈ lw_all := lw_g (lw_at lw_m3 4 rfl) rfl
theorem q591 : (Jvm.Cond.soleField "PanSlices" "taken") ∈ lw_all := lw_g (lw_at lw_m3 5 rfl) rfl
theorem q592 : (Jvm.Cond.lays "PanSlices" "PanSlices" "bestEnd" "I") ∈ lw_all := lw_g (lw_at lw_m3 6 rfl) rfl
theorem q593 : (Jvm.Cond.soleField "PanSlices" "bestEnd") ∈ lw_all := lw_g (lw_at lw_m3 7 rfl) rfl
theorem q594 : (Jvm.Cond.laysFinal "PanSlices" "PanSlices" "cooks" "[LPanSlices$Cook;") ∈ lw_all := lw_g (lw_at lw_m3 8 rfl) rfl
theorem q595 : (Jvm.Cond.soleField "PanSlices" "cooks") ∈ lw_all := lw_g (lw_at lw_m3 9 rfl) rfl
theorem q596 : (Jvm.Cond.laysFinal "PanSlices" "PanSlices" "lacks" "[I") ∈ lw_all := lw_g (lw_at lw_m3 10 rfl) rfl
theorem q597 : (Jvm.Cond.soleField "PanSlices" "lacks") ∈ lw_all := lw_g (lw_at lw_m3 11 rfl) rfl
theorem q598 : (Jvm.Cond.laysFinal "PanSlices" "PanSlices" "offs" "[I") ∈ lw_all := lw_g (lw_at lw_m3 12 rfl) rfl
theorem q599 : (Jvm.Cond.soleField "PanSlices" "offs") ∈ lw_all := lw_g (lw_at lw_m3 13 rfl) rfl
theorem q600 : (Jvm.Cond.laysFinal "PanSlices" "PanSlices" "onNow" "[I") ∈ lw_all := lw_g (lw_at lw_m3 14 rfl) rfl
theorem q601 : (Jvm.Cond.soleField "PanSlices" "onNow") ∈ lw_all := lw_g (lw_at lw_m3 15 rfl) rfl
theorem q602 : (Jvm.Cond.laysFinal "PanSlices" "PanSlices" "onWas" "[I") ∈ lw_all := lw_g (lw_at lw_m3 16 rfl) rfl
theorem q603 : (Jvm.Cond.soleField "PanSlices" "onWas") ∈ lw_all := lw_g (lw_at lw_m3 17 rfl) rfl
theorem q604 : (Jvm.Cond.laysFinal "PanSlices" "PanSlices" "goNow" "[I") ∈ lw_all := lw_g (lw_at lw_m3 18 rfl) rfl
theorem q605 : (Jvm.Cond.soleField "PanSlices" "goNow") ∈ lw_all := lw_g (lw_at lw_m3 19 rfl) rfl
theorem q606 : (Jvm.Cond.lays "PanSlices" "PanSlices" "most" "[I") ∈ lw_all := lw_g (lw_at lw_m3 20 rfl) rfl
theorem q607 : (Jvm.Cond.soleField "PanSlices" "most") ∈ lw_all := lw_g (lw_at lw_m3 21 rfl) rfl
theorem q608 : (Jvm.Cond.laysFinal "PanSlices" "PanSlices" "servedAt" "[I") ∈ lw_all := lw_g (lw_at lw_m3 22 rfl) rfl
theorem q609 : (Jvm.Cond.soleField "PanSlices" "servedAt") ∈ lw_all := lw_g (lw_at lw_m3 23 rfl) rfl
theorem q610 : (Jvm.Cond.lays "PanSlices" "PanSlices" "servedMany" "I") ∈ lw_all := lw_g (lw_at lw_m3 24 rfl) rfl
theorem q611 : (Jvm.Cond.soleField "PanSlices" "servedMany") ∈ lw_all := lw_g (lw_at lw_m3 25 rfl) rfl
theorem q612 : (Jvm.Cond.laysFinal "PanSlices" "PanSlices" "hotelPans" "[I") ∈ lw_all := lw_g (lw_at lw_m3 26 rfl) rfl
theorem q613 : (Jvm.Cond.soleField "PanSlices" "hotelPans") ∈ lw_all := lw_g (lw_at lw_m3 27 rfl) rfl
theorem q614 : (Jvm.Cond.laysFinal "PanSlices" "PanSlices" "costs" "[I") ∈ lw_all := lw_g (lw_at lw_m3 28 rfl) rfl
theorem q615 : (Jvm.Cond.soleField "PanSlices" "costs") ∈ lw_all := lw_g (lw_at lw_m3 29 rfl) rfl
theorem q616 : (Jvm.Cond.lays "PanSlices" "PanSlices" "hotelMany" "I") ∈ lw_all := lw_g (lw_at lw_m3 30 rfl) rfl
theorem q617 : (Jvm.Cond.soleField "PanSlices" "hotelMany") ∈ lw_all := lw_g (lw_at lw_m3 31 rfl) rfl
theorem q618 : (Jvm.Cond.lays "PanSlices" "PanSlices" "seed" "I") ∈ lw_all := lw_g (lw_at lw_m3 32 rfl) rfl
theorem q619 : (Jvm.Cond.soleField "PanSlices" "seed") ∈ lw_all := lw_g (lw_at lw_m3 33 rfl) rfl
theorem q620 : (Jvm.Cond.laysFinal "PanSlices" "PanSlices" "sentenceReader" "LPanSlices$SentenceReader;") ∈ lw_all := lw_g (lw_at lw_m3 34 rfl) rfl
theorem q621 : (Jvm.Cond.soleField "PanSlices" "sentenceReader") ∈ lw_all := lw_g (lw_at lw_m3 35 rfl) rfl
theorem q622 : (Jvm.Cond.lays "PanSlices" "PanSlices" "sentence" "LPanSlices$Cond;") ∈ lw_all := lw_g (lw_at lw_m3 36 rfl) rfl
theorem q623 : (Jvm.Cond.soleField "PanSlices" "sentence") ∈ lw_all := lw_g (lw_at lw_m3 37 rfl) rfl
theorem q624 : (Jvm.Cond.laysFinal "PanSlices" "PanSlices" "kitchens" "[LPanSlices$Kitchen;") ∈ lw_all := lw_g (lw_at lw_m3 38 rfl) rfl
theorem q625 : (Jvm.Cond.soleField "PanSlices" "kitchens") ∈ lw_all := lw_g (lw_at lw_m3 39 rfl) rfl
theorem q626 : (Jvm.Cond.laysFinal "PanSlices" "PanSlices" "plans" "[LPanSlices$Plan;") ∈ lw_all := lw_g (lw_at lw_m3 40 rfl) rfl
theorem q627 : (Jvm.Cond.soleField "PanSlices" "plans") ∈ lw_all := lw_g (lw_at lw_m3 41 rfl) rfl
theorem q628 : (Jvm.Cond.laysFinal "PanSlices" "PanSlices" "sentences" "[LPanSlices$Cond;") ∈ lw_all := lw_g (lw_at lw_m3 42 rfl) rfl
theorem q629 : (Jvm.Cond.soleField "PanSlices" "sentences") ∈ lw_all := lw_g (lw_at lw_m3 43 rfl) rfl
theorem q630 : (Jvm.Cond.superclass "PanSlices" "java/lang/Object") ∈ lw_all := lw_g (lw_at lw_m3 44 rfl) rfl
theorem q632 : (Jvm.Cond.instanceMethod ({ cls := "PanSlices", name := "feed", desc := "(IIIII)I" } : Jvm.MethodName)) ∈ lw_all := lw_g (lw_at lw_m3 46 rfl) rfl
theorem q633 : (Jvm.Cond.selects "PanSlices" ({ cls := "PanSlices", name := "feed", desc := "(IIIII)I" } : Jvm.MethodName) ({ cls := "PanSlices", name := "feed", desc := "(IIIII)I" } : Jvm.MethodName)) ∈ lw_all := lw_g (lw_at lw_m3 47 rfl) rfl
theorem q634 : (Jvm.Cond.code ({ cls := "PanSlices", name := "feed", desc := "(IIIII)I" } : Jvm.MethodName) prog_1_method_2_code (6 : Nat) (Option.some Jvm.ClassFile.FieldType.int)) ∈ lw_all := lw_g (lw_at lw_m3 48 rfl) rfl
theorem q635 : (Jvm.Cond.methodLink "PanSlices" (194 : Nat) ({ cls := "PanSlices", name := "four", desc := "(I)V" } : Jvm.MethodName)) ∈ lw_all := lw_g (lw_at lw_m3 49 rfl) rfl
theorem q636 : (Jvm.Cond.privateMethod ({ cls := "PanSlices", name := "four", desc := "(I)V" } : Jvm.MethodName)) ∈ lw_tbl := lw_at lw_m3 50 rfl
theorem q637 : (Jvm.Cond.instanceMethod ({ cls := "PanSlices", name := "four", desc := "(I)V" } : Jvm.MethodName)) ∈ lw_all := lw_g (lw_at lw_m3 51 rfl) rfl
theorem q638 : (Jvm.Cond.code ({ cls := "PanSlices", name := "four", desc := "(I)V" } : Jvm.MethodName) prog_1_method_3_code (3 : Nat) (Option.none : Option Jvm.ClassFile.FieldType)) ∈ lw_all := lw_g (lw_at lw_m3 52 rfl) rfl
theorem q640 : (Jvm.Cond.instanceMethod ({ cls := "PanSlices", name := "end", desc := "(I)Z" } : Jvm.MethodName)) ∈ lw_all := lw_g (lw_at lw_m3 54 rfl) rfl
theorem q641 : (Jvm.Cond.selects "PanSlices" ({ cls := "PanSlices", name := "end", desc := "(I)Z" } : Jvm.MethodName) ({ cls := "PanSlices", name := "end", desc := "(I)Z" } : Jvm.MethodName)) ∈ lw_all := lw_g (lw_at lw_m3 55 rfl) rfl
theorem q642 : (Jvm.Cond.code ({ cls := "PanSlices", name := "end", desc := "(I)Z" } : Jvm.MethodName) prog_1_method_4_code (2 : Nat) (Option.some Jvm.ClassFile.FieldType.boolean)) ∈ lw_all := lw_g (lw_at lw_m3 56 rfl) rfl
theorem q644 : (Jvm.Cond.instanceMethod ({ cls := "PanSlices", name := "kitchen", desc := "()I" } : Jvm.MethodName)) ∈ lw_all := lw_g (lw_at lw_m3 58 rfl) rfl
theorem q645 : (Jvm.Cond.selects "PanSlices" ({ cls := "PanSlices", name := "kitchen", desc := "()I" } : Jvm.MethodName) ({ cls := "PanSlices", name := "kitchen", desc := "()I" } : Jvm.MethodName)) ∈ lw_all := lw_g (lw_at lw_m3 59 rfl) rfl
theorem q646 : (Jvm.Cond.codeWith ({ cls := "PanSlices", name := "kitchen", desc := "()I" } : Jvm.MethodName) prog_1_method_10_code (3 : Nat) (Option.some Jvm.ClassFile.FieldType.int) [((17 : Nat), (50 : Nat), (51 : Nat), (13 : Nat))]) ∈ lw_all := lw_g (lw_at lw_m3 60 rfl) rfl
theorem q647 : (Jvm.Cond.methodLink "PanSlices" (204 : Nat) ({ cls := "PanSlices", name := "taken", desc := "()V" } : Jvm.MethodName)) ∈ lw_all := lw_g (lw_at lw_m3 61 rfl) rfl
theorem q648 : (Jvm.Cond.privateMethod ({ cls := "PanSlices", name := "taken", desc := "()V" } : Jvm.MethodName)) ∈ lw_tbl := lw_at lw_m3 62 rfl
theorem q649 : (Jvm.Cond.instanceMethod ({ cls := "PanSlices", name := "taken", desc := "()V" } : Jvm.MethodName)) ∈ lw_all := lw_g (lw_at lw_m3 63 rfl) rfl
theorem q650 : (Jvm.Cond.code ({ cls := "PanSlices", name := "taken", desc := "()V" } : Jvm.MethodName) prog_1_method_5_code (1 : Nat) (Option.none : Option Jvm.ClassFile.FieldType)) ∈ lw_all := lw_g (lw_at lw_m3 64 rfl) rfl
theorem q651 : (Jvm.Cond.methodLink "PanSlices" (209 : Nat) ({ cls := "PanSlices$KitchenReader", name := "read", desc := "(LPanSlices$Kitchen;)I" } : Jvm.MethodName)) ∈ lw_all := lw_g (lw_at lw_m3 65 rfl) rfl
theorem q677 : (Jvm.Cond.static ({ cls := "PanSlices", name := "isIn", desc := "(III)Z" } : Jvm.MethodName)) ∈ lw_all := lw_g (lw_at lw_m3 91 rfl) rfl
theorem q678 : (Jvm.Cond.code ({ cls := "PanSlices", name := "isIn", desc := "(III)Z" } : Jvm.MethodName) prog_1_method_7_code (3 : Nat) (Option.some Jvm.ClassFile.FieldType.boolean)) ∈ lw_all := lw_g (lw_at lw_m3 92 rfl) rfl
theorem q762 : (Jvm.Cond.static ({ cls := "PanSlices", name := "has", desc := "(II)Z" } : Jvm.MethodName)) ∈ lw_all := lw_g (lw_at lw_m3 176 rfl) rfl
theorem q763 : (Jvm.Cond.code ({ cls := "PanSlices", name := "has", desc := "(II)Z" } : Jvm.MethodName) prog_1_method_9_code (2 : Nat) (Option.some Jvm.ClassFile.FieldType.boolean)) ∈ lw_all := lw_g (lw_at lw_m3 177 rfl) rfl
theorem q815 : (Jvm.Cond.instanceMethod ({ cls := "PanSlices", name := "fault", desc := "()I" } : Jvm.MethodName)) ∈ lw_all := lw_g (lw_at lw_m3 229 rfl) rfl
theorem q816 : (Jvm.Cond.selects "PanSlices" ({ cls := "PanSlices", name := "fault", desc := "()I" } : Jvm.MethodName) ({ cls := "PanSlices", name := "fault", desc := "()I" } : Jvm.MethodName)) ∈ lw_all := lw_g (lw_at lw_m3 230 rfl) rfl
theorem q817 : (Jvm.Cond.code ({ cls := "PanSlices", name := "fault", desc := "()I" } : Jvm.MethodName) prog_1_method_11_code (1 : Nat) (Option.some Jvm.ClassFile.FieldType.int)) ∈ lw_all := lw_g (lw_at lw_m3 231 rfl) rfl
theorem q819 : (Jvm.Cond.instanceMethod ({ cls := "PanSlices", name := "plan", desc := "()I" } : Jvm.MethodName)) ∈ lw_all := lw_g (lw_at lw_m3 233 rfl) rfl
theorem q820 : (Jvm.Cond.selects "PanSlices" ({ cls := "PanSlices", name := "plan", desc := "()I" } : Jvm.MethodName) ({ cls := "PanSlices", name := "plan", desc := "()I" } : Jvm.MethodName)) ∈ lw_all := lw_g (lw_at lw_m3 234 rfl) rfl
theorem q821 : (Jvm.Cond.codeWith ({ cls := "PanSlices", name := "plan", desc := "()I" } : Jvm.MethodName) prog_1_method_16_code (2 : Nat) (Option.some Jvm.ClassFile.FieldType.int) [((9 : Nat), (42 : Nat), (43 : Nat), (13 : Nat))]) ∈ lw_all := lw_g (lw_at lw_m3 235 rfl) rfl
theorem q822 : (Jvm.Cond.methodLink "PanSlices" (267 : Nat) ({ cls := "PanSlices$PlanReader", name := "read", desc := "(LPanSlices$Plan;)V" } : Jvm.MethodName)) ∈ lw_all := lw_g (lw_at lw_m3 236 rfl) rfl
theorem q858 : (Jvm.Cond.methodLink "PanSlices" (270 : Nat) ({ cls := "PanSlices", name := "keep", desc := "()V" } : Jvm.MethodName)) ∈ lw_all := lw_g (lw_at lw_m4 32 rfl) rfl
theorem q859 : (Jvm.Cond.privateMethod ({ cls := "PanSlices", name := "keep", desc := "()V" } : Jvm.MethodName)) ∈ lw_tbl := lw_at lw_m4 33 rfl
theorem q860 : (Jvm.Cond.instanceMethod ({ cls := "PanSlices", name := "keep", desc := "()V" } : Jvm.MethodName)) ∈ lw_all := lw_g (lw_at lw_m4 34 rfl) rfl
theorem q861 : (Jvm.Cond.code ({ cls := "PanSlices", name := "keep", desc := "()V" } : Jvm.MethodName) prog_1_method_29_code (2 : Nat) (Option.none : Option Jvm.ClassFile.FieldType)) ∈ lw_all := lw_g (lw_at lw_m4 35 rfl) rfl
theorem q862 : (Jvm.Cond.methodLink "PanSlices" (326 : Nat) ({ cls := "java/lang/System", name := "arraycopy", desc := "(Ljava/lang/Object;ILjava/lang/Object;II)V" } : Jvm.MethodName)) ∈ lw_all := lw_g (lw_at lw_m4 36 rfl) rfl
theorem q865 : (Jvm.Cond.methodLink "PanSlices" (273 : Nat) ({ cls := "PanSlices$Plan", name := "be", desc := "(LPanSlices$Plan;)V" } : Jvm.MethodName)) ∈ lw_all := lw_g (lw_at lw_m4 39 rfl) rfl
theorem q871 : (Jvm.Cond.instanceMethod ({ cls := "PanSlices", name := "judge", desc := "()I" } : Jvm.MethodName)) ∈ lw_all := lw_g (lw_at lw_m4 45 rfl) rfl
theorem q872 : (Jvm.Cond.selects "PanSlices" ({ cls := "PanSlices", name := "judge", desc := "()I" } : Jvm.MethodName) ({ cls := "PanSlices", name := "judge", desc := "()I" } : Jvm.MethodName)) ∈ lw_all := lw_g (lw_at lw_m4 46 rfl) rfl
theorem q873 : (Jvm.Cond.code ({ cls := "PanSlices", name := "judge", desc := "()I" } : Jvm.MethodName) prog_1_method_17_code (2 : Nat) (Option.some Jvm.ClassFile.FieldType.int)) ∈ lw_all := lw_g (lw_at lw_m4 47 rfl) rfl
theorem q874 : (Jvm.Cond.methodLink "PanSlices" (276 : Nat) ({ cls := "PanSlices$Plan", name := "why", desc := "(LPanSlices$Kitchen;I)I" } : Jvm.MethodName)) ∈ lw_all := lw_g (lw_at lw_m4 48 rfl) rfl
theorem q891 : (Jvm.Cond.instanceMethod ({ cls := "PanSlices", name := "why", desc := "()I" } : Jvm.MethodName)) ∈ lw_all := lw_g (lw_at lw_m4 65 rfl) rfl
theorem q892 : (Jvm.Cond.selects "PanSlices" ({ cls := "PanSlices", name := "why", desc := "()I" } : Jvm.MethodName) ({ cls := "PanSlices", name := "why", desc := "()I" } : Jvm.MethodName)) ∈ lw_all := lw_g (lw_at lw_m4 66 rfl) rfl
theorem q893 : (Jvm.Cond.code ({ cls := "PanSlices", name := "why", desc := "()I" } : Jvm.MethodName) prog_1_method_18_code (1 : Nat) (Option.some Jvm.ClassFile.FieldType.int)) ∈ lw_all := lw_g (lw_at lw_m4 67 rfl) rfl
theorem q895 : (Jvm.Cond.instanceMethod ({ cls := "PanSlices", name := "go", desc := "(II)I" } : Jvm.MethodName)) ∈ lw_all := lw_g (lw_at lw_m4 69 rfl) rfl
theorem q896 : (Jvm.Cond.selects "PanSlices" ({ cls := "PanSlices", name := "go", desc := "(II)I" } : Jvm.MethodName) ({ cls := "PanSlices", name := "go", desc := "(II)I" } : Jvm.MethodName)) ∈ lw_all := lw_g (lw_at lw_m4 70 rfl) rfl
theorem q897 : (Jvm.Cond.code ({ cls := "PanSlices", name := "go", desc := "(II)I" } : Jvm.MethodName) prog_1_method_19_code (3 : Nat) (Option.some Jvm.ClassFile.FieldType.int)) ∈ lw_all := lw_g (lw_at lw_m4 71 rfl) rfl
theorem q898 : (Jvm.Cond.methodLink "PanSlices" (231 : Nat) ({ cls := "PanSlices", name := "isIn", desc := "(III)Z" } : Jvm.MethodName)) ∈ lw_all := lw_g (lw_at lw_m4 72 rfl) rfl
theorem q900 : (Jvm.Cond.instanceMethod ({ cls := "PanSlices", name := "ends", desc := "()I" } : Jvm.MethodName)) ∈ lw_all := lw_g (lw_at lw_m4 74 rfl) rfl
theorem q901 : (Jvm.Cond.selects "PanSlices" ({ cls := "PanSlices", name := "ends", desc := "()I" } : Jvm.MethodName) ({ cls := "PanSlices", name := "ends", desc := "()I" } : Jvm.MethodName)) ∈ lw_all := lw_g (lw_at lw_m4 75 rfl) rfl
theorem q902 : (Jvm.Cond.code ({ cls := "PanSlices", name := "ends", desc := "()I" } : Jvm.MethodName) prog_1_method_21_code (1 : Nat) (Option.some Jvm.ClassFile.FieldType.int)) ∈ lw_all := lw_g (lw_at lw_m4 76 rfl) rfl
theorem q903 : (Jvm.Cond.methodLink "PanSlices" (296 : Nat) ({ cls := "PanSlices$Plan", name := "ends", desc := "()I" } : Jvm.MethodName)) ∈ lw_all := lw_g (lw_at lw_m4 77 rfl) rfl
theorem q911 : (Jvm.Cond.instanceMethod ({ cls := "PanSlices", name := "done", desc := "()I" } : Jvm.MethodName)) ∈ lw_all := lw_g (lw_at lw_m4 85 rfl) rfl
theorem q912 : (Jvm.Cond.selects "PanSlices" ({ cls := "PanSlices", name := "done", desc := "()I" } : Jvm.MethodName) ({ cls := "PanSlices", name := "done", desc := "()I" } : Jvm.MethodName)) ∈ lw_all := lw_g (lw_at lw_m4 86 rfl) rfl
theorem q913 : (Jvm.Cond.code ({ cls := "PanSlices", name := "done", desc := "()I" } : Jvm.MethodName) prog_1_method_22_code (3 : Nat) (Option.some Jvm.ClassFile.FieldType.int)) ∈ lw_all := lw_g (lw_at lw_m4 87 rfl) rfl
theorem q914 : (Jvm.Cond.methodLink "PanSlices" (299 : Nat) ({ cls := "PanSlices$Plan", name := "isDone", desc := "(LPanSlices$Kitchen;I)Z" } : Jvm.MethodName)) ∈ lw_all := lw_g (lw_at lw_m4 88 rfl) rfl
theorem q923 : (Jvm.Cond.instanceMethod ({ cls := "PanSlices", name := "on", desc := "(I)I" } : Jvm.MethodName)) ∈ lw_all := lw_g (lw_at lw_m4 97 rfl) rfl
theorem q924 : (Jvm.Cond.selects "PanSlices" ({ cls := "PanSlices", name := "on", desc := "(I)I" } : Jvm.MethodName) ({ cls := "PanSlices", name := "on", desc := "(I)I" } : Jvm.MethodName)) ∈ lw_all := lw_g (lw_at lw_m4 98 rfl) rfl
theorem q925 : (Jvm.Cond.code ({ cls := "PanSlices", name := "on", desc := "(I)I" } : Jvm.MethodName) prog_1_method_23_code (4 : Nat) (Option.some Jvm.ClassFile.FieldType.int)) ∈ lw_all := lw_g (lw_at lw_m4 99 rfl) rfl
theorem q926 : (Jvm.Cond.methodLink "PanSlices" (303 : Nat) ({ cls := "PanSlices$Plan", name := "end", desc := "(I)I" } : Jvm.MethodName)) ∈ lw_all := lw_g (lw_at lw_m4 100 rfl) rfl
theorem q928 : (Jvm.Cond.instanceMethod ({ cls := "PanSlices", name := "write", desc := "()I" } : Jvm.MethodName)) ∈ lw_all := lw_g (lw_at lw_m4 102 rfl) rfl
theorem q929 : (Jvm.Cond.selects "PanSlices" ({ cls := "PanSlices", name := "write", desc := "()I" } : Jvm.MethodName) ({ cls := "PanSlices", name := "write", desc := "()I" } : Jvm.MethodName)) ∈ lw_all := lw_g (lw_at lw_m4 103 rfl) rfl
theorem q930 : (Jvm.Cond.code ({ cls := "PanSlices", name := "write", desc := "()I" } : Jvm.MethodName) prog_1_method_27_code (2 : Nat) (Option.some Jvm.ClassFile.FieldType.int)) ∈ lw_all := lw_g (lw_at lw_m4 104 rfl) rfl
theorem q931 : (Jvm.Cond.methodLink "PanSlices" (319 : Nat) ({ cls := "PanSlices", name := "putName", desc := "(J)V" } : Jvm.MethodName)) ∈ lw_all := lw_g (lw_at lw_m4 105 rfl) rfl
theorem q932 : (Jvm.Cond.privateMethod ({ cls := "PanSlices", name := "putName", desc := "(J)V" } : Jvm.MethodName)) ∈ lw_tbl := lw_at lw_m4 106 rfl
theorem q933 : (Jvm.Cond.instanceMethod ({ cls := "PanSlices", name := "putName", desc := "(J)V" } : Jvm.MethodName)) ∈ lw_all := lw_g (lw_at lw_m4 107 rfl) rfl
theorem q934 : (Jvm.Cond.code ({ cls := "PanSlices", name := "putName", desc := "(J)V" } : Jvm.MethodName) prog_1_method_26_code (4 : Nat) (Option.none : Option Jvm.ClassFile.FieldType)) ∈ lw_all := lw_g (lw_at lw_m4 108 rfl) rfl
theorem q935 : (Jvm.Cond.constantLong "PanSlices" (313 : Nat) (255 : Int64)) ∈ lw_all := lw_g (lw_at lw_m4 109 rfl) rfl
theorem q936 : (Jvm.Cond.methodLink "PanSlices" (310 : Nat) ({ cls := "PanSlices", name := "put", desc := "(I)V" } : Jvm.MethodName)) ∈ lw_all := lw_g (lw_at lw_m4 110 rfl) rfl
theorem q937 : (Jvm.Cond.privateMethod ({ cls := "PanSlices", name := "put", desc := "(I)V" } : Jvm.MethodName)) ∈ lw_tbl := lw_at lw_m4 111 rfl
theorem q938 : (Jvm.Cond.instanceMethod ({ cls := "PanSlices", name := "put", desc := "(I)V" } : Jvm.MethodName)) ∈ lw_all := lw_g (lw_at lw_m4 112 rfl) rfl
theorem q939 : (Jvm.Cond.code ({ cls := "PanSlices", name := "put", desc := "(I)V" } : Jvm.MethodName) prog_1_method_24_code (2 : Nat) (Option.none : Option Jvm.ClassFile.FieldType)) ∈ lw_all := lw_g (lw_at lw_m4 113 rfl) rfl
theorem q940 : (Jvm.Cond.methodLink "PanSlices" (323 : Nat) ({ cls := "PanSlices", name := "putNumber", desc := "(I)V" } : Jvm.MethodName)) ∈ lw_all := lw_g (lw_at lw_m4 114 rfl) rfl
theorem q941 : (Jvm.Cond.privateMethod ({ cls := "PanSlices", name := "putNumber", desc := "(I)V" } : Jvm.MethodName)) ∈ lw_tbl := lw_at lw_m4 115 rfl
theorem q942 : (Jvm.Cond.instanceMethod ({ cls := "PanSlices", name := "putNumber", desc := "(I)V" } : Jvm.MethodName)) ∈ lw_all := lw_g (lw_at lw_m4 116 rfl) rfl
theorem q943 : (Jvm.Cond.code ({ cls := "PanSlices", name := "putNumber", desc := "(I)V" } : Jvm.MethodName) prog_1_method_25_code (3 : Nat) (Option.none : Option Jvm.ClassFile.FieldType)) ∈ lw_all := lw_g (lw_at lw_m4 117 rfl) rfl
theorem q945 : (Jvm.Cond.instanceMethod ({ cls := "PanSlices", name := "byteAt", desc := "(I)I" } : Jvm.MethodName)) ∈ lw_all := lw_g (lw_at lw_m4 119 rfl) rfl
theorem q946 : (Jvm.Cond.selects "PanSlices" ({ cls := "PanSlices", name := "byteAt", desc := "(I)I" } : Jvm.MethodName) ({ cls := "PanSlices", name := "byteAt", desc := "(I)I" } : Jvm.MethodName)) ∈ lw_all := lw_g (lw_at lw_m4 120 rfl) rfl
theorem q947 : (Jvm.Cond.code ({ cls := "PanSlices", name := "byteAt", desc := "(I)I" } : Jvm.MethodName) prog_1_method_28_code (2 : Nat) (Option.some Jvm.ClassFile.FieldType.int)) ∈ lw_all := lw_g (lw_at lw_m4 121 rfl) rfl
theorem q949 : (Jvm.Cond.instanceMethod ({ cls := "PanSlices", name := "undo", desc := "()I" } : Jvm.MethodName)) ∈ lw_all := lw_g (lw_at lw_m4 123 rfl) rfl
theorem q950 : (Jvm.Cond.selects "PanSlices" ({ cls := "PanSlices", name := "undo", desc := "()I" } : Jvm.MethodName) ({ cls := "PanSlices", name := "undo", desc := "()I" } : Jvm.MethodName)) ∈ lw_all := lw_g (lw_at lw_m4 124 rfl) rfl
theorem q951 : (Jvm.Cond.code ({ cls := "PanSlices", name := "undo", desc := "()I" } : Jvm.MethodName) prog_1_method_30_code (1 : Nat) (Option.some Jvm.ClassFile.FieldType.int)) ∈ lw_all := lw_g (lw_at lw_m4 125 rfl) rfl
theorem q953 : (Jvm.Cond.instanceMethod ({ cls := "PanSlices", name := "add", desc := "(IIIII)I" } : Jvm.MethodName)) ∈ lw_all := lw_g (lw_at lw_m4 127 rfl) rfl
theorem q954 : (Jvm.Cond.selects "PanSlices" ({ cls := "PanSlices", name := "add", desc := "(IIIII)I" } : Jvm.MethodName) ({ cls := "PanSlices", name := "add", desc := "(IIIII)I" } : Jvm.MethodName)) ∈ lw_all := lw_g (lw_at lw_m4 128 rfl) rfl
theorem q955 : (Jvm.Cond.code ({ cls := "PanSlices", name := "add", desc := "(IIIII)I" } : Jvm.MethodName) prog_1_method_32_code (6 : Nat) (Option.some Jvm.ClassFile.FieldType.int)) ∈ lw_all := lw_g (lw_at lw_m4 129 rfl) rfl
theorem q956 : (Jvm.Cond.methodLink "PanSlices" (235 : Nat) ({ cls := "PanSlices", name := "isSlice", desc := "(I)Z" } : Jvm.MethodName)) ∈ lw_all := lw_g (lw_at lw_m4 130 rfl) rfl
theorem q957 : (Jvm.Cond.privateMethod ({ cls := "PanSlices", name := "isSlice", desc := "(I)Z" } : Jvm.MethodName)) ∈ lw_tbl := lw_at lw_m4 131 rfl
theorem q958 : (Jvm.Cond.instanceMethod ({ cls := "PanSlices", name := "isSlice", desc := "(I)Z" } : Jvm.MethodName)) ∈ lw_all := lw_g (lw_at lw_m4 132 rfl) rfl
theorem q959 : (Jvm.Cond.code ({ cls := "PanSlices", name := "isSlice", desc := "(I)Z" } : Jvm.MethodName) prog_1_method_12_code (2 : Nat) (Option.some Jvm.ClassFile.FieldType.boolean)) ∈ lw_all := lw_g (lw_at lw_m4 133 rfl) rfl
theorem q960 : (Jvm.Cond.methodLink "PanSlices" (335 : Nat) ({ cls := "PanSlices$Plan", name := "go", desc := "(IIIII)I" } : Jvm.MethodName)) ∈ lw_all := lw_g (lw_at lw_m4 134 rfl) rfl
theorem q962 : (Jvm.Cond.instanceMethod ({ cls := "PanSlices", name := "drop", desc := "(I)Z" } : Jvm.MethodName)) ∈ lw_all := lw_g (lw_at lw_m4 136 rfl) rfl
theorem q963 : (Jvm.Cond.selects "PanSlices" ({ cls := "PanSlices", name := "drop", desc := "(I)Z" } : Jvm.MethodName) ({ cls := "PanSlices", name := "drop", desc := "(I)Z" } : Jvm.MethodName)) ∈ lw_all := lw_g (lw_at lw_m4 137 rfl) rfl
theorem q964 : (Jvm.Cond.code ({ cls := "PanSlices", name := "drop", desc := "(I)Z" } : Jvm.MethodName) prog_1_method_33_code (2 : Nat) (Option.some Jvm.ClassFile.FieldType.boolean)) ∈ lw_all := lw_g (lw_at lw_m4 138 rfl) rfl
theorem q965 : (Jvm.Cond.methodLink "PanSlices" (339 : Nat) ({ cls := "PanSlices", name := "isGo", desc := "(I)Z" } : Jvm.MethodName)) ∈ lw_all := lw_g (lw_at lw_m4 139 rfl) rfl
theorem q966 : (Jvm.Cond.privateMethod ({ cls := "PanSlices", name := "isGo", desc := "(I)Z" } : Jvm.MethodName)) ∈ lw_tbl := lw_at lw_m4 140 rfl
theorem q967 : (Jvm.Cond.instanceMethod ({ cls := "PanSlices", name := "isGo", desc := "(I)Z" } : Jvm.MethodName)) ∈ lw_all := lw_g (lw_at lw_m4 141 rfl) rfl
theorem q968 : (Jvm.Cond.code ({ cls := "PanSlices", name := "isGo", desc := "(I)Z" } : Jvm.MethodName) prog_1_method_31_code (2 : Nat) (Option.some Jvm.ClassFile.FieldType.boolean)) ∈ lw_all := lw_g (lw_at lw_m4 142 rfl) rfl
theorem q969 : (Jvm.Cond.methodLink "PanSlices" (342 : Nat) ({ cls := "PanSlices$Plan", name := "drop", desc := "(I)V" } : Jvm.MethodName)) ∈ lw_all := lw_g (lw_at lw_m4 143 rfl) rfl
theorem q974 : (Jvm.Cond.instanceMethod ({ cls := "PanSlices", name := "later", desc := "(II)Z" } : Jvm.MethodName)) ∈ lw_all := lw_g (lw_at lw_m4 148 rfl) rfl
theorem q975 : (Jvm.Cond.selects "PanSlices" ({ cls := "PanSlices", name := "later", desc := "(II)Z" } : Jvm.MethodName) ({ cls := "PanSlices", name := "later", desc := "(II)Z" } : Jvm.MethodName)) ∈ lw_all := lw_g (lw_at lw_m4 149 rfl) rfl
theorem q976 : (Jvm.Cond.code ({ cls := "PanSlices", name := "later", desc := "(II)Z" } : Jvm.MethodName) prog_1_method_34_code (3 : Nat) (Option.some Jvm.ClassFile.FieldType.boolean)) ∈ lw_all := lw_g (lw_at lw_m4 150 rfl) rfl
theorem q978 : (Jvm.Cond.instanceMethod ({ cls := "PanSlices", name := "early", desc := "()I" } : Jvm.MethodName)) ∈ lw_all := lw_g (lw_at lw_m4 152 rfl) rfl
theorem q979 : (Jvm.Cond.selects "PanSlices" ({ cls := "PanSlices", name := "early", desc := "()I" } : Jvm.MethodName) ({ cls := "PanSlices", name := "early", desc := "()I" } : Jvm.MethodName)) ∈ lw_all := lw_g (lw_at lw_m4 153 rfl) rfl
theorem q980 : (Jvm.Cond.code ({ cls := "PanSlices", name := "early", desc := "()I" } : Jvm.MethodName) prog_1_method_36_code (4 : Nat) (Option.some Jvm.ClassFile.FieldType.int)) ∈ lw_all := lw_g (lw_at lw_m4 154 rfl) rfl
theorem q981 : (Jvm.Cond.methodLink "PanSlices" (345 : Nat) ({ cls := "PanSlices", name := "earliest", desc := "(I)I" } : Jvm.MethodName)) ∈ lw_all := lw_g (lw_at lw_m4 155 rfl) rfl
theorem q982 : (Jvm.Cond.privateMethod ({ cls := "PanSlices", name := "earliest", desc := "(I)I" } : Jvm.MethodName)) ∈ lw_tbl := lw_at lw_m4 156 rfl
theorem q983 : (Jvm.Cond.instanceMethod ({ cls := "PanSlices", name := "earliest", desc := "(I)I" } : Jvm.MethodName)) ∈ lw_all := lw_g (lw_at lw_m4 157 rfl) rfl
theorem q984 : (Jvm.Cond.code ({ cls := "PanSlices", name := "earliest", desc := "(I)I" } : Jvm.MethodName) prog_1_method_35_code (4 : Nat) (Option.some Jvm.ClassFile.FieldType.int)) ∈ lw_all := lw_g (lw_at lw_m4 158 rfl) rfl
theorem q986 : (Jvm.Cond.instanceMethod ({ cls := "PanSlices", name := "idle", desc := "(I)I" } : Jvm.MethodName)) ∈ lw_all := lw_g (lw_at lw_m4 160 rfl) rfl
theorem q987 : (Jvm.Cond.selects "PanSlices" ({ cls := "PanSlices", name := "idle", desc := "(I)I" } : Jvm.MethodName) ({ cls := "PanSlices", name := "idle", desc := "(I)I" } : Jvm.MethodName)) ∈ lw_all := lw_g (lw_at lw_m4 161 rfl) rfl
theorem q988 : (Jvm.Cond.code ({ cls := "PanSlices", name := "idle", desc := "(I)I" } : Jvm.MethodName) prog_1_method_37_code (4 : Nat) (Option.some Jvm.ClassFile.FieldType.int)) ∈ lw_all := lw_g (lw_at lw_m4 162 rfl) rfl
theorem q989 : (Jvm.Cond.methodLink "PanSlices" (348 : Nat) ({ cls := "PanSlices$Plan", name := "isTaken", desc := "(II)Z" } : Jvm.MethodName)) ∈ lw_all := lw_g (lw_at lw_m4 163 rfl) rfl
theorem q994 : (Jvm.Cond.instanceMethod ({ cls := "PanSlices", name := "forgotten", desc := "()I" } : Jvm.MethodName)) ∈ lw_all := lw_g (lw_at lw_m4 168 rfl) rfl
theorem q995 : (Jvm.Cond.selects "PanSlices" ({ cls := "PanSlices", name := "forgotten", desc := "()I" } : Jvm.MethodName) ({ cls := "PanSlices", name := "forgotten", desc := "()I" } : Jvm.MethodName)) ∈ lw_all := lw_g (lw_at lw_m4 169 rfl) rfl
theorem q996 : (Jvm.Cond.code ({ cls := "PanSlices", name := "forgotten", desc := "()I" } : Jvm.MethodName) prog_1_method_38_code (2 : Nat) (Option.some Jvm.ClassFile.FieldType.int)) ∈ lw_all := lw_g (lw_at lw_m4 170 rfl) rfl
theorem q997 : (Jvm.Cond.methodLink "PanSlices" (292 : Nat) ({ cls := "PanSlices$Plan", name := "left", desc := "(LPanSlices$Kitchen;II)I" } : Jvm.MethodName)) ∈ lw_all := lw_g (lw_at lw_m4 171 rfl) rfl
theorem q999 : (Jvm.Cond.instanceMethod ({ cls := "PanSlices", name := "fewest", desc := "(III)I" } : Jvm.MethodName)) ∈ lw_all := lw_g (lw_at lw_m4 173 rfl) rfl
theorem q1000 : (Jvm.Cond.selects "PanSlices" ({ cls := "PanSlices", name := "fewest", desc := "(III)I" } : Jvm.MethodName) ({ cls := "PanSlices", name := "fewest", desc := "(III)I" } : Jvm.MethodName)) ∈ lw_all := lw_g (lw_at lw_m4 174 rfl) rfl
theorem q1001 : (Jvm.Cond.code ({ cls := "PanSlices", name := "fewest", desc := "(III)I" } : Jvm.MethodName) prog_1_method_39_code (5 : Nat) (Option.some Jvm.ClassFile.FieldType.int)) ∈ lw_all := lw_g (lw_at lw_m4 175 rfl) rfl
theorem q1003 : (Jvm.Cond.instanceMethod ({ cls := "PanSlices", name := "bound", desc := "(I)I" } : Jvm.MethodName)) ∈ lw_all := lw_g (lw_at lw_m4 177 rfl) rfl
theorem q1004 : (Jvm.Cond.selects "PanSlices" ({ cls := "PanSlices", name := "bound", desc := "(I)I" } : Jvm.MethodName) ({ cls := "PanSlices", name := "bound", desc := "(I)I" } : Jvm.MethodName)) ∈ lw_all := lw_g (lw_at lw_m4 178 rfl) rfl
theorem q1005 : (Jvm.Cond.code ({ cls := "PanSlices", name := "bound", desc := "(I)I" } : Jvm.MethodName) prog_1_method_40_code (5 : Nat) (Option.some Jvm.ClassFile.FieldType.int)) ∈ lw_all := lw_g (lw_at lw_m4 179 rfl) rfl
theorem q1006 : (Jvm.Cond.methodLink "PanSlices" (352 : Nat) ({ cls := "PanSlices$Kitchen", name := "whole", desc := "(I)I" } : Jvm.MethodName)) ∈ lw_all := lw_g (lw_at lw_m4 180 rfl) rfl
theorem q1010 : (Jvm.Cond.methodLink "PanSlices" (355 : Nat) ({ cls := "java/lang/Math", name := "max", desc := "(II)I" } : Jvm.MethodName)) ∈ lw_all := lw_g (lw_at lw_m4 184 rfl) rfl
theorem q1011 : (Jvm.Cond.methodLink "PanSlices" (361 : Nat) ({ cls := "PanSlices$Kitchen", name := "all", desc := "()I" } : Jvm.MethodName)) ∈ lw_all := lw_g (lw_at lw_m4 185 rfl) rfl
theorem q1017 : (Jvm.Cond.instanceMethod ({ cls := "PanSlices", name := "several", desc := "()I" } : Jvm.MethodName)) ∈ lw_all := lw_g (lw_at lw_m4 191 rfl) rfl
theorem q1018 : (Jvm.Cond.selects "PanSlices" ({ cls := "PanSlices", name := "several", desc := "()I" } : Jvm.MethodName) ({ cls := "PanSlices", name := "several", desc := "()I" } : Jvm.MethodName)) ∈ lw_all := lw_g (lw_at lw_m4 192 rfl) rfl
theorem q1019 : (Jvm.Cond.code ({ cls := "PanSlices", name := "several", desc := "()I" } : Jvm.MethodName) prog_1_method_41_code (6 : Nat) (Option.some Jvm.ClassFile.FieldType.int)) ∈ lw_all := lw_g (lw_at lw_m4 193 rfl) rfl
theorem q1020 : (Jvm.Cond.methodLink "PanSlices" (364 : Nat) ({ cls := "PanSlices", name := "bound", desc := "(I)I" } : Jvm.MethodName)) ∈ lw_all := lw_g (lw_at lw_m4 194 rfl) rfl
theorem q1021 : (Jvm.Cond.methodLink "PanSlices" (367 : Nat) ({ cls := "java/lang/Math", name := "min", desc := "(II)I" } : Jvm.MethodName)) ∈ lw_all := lw_g (lw_at lw_m4 195 rfl) rfl
theorem q1025 : (Jvm.Cond.instanceMethod ({ cls := "PanSlices", name := "one", desc := "()I" } : Jvm.MethodName)) ∈ lw_all := lw_g (lw_at lw_m4 199 rfl) rfl
theorem q1026 : (Jvm.Cond.selects "PanSlices" ({ cls := "PanSlices", name := "one", desc := "()I" } : Jvm.MethodName) ({ cls := "PanSlices", name := "one", desc := "()I" } : Jvm.MethodName)) ∈ lw_all := lw_g (lw_at lw_m4 200 rfl) rfl
theorem q1027 : (Jvm.Cond.code ({ cls := "PanSlices", name := "one", desc := "()I" } : Jvm.MethodName) prog_1_method_45_code (7 : Nat) (Option.some Jvm.ClassFile.FieldType.int)) ∈ lw_all := lw_g (lw_at lw_m4 201 rfl) rfl
theorem q1028 : (Jvm.Cond.constant "PanSlices" (385 : Nat) (1000000000 : Int32)) ∈ lw_all := lw_g (lw_at lw_m4 202 rfl) rfl
theorem q1029 : (Jvm.Cond.methodLink "PanSlices" (382 : Nat) ({ cls := "PanSlices", name := "orders", desc := "(II)V" } : Jvm.MethodName)) ∈ lw_all := lw_g (lw_at lw_m4 203 rfl) rfl
theorem q1030 : (Jvm.Cond.privateMethod ({ cls := "PanSlices", name := "orders", desc := "(II)V" } : Jvm.MethodName)) ∈ lw_tbl := lw_at lw_m4 204 rfl
theorem q1031 : (Jvm.Cond.instanceMethod ({ cls := "PanSlices", name := "orders", desc := "(II)V" } : Jvm.MethodName)) ∈ lw_all := lw_g (lw_at lw_m4 205 rfl) rfl
theorem q1032 : (Jvm.Cond.code ({ cls := "PanSlices", name := "orders", desc := "(II)V" } : Jvm.MethodName) prog_1_method_44_code (5 : Nat) (Option.none : Option Jvm.ClassFile.FieldType)) ∈ lw_all := lw_g (lw_at lw_m4 206 rfl) rfl
theorem q1033 : (Jvm.Cond.methodLink "PanSlices" (375 : Nat) ({ cls := "PanSlices", name := "fits", desc := "(II)Z" } : Jvm.MethodName)) ∈ lw_all := lw_g (lw_at lw_m4 207 rfl) rfl
theorem q1034 : (Jvm.Cond.privateMethod ({ cls := "PanSlices", name := "fits", desc := "(II)Z" } : Jvm.MethodName)) ∈ lw_tbl := lw_at lw_m4 208 rfl
theorem q1035 : (Jvm.Cond.instanceMethod ({ cls := "PanSlices", name := "fits", desc := "(II)Z" } : Jvm.MethodName)) ∈ lw_all := lw_g (lw_at lw_m4 209 rfl) rfl
theorem q1036 : (Jvm.Cond.code ({ cls := "PanSlices", name := "fits", desc := "(II)Z" } : Jvm.MethodName) prog_1_method_42_code (6 : Nat) (Option.some Jvm.ClassFile.FieldType.boolean)) ∈ lw_all := lw_g (lw_at lw_m4 210 rfl) rfl
theorem q1037 : (Jvm.Cond.methodLink "PanSlices" (378 : Nat) ({ cls := "PanSlices", name := "takes", desc := "(II)V" } : Jvm.MethodName)) ∈ lw_all := lw_g (lw_at lw_m4 211 rfl) rfl
theorem q1038 : (Jvm.Cond.privateMethod ({ cls := "PanSlices", name := "takes", desc := "(II)V" } : Jvm.MethodName)) ∈ lw_tbl := lw_at lw_m4 212 rfl
theorem q1039 : (Jvm.Cond.instanceMethod ({ cls := "PanSlices", name := "takes", desc := "(II)V" } : Jvm.MethodName)) ∈ lw_all := lw_g (lw_at lw_m4 213 rfl) rfl
theorem q1040 : (Jvm.Cond.code ({ cls := "PanSlices", name := "takes", desc := "(II)V" } : Jvm.MethodName) prog_1_method_43_code (4 : Nat) (Option.none : Option Jvm.ClassFile.FieldType)) ∈ lw_all := lw_g (lw_at lw_m4 214 rfl) rfl
theorem q1042 : (Jvm.Cond.instanceMethod ({ cls := "PanSlices", name := "masters", desc := "()I" } : Jvm.MethodName)) ∈ lw_all := lw_g (lw_at lw_m4 216 rfl) rfl
theorem q1043 : (Jvm.Cond.selects "PanSlices" ({ cls := "PanSlices", name := "masters", desc := "()I" } : Jvm.MethodName) ({ cls := "PanSlices", name := "masters", desc := "()I" } : Jvm.MethodName)) ∈ lw_all := lw_g (lw_at lw_m4 217 rfl) rfl
theorem q1044 : (Jvm.Cond.code ({ cls := "PanSlices", name := "masters", desc := "()I" } : Jvm.MethodName) prog_1_method_46_code (7 : Nat) (Option.some Jvm.ClassFile.FieldType.int)) ∈ lw_all := lw_g (lw_at lw_m4 218 rfl) rfl
theorem q1045 : (Jvm.Cond.methodLink "PanSlices" (386 : Nat) ({ cls := "PanSlices", name := "pupil", desc := "(II[I)I" } : Jvm.MethodName)) ∈ lw_all := lw_g (lw_at lw_m4 219 rfl) rfl
theorem q1046 : (Jvm.Cond.privateMethod ({ cls := "PanSlices", name := "pupil", desc := "(II[I)I" } : Jvm.MethodName)) ∈ lw_tbl := lw_at lw_m4 220 rfl
theorem q1047 : (Jvm.Cond.instanceMethod ({ cls := "PanSlices", name := "pupil", desc := "(II[I)I" } : Jvm.MethodName)) ∈ lw_all := lw_g (lw_at lw_m4 221 rfl) rfl
theorem q1048 : (Jvm.Cond.code ({ cls := "PanSlices", name := "pupil", desc := "(II[I)I" } : Jvm.MethodName) prog_1_method_47_code (6 : Nat) (Option.some Jvm.ClassFile.FieldType.int)) ∈ lw_all := lw_g (lw_at lw_m4 222 rfl) rfl
theorem q1050 : (Jvm.Cond.instanceMethod ({ cls := "PanSlices", name := "cook", desc := "(I)I" } : Jvm.MethodName)) ∈ lw_all := lw_g (lw_at lw_m4 224 rfl) rfl
theorem q1051 : (Jvm.Cond.selects "PanSlices" ({ cls := "PanSlices", name := "cook", desc := "(I)I" } : Jvm.MethodName) ({ cls := "PanSlices", name := "cook", desc := "(I)I" } : Jvm.MethodName)) ∈ lw_all := lw_g (lw_at lw_m4 225 rfl) rfl
theorem q1052 : (Jvm.Cond.code ({ cls := "PanSlices", name := "cook", desc := "(I)I" } : Jvm.MethodName) prog_1_method_54_code (2 : Nat) (Option.some Jvm.ClassFile.FieldType.int)) ∈ lw_all := lw_g (lw_at lw_m4 226 rfl) rfl
theorem q1053 : (Jvm.Cond.methodLink "PanSlices" (409 : Nat) ({ cls := "PanSlices", name := "toasts", desc := "(I)I" } : Jvm.MethodName)) ∈ lw_all := lw_g (lw_at lw_m4 227 rfl) rfl
theorem q1054 : (Jvm.Cond.privateMethod ({ cls := "PanSlices", name := "toasts", desc := "(I)I" } : Jvm.MethodName)) ∈ lw_tbl := lw_at lw_m4 228 rfl
theorem q1055 : (Jvm.Cond.instanceMethod ({ cls := "PanSlices", name := "toasts", desc := "(I)I" } : Jvm.MethodName)) ∈ lw_all := lw_g (lw_at lw_m4 229 rfl) rfl
theorem q1056 : (Jvm.Cond.code ({ cls := "PanSlices", name := "toasts", desc := "(I)I" } : Jvm.MethodName) prog_1_method_56_code (6 : Nat) (Option.some Jvm.ClassFile.FieldType.int)) ∈ lw_all := lw_g (lw_at lw_m4 230 rfl) rfl
theorem q1057 : (Jvm.Cond.methodLink "PanSlices" (412 : Nat) ({ cls := "PanSlices", name := "minute", desc := "(LPanSlices$Cook;I)V" } : Jvm.MethodName)) ∈ lw_all := lw_g (lw_at lw_m4 231 rfl) rfl
theorem q1058 : (Jvm.Cond.privateMethod ({ cls := "PanSlices", name := "minute", desc := "(LPanSlices$Cook;I)V" } : Jvm.MethodName)) ∈ lw_tbl := lw_at lw_m4 232 rfl
theorem q1059 : (Jvm.Cond.instanceMethod ({ cls := "PanSlices", name := "minute", desc := "(LPanSlices$Cook;I)V" } : Jvm.MethodName)) ∈ lw_all := lw_g (lw_at lw_m4 233 rfl) rfl
theorem q1060 : (Jvm.Cond.code ({ cls := "PanSlices", name := "minute", desc := "(LPanSlices$Cook;I)V" } : Jvm.MethodName) prog_1_method_53_code (6 : Nat) (Option.none : Option Jvm.ClassFile.FieldType)) ∈ lw_all := lw_g (lw_at lw_m4 234 rfl) rfl
theorem q1061 : (Jvm.Cond.methodLink "PanSlices" (402 : Nat) ({ cls := "PanSlices", name := "freePlace", desc := "(I)I" } : Jvm.MethodName)) ∈ lw_all := lw_g (lw_at lw_m4 235 rfl) rfl
theorem q1062 : (Jvm.Cond.privateMethod ({ cls := "PanSlices", name := "freePlace", desc := "(I)I" } : Jvm.MethodName)) ∈ lw_tbl := lw_at lw_m4 236 rfl
theorem q1063 : (Jvm.Cond.instanceMethod ({ cls := "PanSlices", name := "freePlace", desc := "(I)I" } : Jvm.MethodName)) ∈ lw_all := lw_g (lw_at lw_m4 237 rfl) rfl
theorem q1064 : (Jvm.Cond.code ({ cls := "PanSlices", name := "freePlace", desc := "(I)I" } : Jvm.MethodName) prog_1_method_52_code (4 : Nat) (Option.some Jvm.ClassFile.FieldType.int)) ∈ lw_all := lw_g (lw_at lw_m4 238 rfl) rfl
theorem q1065 : (Jvm.Cond.methodLink "PanSlices" (405 : Nat) ({ cls := "PanSlices", name := "chosen", desc := "(LPanSlices$Cook;I)I" } : Jvm.MethodName)) ∈ lw_all := lw_g (lw_at lw_m4 239 rfl) rfl
theorem q1066 : (Jvm.Cond.privateMethod ({ cls := "PanSlices", name := "chosen", desc := "(LPanSlices$Cook;I)I" } : Jvm.MethodName)) ∈ lw_tbl := lw_at lw_m5 0 rfl
theorem q1067 : (Jvm.Cond.instanceMethod ({ cls := "PanSlices", name := "chosen", desc := "(LPanSlices$Cook;I)I" } : Jvm.MethodName)) ∈ lw_all := lw_g (lw_at lw_m5 1 rfl) rfl
theorem q1068 : (Jvm.Cond.code ({ cls := "PanSlices", name := "chosen", desc := "(LPanSlices$Cook;I)I" } : Jvm.MethodName) prog_1_method_51_code (5 : Nat) (Option.some Jvm.ClassFile.FieldType.int)) ∈ lw_all := lw_g (lw_at lw_m5 2 rfl) rfl
theorem q1069 : (Jvm.Cond.methodLink "PanSlices" (396 : Nat) ({ cls := "PanSlices", name := "canGo", desc := "(II)Z" } : Jvm.MethodName)) ∈ lw_all := lw_g (lw_at lw_m5 3 rfl) rfl
theorem q1070 : (Jvm.Cond.privateMethod ({ cls := "PanSlices", name := "canGo", desc := "(II)Z" } : Jvm.MethodName)) ∈ lw_tbl := lw_at lw_m5 4 rfl
theorem q1071 : (Jvm.Cond.instanceMethod ({ cls := "PanSlices", name := "canGo", desc := "(II)Z" } : Jvm.MethodName)) ∈ lw_all := lw_g (lw_at lw_m5 5 rfl) rfl
theorem q1072 : (Jvm.Cond.code ({ cls := "PanSlices", name := "canGo", desc := "(II)Z" } : Jvm.MethodName) prog_1_method_50_code (4 : Nat) (Option.some Jvm.ClassFile.FieldType.boolean)) ∈ lw_all := lw_g (lw_at lw_m5 6 rfl) rfl
theorem q1073 : (Jvm.Cond.methodLink "PanSlices" (390 : Nat) ({ cls := "PanSlices", name := "isOn", desc := "(I)Z" } : Jvm.MethodName)) ∈ lw_all := lw_g (lw_at lw_m5 7 rfl) rfl
theorem q1074 : (Jvm.Cond.privateMethod ({ cls := "PanSlices", name := "isOn", desc := "(I)Z" } : Jvm.MethodName)) ∈ lw_tbl := lw_at lw_m5 8 rfl
theorem q1075 : (Jvm.Cond.instanceMethod ({ cls := "PanSlices", name := "isOn", desc := "(I)Z" } : Jvm.MethodName)) ∈ lw_all := lw_g (lw_at lw_m5 9 rfl) rfl
theorem q1076 : (Jvm.Cond.code ({ cls := "PanSlices", name := "isOn", desc := "(I)Z" } : Jvm.MethodName) prog_1_method_49_code (3 : Nat) (Option.some Jvm.ClassFile.FieldType.boolean)) ∈ lw_all := lw_g (lw_at lw_m5 10 rfl) rfl
theorem q1077 : (Jvm.Cond.methodLink "PanSlices" (393 : Nat) ({ cls := "PanSlices", name := "sideOf", desc := "(I)I" } : Jvm.MethodName)) ∈ lw_all := lw_g (lw_at lw_m5 11 rfl) rfl
theorem q1078 : (Jvm.Cond.privateMethod ({ cls := "PanSlices", name := "sideOf", desc := "(I)I" } : Jvm.MethodName)) ∈ lw_tbl := lw_at lw_m5 12 rfl
theorem q1079 : (Jvm.Cond.instanceMethod ({ cls := "PanSlices", name := "sideOf", desc := "(I)I" } : Jvm.MethodName)) ∈ lw_all := lw_g (lw_at lw_m5 13 rfl) rfl
theorem q1080 : (Jvm.Cond.code ({ cls := "PanSlices", name := "sideOf", desc := "(I)I" } : Jvm.MethodName) prog_1_method_48_code (3 : Nat) (Option.some Jvm.ClassFile.FieldType.int)) ∈ lw_all := lw_g (lw_at lw_m5 14 rfl) rfl
theorem q1081 : (Jvm.Cond.methodLink "PanSlices" (399 : Nat) ({ cls := "PanSlices$Cook", name := "likes", desc := "(II)I" } : Jvm.MethodName)) ∈ lw_all := lw_g (lw_at lw_m5 15 rfl) rfl
theorem q1094 : (Jvm.Cond.instanceMethod ({ cls := "PanSlices", name := "best", desc := "()I" } : Jvm.MethodName)) ∈ lw_all := lw_g (lw_at lw_m5 28 rfl) rfl
theorem q1095 : (Jvm.Cond.selects "PanSlices" ({ cls := "PanSlices", name := "best", desc := "()I" } : Jvm.MethodName) ({ cls := "PanSlices", name := "best", desc := "()I" } : Jvm.MethodName)) ∈ lw_all := lw_g (lw_at lw_m5 29 rfl) rfl
theorem q1096 : (Jvm.Cond.code ({ cls := "PanSlices", name := "best", desc := "()I" } : Jvm.MethodName) prog_1_method_55_code (5 : Nat) (Option.some Jvm.ClassFile.FieldType.int)) ∈ lw_all := lw_g (lw_at lw_m5 30 rfl) rfl
theorem q1098 : (Jvm.Cond.instanceMethod ({ cls := "PanSlices", name := "alike", desc := "(II)I" } : Jvm.MethodName)) ∈ lw_all := lw_g (lw_at lw_m5 32 rfl) rfl
theorem q1099 : (Jvm.Cond.selects "PanSlices" ({ cls := "PanSlices", name := "alike", desc := "(II)I" } : Jvm.MethodName) ({ cls := "PanSlices", name := "alike", desc := "(II)I" } : Jvm.MethodName)) ∈ lw_all := lw_g (lw_at lw_m5 33 rfl) rfl
theorem q1100 : (Jvm.Cond.code ({ cls := "PanSlices", name := "alike", desc := "(II)I" } : Jvm.MethodName) prog_1_method_59_code (3 : Nat) (Option.some Jvm.ClassFile.FieldType.int)) ∈ lw_all := lw_g (lw_at lw_m5 34 rfl) rfl
theorem q1101 : (Jvm.Cond.methodLink "PanSlices" (416 : Nat) ({ cls := "PanSlices", name := "areAlike", desc := "(II)Z" } : Jvm.MethodName)) ∈ lw_all := lw_g (lw_at lw_m5 35 rfl) rfl
theorem q1102 : (Jvm.Cond.static ({ cls := "PanSlices", name := "areAlike", desc := "(II)Z" } : Jvm.MethodName)) ∈ lw_all := lw_g (lw_at lw_m5 36 rfl) rfl
theorem q1103 : (Jvm.Cond.code ({ cls := "PanSlices", name := "areAlike", desc := "(II)Z" } : Jvm.MethodName) prog_1_method_58_code (2 : Nat) (Option.some Jvm.ClassFile.FieldType.boolean)) ∈ lw_all := lw_g (lw_at lw_m5 37 rfl) rfl
theorem q1104 : (Jvm.Cond.methodLink "PanSlices" (419 : Nat) ({ cls := "PanSlices", name := "alikeTime", desc := "(II)I" } : Jvm.MethodName)) ∈ lw_all := lw_g (lw_at lw_m5 38 rfl) rfl
theorem q1105 : (Jvm.Cond.static ({ cls := "PanSlices", name := "alikeTime", desc := "(II)I" } : Jvm.MethodName)) ∈ lw_all := lw_g (lw_at lw_m5 39 rfl) rfl
theorem q1106 : (Jvm.Cond.code ({ cls := "PanSlices", name := "alikeTime", desc := "(II)I" } : Jvm.MethodName) prog_1_method_57_code (2 : Nat) (Option.some Jvm.ClassFile.FieldType.int)) ∈ lw_all := lw_g (lw_at lw_m5 40 rfl) rfl
theorem q1108 : (Jvm.Cond.instanceMethod ({ cls := "PanSlices", name := "alikeAt", desc := "(IIII)I" } : Jvm.MethodName)) ∈ lw_all := lw_g (lw_at lw_m5 42 rfl) rfl
theorem q1109 : (Jvm.Cond.selects "PanSlices" ({ cls := "PanSlices", name := "alikeAt", desc := "(IIII)I" } : Jvm.MethodName) ({ cls := "PanSlices", name := "alikeAt", desc := "(IIII)I" } : Jvm.MethodName)) ∈ lw_all := lw_g (lw_at lw_m5 43 rfl) rfl
theorem q1110 : (Jvm.Cond.code ({ cls := "PanSlices", name := "alikeAt", desc := "(IIII)I" } : Jvm.MethodName) prog_1_method_60_code (6 : Nat) (Option.some Jvm.ClassFile.FieldType.int)) ∈ lw_all := lw_g (lw_at lw_m5 44 rfl) rfl
theorem q1112 : (Jvm.Cond.instanceMethod ({ cls := "PanSlices", name := "served", desc := "(I)I" } : Jvm.MethodName)) ∈ lw_all := lw_g (lw_at lw_m5 46 rfl) rfl
theorem q1113 : (Jvm.Cond.selects "PanSlices" ({ cls := "PanSlices", name := "served", desc := "(I)I" } : Jvm.MethodName) ({ cls := "PanSlices", name := "served", desc := "(I)I" } : Jvm.MethodName)) ∈ lw_all := lw_g (lw_at lw_m5 47 rfl) rfl
theorem q1114 : (Jvm.Cond.code ({ cls := "PanSlices", name := "served", desc := "(I)I" } : Jvm.MethodName) prog_1_method_63_code (10 : Nat) (Option.some Jvm.ClassFile.FieldType.int)) ∈ lw_all := lw_g (lw_at lw_m5 48 rfl) rfl
theorem q1115 : (Jvm.Cond.methodLink "PanSlices" (430 : Nat) ({ cls := "java/lang/Integer", name := "bitCount", desc := "(I)I" } : Jvm.MethodName)) ∈ lw_all := lw_g (lw_at lw_m5 49 rfl) rfl
theorem q1121 : (Jvm.Cond.methodLink "PanSlices" (435 : Nat) ({ cls := "PanSlices", name := "worthOf", desc := "(III)I" } : Jvm.MethodName)) ∈ lw_all := lw_g (lw_at lw_m5 55 rfl) rfl
theorem q1122 : (Jvm.Cond.privateMethod ({ cls := "PanSlices", name := "worthOf", desc := "(III)I" } : Jvm.MethodName)) ∈ lw_tbl := lw_at lw_m5 56 rfl
theorem q1123 : (Jvm.Cond.instanceMethod ({ cls := "PanSlices", name := "worthOf", desc := "(III)I" } : Jvm.MethodName)) ∈ lw_all := lw_g (lw_at lw_m5 57 rfl) rfl
theorem q1124 : (Jvm.Cond.code ({ cls := "PanSlices", name := "worthOf", desc := "(III)I" } : Jvm.MethodName) prog_1_method_62_code (6 : Nat) (Option.some Jvm.ClassFile.FieldType.int)) ∈ lw_all := lw_g (lw_at lw_m5 58 rfl) rfl
theorem q1125 : (Jvm.Cond.methodLink "PanSlices" (424 : Nat) ({ cls := "PanSlices", name := "has", desc := "(II)Z" } : Jvm.MethodName)) ∈ lw_all := lw_g (lw_at lw_m5 59 rfl) rfl
theorem q1126 : (Jvm.Cond.methodLink "PanSlices" (427 : Nat) ({ cls := "PanSlices", name := "worthOf", desc := "(II)I" } : Jvm.MethodName)) ∈ lw_all := lw_g (lw_at lw_m5 60 rfl) rfl
theorem q1127 : (Jvm.Cond.privateMethod ({ cls := "PanSlices", name := "worthOf", desc := "(II)I" } : Jvm.MethodName)) ∈ lw_tbl := lw_at lw_m5 61 rfl
theorem q1128 : (Jvm.Cond.instanceMethod ({ cls := "PanSlices", name := "worthOf", desc := "(II)I" } : Jvm.MethodName)) ∈ lw_all := lw_g (lw_at lw_m5 62 rfl) rfl
theorem q1129 : (Jvm.Cond.code ({ cls := "PanSlices", name := "worthOf", desc := "(II)I" } : Jvm.MethodName) prog_1_method_61_code (4 : Nat) (Option.some Jvm.ClassFile.FieldType.int)) ∈ lw_all := lw_g (lw_at lw_m5 63 rfl) rfl
theorem q1131 : (Jvm.Cond.instanceMethod ({ cls := "PanSlices", name := "servedAt", desc := "(I)I" } : Jvm.MethodName)) ∈ lw_all := lw_g (lw_at lw_m5 65 rfl) rfl
theorem q1132 : (Jvm.Cond.selects "PanSlices" ({ cls := "PanSlices", name := "servedAt", desc := "(I)I" } : Jvm.MethodName) ({ cls := "PanSlices", name := "servedAt", desc := "(I)I" } : Jvm.MethodName)) ∈ lw_all := lw_g (lw_at lw_m5 66 rfl) rfl
theorem q1133 : (Jvm.Cond.code ({ cls := "PanSlices", name := "servedAt", desc := "(I)I" } : Jvm.MethodName) prog_1_method_64_code (2 : Nat) (Option.some Jvm.ClassFile.FieldType.int)) ∈ lw_all := lw_g (lw_at lw_m5 67 rfl) rfl
theorem q1135 : (Jvm.Cond.instanceMethod ({ cls := "PanSlices", name := "hotel", desc := "(III)I" } : Jvm.MethodName)) ∈ lw_all := lw_g (lw_at lw_m5 69 rfl) rfl
theorem q1136 : (Jvm.Cond.selects "PanSlices" ({ cls := "PanSlices", name := "hotel", desc := "(III)I" } : Jvm.MethodName) ({ cls := "PanSlices", name := "hotel", desc := "(III)I" } : Jvm.MethodName)) ∈ lw_all := lw_g (lw_at lw_m5 70 rfl) rfl
theorem q1137 : (Jvm.Cond.code ({ cls := "PanSlices", name := "hotel", desc := "(III)I" } : Jvm.MethodName) prog_1_method_67_code (9 : Nat) (Option.some Jvm.ClassFile.FieldType.int)) ∈ lw_all := lw_g (lw_at lw_m5 71 rfl) rfl
theorem q1139 : (Jvm.Cond.instanceMethod ({ cls := "PanSlices", name := "pans", desc := "(I)I" } : Jvm.MethodName)) ∈ lw_all := lw_g (lw_at lw_m5 73 rfl) rfl
theorem q1140 : (Jvm.Cond.selects "PanSlices" ({ cls := "PanSlices", name := "pans", desc := "(I)I" } : Jvm.MethodName) ({ cls := "PanSlices", name := "pans", desc := "(I)I" } : Jvm.MethodName)) ∈ lw_all := lw_g (lw_at lw_m5 74 rfl) rfl
theorem q1141 : (Jvm.Cond.code ({ cls := "PanSlices", name := "pans", desc := "(I)I" } : Jvm.MethodName) prog_1_method_68_code (2 : Nat) (Option.some Jvm.ClassFile.FieldType.int)) ∈ lw_all := lw_g (lw_at lw_m5 75 rfl) rfl
theorem q1143 : (Jvm.Cond.instanceMethod ({ cls := "PanSlices", name := "brown", desc := "(II)J" } : Jvm.MethodName)) ∈ lw_all := lw_g (lw_at lw_m5 77 rfl) rfl
theorem q1144 : (Jvm.Cond.selects "PanSlices" ({ cls := "PanSlices", name := "brown", desc := "(II)J" } : Jvm.MethodName) ({ cls := "PanSlices", name := "brown", desc := "(II)J" } : Jvm.MethodName)) ∈ lw_all := lw_g (lw_at lw_m5 78 rfl) rfl
theorem q1145 : (Jvm.Cond.code ({ cls := "PanSlices", name := "brown", desc := "(II)J" } : Jvm.MethodName) prog_1_method_70_code (10 : Nat) (Option.some Jvm.ClassFile.FieldType.long)) ∈ lw_all := lw_g (lw_at lw_m5 79 rfl) rfl
theorem q1146 : (Jvm.Cond.constantLong "PanSlices" (448 : Nat) (-1 : Int64)) ∈ lw_all := lw_g (lw_at lw_m5 80 rfl) rfl
theorem q1147 : (Jvm.Cond.methodLink "PanSlices" (450 : Nat) ({ cls := "PanSlices", name := "one", desc := "(I)I" } : Jvm.MethodName)) ∈ lw_all := lw_g (lw_at lw_m5 81 rfl) rfl
theorem q1148 : (Jvm.Cond.privateMethod ({ cls := "PanSlices", name := "one", desc := "(I)I" } : Jvm.MethodName)) ∈ lw_tbl := lw_at lw_m5 82 rfl
theorem q1149 : (Jvm.Cond.instanceMethod ({ cls := "PanSlices", name := "one", desc := "(I)I" } : Jvm.MethodName)) ∈ lw_all := lw_g (lw_at lw_m5 83 rfl) rfl
theorem q1150 : (Jvm.Cond.code ({ cls := "PanSlices", name := "one", desc := "(I)I" } : Jvm.MethodName) prog_1_method_6_code (2 : Nat) (Option.some Jvm.ClassFile.FieldType.int)) ∈ lw_all := lw_g (lw_at lw_m5 84 rfl) rfl
theorem q1151 : (Jvm.Cond.methodLink "PanSlices" (453 : Nat) ({ cls := "PanSlices", name := "isMinute", desc := "(II)Z" } : Jvm.MethodName)) ∈ lw_all := lw_g (lw_at lw_m5 85 rfl) rfl
theorem q1152 : (Jvm.Cond.static ({ cls := "PanSlices", name := "isMinute", desc := "(II)Z" } : Jvm.MethodName)) ∈ lw_all := lw_g (lw_at lw_m5 86 rfl) rfl
theorem q1153 : (Jvm.Cond.code ({ cls := "PanSlices", name := "isMinute", desc := "(II)Z" } : Jvm.MethodName) prog_1_method_69_code (2 : Nat) (Option.some Jvm.ClassFile.FieldType.boolean)) ∈ lw_all := lw_g (lw_at lw_m5 87 rfl) rfl
theorem q1155 : (Jvm.Cond.instanceMethod ({ cls := "PanSlices", name := "morning", desc := "(I)I" } : Jvm.MethodName)) ∈ lw_all := lw_g (lw_at lw_m5 89 rfl) rfl
theorem q1156 : (Jvm.Cond.selects "PanSlices" ({ cls := "PanSlices", name := "morning", desc := "(I)I" } : Jvm.MethodName) ({ cls := "PanSlices", name := "morning", desc := "(I)I" } : Jvm.MethodName)) ∈ lw_all := lw_g (lw_at lw_m5 90 rfl) rfl
theorem q1157 : (Jvm.Cond.code ({ cls := "PanSlices", name := "morning", desc := "(I)I" } : Jvm.MethodName) prog_1_method_74_code (2 : Nat) (Option.some Jvm.ClassFile.FieldType.int)) ∈ lw_all := lw_g (lw_at lw_m5 91 rfl) rfl
theorem q1158 : (Jvm.Cond.methodLink "PanSlices" (466 : Nat) ({ cls := "PanSlices", name := "morningOf", desc := "(I)I" } : Jvm.MethodName)) ∈ lw_all := lw_g (lw_at lw_m5 92 rfl) rfl
theorem q1159 : (Jvm.Cond.privateMethod ({ cls := "PanSlices", name := "morningOf", desc := "(I)I" } : Jvm.MethodName)) ∈ lw_tbl := lw_at lw_m5 93 rfl
theorem q1160 : (Jvm.Cond.instanceMethod ({ cls := "PanSlices", name := "morningOf", desc := "(I)I" } : Jvm.MethodName)) ∈ lw_all := lw_g (lw_at lw_m5 94 rfl) rfl
theorem q1161 : (Jvm.Cond.code ({ cls := "PanSlices", name := "morningOf", desc := "(I)I" } : Jvm.MethodName) prog_1_method_73_code (8 : Nat) (Option.some Jvm.ClassFile.FieldType.int)) ∈ lw_all := lw_g (lw_at lw_m5 95 rfl) rfl
theorem q1162 : (Jvm.Cond.methodLink "PanSlices" (463 : Nat) ({ cls := "PanSlices", name := "drawn", desc := "(I)I" } : Jvm.MethodName)) ∈ lw_all := lw_g (lw_at lw_m5 96 rfl) rfl
theorem q1163 : (Jvm.Cond.privateMethod ({ cls := "PanSlices", name := "drawn", desc := "(I)I" } : Jvm.MethodName)) ∈ lw_tbl := lw_at lw_m5 97 rfl
theorem q1164 : (Jvm.Cond.instanceMethod ({ cls := "PanSlices", name := "drawn", desc := "(I)I" } : Jvm.MethodName)) ∈ lw_all := lw_g (lw_at lw_m5 98 rfl) rfl
theorem q1165 : (Jvm.Cond.code ({ cls := "PanSlices", name := "drawn", desc := "(I)I" } : Jvm.MethodName) prog_1_method_72_code (5 : Nat) (Option.some Jvm.ClassFile.FieldType.int)) ∈ lw_all := lw_g (lw_at lw_m5 99 rfl) rfl
theorem q1166 : (Jvm.Cond.methodLink "PanSlices" (460 : Nat) ({ cls := "PanSlices", name := "draw", desc := "(I)I" } : Jvm.MethodName)) ∈ lw_all := lw_g (lw_at lw_m5 100 rfl) rfl
theorem q1167 : (Jvm.Cond.privateMethod ({ cls := "PanSlices", name := "draw", desc := "(I)I" } : Jvm.MethodName)) ∈ lw_tbl := lw_at lw_m5 101 rfl
theorem q1168 : (Jvm.Cond.instanceMethod ({ cls := "PanSlices", name := "draw", desc := "(I)I" } : Jvm.MethodName)) ∈ lw_all := lw_g (lw_at lw_m5 102 rfl) rfl
theorem q1169 : (Jvm.Cond.code ({ cls := "PanSlices", name := "draw", desc := "(I)I" } : Jvm.MethodName) prog_1_method_71_code (2 : Nat) (Option.some Jvm.ClassFile.FieldType.int)) ∈ lw_all := lw_g (lw_at lw_m5 103 rfl) rfl
theorem q1170 : (Jvm.Cond.constant "PanSlices" (459 : Nat) (1103515245 : Int32)) ∈ lw_all := lw_g (lw_at lw_m5 104 rfl) rfl
theorem q1172 : (Jvm.Cond.instanceMethod ({ cls := "PanSlices", name := "mornings", desc := "(II)I" } : Jvm.MethodName)) ∈ lw_all := lw_g (lw_at lw_m5 106 rfl) rfl
theorem q1173 : (Jvm.Cond.selects "PanSlices" ({ cls := "PanSlices", name := "mornings", desc := "(II)I" } : Jvm.MethodName) ({ cls := "PanSlices", name := "mornings", desc := "(II)I" } : Jvm.MethodName)) ∈ lw_all := lw_g (lw_at lw_m5 107 rfl) rfl
theorem q1174 : (Jvm.Cond.code ({ cls := "PanSlices", name := "mornings", desc := "(II)I" } : Jvm.MethodName) prog_1_method_75_code (5 : Nat) (Option.some Jvm.ClassFile.FieldType.int)) ∈ lw_all := lw_g (lw_at lw_m5 108 rfl) rfl
theorem q1176 : (Jvm.Cond.instanceMethod ({ cls := "PanSlices", name := "sentence", desc := "()I" } : Jvm.MethodName)) ∈ lw_all := lw_g (lw_at lw_m5 110 rfl) rfl
theorem q1177 : (Jvm.Cond.selects "PanSlices" ({ cls := "PanSlices", name := "sentence", desc := "()I" } : Jvm.MethodName) ({ cls := "PanSlices", name := "sentence", desc := "()I" } : Jvm.MethodName)) ∈ lw_all := lw_g (lw_at lw_m5 111 rfl) rfl
theorem q1178 : (Jvm.Cond.codeWith ({ cls := "PanSlices", name := "sentence", desc := "()I" } : Jvm.MethodName) prog_1_method_76_code (2 : Nat) (Option.some Jvm.ClassFile.FieldType.int) [((9 : Nat), (27 : Nat), (28 : Nat), (13 : Nat))]) ∈ lw_all := lw_g (lw_at lw_m5 112 rfl) rfl
theorem q1179 : (Jvm.Cond.methodLink "PanSlices" (469 : Nat) ({ cls := "PanSlices$SentenceReader", name := "read", desc := "()LPanSlices$Cond;" } : Jvm.MethodName)) ∈ lw_all := lw_g (lw_at lw_m5 113 rfl) rfl
theorem q1292 : (Jvm.Cond.instanceMethod ({ cls := "PanSlices", name := "said", desc := "(I)I" } : Jvm.MethodName)) ∈ lw_all := lw_g (lw_at lw_m5 226 rfl) rfl
theorem q1293 : (Jvm.Cond.selects "PanSlices" ({ cls := "PanSlices", name := "said", desc := "(I)I" } : Jvm.MethodName) ({ cls := "PanSlices", name := "said", desc := "(I)I" } : Jvm.MethodName)) ∈ lw_all := lw_g (lw_at lw_m5 227 rfl) rfl
theorem q1294 : (Jvm.Cond.code ({ cls := "PanSlices", name := "said", desc := "(I)I" } : Jvm.MethodName) prog_1_method_77_code (4 : Nat) (Option.some Jvm.ClassFile.FieldType.int)) ∈ lw_all := lw_g (lw_at lw_m5 228 rfl) rfl
theorem q1295 : (Jvm.Cond.methodLink "PanSlices" (475 : Nat) ({ cls := "PanSlices$Cond", name := "is", desc := "(LPanSlices$Kitchen;LPanSlices$Plan;I)Z" } : Jvm.MethodName)) ∈ lw_all := lw_g (lw_at lw_m5 229 rfl) rfl
theorem q1328 : (Jvm.Cond.instanceMethod ({ cls := "PanSlices", name := "image", desc := "(I)Z" } : Jvm.MethodName)) ∈ lw_all := lw_g (lw_at lw_m6 22 rfl) rfl
theorem q1329 : (Jvm.Cond.selects "PanSlices" ({ cls := "PanSlices", name := "image", desc := "(I)Z" } : Jvm.MethodName) ({ cls := "PanSlices", name := "image", desc := "(I)Z" } : Jvm.MethodName)) ∈ lw_all := lw_g (lw_at lw_m6 23 rfl) rfl
theorem q1330 : (Jvm.Cond.code ({ cls := "PanSlices", name := "image", desc := "(I)Z" } : Jvm.MethodName) prog_1_method_78_code (2 : Nat) (Option.some Jvm.ClassFile.FieldType.boolean)) ∈ lw_all := lw_g (lw_at lw_m6 24 rfl) rfl
theorem q1332 : (Jvm.Cond.instanceMethod ({ cls := "PanSlices", name := "restore", desc := "(I)Z" } : Jvm.MethodName)) ∈ lw_all := lw_g (lw_at lw_m6 26 rfl) rfl
theorem q1333 : (Jvm.Cond.selects "PanSlices" ({ cls := "PanSlices", name := "restore", desc := "(I)Z" } : Jvm.MethodName) ({ cls := "PanSlices", name := "restore", desc := "(I)Z" } : Jvm.MethodName)) ∈ lw_all := lw_g (lw_at lw_m6 27 rfl) rfl
theorem q1334 : (Jvm.Cond.code ({ cls := "PanSlices", name := "restore", desc := "(I)Z" } : Jvm.MethodName) prog_1_method_79_code (2 : Nat) (Option.some Jvm.ClassFile.FieldType.boolean)) ∈ lw_all := lw_g (lw_at lw_m6 28 rfl) rfl
theorem q1336 : (Jvm.Cond.instanceMethod ({ cls := "PanSlices", name := "count", desc := "(I)I" } : Jvm.MethodName)) ∈ lw_all := lw_g (lw_at lw_m6 30 rfl) rfl
theorem q1337 : (Jvm.Cond.selects "PanSlices" ({ cls := "PanSlices", name := "count", desc := "(I)I" } : Jvm.MethodName) ({ cls := "PanSlices", name := "count", desc := "(I)I" } : Jvm.MethodName)) ∈ lw_all := lw_g (lw_at lw_m6 31 rfl) rfl
theorem q1338 : (Jvm.Cond.code ({ cls := "PanSlices", name := "count", desc := "(I)I" } : Jvm.MethodName) prog_1_method_80_code (2 : Nat) (Option.some Jvm.ClassFile.FieldType.int)) ∈ lw_all := lw_g (lw_at lw_m6 32 rfl) rfl
theorem q1344 : (Jvm.Cond.instanceMethod ({ cls := "PanSlices", name := "slice", desc := "(II)I" } : Jvm.MethodName)) ∈ lw_all := lw_g (lw_at lw_m6 38 rfl) rfl
theorem q1345 : (Jvm.Cond.selects "PanSlices" ({ cls := "PanSlices", name := "slice", desc := "(II)I" } : Jvm.MethodName) ({ cls := "PanSlices", name := "slice", desc := "(II)I" } : Jvm.MethodName)) ∈ lw_all := lw_g (lw_at lw_m6 39 rfl) rfl
theorem q1346 : (Jvm.Cond.code ({ cls := "PanSlices", name := "slice", desc := "(II)I" } : Jvm.MethodName) prog_1_method_13_code (3 : Nat) (Option.some Jvm.ClassFile.FieldType.int)) ∈ lw_all := lw_g (lw_at lw_m6 40 rfl) rfl
theorem q1347 : (Jvm.Cond.methodLink "PanSlices" (239 : Nat) ({ cls := "PanSlices", name := "must", desc := "(Z)V" } : Jvm.MethodName)) ∈ lw_all := lw_g (lw_at lw_m6 41 rfl) rfl
theorem q1348 : (Jvm.Cond.static ({ cls := "PanSlices", name := "must", desc := "(Z)V" } : Jvm.MethodName)) ∈ lw_all := lw_g (lw_at lw_m6 42 rfl) rfl
theorem q1349 : (Jvm.Cond.code ({ cls := "PanSlices", name := "must", desc := "(Z)V" } : Jvm.MethodName) prog_1_method_8_code (1 : Nat) (Option.none : Option Jvm.ClassFile.FieldType)) ∈ lw_all := lw_g (lw_at lw_m6 43 rfl) rfl
theorem q1350 : (Jvm.Cond.classLink "PanSlices" (201 : Nat) "java/util/NoSuchElementException") ∈ lw_all := lw_g (lw_at lw_m6 44 rfl) rfl
theorem q1361 : (Jvm.Cond.methodLink "PanSlices" (203 : Nat) ({ cls := "java/util/NoSuchElementException", name := "<init>", desc := "()V" } : Jvm.MethodName)) ∈ lw_all := lw_g (lw_at lw_m6 55 rfl) rfl
theorem q1377 : (Jvm.Cond.instanceMethod ({ cls := "PanSlices", name := "guest", desc := "(II)I" } : Jvm.MethodName)) ∈ lw_all := lw_g (lw_at lw_m6 71 rfl) rfl
theorem q1378 : (Jvm.Cond.selects "PanSlices" ({ cls := "PanSlices", name := "guest", desc := "(II)I" } : Jvm.MethodName) ({ cls := "PanSlices", name := "guest", desc := "(II)I" } : Jvm.MethodName)) ∈ lw_all := lw_g (lw_at lw_m6 72 rfl) rfl
theorem q1379 : (Jvm.Cond.code ({ cls := "PanSlices", name := "guest", desc := "(II)I" } : Jvm.MethodName) prog_1_method_14_code (3 : Nat) (Option.some Jvm.ClassFile.FieldType.int)) ∈ lw_all := lw_g (lw_at lw_m6 73 rfl) rfl
theorem q1384 : (Jvm.Cond.instanceMethod ({ cls := "PanSlices", name := "sort", desc := "(II)I" } : Jvm.MethodName)) ∈ lw_all := lw_g (lw_at lw_m6 78 rfl) rfl
theorem q1385 : (Jvm.Cond.selects "PanSlices" ({ cls := "PanSlices", name := "sort", desc := "(II)I" } : Jvm.MethodName) ({ cls := "PanSlices", name := "sort", desc := "(II)I" } : Jvm.MethodName)) ∈ lw_all := lw_g (lw_at lw_m6 79 rfl) rfl
theorem q1386 : (Jvm.Cond.code ({ cls := "PanSlices", name := "sort", desc := "(II)I" } : Jvm.MethodName) prog_1_method_15_code (3 : Nat) (Option.some Jvm.ClassFile.FieldType.int)) ∈ lw_all := lw_g (lw_at lw_m6 80 rfl) rfl
theorem q1391 : (Jvm.Cond.instanceMethod ({ cls := "PanSlices", name := "left", desc := "(II)I" } : Jvm.MethodName)) ∈ lw_all := lw_g (lw_at lw_m6 85 rfl) rfl
theorem q1392 : (Jvm.Cond.selects "PanSlices" ({ cls := "PanSlices", name := "left", desc := "(II)I" } : Jvm.MethodName) ({ cls := "PanSlices", name := "left", desc := "(II)I" } : Jvm.MethodName)) ∈ lw_all := lw_g (lw_at lw_m6 86 rfl) rfl
theorem q1393 : (Jvm.Cond.code ({ cls := "PanSlices", name := "left", desc := "(II)I" } : Jvm.MethodName) prog_1_method_20_code (3 : Nat) (Option.some Jvm.ClassFile.FieldType.int)) ∈ lw_all := lw_g (lw_at lw_m6 87 rfl) rfl
theorem q1398 : (Jvm.Cond.instanceMethod ({ cls := "PanSlices", name := "mean", desc := "(II)J" } : Jvm.MethodName)) ∈ lw_all := lw_g (lw_at lw_m6 92 rfl) rfl
theorem q1399 : (Jvm.Cond.selects "PanSlices" ({ cls := "PanSlices", name := "mean", desc := "(II)J" } : Jvm.MethodName) ({ cls := "PanSlices", name := "mean", desc := "(II)J" } : Jvm.MethodName)) ∈ lw_all := lw_g (lw_at lw_m6 93 rfl) rfl
theorem q1400 : (Jvm.Cond.code ({ cls := "PanSlices", name := "mean", desc := "(II)J" } : Jvm.MethodName) prog_1_method_66_code (13 : Nat) (Option.some Jvm.ClassFile.FieldType.long)) ∈ lw_all := lw_g (lw_at lw_m6 94 rfl) rfl
theorem q1401 : (Jvm.Cond.methodLink "PanSlices" (438 : Nat) ({ cls := "PanSlices", name := "common", desc := "(JJ)J" } : Jvm.MethodName)) ∈ lw_all := lw_g (lw_at lw_m6 95 rfl) rfl
theorem q1402 : (Jvm.Cond.static ({ cls := "PanSlices", name := "common", desc := "(JJ)J" } : Jvm.MethodName)) ∈ lw_all := lw_g (lw_at lw_m6 96 rfl) rfl
theorem q1403 : (Jvm.Cond.code ({ cls := "PanSlices", name := "common", desc := "(JJ)J" } : Jvm.MethodName) prog_1_method_65_code (4 : Nat) (Option.some Jvm.ClassFile.FieldType.long)) ∈ lw_all := lw_g (lw_at lw_m6 97 rfl) rfl
theorem q2156 : (Jvm.Cond.castable "PanSlices" "java/lang/Object") ∈ lw_tbl := lw_at lw_m9 130 rfl
theorem in_X1 : ∀ w ∈ wsX10, w ∈ lw_all := lw_in wsX10 [546, 548, 550, 552, 554, 556, 558, 560, 562, 564, 566, 568, 570, 572, 574, 576, 578, 580, 582, 584, 586, 588, 590, 592, 594, 596, 598, 600, 602, 604, 606, 608, 610, 612, 614, 616, 618, 620, 622, 624, 626, 628] (by decide +kernel) (by decide +kernel)
