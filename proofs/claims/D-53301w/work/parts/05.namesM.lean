section
/-! CribBookletModel -/
set_option maxRecDepth 100000
def RX3 : String := "CribBookletModel"
def TX3 : u_T := fun k => match k with
  | 0 => ("CribBookletModel", "s", "[I", true)
  | 1 => ("CribBookletModel", "before", "[I", true)
  | 2 => ("CribBookletModel", "start", "[I", true)
  | 3 => ("CribBookletModel", "undoMany", "I", false)
  | 4 => ("CribBookletModel", "length", "I", false)
  | 5 => ("CribBookletModel", "text", "[I", true)
  | 6 => ("CribBookletModel", "runs", "Z", false)
  | 7 => ("CribBookletModel", "high", "I", false)
  | 8 => ("CribBookletModel", "wide", "I", false)
  | 9 => ("CribBookletModel", "many", "I", false)
  | 10 => ("CribBookletModel", "cellAt", "[I", true)
  | 11 => ("CribBookletModel", "sideAt", "[I", true)
  | 12 => ("CribBookletModel", "mirrorAt", "[I", true)
  | 13 => ("CribBookletModel", "upsideAt", "[I", true)
  | 14 => ("CribBookletModel", "hadCell", "[I", true)
  | 15 => ("CribBookletModel", "hadSide", "[I", true)
  | 16 => ("CribBookletModel", "hadMirror", "[I", true)
  | 17 => ("CribBookletModel", "hadUpside", "[I", true)
  | 18 => ("CribBookletModel", "spot", "I", false)
  | 19 => ("CribBookletModel", "begins", "I", false)
  | 20 => ("CribBookletModel", "kind", "I", false)
  | 21 => ("CribBookletModel", "word", "J", false)
  | 22 => ("CribBookletModel", "number", "I", false)
  | 23 => ("CribBookletModel", "needs", "[I", true)
  | 24 => ("CribBookletModel", "needed", "I", false)
  | 25 => ("CribBookletModel", "isWhole", "Z", false)
  | 26 => ("CribBookletModel", "fails", "I", false)
  | 27 => ("CribBookletModel", "pieceOf", "[I", true)
  | 28 => ("CribBookletModel", "openMany", "I", false)
  | 29 => ("CribBookletModel", "openPages", "[I", true)
  | _ => ("CribBookletModel", "firstLine", "[I", true)
def tyX3 : Nat → FieldType := fun k => match k with
  | 0 => .array .int
  | 1 => .array .int
  | 2 => .array .int
  | 3 => .int
  | 4 => .int
  | 5 => .array .int
  | 6 => .boolean
  | 7 => .int
  | 8 => .int
  | 9 => .int
  | 10 => .array .int
  | 11 => .array .int
  | 12 => .array .int
  | 13 => .array .int
  | 14 => .array .int
  | 15 => .array .int
  | 16 => .array .int
  | 17 => .array .int
  | 18 => .int
  | 19 => .int
  | 20 => .int
  | 21 => .long
  | 22 => .int
  | 23 => .array .int
  | 24 => .int
  | 25 => .boolean
  | 26 => .int
  | 27 => .array .int
  | 28 => .int
  | 29 => .array .int
  | _ => .array .int
abbrev wsX30 : List Cond := u_ws RX3 TX3 31
set_option maxRecDepth 100000 in
theorem nmX3 : ∀ a, a < 31 → ∀ b, b < 31 → a ≠ b → (TX3 a).2.1 ≠ (TX3 b).2.1 := by decide +kernel
set_option maxRecDepth 100000 in
theorem tyX3_ok : ∀ k, k < 31 → parseFieldDescriptor (TX3 k).2.2.1 = some (tyX3 k) := by decide +kernel
abbrev cX3_init : ByteArray := prog_33_method_1_code
def yX3_init : MethodName := ⟨RX3, "<init>", "()V"⟩
def dkwX3_init_7 : List UInt8 := [182, 0, 58, 177]
abbrev dktX3_init_7 : List UInt8 := dkwX3_init_7 ++ []
def dkwX3_init_6 : List UInt8 := [180, 0, 7, 4, 7, 79, 42, 180, 0, 7, 16, 10, 7, 79, 42, 180, 0, 7, 16, 11, 8, 79, 42]
abbrev dktX3_init_6 : List UInt8 := dkwX3_init_6 ++ dktX3_init_7
def dkwX3_init_5 : List UInt8 := [16, 32, 188, 10, 181, 0, 52, 42, 16, 12, 188, 10, 181, 0, 55, 42, 180, 0, 7, 3, 5, 79, 42]
abbrev dktX3_init_5 : List UInt8 := dkwX3_init_5 ++ dktX3_init_6
def dkwX3_init_4 : List UInt8 := [42, 16, 16, 188, 10, 181, 0, 43, 42, 7, 188, 10, 181, 0, 46, 42, 16, 16, 188, 10, 181, 0, 49, 42]
abbrev dktX3_init_4 : List UInt8 := dkwX3_init_4 ++ dktX3_init_5
def dkwX3_init_3 : List UInt8 := [42, 16, 16, 188, 10, 181, 0, 34, 42, 16, 16, 188, 10, 181, 0, 37, 42, 16, 16, 188, 10, 181, 0, 40]
abbrev dktX3_init_3 : List UInt8 := dkwX3_init_3 ++ dktX3_init_4
def dkwX3_init_2 : List UInt8 := [42, 16, 16, 188, 10, 181, 0, 25, 42, 16, 16, 188, 10, 181, 0, 28, 42, 16, 16, 188, 10, 181, 0, 31]
abbrev dktX3_init_2 : List UInt8 := dkwX3_init_2 ++ dktX3_init_3
def dkwX3_init_1 : List UInt8 := [17, 1, 208, 188, 10, 181, 0, 16, 42, 16, 120, 188, 10, 181, 0, 19, 42, 16, 16, 188, 10, 181, 0, 22]
abbrev dktX3_init_1 : List UInt8 := dkwX3_init_1 ++ dktX3_init_2
def dkwX3_init_0 : List UInt8 := [42, 183, 0, 1, 42, 17, 1, 208, 188, 10, 181, 0, 7, 42, 17, 9, 16, 188, 10, 181, 0, 13, 42]
abbrev dktX3_init_0 : List UInt8 := dkwX3_init_0 ++ dktX3_init_1
theorem dksX3_init_0 : cX3_init.data.toList.drop 0 = dktX3_init_0 := by decide +kernel
theorem dksX3_init_1 : cX3_init.data.toList.drop 23 = dktX3_init_1 := dk_seg dksX3_init_0 23 rfl rfl
theorem dksX3_init_2 : cX3_init.data.toList.drop 47 = dktX3_init_2 := dk_seg dksX3_init_1 24 rfl rfl
theorem dksX3_init_3 : cX3_init.data.toList.drop 71 = dktX3_init_3 := dk_seg dksX3_init_2 24 rfl rfl
theorem dksX3_init_4 : cX3_init.data.toList.drop 95 = dktX3_init_4 := dk_seg dksX3_init_3 24 rfl rfl
theorem dksX3_init_5 : cX3_init.data.toList.drop 119 = dktX3_init_5 := dk_seg dksX3_init_4 24 rfl rfl
theorem dksX3_init_6 : cX3_init.data.toList.drop 142 = dktX3_init_6 := dk_seg dksX3_init_5 23 rfl rfl
theorem dksX3_init_7 : cX3_init.data.toList.drop 165 = dktX3_init_7 := dk_seg dksX3_init_6 23 rfl rfl
theorem dX3_init_0 : decode cX3_init 0 = .ok (.aload_n 0, 1) := dk_42 (dk_at dksX3_init_0 0 rfl rfl)
theorem dX3_init_1 : decode cX3_init 1 = .ok (.invokespecial 1, 3) := dk_183 0 1 (dk_at dksX3_init_0 1 rfl rfl)
theorem dX3_init_4 : decode cX3_init 4 = .ok (.aload_n 0, 1) := dk_42 (dk_at dksX3_init_0 4 rfl rfl)
theorem dX3_init_5 : decode cX3_init 5 = .ok (.sipush 464, 3) := dk_17 1 208 (dk_at dksX3_init_0 5 rfl rfl)
theorem dX3_init_8 : decode cX3_init 8 = .ok (.newarray .int, 2) := dk_188_10 (dk_at dksX3_init_0 8 rfl rfl)
theorem dX3_init_10 : decode cX3_init 10 = .ok (.putfield 7, 3) := dk_181 0 7 (dk_at dksX3_init_0 10 rfl rfl)
theorem dX3_init_13 : decode cX3_init 13 = .ok (.aload_n 0, 1) := dk_42 (dk_at dksX3_init_0 13 rfl rfl)
theorem dX3_init_14 : decode cX3_init 14 = .ok (.sipush 2320, 3) := dk_17 9 16 (dk_at dksX3_init_0 14 rfl rfl)
theorem dX3_init_17 : decode cX3_init 17 = .ok (.newarray .int, 2) := dk_188_10 (dk_at dksX3_init_0 17 rfl rfl)
theorem dX3_init_19 : decode cX3_init 19 = .ok (.putfield 13, 3) := dk_181 0 13 (dk_at dksX3_init_0 19 rfl rfl)
theorem dX3_init_22 : decode cX3_init 22 = .ok (.aload_n 0, 1) := dk_42 (dk_at dksX3_init_0 22 rfl rfl)
theorem dX3_init_23 : decode cX3_init 23 = .ok (.sipush 464, 3) := dk_17 1 208 (dk_at dksX3_init_1 0 rfl rfl)
theorem dX3_init_26 : decode cX3_init 26 = .ok (.newarray .int, 2) := dk_188_10 (dk_at dksX3_init_1 3 rfl rfl)
theorem dX3_init_28 : decode cX3_init 28 = .ok (.putfield 16, 3) := dk_181 0 16 (dk_at dksX3_init_1 5 rfl rfl)
theorem dX3_init_31 : decode cX3_init 31 = .ok (.aload_n 0, 1) := dk_42 (dk_at dksX3_init_1 8 rfl rfl)
theorem dX3_init_32 : decode cX3_init 32 = .ok (.bipush 120, 2) := dk_16 120 (dk_at dksX3_init_1 9 rfl rfl)
theorem dX3_init_34 : decode cX3_init 34 = .ok (.newarray .int, 2) := dk_188_10 (dk_at dksX3_init_1 11 rfl rfl)
theorem dX3_init_36 : decode cX3_init 36 = .ok (.putfield 19, 3) := dk_181 0 19 (dk_at dksX3_init_1 13 rfl rfl)
theorem dX3_init_39 : decode cX3_init 39 = .ok (.aload_n 0, 1) := dk_42 (dk_at dksX3_init_1 16 rfl rfl)
theorem dX3_init_40 : decode cX3_init 40 = .ok (.bipush 16, 2) := dk_16 16 (dk_at dksX3_init_1 17 rfl rfl)
theorem dX3_init_42 : decode cX3_init 42 = .ok (.newarray .int, 2) := dk_188_10 (dk_at dksX3_init_1 19 rfl rfl)
theorem dX3_init_44 : decode cX3_init 44 = .ok (.putfield 22, 3) := dk_181 0 22 (dk_at dksX3_init_1 21 rfl rfl)
theorem dX3_init_47 : decode cX3_init 47 = .ok (.aload_n 0, 1) := dk_42 (dk_at dksX3_init_2 0 rfl rfl)
theorem dX3_init_48 : decode cX3_init 48 = .ok (.bipush 16, 2) := dk_16 16 (dk_at dksX3_init_2 1 rfl rfl)
theorem dX3_init_50 : decode cX3_init 50 = .ok (.newarray .int, 2) := dk_188_10 (dk_at dksX3_init_2 3 rfl rfl)
theorem dX3_init_52 : decode cX3_init 52 = .ok (.putfield 25, 3) := dk_181 0 25 (dk_at dksX3_init_2 5 rfl rfl)
theorem dX3_init_55 : decode cX3_init 55 = .ok (.aload_n 0, 1) := dk_42 (dk_at dksX3_init_2 8 rfl rfl)
theorem dX3_init_56 : decode cX3_init 56 = .ok (.bipush 16, 2) := dk_16 16 (dk_at dksX3_init_2 9 rfl rfl)
theorem dX3_init_58 : decode cX3_init 58 = .ok (.newarray .int, 2) := dk_188_10 (dk_at dksX3_init_2 11 rfl rfl)
theorem dX3_init_60 : decode cX3_init 60 = .ok (.putfield 28, 3) := dk_181 0 28 (dk_at dksX3_init_2 13 rfl rfl)
theorem dX3_init_63 : decode cX3_init 63 = .ok (.aload_n 0, 1) := dk_42 (dk_at dksX3_init_2 16 rfl rfl)
theorem dX3_init_64 : decode cX3_init 64 = .ok (.bipush 16, 2) := dk_16 16 (dk_at dksX3_init_2 17 rfl rfl)
theorem dX3_init_66 : decode cX3_init 66 = .ok (.newarray .int, 2) := dk_188_10 (dk_at dksX3_init_2 19 rfl rfl)
theorem dX3_init_68 : decode cX3_init 68 = .ok (.putfield 31, 3) := dk_181 0 31 (dk_at dksX3_init_2 21 rfl rfl)
theorem dX3_init_71 : decode cX3_init 71 = .ok (.aload_n 0, 1) := dk_42 (dk_at dksX3_init_3 0 rfl rfl)
theorem dX3_init_72 : decode cX3_init 72 = .ok (.bipush 16, 2) := dk_16 16 (dk_at dksX3_init_3 1 rfl rfl)
theorem dX3_init_74 : decode cX3_init 74 = .ok (.newarray .int, 2) := dk_188_10 (dk_at dksX3_init_3 3 rfl rfl)
theorem dX3_init_76 : decode cX3_init 76 = .ok (.putfield 34, 3) := dk_181 0 34 (dk_at dksX3_init_3 5 rfl rfl)
theorem dX3_init_79 : decode cX3_init 79 = .ok (.aload_n 0, 1) := dk_42 (dk_at dksX3_init_3 8 rfl rfl)
theorem dX3_init_80 : decode cX3_init 80 = .ok (.bipush 16, 2) := dk_16 16 (dk_at dksX3_init_3 9 rfl rfl)
theorem dX3_init_82 : decode cX3_init 82 = .ok (.newarray .int, 2) := dk_188_10 (dk_at dksX3_init_3 11 rfl rfl)
theorem dX3_init_84 : decode cX3_init 84 = .ok (.putfield 37, 3) := dk_181 0 37 (dk_at dksX3_init_3 13 rfl rfl)
theorem dX3_init_87 : decode cX3_init 87 = .ok (.aload_n 0, 1) := dk_42 (dk_at dksX3_init_3 16 rfl rfl)
theorem dX3_init_88 : decode cX3_init 88 = .ok (.bipush 16, 2) := dk_16 16 (dk_at dksX3_init_3 17 rfl rfl)
theorem dX3_init_90 : decode cX3_init 90 = .ok (.newarray .int, 2) := dk_188_10 (dk_at dksX3_init_3 19 rfl rfl)
theorem dX3_init_92 : decode cX3_init 92 = .ok (.putfield 40, 3) := dk_181 0 40 (dk_at dksX3_init_3 21 rfl rfl)
theorem dX3_init_95 : decode cX3_init 95 = .ok (.aload_n 0, 1) := dk_42 (dk_at dksX3_init_4 0 rfl rfl)
theorem dX3_init_96 : decode cX3_init 96 = .ok (.bipush 16, 2) := dk_16 16 (dk_at dksX3_init_4 1 rfl rfl)
theorem dX3_init_98 : decode cX3_init 98 = .ok (.newarray .int, 2) := dk_188_10 (dk_at dksX3_init_4 3 rfl rfl)
theorem dX3_init_100 : decode cX3_init 100 = .ok (.putfield 43, 3) := dk_181 0 43 (dk_at dksX3_init_4 5 rfl rfl)
theorem dX3_init_103 : decode cX3_init 103 = .ok (.aload_n 0, 1) := dk_42 (dk_at dksX3_init_4 8 rfl rfl)
theorem dX3_init_104 : decode cX3_init 104 = .ok (.iconst 4, 1) := dk_7 (dk_at dksX3_init_4 9 rfl rfl)
theorem dX3_init_105 : decode cX3_init 105 = .ok (.newarray .int, 2) := dk_188_10 (dk_at dksX3_init_4 10 rfl rfl)
theorem dX3_init_107 : decode cX3_init 107 = .ok (.putfield 46, 3) := dk_181 0 46 (dk_at dksX3_init_4 12 rfl rfl)
theorem dX3_init_110 : decode cX3_init 110 = .ok (.aload_n 0, 1) := dk_42 (dk_at dksX3_init_4 15 rfl rfl)
theorem dX3_init_111 : decode cX3_init 111 = .ok (.bipush 16, 2) := dk_16 16 (dk_at dksX3_init_4 16 rfl rfl)
theorem dX3_init_113 : decode cX3_init 113 = .ok (.newarray .int, 2) := dk_188_10 (dk_at dksX3_init_4 18 rfl rfl)
theorem dX3_init_115 : decode cX3_init 115 = .ok (.putfield 49, 3) := dk_181 0 49 (dk_at dksX3_init_4 20 rfl rfl)
theorem dX3_init_118 : decode cX3_init 118 = .ok (.aload_n 0, 1) := dk_42 (dk_at dksX3_init_4 23 rfl rfl)
theorem dX3_init_119 : decode cX3_init 119 = .ok (.bipush 32, 2) := dk_16 32 (dk_at dksX3_init_5 0 rfl rfl)
theorem dX3_init_121 : decode cX3_init 121 = .ok (.newarray .int, 2) := dk_188_10 (dk_at dksX3_init_5 2 rfl rfl)
theorem dX3_init_123 : decode cX3_init 123 = .ok (.putfield 52, 3) := dk_181 0 52 (dk_at dksX3_init_5 4 rfl rfl)
theorem dX3_init_126 : decode cX3_init 126 = .ok (.aload_n 0, 1) := dk_42 (dk_at dksX3_init_5 7 rfl rfl)
theorem dX3_init_127 : decode cX3_init 127 = .ok (.bipush 12, 2) := dk_16 12 (dk_at dksX3_init_5 8 rfl rfl)
theorem dX3_init_129 : decode cX3_init 129 = .ok (.newarray .int, 2) := dk_188_10 (dk_at dksX3_init_5 10 rfl rfl)
theorem dX3_init_131 : decode cX3_init 131 = .ok (.putfield 55, 3) := dk_181 0 55 (dk_at dksX3_init_5 12 rfl rfl)
theorem dX3_init_134 : decode cX3_init 134 = .ok (.aload_n 0, 1) := dk_42 (dk_at dksX3_init_5 15 rfl rfl)
theorem dX3_init_135 : decode cX3_init 135 = .ok (.getfield 7, 3) := dk_180 0 7 (dk_at dksX3_init_5 16 rfl rfl)
theorem dX3_init_138 : decode cX3_init 138 = .ok (.iconst 0, 1) := dk_3 (dk_at dksX3_init_5 19 rfl rfl)
theorem dX3_init_139 : decode cX3_init 139 = .ok (.iconst 2, 1) := dk_5 (dk_at dksX3_init_5 20 rfl rfl)
theorem dX3_init_140 : decode cX3_init 140 = .ok (.iastore, 1) := dk_79 (dk_at dksX3_init_5 21 rfl rfl)
theorem dX3_init_141 : decode cX3_init 141 = .ok (.aload_n 0, 1) := dk_42 (dk_at dksX3_init_5 22 rfl rfl)
theorem dX3_init_142 : decode cX3_init 142 = .ok (.getfield 7, 3) := dk_180 0 7 (dk_at dksX3_init_6 0 rfl rfl)
theorem dX3_init_145 : decode cX3_init 145 = .ok (.iconst 1, 1) := dk_4 (dk_at dksX3_init_6 3 rfl rfl)
theorem dX3_init_146 : decode cX3_init 146 = .ok (.iconst 4, 1) := dk_7 (dk_at dksX3_init_6 4 rfl rfl)
theorem dX3_init_147 : decode cX3_init 147 = .ok (.iastore, 1) := dk_79 (dk_at dksX3_init_6 5 rfl rfl)
theorem dX3_init_148 : decode cX3_init 148 = .ok (.aload_n 0, 1) := dk_42 (dk_at dksX3_init_6 6 rfl rfl)
theorem dX3_init_149 : decode cX3_init 149 = .ok (.getfield 7, 3) := dk_180 0 7 (dk_at dksX3_init_6 7 rfl rfl)
theorem dX3_init_152 : decode cX3_init 152 = .ok (.bipush 10, 2) := dk_16 10 (dk_at dksX3_init_6 10 rfl rfl)
theorem dX3_init_154 : decode cX3_init 154 = .ok (.iconst 4, 1) := dk_7 (dk_at dksX3_init_6 12 rfl rfl)
theorem dX3_init_155 : decode cX3_init 155 = .ok (.iastore, 1) := dk_79 (dk_at dksX3_init_6 13 rfl rfl)
theorem dX3_init_156 : decode cX3_init 156 = .ok (.aload_n 0, 1) := dk_42 (dk_at dksX3_init_6 14 rfl rfl)
theorem dX3_init_157 : decode cX3_init 157 = .ok (.getfield 7, 3) := dk_180 0 7 (dk_at dksX3_init_6 15 rfl rfl)
theorem dX3_init_160 : decode cX3_init 160 = .ok (.bipush 11, 2) := dk_16 11 (dk_at dksX3_init_6 18 rfl rfl)
theorem dX3_init_162 : decode cX3_init 162 = .ok (.iconst 5, 1) := dk_8 (dk_at dksX3_init_6 20 rfl rfl)
theorem dX3_init_163 : decode cX3_init 163 = .ok (.iastore, 1) := dk_79 (dk_at dksX3_init_6 21 rfl rfl)
theorem dX3_init_164 : decode cX3_init 164 = .ok (.aload_n 0, 1) := dk_42 (dk_at dksX3_init_6 22 rfl rfl)
theorem dX3_init_165 : decode cX3_init 165 = .ok (.invokevirtual 58, 3) := dk_182 0 58 (dk_at dksX3_init_7 0 rfl rfl)
theorem dX3_init_168 : decode cX3_init 168 = .ok (.return_, 1) := dk_177 (dk_at dksX3_init_7 3 rfl rfl)
abbrev cX3_noPrint : ByteArray := prog_33_method_5_code
def yX3_noPrint : MethodName := ⟨RX3, "noPrint", "()V"⟩
def dkwX3_noPrint_1 : List UInt8 := [27, 96, 3, 79, 132, 1, 1, 167, 255, 227, 177]
abbrev dktX3_noPrint_1 : List UInt8 := dkwX3_noPrint_1 ++ []
def dkwX3_noPrint_0 : List UInt8 := [3, 60, 27, 16, 32, 162, 0, 29, 42, 180, 0, 7, 16, 90, 27, 96, 2, 79, 42, 180, 0, 7, 16, 122]
abbrev dktX3_noPrint_0 : List UInt8 := dkwX3_noPrint_0 ++ dktX3_noPrint_1
theorem dksX3_noPrint_0 : cX3_noPrint.data.toList.drop 0 = dktX3_noPrint_0 := by decide +kernel
theorem dksX3_noPrint_1 : cX3_noPrint.data.toList.drop 24 = dktX3_noPrint_1 := dk_seg dksX3_noPrint_0 24 rfl rfl
theorem dX3_noPrint_0 : decode cX3_noPrint 0 = .ok (.iconst 0, 1) := dk_3 (dk_at dksX3_noPrint_0 0 rfl rfl)
theorem dX3_noPrint_1 : decode cX3_noPrint 1 = .ok (.istore_n 1, 1) := dk_60 (dk_at dksX3_noPrint_0 1 rfl rfl)
theorem dX3_noPrint_2 : decode cX3_noPrint 2 = .ok (.iload_n 1, 1) := dk_27 (dk_at dksX3_noPrint_0 2 rfl rfl)
theorem dX3_noPrint_3 : decode cX3_noPrint 3 = .ok (.bipush 32, 2) := dk_16 32 (dk_at dksX3_noPrint_0 3 rfl rfl)
theorem dX3_noPrint_5 : decode cX3_noPrint 5 = .ok (.if_icmp .ge 29, 3) := dk_162 0 29 (dk_at dksX3_noPrint_0 5 rfl rfl)
theorem dX3_noPrint_8 : decode cX3_noPrint 8 = .ok (.aload_n 0, 1) := dk_42 (dk_at dksX3_noPrint_0 8 rfl rfl)
theorem dX3_noPrint_9 : decode cX3_noPrint 9 = .ok (.getfield 7, 3) := dk_180 0 7 (dk_at dksX3_noPrint_0 9 rfl rfl)
theorem dX3_noPrint_12 : decode cX3_noPrint 12 = .ok (.bipush 90, 2) := dk_16 90 (dk_at dksX3_noPrint_0 12 rfl rfl)
theorem dX3_noPrint_14 : decode cX3_noPrint 14 = .ok (.iload_n 1, 1) := dk_27 (dk_at dksX3_noPrint_0 14 rfl rfl)
theorem dX3_noPrint_15 : decode cX3_noPrint 15 = .ok (.iadd, 1) := dk_96 (dk_at dksX3_noPrint_0 15 rfl rfl)
theorem dX3_noPrint_16 : decode cX3_noPrint 16 = .ok (.iconst (-1), 1) := dk_2 (dk_at dksX3_noPrint_0 16 rfl rfl)
theorem dX3_noPrint_17 : decode cX3_noPrint 17 = .ok (.iastore, 1) := dk_79 (dk_at dksX3_noPrint_0 17 rfl rfl)
theorem dX3_noPrint_18 : decode cX3_noPrint 18 = .ok (.aload_n 0, 1) := dk_42 (dk_at dksX3_noPrint_0 18 rfl rfl)
theorem dX3_noPrint_19 : decode cX3_noPrint 19 = .ok (.getfield 7, 3) := dk_180 0 7 (dk_at dksX3_noPrint_0 19 rfl rfl)
theorem dX3_noPrint_22 : decode cX3_noPrint 22 = .ok (.bipush 122, 2) := dk_16 122 (dk_at dksX3_noPrint_0 22 rfl rfl)
theorem dX3_noPrint_24 : decode cX3_noPrint 24 = .ok (.iload_n 1, 1) := dk_27 (dk_at dksX3_noPrint_1 0 rfl rfl)
theorem dX3_noPrint_25 : decode cX3_noPrint 25 = .ok (.iadd, 1) := dk_96 (dk_at dksX3_noPrint_1 1 rfl rfl)
theorem dX3_noPrint_26 : decode cX3_noPrint 26 = .ok (.iconst 0, 1) := dk_3 (dk_at dksX3_noPrint_1 2 rfl rfl)
theorem dX3_noPrint_27 : decode cX3_noPrint 27 = .ok (.iastore, 1) := dk_79 (dk_at dksX3_noPrint_1 3 rfl rfl)
theorem dX3_noPrint_28 : decode cX3_noPrint 28 = .ok (.iinc 1 1, 3) := dk_132 1 1 (dk_at dksX3_noPrint_1 4 rfl rfl)
theorem dX3_noPrint_31 : decode cX3_noPrint 31 = .ok (.goto (-29), 3) := dk_167 255 227 (dk_at dksX3_noPrint_1 7 rfl rfl)
theorem dX3_noPrint_34 : decode cX3_noPrint 34 = .ok (.return_, 1) := dk_177 (dk_at dksX3_noPrint_1 10 rfl rfl)
abbrev cX3_setSheet : ByteArray := prog_33_method_27_code
def yX3_setSheet : MethodName := ⟨RX3, "setSheet", "(II)I"⟩
def dkwX3_setSheet_3 : List UInt8 := [172]
abbrev dktX3_setSheet_3 : List UInt8 := dkwX3_setSheet_3 ++ []
def dkwX3_setSheet_2 : List UInt8 := [79, 42, 180, 0, 7, 16, 9, 3, 79, 42, 180, 0, 7, 16, 12, 3, 79, 42, 182, 0, 58, 27, 28, 104]
abbrev dktX3_setSheet_2 : List UInt8 := dkwX3_setSheet_2 ++ dktX3_setSheet_3
def dkwX3_setSheet_1 : List UInt8 := [3, 27, 79, 42, 180, 0, 7, 4, 28, 79, 42, 180, 0, 7, 5, 3, 79, 42, 180, 0, 7, 16, 8, 3]
abbrev dktX3_setSheet_1 : List UInt8 := dkwX3_setSheet_1 ++ dktX3_setSheet_2
def dkwX3_setSheet_0 : List UInt8 := [27, 184, 0, 136, 153, 0, 10, 28, 184, 0, 136, 154, 0, 5, 2, 172, 42, 182, 0, 139, 42, 180, 0, 7]
abbrev dktX3_setSheet_0 : List UInt8 := dkwX3_setSheet_0 ++ dktX3_setSheet_1
theorem dksX3_setSheet_0 : cX3_setSheet.data.toList.drop 0 = dktX3_setSheet_0 := by decide +kernel
theorem dksX3_setSheet_1 : cX3_setSheet.data.toList.drop 24 = dktX3_setSheet_1 := dk_seg dksX3_setSheet_0 24 rfl rfl
theorem dksX3_setSheet_2 : cX3_setSheet.data.toList.drop 48 = dktX3_setSheet_2 := dk_seg dksX3_setSheet_1 24 rfl rfl
theorem dksX3_setSheet_3 : cX3_setSheet.data.toList.drop 72 = dktX3_setSheet_3 := dk_seg dksX3_setSheet_2 24 rfl rfl
theorem dX3_setSheet_0 : decode cX3_setSheet 0 = .ok (.iload_n 1, 1) := dk_27 (dk_at dksX3_setSheet_0 0 rfl rfl)
theorem dX3_setSheet_1 : decode cX3_setSheet 1 = .ok (.invokestatic 136, 3) := dk_184 0 136 (dk_at dksX3_setSheet_0 1 rfl rfl)
theorem dX3_setSheet_4 : decode cX3_setSheet 4 = .ok (.ifCond .eq 10, 3) := dk_153 0 10 (dk_at dksX3_setSheet_0 4 rfl rfl)
theorem dX3_setSheet_7 : decode cX3_setSheet 7 = .ok (.iload_n 2, 1) := dk_28 (dk_at dksX3_setSheet_0 7 rfl rfl)
theorem dX3_setSheet_8 : decode cX3_setSheet 8 = .ok (.invokestatic 136, 3) := dk_184 0 136 (dk_at dksX3_setSheet_0 8 rfl rfl)
theorem dX3_setSheet_11 : decode cX3_setSheet 11 = .ok (.ifCond .ne 5, 3) := dk_154 0 5 (dk_at dksX3_setSheet_0 11 rfl rfl)
theorem dX3_setSheet_14 : decode cX3_setSheet 14 = .ok (.iconst (-1), 1) := dk_2 (dk_at dksX3_setSheet_0 14 rfl rfl)
theorem dX3_setSheet_15 : decode cX3_setSheet 15 = .ok (.ireturn, 1) := dk_172 (dk_at dksX3_setSheet_0 15 rfl rfl)
theorem dX3_setSheet_16 : decode cX3_setSheet 16 = .ok (.aload_n 0, 1) := dk_42 (dk_at dksX3_setSheet_0 16 rfl rfl)
theorem dX3_setSheet_17 : decode cX3_setSheet 17 = .ok (.invokevirtual 139, 3) := dk_182 0 139 (dk_at dksX3_setSheet_0 17 rfl rfl)
theorem dX3_setSheet_20 : decode cX3_setSheet 20 = .ok (.aload_n 0, 1) := dk_42 (dk_at dksX3_setSheet_0 20 rfl rfl)
theorem dX3_setSheet_21 : decode cX3_setSheet 21 = .ok (.getfield 7, 3) := dk_180 0 7 (dk_at dksX3_setSheet_0 21 rfl rfl)
theorem dX3_setSheet_24 : decode cX3_setSheet 24 = .ok (.iconst 0, 1) := dk_3 (dk_at dksX3_setSheet_1 0 rfl rfl)
theorem dX3_setSheet_25 : decode cX3_setSheet 25 = .ok (.iload_n 1, 1) := dk_27 (dk_at dksX3_setSheet_1 1 rfl rfl)
theorem dX3_setSheet_26 : decode cX3_setSheet 26 = .ok (.iastore, 1) := dk_79 (dk_at dksX3_setSheet_1 2 rfl rfl)
theorem dX3_setSheet_27 : decode cX3_setSheet 27 = .ok (.aload_n 0, 1) := dk_42 (dk_at dksX3_setSheet_1 3 rfl rfl)
theorem dX3_setSheet_28 : decode cX3_setSheet 28 = .ok (.getfield 7, 3) := dk_180 0 7 (dk_at dksX3_setSheet_1 4 rfl rfl)
theorem dX3_setSheet_31 : decode cX3_setSheet 31 = .ok (.iconst 1, 1) := dk_4 (dk_at dksX3_setSheet_1 7 rfl rfl)
theorem dX3_setSheet_32 : decode cX3_setSheet 32 = .ok (.iload_n 2, 1) := dk_28 (dk_at dksX3_setSheet_1 8 rfl rfl)
theorem dX3_setSheet_33 : decode cX3_setSheet 33 = .ok (.iastore, 1) := dk_79 (dk_at dksX3_setSheet_1 9 rfl rfl)
theorem dX3_setSheet_34 : decode cX3_setSheet 34 = .ok (.aload_n 0, 1) := dk_42 (dk_at dksX3_setSheet_1 10 rfl rfl)
theorem dX3_setSheet_35 : decode cX3_setSheet 35 = .ok (.getfield 7, 3) := dk_180 0 7 (dk_at dksX3_setSheet_1 11 rfl rfl)
theorem dX3_setSheet_38 : decode cX3_setSheet 38 = .ok (.iconst 2, 1) := dk_5 (dk_at dksX3_setSheet_1 14 rfl rfl)
theorem dX3_setSheet_39 : decode cX3_setSheet 39 = .ok (.iconst 0, 1) := dk_3 (dk_at dksX3_setSheet_1 15 rfl rfl)
theorem dX3_setSheet_40 : decode cX3_setSheet 40 = .ok (.iastore, 1) := dk_79 (dk_at dksX3_setSheet_1 16 rfl rfl)
theorem dX3_setSheet_41 : decode cX3_setSheet 41 = .ok (.aload_n 0, 1) := dk_42 (dk_at dksX3_setSheet_1 17 rfl rfl)
theorem dX3_setSheet_42 : decode cX3_setSheet 42 = .ok (.getfield 7, 3) := dk_180 0 7 (dk_at dksX3_setSheet_1 18 rfl rfl)
theorem dX3_setSheet_45 : decode cX3_setSheet 45 = .ok (.bipush 8, 2) := dk_16 8 (dk_at dksX3_setSheet_1 21 rfl rfl)
theorem dX3_setSheet_47 : decode cX3_setSheet 47 = .ok (.iconst 0, 1) := dk_3 (dk_at dksX3_setSheet_1 23 rfl rfl)
theorem dX3_setSheet_48 : decode cX3_setSheet 48 = .ok (.iastore, 1) := dk_79 (dk_at dksX3_setSheet_2 0 rfl rfl)
theorem dX3_setSheet_49 : decode cX3_setSheet 49 = .ok (.aload_n 0, 1) := dk_42 (dk_at dksX3_setSheet_2 1 rfl rfl)
theorem dX3_setSheet_50 : decode cX3_setSheet 50 = .ok (.getfield 7, 3) := dk_180 0 7 (dk_at dksX3_setSheet_2 2 rfl rfl)
theorem dX3_setSheet_53 : decode cX3_setSheet 53 = .ok (.bipush 9, 2) := dk_16 9 (dk_at dksX3_setSheet_2 5 rfl rfl)
theorem dX3_setSheet_55 : decode cX3_setSheet 55 = .ok (.iconst 0, 1) := dk_3 (dk_at dksX3_setSheet_2 7 rfl rfl)
theorem dX3_setSheet_56 : decode cX3_setSheet 56 = .ok (.iastore, 1) := dk_79 (dk_at dksX3_setSheet_2 8 rfl rfl)
theorem dX3_setSheet_57 : decode cX3_setSheet 57 = .ok (.aload_n 0, 1) := dk_42 (dk_at dksX3_setSheet_2 9 rfl rfl)
theorem dX3_setSheet_58 : decode cX3_setSheet 58 = .ok (.getfield 7, 3) := dk_180 0 7 (dk_at dksX3_setSheet_2 10 rfl rfl)
theorem dX3_setSheet_61 : decode cX3_setSheet 61 = .ok (.bipush 12, 2) := dk_16 12 (dk_at dksX3_setSheet_2 13 rfl rfl)
theorem dX3_setSheet_63 : decode cX3_setSheet 63 = .ok (.iconst 0, 1) := dk_3 (dk_at dksX3_setSheet_2 15 rfl rfl)
theorem dX3_setSheet_64 : decode cX3_setSheet 64 = .ok (.iastore, 1) := dk_79 (dk_at dksX3_setSheet_2 16 rfl rfl)
theorem dX3_setSheet_65 : decode cX3_setSheet 65 = .ok (.aload_n 0, 1) := dk_42 (dk_at dksX3_setSheet_2 17 rfl rfl)
theorem dX3_setSheet_66 : decode cX3_setSheet 66 = .ok (.invokevirtual 58, 3) := dk_182 0 58 (dk_at dksX3_setSheet_2 18 rfl rfl)
theorem dX3_setSheet_69 : decode cX3_setSheet 69 = .ok (.iload_n 1, 1) := dk_27 (dk_at dksX3_setSheet_2 21 rfl rfl)
theorem dX3_setSheet_70 : decode cX3_setSheet 70 = .ok (.iload_n 2, 1) := dk_28 (dk_at dksX3_setSheet_2 22 rfl rfl)
theorem dX3_setSheet_71 : decode cX3_setSheet 71 = .ok (.imul, 1) := dk_104 (dk_at dksX3_setSheet_2 23 rfl rfl)
theorem dX3_setSheet_72 : decode cX3_setSheet 72 = .ok (.ireturn, 1) := dk_172 (dk_at dksX3_setSheet_3 0 rfl rfl)
abbrev cX3_isSide : ByteArray := prog_33_method_26_code
def yX3_isSide : MethodName := ⟨RX3, "isSide", "(I)Z"⟩
def dkwX3_isSide_0 : List UInt8 := [26, 4, 159, 0, 13, 26, 5, 159, 0, 8, 26, 7, 160, 0, 7, 4, 167, 0, 4, 3, 172]
abbrev dktX3_isSide_0 : List UInt8 := dkwX3_isSide_0 ++ []
theorem dksX3_isSide_0 : cX3_isSide.data.toList.drop 0 = dktX3_isSide_0 := by decide +kernel
theorem dX3_isSide_0 : decode cX3_isSide 0 = .ok (.iload_n 0, 1) := dk_26 (dk_at dksX3_isSide_0 0 rfl rfl)
theorem dX3_isSide_1 : decode cX3_isSide 1 = .ok (.iconst 1, 1) := dk_4 (dk_at dksX3_isSide_0 1 rfl rfl)
theorem dX3_isSide_2 : decode cX3_isSide 2 = .ok (.if_icmp .eq 13, 3) := dk_159 0 13 (dk_at dksX3_isSide_0 2 rfl rfl)
theorem dX3_isSide_5 : decode cX3_isSide 5 = .ok (.iload_n 0, 1) := dk_26 (dk_at dksX3_isSide_0 5 rfl rfl)
theorem dX3_isSide_6 : decode cX3_isSide 6 = .ok (.iconst 2, 1) := dk_5 (dk_at dksX3_isSide_0 6 rfl rfl)
theorem dX3_isSide_7 : decode cX3_isSide 7 = .ok (.if_icmp .eq 8, 3) := dk_159 0 8 (dk_at dksX3_isSide_0 7 rfl rfl)
theorem dX3_isSide_10 : decode cX3_isSide 10 = .ok (.iload_n 0, 1) := dk_26 (dk_at dksX3_isSide_0 10 rfl rfl)
theorem dX3_isSide_11 : decode cX3_isSide 11 = .ok (.iconst 4, 1) := dk_7 (dk_at dksX3_isSide_0 11 rfl rfl)
theorem dX3_isSide_12 : decode cX3_isSide 12 = .ok (.if_icmp .ne 7, 3) := dk_160 0 7 (dk_at dksX3_isSide_0 12 rfl rfl)
theorem dX3_isSide_15 : decode cX3_isSide 15 = .ok (.iconst 1, 1) := dk_4 (dk_at dksX3_isSide_0 15 rfl rfl)
theorem dX3_isSide_16 : decode cX3_isSide 16 = .ok (.goto 4, 3) := dk_167 0 4 (dk_at dksX3_isSide_0 16 rfl rfl)
theorem dX3_isSide_19 : decode cX3_isSide 19 = .ok (.iconst 0, 1) := dk_3 (dk_at dksX3_isSide_0 19 rfl rfl)
theorem dX3_isSide_20 : decode cX3_isSide 20 = .ok (.ireturn, 1) := dk_172 (dk_at dksX3_isSide_0 20 rfl rfl)
abbrev cX3_act : ByteArray := prog_33_method_9_code
def yX3_act : MethodName := ⟨RX3, "act", "()V"⟩
def dkwX3_act_0 : List UInt8 := [42, 180, 0, 65, 154, 0, 7, 42, 182, 0, 69, 177]
abbrev dktX3_act_0 : List UInt8 := dkwX3_act_0 ++ []
theorem dksX3_act_0 : cX3_act.data.toList.drop 0 = dktX3_act_0 := by decide +kernel
theorem dX3_act_0 : decode cX3_act 0 = .ok (.aload_n 0, 1) := dk_42 (dk_at dksX3_act_0 0 rfl rfl)
theorem dX3_act_1 : decode cX3_act 1 = .ok (.getfield 65, 3) := dk_180 0 65 (dk_at dksX3_act_0 1 rfl rfl)
theorem dX3_act_4 : decode cX3_act 4 = .ok (.ifCond .ne 7, 3) := dk_154 0 7 (dk_at dksX3_act_0 4 rfl rfl)
theorem dX3_act_7 : decode cX3_act 7 = .ok (.aload_n 0, 1) := dk_42 (dk_at dksX3_act_0 7 rfl rfl)
theorem dX3_act_8 : decode cX3_act 8 = .ok (.invokevirtual 69, 3) := dk_182 0 69 (dk_at dksX3_act_0 8 rfl rfl)
theorem dX3_act_11 : decode cX3_act 11 = .ok (.return_, 1) := dk_177 (dk_at dksX3_act_0 11 rfl rfl)
abbrev cX3_record : ByteArray := prog_33_method_8_code
def yX3_record : MethodName := ⟨RX3, "record", "()V"⟩
def dkwX3_record_4 : List UInt8 := [181, 0, 61, 177]
abbrev dktX3_record_4 : List UInt8 := dkwX3_record_4 ++ []
def dkwX3_record_3 : List UInt8 := [27, 96, 42, 180, 0, 7, 27, 46, 79, 132, 1, 1, 167, 255, 225, 42, 89, 180, 0, 61, 4, 96]
abbrev dktX3_record_3 : List UInt8 := dkwX3_record_3 ++ dktX3_record_4
def dkwX3_record_2 : List UInt8 := [181, 0, 61, 3, 60, 27, 17, 1, 208, 162, 0, 30, 42, 180, 0, 13, 17, 1, 208, 42, 180, 0, 61, 104]
abbrev dktX3_record_2 : List UInt8 := dkwX3_record_2 ++ dktX3_record_3
def dkwX3_record_1 : List UInt8 := [180, 0, 13, 17, 1, 208, 27, 96, 46, 79, 132, 1, 1, 167, 255, 230, 42, 89, 180, 0, 61, 4, 100]
abbrev dktX3_record_1 : List UInt8 := dkwX3_record_1 ++ dktX3_record_2
def dkwX3_record_0 : List UInt8 := [42, 180, 0, 61, 8, 160, 0, 44, 3, 60, 27, 17, 7, 64, 162, 0, 25, 42, 180, 0, 13, 27, 42]
abbrev dktX3_record_0 : List UInt8 := dkwX3_record_0 ++ dktX3_record_1
theorem dksX3_record_0 : cX3_record.data.toList.drop 0 = dktX3_record_0 := by decide +kernel
theorem dksX3_record_1 : cX3_record.data.toList.drop 23 = dktX3_record_1 := dk_seg dksX3_record_0 23 rfl rfl
theorem dksX3_record_2 : cX3_record.data.toList.drop 46 = dktX3_record_2 := dk_seg dksX3_record_1 23 rfl rfl
theorem dksX3_record_3 : cX3_record.data.toList.drop 70 = dktX3_record_3 := dk_seg dksX3_record_2 24 rfl rfl
theorem dksX3_record_4 : cX3_record.data.toList.drop 92 = dktX3_record_4 := dk_seg dksX3_record_3 22 rfl rfl
theorem dX3_record_0 : decode cX3_record 0 = .ok (.aload_n 0, 1) := dk_42 (dk_at dksX3_record_0 0 rfl rfl)
theorem dX3_record_1 : decode cX3_record 1 = .ok (.getfield 61, 3) := dk_180 0 61 (dk_at dksX3_record_0 1 rfl rfl)
theorem dX3_record_4 : decode cX3_record 4 = .ok (.iconst 5, 1) := dk_8 (dk_at dksX3_record_0 4 rfl rfl)
theorem dX3_record_5 : decode cX3_record 5 = .ok (.if_icmp .ne 44, 3) := dk_160 0 44 (dk_at dksX3_record_0 5 rfl rfl)
theorem dX3_record_8 : decode cX3_record 8 = .ok (.iconst 0, 1) := dk_3 (dk_at dksX3_record_0 8 rfl rfl)
theorem dX3_record_9 : decode cX3_record 9 = .ok (.istore_n 1, 1) := dk_60 (dk_at dksX3_record_0 9 rfl rfl)
theorem dX3_record_10 : decode cX3_record 10 = .ok (.iload_n 1, 1) := dk_27 (dk_at dksX3_record_0 10 rfl rfl)
theorem dX3_record_11 : decode cX3_record 11 = .ok (.sipush 1856, 3) := dk_17 7 64 (dk_at dksX3_record_0 11 rfl rfl)
theorem dX3_record_14 : decode cX3_record 14 = .ok (.if_icmp .ge 25, 3) := dk_162 0 25 (dk_at dksX3_record_0 14 rfl rfl)
theorem dX3_record_17 : decode cX3_record 17 = .ok (.aload_n 0, 1) := dk_42 (dk_at dksX3_record_0 17 rfl rfl)
theorem dX3_record_18 : decode cX3_record 18 = .ok (.getfield 13, 3) := dk_180 0 13 (dk_at dksX3_record_0 18 rfl rfl)
theorem dX3_record_21 : decode cX3_record 21 = .ok (.iload_n 1, 1) := dk_27 (dk_at dksX3_record_0 21 rfl rfl)
theorem dX3_record_22 : decode cX3_record 22 = .ok (.aload_n 0, 1) := dk_42 (dk_at dksX3_record_0 22 rfl rfl)
theorem dX3_record_23 : decode cX3_record 23 = .ok (.getfield 13, 3) := dk_180 0 13 (dk_at dksX3_record_1 0 rfl rfl)
theorem dX3_record_26 : decode cX3_record 26 = .ok (.sipush 464, 3) := dk_17 1 208 (dk_at dksX3_record_1 3 rfl rfl)
theorem dX3_record_29 : decode cX3_record 29 = .ok (.iload_n 1, 1) := dk_27 (dk_at dksX3_record_1 6 rfl rfl)
theorem dX3_record_30 : decode cX3_record 30 = .ok (.iadd, 1) := dk_96 (dk_at dksX3_record_1 7 rfl rfl)
theorem dX3_record_31 : decode cX3_record 31 = .ok (.iaload, 1) := dk_46 (dk_at dksX3_record_1 8 rfl rfl)
theorem dX3_record_32 : decode cX3_record 32 = .ok (.iastore, 1) := dk_79 (dk_at dksX3_record_1 9 rfl rfl)
theorem dX3_record_33 : decode cX3_record 33 = .ok (.iinc 1 1, 3) := dk_132 1 1 (dk_at dksX3_record_1 10 rfl rfl)
theorem dX3_record_36 : decode cX3_record 36 = .ok (.goto (-26), 3) := dk_167 255 230 (dk_at dksX3_record_1 13 rfl rfl)
theorem dX3_record_39 : decode cX3_record 39 = .ok (.aload_n 0, 1) := dk_42 (dk_at dksX3_record_1 16 rfl rfl)
theorem dX3_record_40 : decode cX3_record 40 = .ok (.dup, 1) := dk_89 (dk_at dksX3_record_1 17 rfl rfl)
theorem dX3_record_41 : decode cX3_record 41 = .ok (.getfield 61, 3) := dk_180 0 61 (dk_at dksX3_record_1 18 rfl rfl)
theorem dX3_record_44 : decode cX3_record 44 = .ok (.iconst 1, 1) := dk_4 (dk_at dksX3_record_1 21 rfl rfl)
theorem dX3_record_45 : decode cX3_record 45 = .ok (.isub, 1) := dk_100 (dk_at dksX3_record_1 22 rfl rfl)
theorem dX3_record_46 : decode cX3_record 46 = .ok (.putfield 61, 3) := dk_181 0 61 (dk_at dksX3_record_2 0 rfl rfl)
theorem dX3_record_49 : decode cX3_record 49 = .ok (.iconst 0, 1) := dk_3 (dk_at dksX3_record_2 3 rfl rfl)
theorem dX3_record_50 : decode cX3_record 50 = .ok (.istore_n 1, 1) := dk_60 (dk_at dksX3_record_2 4 rfl rfl)
theorem dX3_record_51 : decode cX3_record 51 = .ok (.iload_n 1, 1) := dk_27 (dk_at dksX3_record_2 5 rfl rfl)
theorem dX3_record_52 : decode cX3_record 52 = .ok (.sipush 464, 3) := dk_17 1 208 (dk_at dksX3_record_2 6 rfl rfl)
theorem dX3_record_55 : decode cX3_record 55 = .ok (.if_icmp .ge 30, 3) := dk_162 0 30 (dk_at dksX3_record_2 9 rfl rfl)
theorem dX3_record_58 : decode cX3_record 58 = .ok (.aload_n 0, 1) := dk_42 (dk_at dksX3_record_2 12 rfl rfl)
theorem dX3_record_59 : decode cX3_record 59 = .ok (.getfield 13, 3) := dk_180 0 13 (dk_at dksX3_record_2 13 rfl rfl)
theorem dX3_record_62 : decode cX3_record 62 = .ok (.sipush 464, 3) := dk_17 1 208 (dk_at dksX3_record_2 16 rfl rfl)
theorem dX3_record_65 : decode cX3_record 65 = .ok (.aload_n 0, 1) := dk_42 (dk_at dksX3_record_2 19 rfl rfl)
theorem dX3_record_66 : decode cX3_record 66 = .ok (.getfield 61, 3) := dk_180 0 61 (dk_at dksX3_record_2 20 rfl rfl)
theorem dX3_record_69 : decode cX3_record 69 = .ok (.imul, 1) := dk_104 (dk_at dksX3_record_2 23 rfl rfl)
theorem dX3_record_70 : decode cX3_record 70 = .ok (.iload_n 1, 1) := dk_27 (dk_at dksX3_record_3 0 rfl rfl)
theorem dX3_record_71 : decode cX3_record 71 = .ok (.iadd, 1) := dk_96 (dk_at dksX3_record_3 1 rfl rfl)
theorem dX3_record_72 : decode cX3_record 72 = .ok (.aload_n 0, 1) := dk_42 (dk_at dksX3_record_3 2 rfl rfl)
theorem dX3_record_73 : decode cX3_record 73 = .ok (.getfield 7, 3) := dk_180 0 7 (dk_at dksX3_record_3 3 rfl rfl)
theorem dX3_record_76 : decode cX3_record 76 = .ok (.iload_n 1, 1) := dk_27 (dk_at dksX3_record_3 6 rfl rfl)
theorem dX3_record_77 : decode cX3_record 77 = .ok (.iaload, 1) := dk_46 (dk_at dksX3_record_3 7 rfl rfl)
theorem dX3_record_78 : decode cX3_record 78 = .ok (.iastore, 1) := dk_79 (dk_at dksX3_record_3 8 rfl rfl)
theorem dX3_record_79 : decode cX3_record 79 = .ok (.iinc 1 1, 3) := dk_132 1 1 (dk_at dksX3_record_3 9 rfl rfl)
theorem dX3_record_82 : decode cX3_record 82 = .ok (.goto (-31), 3) := dk_167 255 225 (dk_at dksX3_record_3 12 rfl rfl)
theorem dX3_record_85 : decode cX3_record 85 = .ok (.aload_n 0, 1) := dk_42 (dk_at dksX3_record_3 15 rfl rfl)
theorem dX3_record_86 : decode cX3_record 86 = .ok (.dup, 1) := dk_89 (dk_at dksX3_record_3 16 rfl rfl)
theorem dX3_record_87 : decode cX3_record 87 = .ok (.getfield 61, 3) := dk_180 0 61 (dk_at dksX3_record_3 17 rfl rfl)
theorem dX3_record_90 : decode cX3_record 90 = .ok (.iconst 1, 1) := dk_4 (dk_at dksX3_record_3 20 rfl rfl)
theorem dX3_record_91 : decode cX3_record 91 = .ok (.iadd, 1) := dk_96 (dk_at dksX3_record_3 21 rfl rfl)
theorem dX3_record_92 : decode cX3_record 92 = .ok (.putfield 61, 3) := dk_181 0 61 (dk_at dksX3_record_4 0 rfl rfl)
theorem dX3_record_95 : decode cX3_record 95 = .ok (.return_, 1) := dk_177 (dk_at dksX3_record_4 3 rfl rfl)
abbrev cX3_fold : ByteArray := prog_33_method_28_code
def yX3_fold : MethodName := ⟨RX3, "fold", "(I)I"⟩
def dkwX3_fold_3 : List UInt8 := [180, 0, 7, 5, 92, 46, 4, 96, 79, 5, 42, 180, 0, 78, 104, 172]
abbrev dktX3_fold_3 : List UInt8 := dkwX3_fold_3 ++ []
def dkwX3_fold_2 : List UInt8 := [46, 42, 180, 0, 78, 96, 79, 42, 180, 0, 7, 6, 42, 180, 0, 7, 5, 46, 96, 27, 79, 42]
abbrev dktX3_fold_2 : List UInt8 := dkwX3_fold_2 ++ dktX3_fold_3
def dkwX3_fold_1 : List UInt8 := [153, 0, 10, 42, 182, 0, 142, 153, 0, 6, 16, 254, 172, 42, 182, 0, 139, 42, 180, 0, 7, 16, 86, 92]
abbrev dktX3_fold_1 : List UInt8 := dkwX3_fold_1 ++ dktX3_fold_2
def dkwX3_fold_0 : List UInt8 := [27, 133, 10, 20, 0, 99, 184, 0, 101, 154, 0, 5, 2, 172, 42, 182, 0, 92, 42, 27, 182, 0, 105]
abbrev dktX3_fold_0 : List UInt8 := dkwX3_fold_0 ++ dktX3_fold_1
theorem dksX3_fold_0 : cX3_fold.data.toList.drop 0 = dktX3_fold_0 := by decide +kernel
theorem dksX3_fold_1 : cX3_fold.data.toList.drop 23 = dktX3_fold_1 := dk_seg dksX3_fold_0 23 rfl rfl
theorem dksX3_fold_2 : cX3_fold.data.toList.drop 47 = dktX3_fold_2 := dk_seg dksX3_fold_1 24 rfl rfl
theorem dksX3_fold_3 : cX3_fold.data.toList.drop 69 = dktX3_fold_3 := dk_seg dksX3_fold_2 22 rfl rfl
theorem dX3_fold_0 : decode cX3_fold 0 = .ok (.iload_n 1, 1) := dk_27 (dk_at dksX3_fold_0 0 rfl rfl)
theorem dX3_fold_1 : decode cX3_fold 1 = .ok (.i2l, 1) := dk_133 (dk_at dksX3_fold_0 1 rfl rfl)
theorem dX3_fold_2 : decode cX3_fold 2 = .ok (.lconst 1, 1) := dk_10 (dk_at dksX3_fold_0 2 rfl rfl)
theorem dX3_fold_3 : decode cX3_fold 3 = .ok (.ldc2_w 99, 3) := dk_20 0 99 (dk_at dksX3_fold_0 3 rfl rfl)
theorem dX3_fold_6 : decode cX3_fold 6 = .ok (.invokestatic 101, 3) := dk_184 0 101 (dk_at dksX3_fold_0 6 rfl rfl)
theorem dX3_fold_9 : decode cX3_fold 9 = .ok (.ifCond .ne 5, 3) := dk_154 0 5 (dk_at dksX3_fold_0 9 rfl rfl)
theorem dX3_fold_12 : decode cX3_fold 12 = .ok (.iconst (-1), 1) := dk_2 (dk_at dksX3_fold_0 12 rfl rfl)
theorem dX3_fold_13 : decode cX3_fold 13 = .ok (.ireturn, 1) := dk_172 (dk_at dksX3_fold_0 13 rfl rfl)
theorem dX3_fold_14 : decode cX3_fold 14 = .ok (.aload_n 0, 1) := dk_42 (dk_at dksX3_fold_0 14 rfl rfl)
theorem dX3_fold_15 : decode cX3_fold 15 = .ok (.invokevirtual 92, 3) := dk_182 0 92 (dk_at dksX3_fold_0 15 rfl rfl)
theorem dX3_fold_18 : decode cX3_fold 18 = .ok (.aload_n 0, 1) := dk_42 (dk_at dksX3_fold_0 18 rfl rfl)
theorem dX3_fold_19 : decode cX3_fold 19 = .ok (.iload_n 1, 1) := dk_27 (dk_at dksX3_fold_0 19 rfl rfl)
theorem dX3_fold_20 : decode cX3_fold 20 = .ok (.invokevirtual 105, 3) := dk_182 0 105 (dk_at dksX3_fold_0 20 rfl rfl)
theorem dX3_fold_23 : decode cX3_fold 23 = .ok (.ifCond .eq 10, 3) := dk_153 0 10 (dk_at dksX3_fold_1 0 rfl rfl)
theorem dX3_fold_26 : decode cX3_fold 26 = .ok (.aload_n 0, 1) := dk_42 (dk_at dksX3_fold_1 3 rfl rfl)
theorem dX3_fold_27 : decode cX3_fold 27 = .ok (.invokevirtual 142, 3) := dk_182 0 142 (dk_at dksX3_fold_1 4 rfl rfl)
theorem dX3_fold_30 : decode cX3_fold 30 = .ok (.ifCond .eq 6, 3) := dk_153 0 6 (dk_at dksX3_fold_1 7 rfl rfl)
theorem dX3_fold_33 : decode cX3_fold 33 = .ok (.bipush (-2), 2) := dk_16 254 (dk_at dksX3_fold_1 10 rfl rfl)
theorem dX3_fold_35 : decode cX3_fold 35 = .ok (.ireturn, 1) := dk_172 (dk_at dksX3_fold_1 12 rfl rfl)
theorem dX3_fold_36 : decode cX3_fold 36 = .ok (.aload_n 0, 1) := dk_42 (dk_at dksX3_fold_1 13 rfl rfl)
theorem dX3_fold_37 : decode cX3_fold 37 = .ok (.invokevirtual 139, 3) := dk_182 0 139 (dk_at dksX3_fold_1 14 rfl rfl)
theorem dX3_fold_40 : decode cX3_fold 40 = .ok (.aload_n 0, 1) := dk_42 (dk_at dksX3_fold_1 17 rfl rfl)
theorem dX3_fold_41 : decode cX3_fold 41 = .ok (.getfield 7, 3) := dk_180 0 7 (dk_at dksX3_fold_1 18 rfl rfl)
theorem dX3_fold_44 : decode cX3_fold 44 = .ok (.bipush 86, 2) := dk_16 86 (dk_at dksX3_fold_1 21 rfl rfl)
theorem dX3_fold_46 : decode cX3_fold 46 = .ok (.dup2, 1) := dk_92 (dk_at dksX3_fold_1 23 rfl rfl)
theorem dX3_fold_47 : decode cX3_fold 47 = .ok (.iaload, 1) := dk_46 (dk_at dksX3_fold_2 0 rfl rfl)
theorem dX3_fold_48 : decode cX3_fold 48 = .ok (.aload_n 0, 1) := dk_42 (dk_at dksX3_fold_2 1 rfl rfl)
theorem dX3_fold_49 : decode cX3_fold 49 = .ok (.getfield 78, 3) := dk_180 0 78 (dk_at dksX3_fold_2 2 rfl rfl)
theorem dX3_fold_52 : decode cX3_fold 52 = .ok (.iadd, 1) := dk_96 (dk_at dksX3_fold_2 5 rfl rfl)
theorem dX3_fold_53 : decode cX3_fold 53 = .ok (.iastore, 1) := dk_79 (dk_at dksX3_fold_2 6 rfl rfl)
theorem dX3_fold_54 : decode cX3_fold 54 = .ok (.aload_n 0, 1) := dk_42 (dk_at dksX3_fold_2 7 rfl rfl)
theorem dX3_fold_55 : decode cX3_fold 55 = .ok (.getfield 7, 3) := dk_180 0 7 (dk_at dksX3_fold_2 8 rfl rfl)
theorem dX3_fold_58 : decode cX3_fold 58 = .ok (.iconst 3, 1) := dk_6 (dk_at dksX3_fold_2 11 rfl rfl)
theorem dX3_fold_59 : decode cX3_fold 59 = .ok (.aload_n 0, 1) := dk_42 (dk_at dksX3_fold_2 12 rfl rfl)
theorem dX3_fold_60 : decode cX3_fold 60 = .ok (.getfield 7, 3) := dk_180 0 7 (dk_at dksX3_fold_2 13 rfl rfl)
theorem dX3_fold_63 : decode cX3_fold 63 = .ok (.iconst 2, 1) := dk_5 (dk_at dksX3_fold_2 16 rfl rfl)
theorem dX3_fold_64 : decode cX3_fold 64 = .ok (.iaload, 1) := dk_46 (dk_at dksX3_fold_2 17 rfl rfl)
theorem dX3_fold_65 : decode cX3_fold 65 = .ok (.iadd, 1) := dk_96 (dk_at dksX3_fold_2 18 rfl rfl)
theorem dX3_fold_66 : decode cX3_fold 66 = .ok (.iload_n 1, 1) := dk_27 (dk_at dksX3_fold_2 19 rfl rfl)
theorem dX3_fold_67 : decode cX3_fold 67 = .ok (.iastore, 1) := dk_79 (dk_at dksX3_fold_2 20 rfl rfl)
theorem dX3_fold_68 : decode cX3_fold 68 = .ok (.aload_n 0, 1) := dk_42 (dk_at dksX3_fold_2 21 rfl rfl)
theorem dX3_fold_69 : decode cX3_fold 69 = .ok (.getfield 7, 3) := dk_180 0 7 (dk_at dksX3_fold_3 0 rfl rfl)
theorem dX3_fold_72 : decode cX3_fold 72 = .ok (.iconst 2, 1) := dk_5 (dk_at dksX3_fold_3 3 rfl rfl)
theorem dX3_fold_73 : decode cX3_fold 73 = .ok (.dup2, 1) := dk_92 (dk_at dksX3_fold_3 4 rfl rfl)
theorem dX3_fold_74 : decode cX3_fold 74 = .ok (.iaload, 1) := dk_46 (dk_at dksX3_fold_3 5 rfl rfl)
theorem dX3_fold_75 : decode cX3_fold 75 = .ok (.iconst 1, 1) := dk_4 (dk_at dksX3_fold_3 6 rfl rfl)
theorem dX3_fold_76 : decode cX3_fold 76 = .ok (.iadd, 1) := dk_96 (dk_at dksX3_fold_3 7 rfl rfl)
theorem dX3_fold_77 : decode cX3_fold 77 = .ok (.iastore, 1) := dk_79 (dk_at dksX3_fold_3 8 rfl rfl)
theorem dX3_fold_78 : decode cX3_fold 78 = .ok (.iconst 2, 1) := dk_5 (dk_at dksX3_fold_3 9 rfl rfl)
theorem dX3_fold_79 : decode cX3_fold 79 = .ok (.aload_n 0, 1) := dk_42 (dk_at dksX3_fold_3 10 rfl rfl)
theorem dX3_fold_80 : decode cX3_fold 80 = .ok (.getfield 78, 3) := dk_180 0 78 (dk_at dksX3_fold_3 11 rfl rfl)
theorem dX3_fold_83 : decode cX3_fold 83 = .ok (.imul, 1) := dk_104 (dk_at dksX3_fold_3 14 rfl rfl)
theorem dX3_fold_84 : decode cX3_fold 84 = .ok (.ireturn, 1) := dk_172 (dk_at dksX3_fold_3 15 rfl rfl)
abbrev cX3_in : ByteArray := prog_33_method_2_code
def yX3_in : MethodName := ⟨RX3, "in", "(JJJ)Z"⟩
def dkwX3_in_0 : List UInt8 := [30, 32, 148, 155, 0, 14, 30, 22, 4, 148, 157, 0, 7, 4, 167, 0, 4, 3, 172]
abbrev dktX3_in_0 : List UInt8 := dkwX3_in_0 ++ []
theorem dksX3_in_0 : cX3_in.data.toList.drop 0 = dktX3_in_0 := by decide +kernel
theorem dX3_in_0 : decode cX3_in 0 = .ok (.lload_n 0, 1) := dk_30 (dk_at dksX3_in_0 0 rfl rfl)
theorem dX3_in_1 : decode cX3_in 1 = .ok (.lload_n 2, 1) := dk_32 (dk_at dksX3_in_0 1 rfl rfl)
theorem dX3_in_2 : decode cX3_in 2 = .ok (.lcmp, 1) := dk_148 (dk_at dksX3_in_0 2 rfl rfl)
theorem dX3_in_3 : decode cX3_in 3 = .ok (.ifCond .lt 14, 3) := dk_155 0 14 (dk_at dksX3_in_0 3 rfl rfl)
theorem dX3_in_6 : decode cX3_in 6 = .ok (.lload_n 0, 1) := dk_30 (dk_at dksX3_in_0 6 rfl rfl)
theorem dX3_in_7 : decode cX3_in 7 = .ok (.lload 4, 2) := dk_22 4 (dk_at dksX3_in_0 7 rfl rfl)
theorem dX3_in_9 : decode cX3_in 9 = .ok (.lcmp, 1) := dk_148 (dk_at dksX3_in_0 9 rfl rfl)
theorem dX3_in_10 : decode cX3_in 10 = .ok (.ifCond .gt 7, 3) := dk_157 0 7 (dk_at dksX3_in_0 10 rfl rfl)
theorem dX3_in_13 : decode cX3_in 13 = .ok (.iconst 1, 1) := dk_4 (dk_at dksX3_in_0 13 rfl rfl)
theorem dX3_in_14 : decode cX3_in 14 = .ok (.goto 4, 3) := dk_167 0 4 (dk_at dksX3_in_0 14 rfl rfl)
theorem dX3_in_17 : decode cX3_in 17 = .ok (.iconst 0, 1) := dk_3 (dk_at dksX3_in_0 17 rfl rfl)
theorem dX3_in_18 : decode cX3_in 18 = .ok (.ireturn, 1) := dk_172 (dk_at dksX3_in_0 18 rfl rfl)
abbrev cX3_layNow : ByteArray := prog_33_method_14_code
def yX3_layNow : MethodName := ⟨RX3, "layNow", "()V"⟩
def dkwX3_layNow_1 : List UInt8 := [46, 182, 0, 88, 132, 1, 1, 167, 255, 231, 177]
abbrev dktX3_layNow_1 : List UInt8 := dkwX3_layNow_1 ++ []
def dkwX3_layNow_0 : List UInt8 := [42, 182, 0, 85, 3, 60, 27, 42, 180, 0, 7, 5, 46, 162, 0, 21, 42, 42, 180, 0, 7, 6, 27, 96]
abbrev dktX3_layNow_0 : List UInt8 := dkwX3_layNow_0 ++ dktX3_layNow_1
theorem dksX3_layNow_0 : cX3_layNow.data.toList.drop 0 = dktX3_layNow_0 := by decide +kernel
theorem dksX3_layNow_1 : cX3_layNow.data.toList.drop 24 = dktX3_layNow_1 := dk_seg dksX3_layNow_0 24 rfl rfl
theorem dX3_layNow_0 : decode cX3_layNow 0 = .ok (.aload_n 0, 1) := dk_42 (dk_at dksX3_layNow_0 0 rfl rfl)
theorem dX3_layNow_1 : decode cX3_layNow 1 = .ok (.invokevirtual 85, 3) := dk_182 0 85 (dk_at dksX3_layNow_0 1 rfl rfl)
theorem dX3_layNow_4 : decode cX3_layNow 4 = .ok (.iconst 0, 1) := dk_3 (dk_at dksX3_layNow_0 4 rfl rfl)
theorem dX3_layNow_5 : decode cX3_layNow 5 = .ok (.istore_n 1, 1) := dk_60 (dk_at dksX3_layNow_0 5 rfl rfl)
theorem dX3_layNow_6 : decode cX3_layNow 6 = .ok (.iload_n 1, 1) := dk_27 (dk_at dksX3_layNow_0 6 rfl rfl)
theorem dX3_layNow_7 : decode cX3_layNow 7 = .ok (.aload_n 0, 1) := dk_42 (dk_at dksX3_layNow_0 7 rfl rfl)
theorem dX3_layNow_8 : decode cX3_layNow 8 = .ok (.getfield 7, 3) := dk_180 0 7 (dk_at dksX3_layNow_0 8 rfl rfl)
theorem dX3_layNow_11 : decode cX3_layNow 11 = .ok (.iconst 2, 1) := dk_5 (dk_at dksX3_layNow_0 11 rfl rfl)
theorem dX3_layNow_12 : decode cX3_layNow 12 = .ok (.iaload, 1) := dk_46 (dk_at dksX3_layNow_0 12 rfl rfl)
theorem dX3_layNow_13 : decode cX3_layNow 13 = .ok (.if_icmp .ge 21, 3) := dk_162 0 21 (dk_at dksX3_layNow_0 13 rfl rfl)
theorem dX3_layNow_16 : decode cX3_layNow 16 = .ok (.aload_n 0, 1) := dk_42 (dk_at dksX3_layNow_0 16 rfl rfl)
theorem dX3_layNow_17 : decode cX3_layNow 17 = .ok (.aload_n 0, 1) := dk_42 (dk_at dksX3_layNow_0 17 rfl rfl)
theorem dX3_layNow_18 : decode cX3_layNow 18 = .ok (.getfield 7, 3) := dk_180 0 7 (dk_at dksX3_layNow_0 18 rfl rfl)
theorem dX3_layNow_21 : decode cX3_layNow 21 = .ok (.iconst 3, 1) := dk_6 (dk_at dksX3_layNow_0 21 rfl rfl)
theorem dX3_layNow_22 : decode cX3_layNow 22 = .ok (.iload_n 1, 1) := dk_27 (dk_at dksX3_layNow_0 22 rfl rfl)
theorem dX3_layNow_23 : decode cX3_layNow 23 = .ok (.iadd, 1) := dk_96 (dk_at dksX3_layNow_0 23 rfl rfl)
theorem dX3_layNow_24 : decode cX3_layNow 24 = .ok (.iaload, 1) := dk_46 (dk_at dksX3_layNow_1 0 rfl rfl)
theorem dX3_layNow_25 : decode cX3_layNow 25 = .ok (.invokevirtual 88, 3) := dk_182 0 88 (dk_at dksX3_layNow_1 1 rfl rfl)
theorem dX3_layNow_28 : decode cX3_layNow 28 = .ok (.iinc 1 1, 3) := dk_132 1 1 (dk_at dksX3_layNow_1 4 rfl rfl)
theorem dX3_layNow_31 : decode cX3_layNow 31 = .ok (.goto (-25), 3) := dk_167 255 231 (dk_at dksX3_layNow_1 7 rfl rfl)
theorem dX3_layNow_34 : decode cX3_layNow 34 = .ok (.return_, 1) := dk_177 (dk_at dksX3_layNow_1 10 rfl rfl)
abbrev cX3_layOpen : ByteArray := prog_33_method_10_code
def yX3_layOpen : MethodName := ⟨RX3, "layOpen", "()V"⟩
def dkwX3_layOpen_2 : List UInt8 := [79, 42, 180, 0, 28, 27, 3, 79, 42, 180, 0, 31, 27, 3, 79, 132, 1, 1, 167, 255, 219, 177]
abbrev dktX3_layOpen_2 : List UInt8 := dkwX3_layOpen_2 ++ []
def dkwX3_layOpen_1 : List UInt8 := [181, 0, 78, 3, 60, 27, 16, 16, 162, 0, 37, 42, 180, 0, 22, 27, 27, 79, 42, 180, 0, 25, 27, 3]
abbrev dktX3_layOpen_1 : List UInt8 := dkwX3_layOpen_1 ++ dktX3_layOpen_2
def dkwX3_layOpen_0 : List UInt8 := [42, 42, 180, 0, 7, 3, 46, 181, 0, 72, 42, 42, 180, 0, 7, 4, 46, 181, 0, 75, 42, 4]
abbrev dktX3_layOpen_0 : List UInt8 := dkwX3_layOpen_0 ++ dktX3_layOpen_1
theorem dksX3_layOpen_0 : cX3_layOpen.data.toList.drop 0 = dktX3_layOpen_0 := by decide +kernel
theorem dksX3_layOpen_1 : cX3_layOpen.data.toList.drop 22 = dktX3_layOpen_1 := dk_seg dksX3_layOpen_0 22 rfl rfl
theorem dksX3_layOpen_2 : cX3_layOpen.data.toList.drop 46 = dktX3_layOpen_2 := dk_seg dksX3_layOpen_1 24 rfl rfl
theorem dX3_layOpen_0 : decode cX3_layOpen 0 = .ok (.aload_n 0, 1) := dk_42 (dk_at dksX3_layOpen_0 0 rfl rfl)
theorem dX3_layOpen_1 : decode cX3_layOpen 1 = .ok (.aload_n 0, 1) := dk_42 (dk_at dksX3_layOpen_0 1 rfl rfl)
theorem dX3_layOpen_2 : decode cX3_layOpen 2 = .ok (.getfield 7, 3) := dk_180 0 7 (dk_at dksX3_layOpen_0 2 rfl rfl)
theorem dX3_layOpen_5 : decode cX3_layOpen 5 = .ok (.iconst 0, 1) := dk_3 (dk_at dksX3_layOpen_0 5 rfl rfl)
theorem dX3_layOpen_6 : decode cX3_layOpen 6 = .ok (.iaload, 1) := dk_46 (dk_at dksX3_layOpen_0 6 rfl rfl)
theorem dX3_layOpen_7 : decode cX3_layOpen 7 = .ok (.putfield 72, 3) := dk_181 0 72 (dk_at dksX3_layOpen_0 7 rfl rfl)
theorem dX3_layOpen_10 : decode cX3_layOpen 10 = .ok (.aload_n 0, 1) := dk_42 (dk_at dksX3_layOpen_0 10 rfl rfl)
theorem dX3_layOpen_11 : decode cX3_layOpen 11 = .ok (.aload_n 0, 1) := dk_42 (dk_at dksX3_layOpen_0 11 rfl rfl)
theorem dX3_layOpen_12 : decode cX3_layOpen 12 = .ok (.getfield 7, 3) := dk_180 0 7 (dk_at dksX3_layOpen_0 12 rfl rfl)
theorem dX3_layOpen_15 : decode cX3_layOpen 15 = .ok (.iconst 1, 1) := dk_4 (dk_at dksX3_layOpen_0 15 rfl rfl)
theorem dX3_layOpen_16 : decode cX3_layOpen 16 = .ok (.iaload, 1) := dk_46 (dk_at dksX3_layOpen_0 16 rfl rfl)
theorem dX3_layOpen_17 : decode cX3_layOpen 17 = .ok (.putfield 75, 3) := dk_181 0 75 (dk_at dksX3_layOpen_0 17 rfl rfl)
theorem dX3_layOpen_20 : decode cX3_layOpen 20 = .ok (.aload_n 0, 1) := dk_42 (dk_at dksX3_layOpen_0 20 rfl rfl)
theorem dX3_layOpen_21 : decode cX3_layOpen 21 = .ok (.iconst 1, 1) := dk_4 (dk_at dksX3_layOpen_0 21 rfl rfl)
theorem dX3_layOpen_22 : decode cX3_layOpen 22 = .ok (.putfield 78, 3) := dk_181 0 78 (dk_at dksX3_layOpen_1 0 rfl rfl)
theorem dX3_layOpen_25 : decode cX3_layOpen 25 = .ok (.iconst 0, 1) := dk_3 (dk_at dksX3_layOpen_1 3 rfl rfl)
theorem dX3_layOpen_26 : decode cX3_layOpen 26 = .ok (.istore_n 1, 1) := dk_60 (dk_at dksX3_layOpen_1 4 rfl rfl)
theorem dX3_layOpen_27 : decode cX3_layOpen 27 = .ok (.iload_n 1, 1) := dk_27 (dk_at dksX3_layOpen_1 5 rfl rfl)
theorem dX3_layOpen_28 : decode cX3_layOpen 28 = .ok (.bipush 16, 2) := dk_16 16 (dk_at dksX3_layOpen_1 6 rfl rfl)
theorem dX3_layOpen_30 : decode cX3_layOpen 30 = .ok (.if_icmp .ge 37, 3) := dk_162 0 37 (dk_at dksX3_layOpen_1 8 rfl rfl)
theorem dX3_layOpen_33 : decode cX3_layOpen 33 = .ok (.aload_n 0, 1) := dk_42 (dk_at dksX3_layOpen_1 11 rfl rfl)
theorem dX3_layOpen_34 : decode cX3_layOpen 34 = .ok (.getfield 22, 3) := dk_180 0 22 (dk_at dksX3_layOpen_1 12 rfl rfl)
theorem dX3_layOpen_37 : decode cX3_layOpen 37 = .ok (.iload_n 1, 1) := dk_27 (dk_at dksX3_layOpen_1 15 rfl rfl)
theorem dX3_layOpen_38 : decode cX3_layOpen 38 = .ok (.iload_n 1, 1) := dk_27 (dk_at dksX3_layOpen_1 16 rfl rfl)
theorem dX3_layOpen_39 : decode cX3_layOpen 39 = .ok (.iastore, 1) := dk_79 (dk_at dksX3_layOpen_1 17 rfl rfl)
theorem dX3_layOpen_40 : decode cX3_layOpen 40 = .ok (.aload_n 0, 1) := dk_42 (dk_at dksX3_layOpen_1 18 rfl rfl)
theorem dX3_layOpen_41 : decode cX3_layOpen 41 = .ok (.getfield 25, 3) := dk_180 0 25 (dk_at dksX3_layOpen_1 19 rfl rfl)
theorem dX3_layOpen_44 : decode cX3_layOpen 44 = .ok (.iload_n 1, 1) := dk_27 (dk_at dksX3_layOpen_1 22 rfl rfl)
theorem dX3_layOpen_45 : decode cX3_layOpen 45 = .ok (.iconst 0, 1) := dk_3 (dk_at dksX3_layOpen_1 23 rfl rfl)
theorem dX3_layOpen_46 : decode cX3_layOpen 46 = .ok (.iastore, 1) := dk_79 (dk_at dksX3_layOpen_2 0 rfl rfl)
theorem dX3_layOpen_47 : decode cX3_layOpen 47 = .ok (.aload_n 0, 1) := dk_42 (dk_at dksX3_layOpen_2 1 rfl rfl)
theorem dX3_layOpen_48 : decode cX3_layOpen 48 = .ok (.getfield 28, 3) := dk_180 0 28 (dk_at dksX3_layOpen_2 2 rfl rfl)
theorem dX3_layOpen_51 : decode cX3_layOpen 51 = .ok (.iload_n 1, 1) := dk_27 (dk_at dksX3_layOpen_2 5 rfl rfl)
theorem dX3_layOpen_52 : decode cX3_layOpen 52 = .ok (.iconst 0, 1) := dk_3 (dk_at dksX3_layOpen_2 6 rfl rfl)
theorem dX3_layOpen_53 : decode cX3_layOpen 53 = .ok (.iastore, 1) := dk_79 (dk_at dksX3_layOpen_2 7 rfl rfl)
theorem dX3_layOpen_54 : decode cX3_layOpen 54 = .ok (.aload_n 0, 1) := dk_42 (dk_at dksX3_layOpen_2 8 rfl rfl)
theorem dX3_layOpen_55 : decode cX3_layOpen 55 = .ok (.getfield 31, 3) := dk_180 0 31 (dk_at dksX3_layOpen_2 9 rfl rfl)
theorem dX3_layOpen_58 : decode cX3_layOpen 58 = .ok (.iload_n 1, 1) := dk_27 (dk_at dksX3_layOpen_2 12 rfl rfl)
theorem dX3_layOpen_59 : decode cX3_layOpen 59 = .ok (.iconst 0, 1) := dk_3 (dk_at dksX3_layOpen_2 13 rfl rfl)
theorem dX3_layOpen_60 : decode cX3_layOpen 60 = .ok (.iastore, 1) := dk_79 (dk_at dksX3_layOpen_2 14 rfl rfl)
theorem dX3_layOpen_61 : decode cX3_layOpen 61 = .ok (.iinc 1 1, 3) := dk_132 1 1 (dk_at dksX3_layOpen_2 15 rfl rfl)
theorem dX3_layOpen_64 : decode cX3_layOpen 64 = .ok (.goto (-37), 3) := dk_167 255 219 (dk_at dksX3_layOpen_2 18 rfl rfl)
theorem dX3_layOpen_67 : decode cX3_layOpen 67 = .ok (.return_, 1) := dk_177 (dk_at dksX3_layOpen_2 21 rfl rfl)
abbrev cX3_foldBy : ByteArray := prog_33_method_13_code
def yX3_foldBy : MethodName := ⟨RX3, "foldBy", "(I)V"⟩
def dkwX3_foldBy_14 : List UInt8 := [181, 0, 75, 42, 5, 42, 180, 0, 78, 104, 181, 0, 78, 177]
abbrev dktX3_foldBy_14 : List UInt8 := dkwX3_foldBy_14 ++ []
def dkwX3_foldBy_13 : List UInt8 := [182, 0, 81, 132, 13, 1, 167, 255, 179, 132, 4, 1, 167, 255, 42, 42, 28, 181, 0, 72, 42, 29]
abbrev dktX3_foldBy_13 : List UInt8 := dkwX3_foldBy_13 ++ dktX3_foldBy_14
def dkwX3_foldBy_12 : List UInt8 := [42, 180, 0, 78, 104, 21, 4, 104, 42, 180, 0, 78, 96, 21, 13, 96, 21, 11, 21, 13, 96, 3]
abbrev dktX3_foldBy_12 : List UInt8 := dkwX3_foldBy_12 ++ dktX3_foldBy_13
def dkwX3_foldBy_11 : List UInt8 := [180, 0, 78, 96, 4, 100, 21, 13, 100, 27, 6, 162, 0, 7, 4, 167, 0, 4, 5, 182, 0, 81, 42, 5]
abbrev dktX3_foldBy_11 : List UInt8 := dkwX3_foldBy_11 ++ dktX3_foldBy_12
def dkwX3_foldBy_10 : List UInt8 := [42, 180, 0, 78, 162, 0, 74, 42, 5, 42, 180, 0, 78, 104, 21, 4, 104, 21, 13, 96, 21, 12, 42]
abbrev dktX3_foldBy_10 : List UInt8 := dkwX3_foldBy_10 ++ dktX3_foldBy_11
def dkwX3_foldBy_9 : List UInt8 := [54, 11, 42, 180, 0, 78, 42, 180, 0, 75, 21, 9, 104, 21, 10, 96, 104, 54, 12, 3, 54, 13, 21, 13]
abbrev dktX3_foldBy_9 : List UInt8 := dkwX3_foldBy_9 ++ dktX3_foldBy_10
def dkwX3_foldBy_8 : List UInt8 := [100, 167, 0, 5, 21, 6, 54, 10, 42, 180, 0, 78, 42, 180, 0, 75, 21, 7, 104, 21, 8, 96, 104]
abbrev dktX3_foldBy_8 : List UInt8 := dkwX3_foldBy_8 ++ dktX3_foldBy_9
def dkwX3_foldBy_7 : List UInt8 := [42, 180, 0, 72, 4, 100, 21, 7, 100, 54, 9, 27, 6, 162, 0, 15, 42, 180, 0, 75, 4, 100, 21, 8]
abbrev dktX3_foldBy_7 : List UInt8 := dkwX3_foldBy_7 ++ dktX3_foldBy_8
def dkwX3_foldBy_6 : List UInt8 := [160, 0, 10, 21, 6, 29, 96, 167, 0, 5, 21, 6, 54, 8, 27, 6, 162, 0, 8, 21, 5, 167, 0, 12]
abbrev dktX3_foldBy_6 : List UInt8 := dkwX3_foldBy_6 ++ dktX3_foldBy_7
def dkwX3_foldBy_5 : List UInt8 := [29, 112, 54, 6, 27, 6, 160, 0, 10, 21, 5, 28, 96, 167, 0, 5, 21, 5, 54, 7, 27, 4]
abbrev dktX3_foldBy_5 : List UInt8 := dkwX3_foldBy_5 ++ dktX3_foldBy_6
def dkwX3_foldBy_4 : List UInt8 := [42, 180, 0, 75, 62, 3, 54, 4, 21, 4, 28, 29, 104, 162, 0, 212, 21, 4, 29, 108, 54, 5, 21, 4]
abbrev dktX3_foldBy_4 : List UInt8 := dkwX3_foldBy_4 ++ dktX3_foldBy_5
def dkwX3_foldBy_3 : List UInt8 := [167, 0, 9, 42, 180, 0, 72, 5, 108, 61, 27, 6, 162, 0, 12, 42, 180, 0, 75, 5, 108, 167, 0, 7]
abbrev dktX3_foldBy_3 : List UInt8 := dkwX3_foldBy_3 ++ dktX3_foldBy_4
def dkwX3_foldBy_2 : List UInt8 := [28, 42, 180, 0, 31, 28, 46, 79, 132, 2, 1, 167, 255, 199, 27, 6, 162, 0, 10, 42, 180, 0, 72]
abbrev dktX3_foldBy_2 : List UInt8 := dkwX3_foldBy_2 ++ dktX3_foldBy_3
def dkwX3_foldBy_1 : List UInt8 := [28, 42, 180, 0, 25, 28, 46, 79, 42, 180, 0, 40, 28, 42, 180, 0, 28, 28, 46, 79, 42, 180, 0, 43]
abbrev dktX3_foldBy_1 : List UInt8 := dkwX3_foldBy_1 ++ dktX3_foldBy_2
def dkwX3_foldBy_0 : List UInt8 := [3, 61, 28, 16, 16, 162, 0, 57, 42, 180, 0, 34, 28, 42, 180, 0, 22, 28, 46, 79, 42, 180, 0, 37]
abbrev dktX3_foldBy_0 : List UInt8 := dkwX3_foldBy_0 ++ dktX3_foldBy_1
theorem dksX3_foldBy_0 : cX3_foldBy.data.toList.drop 0 = dktX3_foldBy_0 := by decide +kernel
theorem dksX3_foldBy_1 : cX3_foldBy.data.toList.drop 24 = dktX3_foldBy_1 := dk_seg dksX3_foldBy_0 24 rfl rfl
theorem dksX3_foldBy_2 : cX3_foldBy.data.toList.drop 48 = dktX3_foldBy_2 := dk_seg dksX3_foldBy_1 24 rfl rfl
theorem dksX3_foldBy_3 : cX3_foldBy.data.toList.drop 71 = dktX3_foldBy_3 := dk_seg dksX3_foldBy_2 23 rfl rfl
theorem dksX3_foldBy_4 : cX3_foldBy.data.toList.drop 95 = dktX3_foldBy_4 := dk_seg dksX3_foldBy_3 24 rfl rfl
theorem dksX3_foldBy_5 : cX3_foldBy.data.toList.drop 119 = dktX3_foldBy_5 := dk_seg dksX3_foldBy_4 24 rfl rfl
theorem dksX3_foldBy_6 : cX3_foldBy.data.toList.drop 141 = dktX3_foldBy_6 := dk_seg dksX3_foldBy_5 22 rfl rfl
theorem dksX3_foldBy_7 : cX3_foldBy.data.toList.drop 165 = dktX3_foldBy_7 := dk_seg dksX3_foldBy_6 24 rfl rfl
theorem dksX3_foldBy_8 : cX3_foldBy.data.toList.drop 189 = dktX3_foldBy_8 := dk_seg dksX3_foldBy_7 24 rfl rfl
theorem dksX3_foldBy_9 : cX3_foldBy.data.toList.drop 212 = dktX3_foldBy_9 := dk_seg dksX3_foldBy_8 23 rfl rfl
theorem dksX3_foldBy_10 : cX3_foldBy.data.toList.drop 236 = dktX3_foldBy_10 := dk_seg dksX3_foldBy_9 24 rfl rfl
theorem dksX3_foldBy_11 : cX3_foldBy.data.toList.drop 259 = dktX3_foldBy_11 := dk_seg dksX3_foldBy_10 23 rfl rfl
theorem dksX3_foldBy_12 : cX3_foldBy.data.toList.drop 283 = dktX3_foldBy_12 := dk_seg dksX3_foldBy_11 24 rfl rfl
theorem dksX3_foldBy_13 : cX3_foldBy.data.toList.drop 305 = dktX3_foldBy_13 := dk_seg dksX3_foldBy_12 22 rfl rfl
theorem dksX3_foldBy_14 : cX3_foldBy.data.toList.drop 327 = dktX3_foldBy_14 := dk_seg dksX3_foldBy_13 22 rfl rfl
theorem dX3_foldBy_0 : decode cX3_foldBy 0 = .ok (.iconst 0, 1) := dk_3 (dk_at dksX3_foldBy_0 0 rfl rfl)
theorem dX3_foldBy_1 : decode cX3_foldBy 1 = .ok (.istore_n 2, 1) := dk_61 (dk_at dksX3_foldBy_0 1 rfl rfl)
theorem dX3_foldBy_2 : decode cX3_foldBy 2 = .ok (.iload_n 2, 1) := dk_28 (dk_at dksX3_foldBy_0 2 rfl rfl)
theorem dX3_foldBy_3 : decode cX3_foldBy 3 = .ok (.bipush 16, 2) := dk_16 16 (dk_at dksX3_foldBy_0 3 rfl rfl)
theorem dX3_foldBy_5 : decode cX3_foldBy 5 = .ok (.if_icmp .ge 57, 3) := dk_162 0 57 (dk_at dksX3_foldBy_0 5 rfl rfl)
theorem dX3_foldBy_8 : decode cX3_foldBy 8 = .ok (.aload_n 0, 1) := dk_42 (dk_at dksX3_foldBy_0 8 rfl rfl)
theorem dX3_foldBy_9 : decode cX3_foldBy 9 = .ok (.getfield 34, 3) := dk_180 0 34 (dk_at dksX3_foldBy_0 9 rfl rfl)
theorem dX3_foldBy_12 : decode cX3_foldBy 12 = .ok (.iload_n 2, 1) := dk_28 (dk_at dksX3_foldBy_0 12 rfl rfl)
theorem dX3_foldBy_13 : decode cX3_foldBy 13 = .ok (.aload_n 0, 1) := dk_42 (dk_at dksX3_foldBy_0 13 rfl rfl)
theorem dX3_foldBy_14 : decode cX3_foldBy 14 = .ok (.getfield 22, 3) := dk_180 0 22 (dk_at dksX3_foldBy_0 14 rfl rfl)
theorem dX3_foldBy_17 : decode cX3_foldBy 17 = .ok (.iload_n 2, 1) := dk_28 (dk_at dksX3_foldBy_0 17 rfl rfl)
theorem dX3_foldBy_18 : decode cX3_foldBy 18 = .ok (.iaload, 1) := dk_46 (dk_at dksX3_foldBy_0 18 rfl rfl)
theorem dX3_foldBy_19 : decode cX3_foldBy 19 = .ok (.iastore, 1) := dk_79 (dk_at dksX3_foldBy_0 19 rfl rfl)
theorem dX3_foldBy_20 : decode cX3_foldBy 20 = .ok (.aload_n 0, 1) := dk_42 (dk_at dksX3_foldBy_0 20 rfl rfl)
theorem dX3_foldBy_21 : decode cX3_foldBy 21 = .ok (.getfield 37, 3) := dk_180 0 37 (dk_at dksX3_foldBy_0 21 rfl rfl)
theorem dX3_foldBy_24 : decode cX3_foldBy 24 = .ok (.iload_n 2, 1) := dk_28 (dk_at dksX3_foldBy_1 0 rfl rfl)
theorem dX3_foldBy_25 : decode cX3_foldBy 25 = .ok (.aload_n 0, 1) := dk_42 (dk_at dksX3_foldBy_1 1 rfl rfl)
theorem dX3_foldBy_26 : decode cX3_foldBy 26 = .ok (.getfield 25, 3) := dk_180 0 25 (dk_at dksX3_foldBy_1 2 rfl rfl)
theorem dX3_foldBy_29 : decode cX3_foldBy 29 = .ok (.iload_n 2, 1) := dk_28 (dk_at dksX3_foldBy_1 5 rfl rfl)
theorem dX3_foldBy_30 : decode cX3_foldBy 30 = .ok (.iaload, 1) := dk_46 (dk_at dksX3_foldBy_1 6 rfl rfl)
theorem dX3_foldBy_31 : decode cX3_foldBy 31 = .ok (.iastore, 1) := dk_79 (dk_at dksX3_foldBy_1 7 rfl rfl)
theorem dX3_foldBy_32 : decode cX3_foldBy 32 = .ok (.aload_n 0, 1) := dk_42 (dk_at dksX3_foldBy_1 8 rfl rfl)
theorem dX3_foldBy_33 : decode cX3_foldBy 33 = .ok (.getfield 40, 3) := dk_180 0 40 (dk_at dksX3_foldBy_1 9 rfl rfl)
theorem dX3_foldBy_36 : decode cX3_foldBy 36 = .ok (.iload_n 2, 1) := dk_28 (dk_at dksX3_foldBy_1 12 rfl rfl)
theorem dX3_foldBy_37 : decode cX3_foldBy 37 = .ok (.aload_n 0, 1) := dk_42 (dk_at dksX3_foldBy_1 13 rfl rfl)
theorem dX3_foldBy_38 : decode cX3_foldBy 38 = .ok (.getfield 28, 3) := dk_180 0 28 (dk_at dksX3_foldBy_1 14 rfl rfl)
theorem dX3_foldBy_41 : decode cX3_foldBy 41 = .ok (.iload_n 2, 1) := dk_28 (dk_at dksX3_foldBy_1 17 rfl rfl)
theorem dX3_foldBy_42 : decode cX3_foldBy 42 = .ok (.iaload, 1) := dk_46 (dk_at dksX3_foldBy_1 18 rfl rfl)
theorem dX3_foldBy_43 : decode cX3_foldBy 43 = .ok (.iastore, 1) := dk_79 (dk_at dksX3_foldBy_1 19 rfl rfl)
theorem dX3_foldBy_44 : decode cX3_foldBy 44 = .ok (.aload_n 0, 1) := dk_42 (dk_at dksX3_foldBy_1 20 rfl rfl)
theorem dX3_foldBy_45 : decode cX3_foldBy 45 = .ok (.getfield 43, 3) := dk_180 0 43 (dk_at dksX3_foldBy_1 21 rfl rfl)
theorem dX3_foldBy_48 : decode cX3_foldBy 48 = .ok (.iload_n 2, 1) := dk_28 (dk_at dksX3_foldBy_2 0 rfl rfl)
theorem dX3_foldBy_49 : decode cX3_foldBy 49 = .ok (.aload_n 0, 1) := dk_42 (dk_at dksX3_foldBy_2 1 rfl rfl)
theorem dX3_foldBy_50 : decode cX3_foldBy 50 = .ok (.getfield 31, 3) := dk_180 0 31 (dk_at dksX3_foldBy_2 2 rfl rfl)
theorem dX3_foldBy_53 : decode cX3_foldBy 53 = .ok (.iload_n 2, 1) := dk_28 (dk_at dksX3_foldBy_2 5 rfl rfl)
theorem dX3_foldBy_54 : decode cX3_foldBy 54 = .ok (.iaload, 1) := dk_46 (dk_at dksX3_foldBy_2 6 rfl rfl)
theorem dX3_foldBy_55 : decode cX3_foldBy 55 = .ok (.iastore, 1) := dk_79 (dk_at dksX3_foldBy_2 7 rfl rfl)
theorem dX3_foldBy_56 : decode cX3_foldBy 56 = .ok (.iinc 2 1, 3) := dk_132 2 1 (dk_at dksX3_foldBy_2 8 rfl rfl)
theorem dX3_foldBy_59 : decode cX3_foldBy 59 = .ok (.goto (-57), 3) := dk_167 255 199 (dk_at dksX3_foldBy_2 11 rfl rfl)
theorem dX3_foldBy_62 : decode cX3_foldBy 62 = .ok (.iload_n 1, 1) := dk_27 (dk_at dksX3_foldBy_2 14 rfl rfl)
theorem dX3_foldBy_63 : decode cX3_foldBy 63 = .ok (.iconst 3, 1) := dk_6 (dk_at dksX3_foldBy_2 15 rfl rfl)
theorem dX3_foldBy_64 : decode cX3_foldBy 64 = .ok (.if_icmp .ge 10, 3) := dk_162 0 10 (dk_at dksX3_foldBy_2 16 rfl rfl)
theorem dX3_foldBy_67 : decode cX3_foldBy 67 = .ok (.aload_n 0, 1) := dk_42 (dk_at dksX3_foldBy_2 19 rfl rfl)
theorem dX3_foldBy_68 : decode cX3_foldBy 68 = .ok (.getfield 72, 3) := dk_180 0 72 (dk_at dksX3_foldBy_2 20 rfl rfl)
theorem dX3_foldBy_71 : decode cX3_foldBy 71 = .ok (.goto 9, 3) := dk_167 0 9 (dk_at dksX3_foldBy_3 0 rfl rfl)
theorem dX3_foldBy_74 : decode cX3_foldBy 74 = .ok (.aload_n 0, 1) := dk_42 (dk_at dksX3_foldBy_3 3 rfl rfl)
theorem dX3_foldBy_75 : decode cX3_foldBy 75 = .ok (.getfield 72, 3) := dk_180 0 72 (dk_at dksX3_foldBy_3 4 rfl rfl)
theorem dX3_foldBy_78 : decode cX3_foldBy 78 = .ok (.iconst 2, 1) := dk_5 (dk_at dksX3_foldBy_3 7 rfl rfl)
theorem dX3_foldBy_79 : decode cX3_foldBy 79 = .ok (.idiv, 1) := dk_108 (dk_at dksX3_foldBy_3 8 rfl rfl)
theorem dX3_foldBy_80 : decode cX3_foldBy 80 = .ok (.istore_n 2, 1) := dk_61 (dk_at dksX3_foldBy_3 9 rfl rfl)
theorem dX3_foldBy_81 : decode cX3_foldBy 81 = .ok (.iload_n 1, 1) := dk_27 (dk_at dksX3_foldBy_3 10 rfl rfl)
theorem dX3_foldBy_82 : decode cX3_foldBy 82 = .ok (.iconst 3, 1) := dk_6 (dk_at dksX3_foldBy_3 11 rfl rfl)
theorem dX3_foldBy_83 : decode cX3_foldBy 83 = .ok (.if_icmp .ge 12, 3) := dk_162 0 12 (dk_at dksX3_foldBy_3 12 rfl rfl)
theorem dX3_foldBy_86 : decode cX3_foldBy 86 = .ok (.aload_n 0, 1) := dk_42 (dk_at dksX3_foldBy_3 15 rfl rfl)
theorem dX3_foldBy_87 : decode cX3_foldBy 87 = .ok (.getfield 75, 3) := dk_180 0 75 (dk_at dksX3_foldBy_3 16 rfl rfl)
theorem dX3_foldBy_90 : decode cX3_foldBy 90 = .ok (.iconst 2, 1) := dk_5 (dk_at dksX3_foldBy_3 19 rfl rfl)
theorem dX3_foldBy_91 : decode cX3_foldBy 91 = .ok (.idiv, 1) := dk_108 (dk_at dksX3_foldBy_3 20 rfl rfl)
theorem dX3_foldBy_92 : decode cX3_foldBy 92 = .ok (.goto 7, 3) := dk_167 0 7 (dk_at dksX3_foldBy_3 21 rfl rfl)
theorem dX3_foldBy_95 : decode cX3_foldBy 95 = .ok (.aload_n 0, 1) := dk_42 (dk_at dksX3_foldBy_4 0 rfl rfl)
theorem dX3_foldBy_96 : decode cX3_foldBy 96 = .ok (.getfield 75, 3) := dk_180 0 75 (dk_at dksX3_foldBy_4 1 rfl rfl)
theorem dX3_foldBy_99 : decode cX3_foldBy 99 = .ok (.istore_n 3, 1) := dk_62 (dk_at dksX3_foldBy_4 4 rfl rfl)
theorem dX3_foldBy_100 : decode cX3_foldBy 100 = .ok (.iconst 0, 1) := dk_3 (dk_at dksX3_foldBy_4 5 rfl rfl)
theorem dX3_foldBy_101 : decode cX3_foldBy 101 = .ok (.istore 4, 2) := dk_54 4 (dk_at dksX3_foldBy_4 6 rfl rfl)
theorem dX3_foldBy_103 : decode cX3_foldBy 103 = .ok (.iload 4, 2) := dk_21 4 (dk_at dksX3_foldBy_4 8 rfl rfl)
theorem dX3_foldBy_105 : decode cX3_foldBy 105 = .ok (.iload_n 2, 1) := dk_28 (dk_at dksX3_foldBy_4 10 rfl rfl)
theorem dX3_foldBy_106 : decode cX3_foldBy 106 = .ok (.iload_n 3, 1) := dk_29 (dk_at dksX3_foldBy_4 11 rfl rfl)
theorem dX3_foldBy_107 : decode cX3_foldBy 107 = .ok (.imul, 1) := dk_104 (dk_at dksX3_foldBy_4 12 rfl rfl)
theorem dX3_foldBy_108 : decode cX3_foldBy 108 = .ok (.if_icmp .ge 212, 3) := dk_162 0 212 (dk_at dksX3_foldBy_4 13 rfl rfl)
theorem dX3_foldBy_111 : decode cX3_foldBy 111 = .ok (.iload 4, 2) := dk_21 4 (dk_at dksX3_foldBy_4 16 rfl rfl)
theorem dX3_foldBy_113 : decode cX3_foldBy 113 = .ok (.iload_n 3, 1) := dk_29 (dk_at dksX3_foldBy_4 18 rfl rfl)
theorem dX3_foldBy_114 : decode cX3_foldBy 114 = .ok (.idiv, 1) := dk_108 (dk_at dksX3_foldBy_4 19 rfl rfl)
theorem dX3_foldBy_115 : decode cX3_foldBy 115 = .ok (.istore 5, 2) := dk_54 5 (dk_at dksX3_foldBy_4 20 rfl rfl)
theorem dX3_foldBy_117 : decode cX3_foldBy 117 = .ok (.iload 4, 2) := dk_21 4 (dk_at dksX3_foldBy_4 22 rfl rfl)
theorem dX3_foldBy_119 : decode cX3_foldBy 119 = .ok (.iload_n 3, 1) := dk_29 (dk_at dksX3_foldBy_5 0 rfl rfl)
theorem dX3_foldBy_120 : decode cX3_foldBy 120 = .ok (.irem, 1) := dk_112 (dk_at dksX3_foldBy_5 1 rfl rfl)
theorem dX3_foldBy_121 : decode cX3_foldBy 121 = .ok (.istore 6, 2) := dk_54 6 (dk_at dksX3_foldBy_5 2 rfl rfl)
theorem dX3_foldBy_123 : decode cX3_foldBy 123 = .ok (.iload_n 1, 1) := dk_27 (dk_at dksX3_foldBy_5 4 rfl rfl)
theorem dX3_foldBy_124 : decode cX3_foldBy 124 = .ok (.iconst 3, 1) := dk_6 (dk_at dksX3_foldBy_5 5 rfl rfl)
theorem dX3_foldBy_125 : decode cX3_foldBy 125 = .ok (.if_icmp .ne 10, 3) := dk_160 0 10 (dk_at dksX3_foldBy_5 6 rfl rfl)
theorem dX3_foldBy_128 : decode cX3_foldBy 128 = .ok (.iload 5, 2) := dk_21 5 (dk_at dksX3_foldBy_5 9 rfl rfl)
theorem dX3_foldBy_130 : decode cX3_foldBy 130 = .ok (.iload_n 2, 1) := dk_28 (dk_at dksX3_foldBy_5 11 rfl rfl)
theorem dX3_foldBy_131 : decode cX3_foldBy 131 = .ok (.iadd, 1) := dk_96 (dk_at dksX3_foldBy_5 12 rfl rfl)
theorem dX3_foldBy_132 : decode cX3_foldBy 132 = .ok (.goto 5, 3) := dk_167 0 5 (dk_at dksX3_foldBy_5 13 rfl rfl)
theorem dX3_foldBy_135 : decode cX3_foldBy 135 = .ok (.iload 5, 2) := dk_21 5 (dk_at dksX3_foldBy_5 16 rfl rfl)
theorem dX3_foldBy_137 : decode cX3_foldBy 137 = .ok (.istore 7, 2) := dk_54 7 (dk_at dksX3_foldBy_5 18 rfl rfl)
theorem dX3_foldBy_139 : decode cX3_foldBy 139 = .ok (.iload_n 1, 1) := dk_27 (dk_at dksX3_foldBy_5 20 rfl rfl)
theorem dX3_foldBy_140 : decode cX3_foldBy 140 = .ok (.iconst 1, 1) := dk_4 (dk_at dksX3_foldBy_5 21 rfl rfl)
theorem dX3_foldBy_141 : decode cX3_foldBy 141 = .ok (.if_icmp .ne 10, 3) := dk_160 0 10 (dk_at dksX3_foldBy_6 0 rfl rfl)
theorem dX3_foldBy_144 : decode cX3_foldBy 144 = .ok (.iload 6, 2) := dk_21 6 (dk_at dksX3_foldBy_6 3 rfl rfl)
theorem dX3_foldBy_146 : decode cX3_foldBy 146 = .ok (.iload_n 3, 1) := dk_29 (dk_at dksX3_foldBy_6 5 rfl rfl)
theorem dX3_foldBy_147 : decode cX3_foldBy 147 = .ok (.iadd, 1) := dk_96 (dk_at dksX3_foldBy_6 6 rfl rfl)
theorem dX3_foldBy_148 : decode cX3_foldBy 148 = .ok (.goto 5, 3) := dk_167 0 5 (dk_at dksX3_foldBy_6 7 rfl rfl)
theorem dX3_foldBy_151 : decode cX3_foldBy 151 = .ok (.iload 6, 2) := dk_21 6 (dk_at dksX3_foldBy_6 10 rfl rfl)
theorem dX3_foldBy_153 : decode cX3_foldBy 153 = .ok (.istore 8, 2) := dk_54 8 (dk_at dksX3_foldBy_6 12 rfl rfl)
theorem dX3_foldBy_155 : decode cX3_foldBy 155 = .ok (.iload_n 1, 1) := dk_27 (dk_at dksX3_foldBy_6 14 rfl rfl)
theorem dX3_foldBy_156 : decode cX3_foldBy 156 = .ok (.iconst 3, 1) := dk_6 (dk_at dksX3_foldBy_6 15 rfl rfl)
theorem dX3_foldBy_157 : decode cX3_foldBy 157 = .ok (.if_icmp .ge 8, 3) := dk_162 0 8 (dk_at dksX3_foldBy_6 16 rfl rfl)
theorem dX3_foldBy_160 : decode cX3_foldBy 160 = .ok (.iload 5, 2) := dk_21 5 (dk_at dksX3_foldBy_6 19 rfl rfl)
theorem dX3_foldBy_162 : decode cX3_foldBy 162 = .ok (.goto 12, 3) := dk_167 0 12 (dk_at dksX3_foldBy_6 21 rfl rfl)
theorem dX3_foldBy_165 : decode cX3_foldBy 165 = .ok (.aload_n 0, 1) := dk_42 (dk_at dksX3_foldBy_7 0 rfl rfl)
theorem dX3_foldBy_166 : decode cX3_foldBy 166 = .ok (.getfield 72, 3) := dk_180 0 72 (dk_at dksX3_foldBy_7 1 rfl rfl)
theorem dX3_foldBy_169 : decode cX3_foldBy 169 = .ok (.iconst 1, 1) := dk_4 (dk_at dksX3_foldBy_7 4 rfl rfl)
theorem dX3_foldBy_170 : decode cX3_foldBy 170 = .ok (.isub, 1) := dk_100 (dk_at dksX3_foldBy_7 5 rfl rfl)
theorem dX3_foldBy_171 : decode cX3_foldBy 171 = .ok (.iload 7, 2) := dk_21 7 (dk_at dksX3_foldBy_7 6 rfl rfl)
theorem dX3_foldBy_173 : decode cX3_foldBy 173 = .ok (.isub, 1) := dk_100 (dk_at dksX3_foldBy_7 8 rfl rfl)
theorem dX3_foldBy_174 : decode cX3_foldBy 174 = .ok (.istore 9, 2) := dk_54 9 (dk_at dksX3_foldBy_7 9 rfl rfl)
theorem dX3_foldBy_176 : decode cX3_foldBy 176 = .ok (.iload_n 1, 1) := dk_27 (dk_at dksX3_foldBy_7 11 rfl rfl)
theorem dX3_foldBy_177 : decode cX3_foldBy 177 = .ok (.iconst 3, 1) := dk_6 (dk_at dksX3_foldBy_7 12 rfl rfl)
theorem dX3_foldBy_178 : decode cX3_foldBy 178 = .ok (.if_icmp .ge 15, 3) := dk_162 0 15 (dk_at dksX3_foldBy_7 13 rfl rfl)
theorem dX3_foldBy_181 : decode cX3_foldBy 181 = .ok (.aload_n 0, 1) := dk_42 (dk_at dksX3_foldBy_7 16 rfl rfl)
theorem dX3_foldBy_182 : decode cX3_foldBy 182 = .ok (.getfield 75, 3) := dk_180 0 75 (dk_at dksX3_foldBy_7 17 rfl rfl)
theorem dX3_foldBy_185 : decode cX3_foldBy 185 = .ok (.iconst 1, 1) := dk_4 (dk_at dksX3_foldBy_7 20 rfl rfl)
theorem dX3_foldBy_186 : decode cX3_foldBy 186 = .ok (.isub, 1) := dk_100 (dk_at dksX3_foldBy_7 21 rfl rfl)
theorem dX3_foldBy_187 : decode cX3_foldBy 187 = .ok (.iload 8, 2) := dk_21 8 (dk_at dksX3_foldBy_7 22 rfl rfl)
theorem dX3_foldBy_189 : decode cX3_foldBy 189 = .ok (.isub, 1) := dk_100 (dk_at dksX3_foldBy_8 0 rfl rfl)
theorem dX3_foldBy_190 : decode cX3_foldBy 190 = .ok (.goto 5, 3) := dk_167 0 5 (dk_at dksX3_foldBy_8 1 rfl rfl)
theorem dX3_foldBy_193 : decode cX3_foldBy 193 = .ok (.iload 6, 2) := dk_21 6 (dk_at dksX3_foldBy_8 4 rfl rfl)
theorem dX3_foldBy_195 : decode cX3_foldBy 195 = .ok (.istore 10, 2) := dk_54 10 (dk_at dksX3_foldBy_8 6 rfl rfl)
theorem dX3_foldBy_197 : decode cX3_foldBy 197 = .ok (.aload_n 0, 1) := dk_42 (dk_at dksX3_foldBy_8 8 rfl rfl)
theorem dX3_foldBy_198 : decode cX3_foldBy 198 = .ok (.getfield 78, 3) := dk_180 0 78 (dk_at dksX3_foldBy_8 9 rfl rfl)
theorem dX3_foldBy_201 : decode cX3_foldBy 201 = .ok (.aload_n 0, 1) := dk_42 (dk_at dksX3_foldBy_8 12 rfl rfl)
theorem dX3_foldBy_202 : decode cX3_foldBy 202 = .ok (.getfield 75, 3) := dk_180 0 75 (dk_at dksX3_foldBy_8 13 rfl rfl)
theorem dX3_foldBy_205 : decode cX3_foldBy 205 = .ok (.iload 7, 2) := dk_21 7 (dk_at dksX3_foldBy_8 16 rfl rfl)
theorem dX3_foldBy_207 : decode cX3_foldBy 207 = .ok (.imul, 1) := dk_104 (dk_at dksX3_foldBy_8 18 rfl rfl)
theorem dX3_foldBy_208 : decode cX3_foldBy 208 = .ok (.iload 8, 2) := dk_21 8 (dk_at dksX3_foldBy_8 19 rfl rfl)
theorem dX3_foldBy_210 : decode cX3_foldBy 210 = .ok (.iadd, 1) := dk_96 (dk_at dksX3_foldBy_8 21 rfl rfl)
theorem dX3_foldBy_211 : decode cX3_foldBy 211 = .ok (.imul, 1) := dk_104 (dk_at dksX3_foldBy_8 22 rfl rfl)
theorem dX3_foldBy_212 : decode cX3_foldBy 212 = .ok (.istore 11, 2) := dk_54 11 (dk_at dksX3_foldBy_9 0 rfl rfl)
theorem dX3_foldBy_214 : decode cX3_foldBy 214 = .ok (.aload_n 0, 1) := dk_42 (dk_at dksX3_foldBy_9 2 rfl rfl)
theorem dX3_foldBy_215 : decode cX3_foldBy 215 = .ok (.getfield 78, 3) := dk_180 0 78 (dk_at dksX3_foldBy_9 3 rfl rfl)
theorem dX3_foldBy_218 : decode cX3_foldBy 218 = .ok (.aload_n 0, 1) := dk_42 (dk_at dksX3_foldBy_9 6 rfl rfl)
theorem dX3_foldBy_219 : decode cX3_foldBy 219 = .ok (.getfield 75, 3) := dk_180 0 75 (dk_at dksX3_foldBy_9 7 rfl rfl)
theorem dX3_foldBy_222 : decode cX3_foldBy 222 = .ok (.iload 9, 2) := dk_21 9 (dk_at dksX3_foldBy_9 10 rfl rfl)
theorem dX3_foldBy_224 : decode cX3_foldBy 224 = .ok (.imul, 1) := dk_104 (dk_at dksX3_foldBy_9 12 rfl rfl)
theorem dX3_foldBy_225 : decode cX3_foldBy 225 = .ok (.iload 10, 2) := dk_21 10 (dk_at dksX3_foldBy_9 13 rfl rfl)
theorem dX3_foldBy_227 : decode cX3_foldBy 227 = .ok (.iadd, 1) := dk_96 (dk_at dksX3_foldBy_9 15 rfl rfl)
theorem dX3_foldBy_228 : decode cX3_foldBy 228 = .ok (.imul, 1) := dk_104 (dk_at dksX3_foldBy_9 16 rfl rfl)
theorem dX3_foldBy_229 : decode cX3_foldBy 229 = .ok (.istore 12, 2) := dk_54 12 (dk_at dksX3_foldBy_9 17 rfl rfl)
theorem dX3_foldBy_231 : decode cX3_foldBy 231 = .ok (.iconst 0, 1) := dk_3 (dk_at dksX3_foldBy_9 19 rfl rfl)
theorem dX3_foldBy_232 : decode cX3_foldBy 232 = .ok (.istore 13, 2) := dk_54 13 (dk_at dksX3_foldBy_9 20 rfl rfl)
theorem dX3_foldBy_234 : decode cX3_foldBy 234 = .ok (.iload 13, 2) := dk_21 13 (dk_at dksX3_foldBy_9 22 rfl rfl)
theorem dX3_foldBy_236 : decode cX3_foldBy 236 = .ok (.aload_n 0, 1) := dk_42 (dk_at dksX3_foldBy_10 0 rfl rfl)
theorem dX3_foldBy_237 : decode cX3_foldBy 237 = .ok (.getfield 78, 3) := dk_180 0 78 (dk_at dksX3_foldBy_10 1 rfl rfl)
theorem dX3_foldBy_240 : decode cX3_foldBy 240 = .ok (.if_icmp .ge 74, 3) := dk_162 0 74 (dk_at dksX3_foldBy_10 4 rfl rfl)
theorem dX3_foldBy_243 : decode cX3_foldBy 243 = .ok (.aload_n 0, 1) := dk_42 (dk_at dksX3_foldBy_10 7 rfl rfl)
theorem dX3_foldBy_244 : decode cX3_foldBy 244 = .ok (.iconst 2, 1) := dk_5 (dk_at dksX3_foldBy_10 8 rfl rfl)
theorem dX3_foldBy_245 : decode cX3_foldBy 245 = .ok (.aload_n 0, 1) := dk_42 (dk_at dksX3_foldBy_10 9 rfl rfl)
theorem dX3_foldBy_246 : decode cX3_foldBy 246 = .ok (.getfield 78, 3) := dk_180 0 78 (dk_at dksX3_foldBy_10 10 rfl rfl)
theorem dX3_foldBy_249 : decode cX3_foldBy 249 = .ok (.imul, 1) := dk_104 (dk_at dksX3_foldBy_10 13 rfl rfl)
theorem dX3_foldBy_250 : decode cX3_foldBy 250 = .ok (.iload 4, 2) := dk_21 4 (dk_at dksX3_foldBy_10 14 rfl rfl)
theorem dX3_foldBy_252 : decode cX3_foldBy 252 = .ok (.imul, 1) := dk_104 (dk_at dksX3_foldBy_10 16 rfl rfl)
theorem dX3_foldBy_253 : decode cX3_foldBy 253 = .ok (.iload 13, 2) := dk_21 13 (dk_at dksX3_foldBy_10 17 rfl rfl)
theorem dX3_foldBy_255 : decode cX3_foldBy 255 = .ok (.iadd, 1) := dk_96 (dk_at dksX3_foldBy_10 19 rfl rfl)
theorem dX3_foldBy_256 : decode cX3_foldBy 256 = .ok (.iload 12, 2) := dk_21 12 (dk_at dksX3_foldBy_10 20 rfl rfl)
theorem dX3_foldBy_258 : decode cX3_foldBy 258 = .ok (.aload_n 0, 1) := dk_42 (dk_at dksX3_foldBy_10 22 rfl rfl)
theorem dX3_foldBy_259 : decode cX3_foldBy 259 = .ok (.getfield 78, 3) := dk_180 0 78 (dk_at dksX3_foldBy_11 0 rfl rfl)
theorem dX3_foldBy_262 : decode cX3_foldBy 262 = .ok (.iadd, 1) := dk_96 (dk_at dksX3_foldBy_11 3 rfl rfl)
theorem dX3_foldBy_263 : decode cX3_foldBy 263 = .ok (.iconst 1, 1) := dk_4 (dk_at dksX3_foldBy_11 4 rfl rfl)
theorem dX3_foldBy_264 : decode cX3_foldBy 264 = .ok (.isub, 1) := dk_100 (dk_at dksX3_foldBy_11 5 rfl rfl)
theorem dX3_foldBy_265 : decode cX3_foldBy 265 = .ok (.iload 13, 2) := dk_21 13 (dk_at dksX3_foldBy_11 6 rfl rfl)
theorem dX3_foldBy_267 : decode cX3_foldBy 267 = .ok (.isub, 1) := dk_100 (dk_at dksX3_foldBy_11 8 rfl rfl)
theorem dX3_foldBy_268 : decode cX3_foldBy 268 = .ok (.iload_n 1, 1) := dk_27 (dk_at dksX3_foldBy_11 9 rfl rfl)
theorem dX3_foldBy_269 : decode cX3_foldBy 269 = .ok (.iconst 3, 1) := dk_6 (dk_at dksX3_foldBy_11 10 rfl rfl)
theorem dX3_foldBy_270 : decode cX3_foldBy 270 = .ok (.if_icmp .ge 7, 3) := dk_162 0 7 (dk_at dksX3_foldBy_11 11 rfl rfl)
theorem dX3_foldBy_273 : decode cX3_foldBy 273 = .ok (.iconst 1, 1) := dk_4 (dk_at dksX3_foldBy_11 14 rfl rfl)
theorem dX3_foldBy_274 : decode cX3_foldBy 274 = .ok (.goto 4, 3) := dk_167 0 4 (dk_at dksX3_foldBy_11 15 rfl rfl)
theorem dX3_foldBy_277 : decode cX3_foldBy 277 = .ok (.iconst 2, 1) := dk_5 (dk_at dksX3_foldBy_11 18 rfl rfl)
theorem dX3_foldBy_278 : decode cX3_foldBy 278 = .ok (.invokevirtual 81, 3) := dk_182 0 81 (dk_at dksX3_foldBy_11 19 rfl rfl)
theorem dX3_foldBy_281 : decode cX3_foldBy 281 = .ok (.aload_n 0, 1) := dk_42 (dk_at dksX3_foldBy_11 22 rfl rfl)
theorem dX3_foldBy_282 : decode cX3_foldBy 282 = .ok (.iconst 2, 1) := dk_5 (dk_at dksX3_foldBy_11 23 rfl rfl)
theorem dX3_foldBy_283 : decode cX3_foldBy 283 = .ok (.aload_n 0, 1) := dk_42 (dk_at dksX3_foldBy_12 0 rfl rfl)
theorem dX3_foldBy_284 : decode cX3_foldBy 284 = .ok (.getfield 78, 3) := dk_180 0 78 (dk_at dksX3_foldBy_12 1 rfl rfl)
theorem dX3_foldBy_287 : decode cX3_foldBy 287 = .ok (.imul, 1) := dk_104 (dk_at dksX3_foldBy_12 4 rfl rfl)
theorem dX3_foldBy_288 : decode cX3_foldBy 288 = .ok (.iload 4, 2) := dk_21 4 (dk_at dksX3_foldBy_12 5 rfl rfl)
theorem dX3_foldBy_290 : decode cX3_foldBy 290 = .ok (.imul, 1) := dk_104 (dk_at dksX3_foldBy_12 7 rfl rfl)
theorem dX3_foldBy_291 : decode cX3_foldBy 291 = .ok (.aload_n 0, 1) := dk_42 (dk_at dksX3_foldBy_12 8 rfl rfl)
theorem dX3_foldBy_292 : decode cX3_foldBy 292 = .ok (.getfield 78, 3) := dk_180 0 78 (dk_at dksX3_foldBy_12 9 rfl rfl)
theorem dX3_foldBy_295 : decode cX3_foldBy 295 = .ok (.iadd, 1) := dk_96 (dk_at dksX3_foldBy_12 12 rfl rfl)
theorem dX3_foldBy_296 : decode cX3_foldBy 296 = .ok (.iload 13, 2) := dk_21 13 (dk_at dksX3_foldBy_12 13 rfl rfl)
theorem dX3_foldBy_298 : decode cX3_foldBy 298 = .ok (.iadd, 1) := dk_96 (dk_at dksX3_foldBy_12 15 rfl rfl)
theorem dX3_foldBy_299 : decode cX3_foldBy 299 = .ok (.iload 11, 2) := dk_21 11 (dk_at dksX3_foldBy_12 16 rfl rfl)
theorem dX3_foldBy_301 : decode cX3_foldBy 301 = .ok (.iload 13, 2) := dk_21 13 (dk_at dksX3_foldBy_12 18 rfl rfl)
theorem dX3_foldBy_303 : decode cX3_foldBy 303 = .ok (.iadd, 1) := dk_96 (dk_at dksX3_foldBy_12 20 rfl rfl)
theorem dX3_foldBy_304 : decode cX3_foldBy 304 = .ok (.iconst 0, 1) := dk_3 (dk_at dksX3_foldBy_12 21 rfl rfl)
theorem dX3_foldBy_305 : decode cX3_foldBy 305 = .ok (.invokevirtual 81, 3) := dk_182 0 81 (dk_at dksX3_foldBy_13 0 rfl rfl)
theorem dX3_foldBy_308 : decode cX3_foldBy 308 = .ok (.iinc 13 1, 3) := dk_132 13 1 (dk_at dksX3_foldBy_13 3 rfl rfl)
theorem dX3_foldBy_311 : decode cX3_foldBy 311 = .ok (.goto (-77), 3) := dk_167 255 179 (dk_at dksX3_foldBy_13 6 rfl rfl)
theorem dX3_foldBy_314 : decode cX3_foldBy 314 = .ok (.iinc 4 1, 3) := dk_132 4 1 (dk_at dksX3_foldBy_13 9 rfl rfl)
theorem dX3_foldBy_317 : decode cX3_foldBy 317 = .ok (.goto (-214), 3) := dk_167 255 42 (dk_at dksX3_foldBy_13 12 rfl rfl)
theorem dX3_foldBy_320 : decode cX3_foldBy 320 = .ok (.aload_n 0, 1) := dk_42 (dk_at dksX3_foldBy_13 15 rfl rfl)
theorem dX3_foldBy_321 : decode cX3_foldBy 321 = .ok (.iload_n 2, 1) := dk_28 (dk_at dksX3_foldBy_13 16 rfl rfl)
theorem dX3_foldBy_322 : decode cX3_foldBy 322 = .ok (.putfield 72, 3) := dk_181 0 72 (dk_at dksX3_foldBy_13 17 rfl rfl)
theorem dX3_foldBy_325 : decode cX3_foldBy 325 = .ok (.aload_n 0, 1) := dk_42 (dk_at dksX3_foldBy_13 20 rfl rfl)
theorem dX3_foldBy_326 : decode cX3_foldBy 326 = .ok (.iload_n 3, 1) := dk_29 (dk_at dksX3_foldBy_13 21 rfl rfl)
theorem dX3_foldBy_327 : decode cX3_foldBy 327 = .ok (.putfield 75, 3) := dk_181 0 75 (dk_at dksX3_foldBy_14 0 rfl rfl)
theorem dX3_foldBy_330 : decode cX3_foldBy 330 = .ok (.aload_n 0, 1) := dk_42 (dk_at dksX3_foldBy_14 3 rfl rfl)
theorem dX3_foldBy_331 : decode cX3_foldBy 331 = .ok (.iconst 2, 1) := dk_5 (dk_at dksX3_foldBy_14 4 rfl rfl)
theorem dX3_foldBy_332 : decode cX3_foldBy 332 = .ok (.aload_n 0, 1) := dk_42 (dk_at dksX3_foldBy_14 5 rfl rfl)
theorem dX3_foldBy_333 : decode cX3_foldBy 333 = .ok (.getfield 78, 3) := dk_180 0 78 (dk_at dksX3_foldBy_14 6 rfl rfl)
theorem dX3_foldBy_336 : decode cX3_foldBy 336 = .ok (.imul, 1) := dk_104 (dk_at dksX3_foldBy_14 9 rfl rfl)
theorem dX3_foldBy_337 : decode cX3_foldBy 337 = .ok (.putfield 78, 3) := dk_181 0 78 (dk_at dksX3_foldBy_14 10 rfl rfl)
theorem dX3_foldBy_340 : decode cX3_foldBy 340 = .ok (.return_, 1) := dk_177 (dk_at dksX3_foldBy_14 13 rfl rfl)
abbrev cX3_takeLayer : ByteArray := prog_33_method_12_code
def yX3_takeLayer : MethodName := ⟨RX3, "takeLayer", "(III)V"⟩
def dkwX3_takeLayer_4 : List UInt8 := [28, 46, 79, 177]
abbrev dktX3_takeLayer_4 : List UInt8 := dkwX3_takeLayer_4 ++ []
def dkwX3_takeLayer_3 : List UInt8 := [180, 0, 31, 27, 29, 5, 160, 0, 14, 4, 42, 180, 0, 43, 28, 46, 100, 167, 0, 9, 42, 180, 0, 43]
abbrev dktX3_takeLayer_3 : List UInt8 := dkwX3_takeLayer_3 ++ dktX3_takeLayer_4
def dkwX3_takeLayer_2 : List UInt8 := [160, 0, 14, 4, 42, 180, 0, 40, 28, 46, 100, 167, 0, 9, 42, 180, 0, 40, 28, 46, 79, 42]
abbrev dktX3_takeLayer_2 : List UInt8 := dkwX3_takeLayer_2 ++ dktX3_takeLayer_3
def dkwX3_takeLayer_1 : List UInt8 := [180, 0, 37, 28, 46, 167, 0, 11, 4, 42, 180, 0, 37, 28, 46, 100, 79, 42, 180, 0, 28, 27, 29, 4]
abbrev dktX3_takeLayer_1 : List UInt8 := dkwX3_takeLayer_1 ++ dktX3_takeLayer_2
def dkwX3_takeLayer_0 : List UInt8 := [42, 180, 0, 22, 27, 42, 180, 0, 34, 28, 46, 79, 42, 180, 0, 25, 27, 29, 154, 0, 12, 42]
abbrev dktX3_takeLayer_0 : List UInt8 := dkwX3_takeLayer_0 ++ dktX3_takeLayer_1
theorem dksX3_takeLayer_0 : cX3_takeLayer.data.toList.drop 0 = dktX3_takeLayer_0 := by decide +kernel
theorem dksX3_takeLayer_1 : cX3_takeLayer.data.toList.drop 22 = dktX3_takeLayer_1 := dk_seg dksX3_takeLayer_0 22 rfl rfl
theorem dksX3_takeLayer_2 : cX3_takeLayer.data.toList.drop 46 = dktX3_takeLayer_2 := dk_seg dksX3_takeLayer_1 24 rfl rfl
theorem dksX3_takeLayer_3 : cX3_takeLayer.data.toList.drop 68 = dktX3_takeLayer_3 := dk_seg dksX3_takeLayer_2 22 rfl rfl
theorem dksX3_takeLayer_4 : cX3_takeLayer.data.toList.drop 92 = dktX3_takeLayer_4 := dk_seg dksX3_takeLayer_3 24 rfl rfl
theorem dX3_takeLayer_0 : decode cX3_takeLayer 0 = .ok (.aload_n 0, 1) := dk_42 (dk_at dksX3_takeLayer_0 0 rfl rfl)
theorem dX3_takeLayer_1 : decode cX3_takeLayer 1 = .ok (.getfield 22, 3) := dk_180 0 22 (dk_at dksX3_takeLayer_0 1 rfl rfl)
theorem dX3_takeLayer_4 : decode cX3_takeLayer 4 = .ok (.iload_n 1, 1) := dk_27 (dk_at dksX3_takeLayer_0 4 rfl rfl)
theorem dX3_takeLayer_5 : decode cX3_takeLayer 5 = .ok (.aload_n 0, 1) := dk_42 (dk_at dksX3_takeLayer_0 5 rfl rfl)
theorem dX3_takeLayer_6 : decode cX3_takeLayer 6 = .ok (.getfield 34, 3) := dk_180 0 34 (dk_at dksX3_takeLayer_0 6 rfl rfl)
theorem dX3_takeLayer_9 : decode cX3_takeLayer 9 = .ok (.iload_n 2, 1) := dk_28 (dk_at dksX3_takeLayer_0 9 rfl rfl)
theorem dX3_takeLayer_10 : decode cX3_takeLayer 10 = .ok (.iaload, 1) := dk_46 (dk_at dksX3_takeLayer_0 10 rfl rfl)
theorem dX3_takeLayer_11 : decode cX3_takeLayer 11 = .ok (.iastore, 1) := dk_79 (dk_at dksX3_takeLayer_0 11 rfl rfl)
theorem dX3_takeLayer_12 : decode cX3_takeLayer 12 = .ok (.aload_n 0, 1) := dk_42 (dk_at dksX3_takeLayer_0 12 rfl rfl)
theorem dX3_takeLayer_13 : decode cX3_takeLayer 13 = .ok (.getfield 25, 3) := dk_180 0 25 (dk_at dksX3_takeLayer_0 13 rfl rfl)
theorem dX3_takeLayer_16 : decode cX3_takeLayer 16 = .ok (.iload_n 1, 1) := dk_27 (dk_at dksX3_takeLayer_0 16 rfl rfl)
theorem dX3_takeLayer_17 : decode cX3_takeLayer 17 = .ok (.iload_n 3, 1) := dk_29 (dk_at dksX3_takeLayer_0 17 rfl rfl)
theorem dX3_takeLayer_18 : decode cX3_takeLayer 18 = .ok (.ifCond .ne 12, 3) := dk_154 0 12 (dk_at dksX3_takeLayer_0 18 rfl rfl)
theorem dX3_takeLayer_21 : decode cX3_takeLayer 21 = .ok (.aload_n 0, 1) := dk_42 (dk_at dksX3_takeLayer_0 21 rfl rfl)
theorem dX3_takeLayer_22 : decode cX3_takeLayer 22 = .ok (.getfield 37, 3) := dk_180 0 37 (dk_at dksX3_takeLayer_1 0 rfl rfl)
theorem dX3_takeLayer_25 : decode cX3_takeLayer 25 = .ok (.iload_n 2, 1) := dk_28 (dk_at dksX3_takeLayer_1 3 rfl rfl)
theorem dX3_takeLayer_26 : decode cX3_takeLayer 26 = .ok (.iaload, 1) := dk_46 (dk_at dksX3_takeLayer_1 4 rfl rfl)
theorem dX3_takeLayer_27 : decode cX3_takeLayer 27 = .ok (.goto 11, 3) := dk_167 0 11 (dk_at dksX3_takeLayer_1 5 rfl rfl)
theorem dX3_takeLayer_30 : decode cX3_takeLayer 30 = .ok (.iconst 1, 1) := dk_4 (dk_at dksX3_takeLayer_1 8 rfl rfl)
theorem dX3_takeLayer_31 : decode cX3_takeLayer 31 = .ok (.aload_n 0, 1) := dk_42 (dk_at dksX3_takeLayer_1 9 rfl rfl)
theorem dX3_takeLayer_32 : decode cX3_takeLayer 32 = .ok (.getfield 37, 3) := dk_180 0 37 (dk_at dksX3_takeLayer_1 10 rfl rfl)
theorem dX3_takeLayer_35 : decode cX3_takeLayer 35 = .ok (.iload_n 2, 1) := dk_28 (dk_at dksX3_takeLayer_1 13 rfl rfl)
theorem dX3_takeLayer_36 : decode cX3_takeLayer 36 = .ok (.iaload, 1) := dk_46 (dk_at dksX3_takeLayer_1 14 rfl rfl)
theorem dX3_takeLayer_37 : decode cX3_takeLayer 37 = .ok (.isub, 1) := dk_100 (dk_at dksX3_takeLayer_1 15 rfl rfl)
theorem dX3_takeLayer_38 : decode cX3_takeLayer 38 = .ok (.iastore, 1) := dk_79 (dk_at dksX3_takeLayer_1 16 rfl rfl)
theorem dX3_takeLayer_39 : decode cX3_takeLayer 39 = .ok (.aload_n 0, 1) := dk_42 (dk_at dksX3_takeLayer_1 17 rfl rfl)
theorem dX3_takeLayer_40 : decode cX3_takeLayer 40 = .ok (.getfield 28, 3) := dk_180 0 28 (dk_at dksX3_takeLayer_1 18 rfl rfl)
theorem dX3_takeLayer_43 : decode cX3_takeLayer 43 = .ok (.iload_n 1, 1) := dk_27 (dk_at dksX3_takeLayer_1 21 rfl rfl)
theorem dX3_takeLayer_44 : decode cX3_takeLayer 44 = .ok (.iload_n 3, 1) := dk_29 (dk_at dksX3_takeLayer_1 22 rfl rfl)
theorem dX3_takeLayer_45 : decode cX3_takeLayer 45 = .ok (.iconst 1, 1) := dk_4 (dk_at dksX3_takeLayer_1 23 rfl rfl)
theorem dX3_takeLayer_46 : decode cX3_takeLayer 46 = .ok (.if_icmp .ne 14, 3) := dk_160 0 14 (dk_at dksX3_takeLayer_2 0 rfl rfl)
theorem dX3_takeLayer_49 : decode cX3_takeLayer 49 = .ok (.iconst 1, 1) := dk_4 (dk_at dksX3_takeLayer_2 3 rfl rfl)
theorem dX3_takeLayer_50 : decode cX3_takeLayer 50 = .ok (.aload_n 0, 1) := dk_42 (dk_at dksX3_takeLayer_2 4 rfl rfl)
theorem dX3_takeLayer_51 : decode cX3_takeLayer 51 = .ok (.getfield 40, 3) := dk_180 0 40 (dk_at dksX3_takeLayer_2 5 rfl rfl)
theorem dX3_takeLayer_54 : decode cX3_takeLayer 54 = .ok (.iload_n 2, 1) := dk_28 (dk_at dksX3_takeLayer_2 8 rfl rfl)
theorem dX3_takeLayer_55 : decode cX3_takeLayer 55 = .ok (.iaload, 1) := dk_46 (dk_at dksX3_takeLayer_2 9 rfl rfl)
theorem dX3_takeLayer_56 : decode cX3_takeLayer 56 = .ok (.isub, 1) := dk_100 (dk_at dksX3_takeLayer_2 10 rfl rfl)
theorem dX3_takeLayer_57 : decode cX3_takeLayer 57 = .ok (.goto 9, 3) := dk_167 0 9 (dk_at dksX3_takeLayer_2 11 rfl rfl)
theorem dX3_takeLayer_60 : decode cX3_takeLayer 60 = .ok (.aload_n 0, 1) := dk_42 (dk_at dksX3_takeLayer_2 14 rfl rfl)
theorem dX3_takeLayer_61 : decode cX3_takeLayer 61 = .ok (.getfield 40, 3) := dk_180 0 40 (dk_at dksX3_takeLayer_2 15 rfl rfl)
theorem dX3_takeLayer_64 : decode cX3_takeLayer 64 = .ok (.iload_n 2, 1) := dk_28 (dk_at dksX3_takeLayer_2 18 rfl rfl)
theorem dX3_takeLayer_65 : decode cX3_takeLayer 65 = .ok (.iaload, 1) := dk_46 (dk_at dksX3_takeLayer_2 19 rfl rfl)
theorem dX3_takeLayer_66 : decode cX3_takeLayer 66 = .ok (.iastore, 1) := dk_79 (dk_at dksX3_takeLayer_2 20 rfl rfl)
theorem dX3_takeLayer_67 : decode cX3_takeLayer 67 = .ok (.aload_n 0, 1) := dk_42 (dk_at dksX3_takeLayer_2 21 rfl rfl)
theorem dX3_takeLayer_68 : decode cX3_takeLayer 68 = .ok (.getfield 31, 3) := dk_180 0 31 (dk_at dksX3_takeLayer_3 0 rfl rfl)
theorem dX3_takeLayer_71 : decode cX3_takeLayer 71 = .ok (.iload_n 1, 1) := dk_27 (dk_at dksX3_takeLayer_3 3 rfl rfl)
theorem dX3_takeLayer_72 : decode cX3_takeLayer 72 = .ok (.iload_n 3, 1) := dk_29 (dk_at dksX3_takeLayer_3 4 rfl rfl)
theorem dX3_takeLayer_73 : decode cX3_takeLayer 73 = .ok (.iconst 2, 1) := dk_5 (dk_at dksX3_takeLayer_3 5 rfl rfl)
theorem dX3_takeLayer_74 : decode cX3_takeLayer 74 = .ok (.if_icmp .ne 14, 3) := dk_160 0 14 (dk_at dksX3_takeLayer_3 6 rfl rfl)
theorem dX3_takeLayer_77 : decode cX3_takeLayer 77 = .ok (.iconst 1, 1) := dk_4 (dk_at dksX3_takeLayer_3 9 rfl rfl)
theorem dX3_takeLayer_78 : decode cX3_takeLayer 78 = .ok (.aload_n 0, 1) := dk_42 (dk_at dksX3_takeLayer_3 10 rfl rfl)
theorem dX3_takeLayer_79 : decode cX3_takeLayer 79 = .ok (.getfield 43, 3) := dk_180 0 43 (dk_at dksX3_takeLayer_3 11 rfl rfl)
theorem dX3_takeLayer_82 : decode cX3_takeLayer 82 = .ok (.iload_n 2, 1) := dk_28 (dk_at dksX3_takeLayer_3 14 rfl rfl)
theorem dX3_takeLayer_83 : decode cX3_takeLayer 83 = .ok (.iaload, 1) := dk_46 (dk_at dksX3_takeLayer_3 15 rfl rfl)
theorem dX3_takeLayer_84 : decode cX3_takeLayer 84 = .ok (.isub, 1) := dk_100 (dk_at dksX3_takeLayer_3 16 rfl rfl)
theorem dX3_takeLayer_85 : decode cX3_takeLayer 85 = .ok (.goto 9, 3) := dk_167 0 9 (dk_at dksX3_takeLayer_3 17 rfl rfl)
theorem dX3_takeLayer_88 : decode cX3_takeLayer 88 = .ok (.aload_n 0, 1) := dk_42 (dk_at dksX3_takeLayer_3 20 rfl rfl)
theorem dX3_takeLayer_89 : decode cX3_takeLayer 89 = .ok (.getfield 43, 3) := dk_180 0 43 (dk_at dksX3_takeLayer_3 21 rfl rfl)
theorem dX3_takeLayer_92 : decode cX3_takeLayer 92 = .ok (.iload_n 2, 1) := dk_28 (dk_at dksX3_takeLayer_4 0 rfl rfl)
theorem dX3_takeLayer_93 : decode cX3_takeLayer 93 = .ok (.iaload, 1) := dk_46 (dk_at dksX3_takeLayer_4 1 rfl rfl)
theorem dX3_takeLayer_94 : decode cX3_takeLayer 94 = .ok (.iastore, 1) := dk_79 (dk_at dksX3_takeLayer_4 2 rfl rfl)
theorem dX3_takeLayer_95 : decode cX3_takeLayer 95 = .ok (.return_, 1) := dk_177 (dk_at dksX3_takeLayer_4 3 rfl rfl)
abbrev cX3_mayFold : ByteArray := prog_33_method_11_code
def yX3_mayFold : MethodName := ⟨RX3, "mayFold", "(I)Z"⟩
def dkwX3_mayFold_1 : List UInt8 := [180, 0, 72, 4, 164, 0, 7, 4, 167, 0, 4, 3, 172]
abbrev dktX3_mayFold_1 : List UInt8 := dkwX3_mayFold_1 ++ []
def dkwX3_mayFold_0 : List UInt8 := [27, 6, 162, 0, 19, 42, 180, 0, 75, 4, 164, 0, 7, 4, 167, 0, 20, 3, 167, 0, 16, 42]
abbrev dktX3_mayFold_0 : List UInt8 := dkwX3_mayFold_0 ++ dktX3_mayFold_1
theorem dksX3_mayFold_0 : cX3_mayFold.data.toList.drop 0 = dktX3_mayFold_0 := by decide +kernel
theorem dksX3_mayFold_1 : cX3_mayFold.data.toList.drop 22 = dktX3_mayFold_1 := dk_seg dksX3_mayFold_0 22 rfl rfl
theorem dX3_mayFold_0 : decode cX3_mayFold 0 = .ok (.iload_n 1, 1) := dk_27 (dk_at dksX3_mayFold_0 0 rfl rfl)
theorem dX3_mayFold_1 : decode cX3_mayFold 1 = .ok (.iconst 3, 1) := dk_6 (dk_at dksX3_mayFold_0 1 rfl rfl)
theorem dX3_mayFold_2 : decode cX3_mayFold 2 = .ok (.if_icmp .ge 19, 3) := dk_162 0 19 (dk_at dksX3_mayFold_0 2 rfl rfl)
theorem dX3_mayFold_5 : decode cX3_mayFold 5 = .ok (.aload_n 0, 1) := dk_42 (dk_at dksX3_mayFold_0 5 rfl rfl)
theorem dX3_mayFold_6 : decode cX3_mayFold 6 = .ok (.getfield 75, 3) := dk_180 0 75 (dk_at dksX3_mayFold_0 6 rfl rfl)
theorem dX3_mayFold_9 : decode cX3_mayFold 9 = .ok (.iconst 1, 1) := dk_4 (dk_at dksX3_mayFold_0 9 rfl rfl)
theorem dX3_mayFold_10 : decode cX3_mayFold 10 = .ok (.if_icmp .le 7, 3) := dk_164 0 7 (dk_at dksX3_mayFold_0 10 rfl rfl)
theorem dX3_mayFold_13 : decode cX3_mayFold 13 = .ok (.iconst 1, 1) := dk_4 (dk_at dksX3_mayFold_0 13 rfl rfl)
theorem dX3_mayFold_14 : decode cX3_mayFold 14 = .ok (.goto 20, 3) := dk_167 0 20 (dk_at dksX3_mayFold_0 14 rfl rfl)
theorem dX3_mayFold_17 : decode cX3_mayFold 17 = .ok (.iconst 0, 1) := dk_3 (dk_at dksX3_mayFold_0 17 rfl rfl)
theorem dX3_mayFold_18 : decode cX3_mayFold 18 = .ok (.goto 16, 3) := dk_167 0 16 (dk_at dksX3_mayFold_0 18 rfl rfl)
theorem dX3_mayFold_21 : decode cX3_mayFold 21 = .ok (.aload_n 0, 1) := dk_42 (dk_at dksX3_mayFold_0 21 rfl rfl)
theorem dX3_mayFold_22 : decode cX3_mayFold 22 = .ok (.getfield 72, 3) := dk_180 0 72 (dk_at dksX3_mayFold_1 0 rfl rfl)
theorem dX3_mayFold_25 : decode cX3_mayFold 25 = .ok (.iconst 1, 1) := dk_4 (dk_at dksX3_mayFold_1 3 rfl rfl)
theorem dX3_mayFold_26 : decode cX3_mayFold 26 = .ok (.if_icmp .le 7, 3) := dk_164 0 7 (dk_at dksX3_mayFold_1 4 rfl rfl)
theorem dX3_mayFold_29 : decode cX3_mayFold 29 = .ok (.iconst 1, 1) := dk_4 (dk_at dksX3_mayFold_1 7 rfl rfl)
theorem dX3_mayFold_30 : decode cX3_mayFold 30 = .ok (.goto 4, 3) := dk_167 0 4 (dk_at dksX3_mayFold_1 8 rfl rfl)
theorem dX3_mayFold_33 : decode cX3_mayFold 33 = .ok (.iconst 0, 1) := dk_3 (dk_at dksX3_mayFold_1 11 rfl rfl)
theorem dX3_mayFold_34 : decode cX3_mayFold 34 = .ok (.ireturn, 1) := dk_172 (dk_at dksX3_mayFold_1 12 rfl rfl)
abbrev cX3_isHeld : ByteArray := prog_33_method_7_code
def yX3_isHeld : MethodName := ⟨RX3, "isHeld", "()Z"⟩
def dkwX3_isHeld_1 : List UInt8 := [3, 172]
abbrev dktX3_isHeld_1 : List UInt8 := dkwX3_isHeld_1 ++ []
def dkwX3_isHeld_0 : List UInt8 := [42, 180, 0, 7, 16, 8, 46, 154, 0, 13, 42, 180, 0, 7, 16, 9, 46, 153, 0, 7, 4, 167, 0, 4]
abbrev dktX3_isHeld_0 : List UInt8 := dkwX3_isHeld_0 ++ dktX3_isHeld_1
theorem dksX3_isHeld_0 : cX3_isHeld.data.toList.drop 0 = dktX3_isHeld_0 := by decide +kernel
theorem dksX3_isHeld_1 : cX3_isHeld.data.toList.drop 24 = dktX3_isHeld_1 := dk_seg dksX3_isHeld_0 24 rfl rfl
theorem dX3_isHeld_0 : decode cX3_isHeld 0 = .ok (.aload_n 0, 1) := dk_42 (dk_at dksX3_isHeld_0 0 rfl rfl)
theorem dX3_isHeld_1 : decode cX3_isHeld 1 = .ok (.getfield 7, 3) := dk_180 0 7 (dk_at dksX3_isHeld_0 1 rfl rfl)
theorem dX3_isHeld_4 : decode cX3_isHeld 4 = .ok (.bipush 8, 2) := dk_16 8 (dk_at dksX3_isHeld_0 4 rfl rfl)
theorem dX3_isHeld_6 : decode cX3_isHeld 6 = .ok (.iaload, 1) := dk_46 (dk_at dksX3_isHeld_0 6 rfl rfl)
theorem dX3_isHeld_7 : decode cX3_isHeld 7 = .ok (.ifCond .ne 13, 3) := dk_154 0 13 (dk_at dksX3_isHeld_0 7 rfl rfl)
theorem dX3_isHeld_10 : decode cX3_isHeld 10 = .ok (.aload_n 0, 1) := dk_42 (dk_at dksX3_isHeld_0 10 rfl rfl)
theorem dX3_isHeld_11 : decode cX3_isHeld 11 = .ok (.getfield 7, 3) := dk_180 0 7 (dk_at dksX3_isHeld_0 11 rfl rfl)
theorem dX3_isHeld_14 : decode cX3_isHeld 14 = .ok (.bipush 9, 2) := dk_16 9 (dk_at dksX3_isHeld_0 14 rfl rfl)
theorem dX3_isHeld_16 : decode cX3_isHeld 16 = .ok (.iaload, 1) := dk_46 (dk_at dksX3_isHeld_0 16 rfl rfl)
theorem dX3_isHeld_17 : decode cX3_isHeld 17 = .ok (.ifCond .eq 7, 3) := dk_153 0 7 (dk_at dksX3_isHeld_0 17 rfl rfl)
theorem dX3_isHeld_20 : decode cX3_isHeld 20 = .ok (.iconst 1, 1) := dk_4 (dk_at dksX3_isHeld_0 20 rfl rfl)
theorem dX3_isHeld_21 : decode cX3_isHeld 21 = .ok (.goto 4, 3) := dk_167 0 4 (dk_at dksX3_isHeld_0 21 rfl rfl)
theorem dX3_isHeld_24 : decode cX3_isHeld 24 = .ok (.iconst 0, 1) := dk_3 (dk_at dksX3_isHeld_1 0 rfl rfl)
theorem dX3_isHeld_25 : decode cX3_isHeld 25 = .ok (.ireturn, 1) := dk_172 (dk_at dksX3_isHeld_1 1 rfl rfl)
abbrev cX3_unfold : ByteArray := prog_33_method_29_code
def yX3_unfold : MethodName := ⟨RX3, "unfold", "()I"⟩
def dkwX3_unfold_2 : List UInt8 := [5, 46, 172]
abbrev dktX3_unfold_2 : List UInt8 := dkwX3_unfold_2 ++ []
def dkwX3_unfold_1 : List UInt8 := [180, 0, 7, 16, 86, 92, 46, 4, 96, 79, 42, 180, 0, 7, 5, 92, 46, 4, 100, 79, 42, 180, 0, 7]
abbrev dktX3_unfold_1 : List UInt8 := dkwX3_unfold_1 ++ dktX3_unfold_2
def dkwX3_unfold_0 : List UInt8 := [42, 180, 0, 7, 5, 46, 153, 0, 10, 42, 182, 0, 142, 153, 0, 6, 16, 254, 172, 42, 182, 0, 139, 42]
abbrev dktX3_unfold_0 : List UInt8 := dkwX3_unfold_0 ++ dktX3_unfold_1
theorem dksX3_unfold_0 : cX3_unfold.data.toList.drop 0 = dktX3_unfold_0 := by decide +kernel
theorem dksX3_unfold_1 : cX3_unfold.data.toList.drop 24 = dktX3_unfold_1 := dk_seg dksX3_unfold_0 24 rfl rfl
theorem dksX3_unfold_2 : cX3_unfold.data.toList.drop 48 = dktX3_unfold_2 := dk_seg dksX3_unfold_1 24 rfl rfl
theorem dX3_unfold_0 : decode cX3_unfold 0 = .ok (.aload_n 0, 1) := dk_42 (dk_at dksX3_unfold_0 0 rfl rfl)
theorem dX3_unfold_1 : decode cX3_unfold 1 = .ok (.getfield 7, 3) := dk_180 0 7 (dk_at dksX3_unfold_0 1 rfl rfl)
theorem dX3_unfold_4 : decode cX3_unfold 4 = .ok (.iconst 2, 1) := dk_5 (dk_at dksX3_unfold_0 4 rfl rfl)
theorem dX3_unfold_5 : decode cX3_unfold 5 = .ok (.iaload, 1) := dk_46 (dk_at dksX3_unfold_0 5 rfl rfl)
theorem dX3_unfold_6 : decode cX3_unfold 6 = .ok (.ifCond .eq 10, 3) := dk_153 0 10 (dk_at dksX3_unfold_0 6 rfl rfl)
theorem dX3_unfold_9 : decode cX3_unfold 9 = .ok (.aload_n 0, 1) := dk_42 (dk_at dksX3_unfold_0 9 rfl rfl)
theorem dX3_unfold_10 : decode cX3_unfold 10 = .ok (.invokevirtual 142, 3) := dk_182 0 142 (dk_at dksX3_unfold_0 10 rfl rfl)
theorem dX3_unfold_13 : decode cX3_unfold 13 = .ok (.ifCond .eq 6, 3) := dk_153 0 6 (dk_at dksX3_unfold_0 13 rfl rfl)
theorem dX3_unfold_16 : decode cX3_unfold 16 = .ok (.bipush (-2), 2) := dk_16 254 (dk_at dksX3_unfold_0 16 rfl rfl)
theorem dX3_unfold_18 : decode cX3_unfold 18 = .ok (.ireturn, 1) := dk_172 (dk_at dksX3_unfold_0 18 rfl rfl)
theorem dX3_unfold_19 : decode cX3_unfold 19 = .ok (.aload_n 0, 1) := dk_42 (dk_at dksX3_unfold_0 19 rfl rfl)
theorem dX3_unfold_20 : decode cX3_unfold 20 = .ok (.invokevirtual 139, 3) := dk_182 0 139 (dk_at dksX3_unfold_0 20 rfl rfl)
theorem dX3_unfold_23 : decode cX3_unfold 23 = .ok (.aload_n 0, 1) := dk_42 (dk_at dksX3_unfold_0 23 rfl rfl)
theorem dX3_unfold_24 : decode cX3_unfold 24 = .ok (.getfield 7, 3) := dk_180 0 7 (dk_at dksX3_unfold_1 0 rfl rfl)
theorem dX3_unfold_27 : decode cX3_unfold 27 = .ok (.bipush 86, 2) := dk_16 86 (dk_at dksX3_unfold_1 3 rfl rfl)
theorem dX3_unfold_29 : decode cX3_unfold 29 = .ok (.dup2, 1) := dk_92 (dk_at dksX3_unfold_1 5 rfl rfl)
theorem dX3_unfold_30 : decode cX3_unfold 30 = .ok (.iaload, 1) := dk_46 (dk_at dksX3_unfold_1 6 rfl rfl)
theorem dX3_unfold_31 : decode cX3_unfold 31 = .ok (.iconst 1, 1) := dk_4 (dk_at dksX3_unfold_1 7 rfl rfl)
theorem dX3_unfold_32 : decode cX3_unfold 32 = .ok (.iadd, 1) := dk_96 (dk_at dksX3_unfold_1 8 rfl rfl)
theorem dX3_unfold_33 : decode cX3_unfold 33 = .ok (.iastore, 1) := dk_79 (dk_at dksX3_unfold_1 9 rfl rfl)
theorem dX3_unfold_34 : decode cX3_unfold 34 = .ok (.aload_n 0, 1) := dk_42 (dk_at dksX3_unfold_1 10 rfl rfl)
theorem dX3_unfold_35 : decode cX3_unfold 35 = .ok (.getfield 7, 3) := dk_180 0 7 (dk_at dksX3_unfold_1 11 rfl rfl)
theorem dX3_unfold_38 : decode cX3_unfold 38 = .ok (.iconst 2, 1) := dk_5 (dk_at dksX3_unfold_1 14 rfl rfl)
theorem dX3_unfold_39 : decode cX3_unfold 39 = .ok (.dup2, 1) := dk_92 (dk_at dksX3_unfold_1 15 rfl rfl)
theorem dX3_unfold_40 : decode cX3_unfold 40 = .ok (.iaload, 1) := dk_46 (dk_at dksX3_unfold_1 16 rfl rfl)
theorem dX3_unfold_41 : decode cX3_unfold 41 = .ok (.iconst 1, 1) := dk_4 (dk_at dksX3_unfold_1 17 rfl rfl)
theorem dX3_unfold_42 : decode cX3_unfold 42 = .ok (.isub, 1) := dk_100 (dk_at dksX3_unfold_1 18 rfl rfl)
theorem dX3_unfold_43 : decode cX3_unfold 43 = .ok (.iastore, 1) := dk_79 (dk_at dksX3_unfold_1 19 rfl rfl)
theorem dX3_unfold_44 : decode cX3_unfold 44 = .ok (.aload_n 0, 1) := dk_42 (dk_at dksX3_unfold_1 20 rfl rfl)
theorem dX3_unfold_45 : decode cX3_unfold 45 = .ok (.getfield 7, 3) := dk_180 0 7 (dk_at dksX3_unfold_1 21 rfl rfl)
theorem dX3_unfold_48 : decode cX3_unfold 48 = .ok (.iconst 2, 1) := dk_5 (dk_at dksX3_unfold_2 0 rfl rfl)
theorem dX3_unfold_49 : decode cX3_unfold 49 = .ok (.iaload, 1) := dk_46 (dk_at dksX3_unfold_2 1 rfl rfl)
theorem dX3_unfold_50 : decode cX3_unfold 50 = .ok (.ireturn, 1) := dk_172 (dk_at dksX3_unfold_2 2 rfl rfl)
abbrev cX3_setSpine : ByteArray := prog_33_method_30_code
def yX3_setSpine : MethodName := ⟨RX3, "setSpine", "(I)I"⟩
def dkwX3_setSpine_1 : List UInt8 := [172, 42, 182, 0, 139, 42, 180, 0, 7, 16, 7, 46, 61, 42, 180, 0, 7, 16, 7, 27, 79, 28, 172]
abbrev dktX3_setSpine_1 : List UInt8 := dkwX3_setSpine_1 ++ []
def dkwX3_setSpine_0 : List UInt8 := [27, 133, 9, 10, 184, 0, 101, 154, 0, 5, 2, 172, 42, 180, 0, 7, 16, 9, 46, 153, 0, 6, 16, 254]
abbrev dktX3_setSpine_0 : List UInt8 := dkwX3_setSpine_0 ++ dktX3_setSpine_1
theorem dksX3_setSpine_0 : cX3_setSpine.data.toList.drop 0 = dktX3_setSpine_0 := by decide +kernel
theorem dksX3_setSpine_1 : cX3_setSpine.data.toList.drop 24 = dktX3_setSpine_1 := dk_seg dksX3_setSpine_0 24 rfl rfl
theorem dX3_setSpine_0 : decode cX3_setSpine 0 = .ok (.iload_n 1, 1) := dk_27 (dk_at dksX3_setSpine_0 0 rfl rfl)
theorem dX3_setSpine_1 : decode cX3_setSpine 1 = .ok (.i2l, 1) := dk_133 (dk_at dksX3_setSpine_0 1 rfl rfl)
theorem dX3_setSpine_2 : decode cX3_setSpine 2 = .ok (.lconst 0, 1) := dk_9 (dk_at dksX3_setSpine_0 2 rfl rfl)
theorem dX3_setSpine_3 : decode cX3_setSpine 3 = .ok (.lconst 1, 1) := dk_10 (dk_at dksX3_setSpine_0 3 rfl rfl)
theorem dX3_setSpine_4 : decode cX3_setSpine 4 = .ok (.invokestatic 101, 3) := dk_184 0 101 (dk_at dksX3_setSpine_0 4 rfl rfl)
theorem dX3_setSpine_7 : decode cX3_setSpine 7 = .ok (.ifCond .ne 5, 3) := dk_154 0 5 (dk_at dksX3_setSpine_0 7 rfl rfl)
theorem dX3_setSpine_10 : decode cX3_setSpine 10 = .ok (.iconst (-1), 1) := dk_2 (dk_at dksX3_setSpine_0 10 rfl rfl)
theorem dX3_setSpine_11 : decode cX3_setSpine 11 = .ok (.ireturn, 1) := dk_172 (dk_at dksX3_setSpine_0 11 rfl rfl)
theorem dX3_setSpine_12 : decode cX3_setSpine 12 = .ok (.aload_n 0, 1) := dk_42 (dk_at dksX3_setSpine_0 12 rfl rfl)
theorem dX3_setSpine_13 : decode cX3_setSpine 13 = .ok (.getfield 7, 3) := dk_180 0 7 (dk_at dksX3_setSpine_0 13 rfl rfl)
theorem dX3_setSpine_16 : decode cX3_setSpine 16 = .ok (.bipush 9, 2) := dk_16 9 (dk_at dksX3_setSpine_0 16 rfl rfl)
theorem dX3_setSpine_18 : decode cX3_setSpine 18 = .ok (.iaload, 1) := dk_46 (dk_at dksX3_setSpine_0 18 rfl rfl)
theorem dX3_setSpine_19 : decode cX3_setSpine 19 = .ok (.ifCond .eq 6, 3) := dk_153 0 6 (dk_at dksX3_setSpine_0 19 rfl rfl)
theorem dX3_setSpine_22 : decode cX3_setSpine 22 = .ok (.bipush (-2), 2) := dk_16 254 (dk_at dksX3_setSpine_0 22 rfl rfl)
theorem dX3_setSpine_24 : decode cX3_setSpine 24 = .ok (.ireturn, 1) := dk_172 (dk_at dksX3_setSpine_1 0 rfl rfl)
theorem dX3_setSpine_25 : decode cX3_setSpine 25 = .ok (.aload_n 0, 1) := dk_42 (dk_at dksX3_setSpine_1 1 rfl rfl)
theorem dX3_setSpine_26 : decode cX3_setSpine 26 = .ok (.invokevirtual 139, 3) := dk_182 0 139 (dk_at dksX3_setSpine_1 2 rfl rfl)
theorem dX3_setSpine_29 : decode cX3_setSpine 29 = .ok (.aload_n 0, 1) := dk_42 (dk_at dksX3_setSpine_1 5 rfl rfl)
theorem dX3_setSpine_30 : decode cX3_setSpine 30 = .ok (.getfield 7, 3) := dk_180 0 7 (dk_at dksX3_setSpine_1 6 rfl rfl)
theorem dX3_setSpine_33 : decode cX3_setSpine 33 = .ok (.bipush 7, 2) := dk_16 7 (dk_at dksX3_setSpine_1 9 rfl rfl)
theorem dX3_setSpine_35 : decode cX3_setSpine 35 = .ok (.iaload, 1) := dk_46 (dk_at dksX3_setSpine_1 11 rfl rfl)
theorem dX3_setSpine_36 : decode cX3_setSpine 36 = .ok (.istore_n 2, 1) := dk_61 (dk_at dksX3_setSpine_1 12 rfl rfl)
theorem dX3_setSpine_37 : decode cX3_setSpine 37 = .ok (.aload_n 0, 1) := dk_42 (dk_at dksX3_setSpine_1 13 rfl rfl)
theorem dX3_setSpine_38 : decode cX3_setSpine 38 = .ok (.getfield 7, 3) := dk_180 0 7 (dk_at dksX3_setSpine_1 14 rfl rfl)
theorem dX3_setSpine_41 : decode cX3_setSpine 41 = .ok (.bipush 7, 2) := dk_16 7 (dk_at dksX3_setSpine_1 17 rfl rfl)
theorem dX3_setSpine_43 : decode cX3_setSpine 43 = .ok (.iload_n 1, 1) := dk_27 (dk_at dksX3_setSpine_1 19 rfl rfl)
theorem dX3_setSpine_44 : decode cX3_setSpine 44 = .ok (.iastore, 1) := dk_79 (dk_at dksX3_setSpine_1 20 rfl rfl)
theorem dX3_setSpine_45 : decode cX3_setSpine 45 = .ok (.iload_n 2, 1) := dk_28 (dk_at dksX3_setSpine_1 21 rfl rfl)
theorem dX3_setSpine_46 : decode cX3_setSpine 46 = .ok (.ireturn, 1) := dk_172 (dk_at dksX3_setSpine_1 22 rfl rfl)
abbrev cX3_print : ByteArray := prog_33_method_33_code
def yX3_print : MethodName := ⟨RX3, "print", "(IIIII)I"⟩
def dkwX3_print_5 : List UInt8 := [167, 0, 5, 21, 7, 172]
abbrev dktX3_print_5 : List UInt8 := dkwX3_print_5 ++ []
def dkwX3_print_4 : List UInt8 := [96, 46, 54, 7, 42, 21, 6, 21, 4, 21, 5, 182, 0, 153, 87, 21, 7, 156, 0, 8, 16, 247]
abbrev dktX3_print_4 : List UInt8 := dkwX3_print_4 ++ dktX3_print_5
def dkwX3_print_3 : List UInt8 := [5, 42, 180, 0, 7, 4, 46, 27, 104, 28, 96, 104, 29, 96, 54, 6, 42, 180, 0, 7, 16, 90, 21, 6]
abbrev dktX3_print_3 : List UInt8 := dkwX3_print_3 ++ dktX3_print_4
def dkwX3_print_2 : List UInt8 := [172, 42, 180, 0, 7, 5, 46, 157, 0, 10, 42, 182, 0, 142, 153, 0, 6, 16, 254, 172, 42, 182, 0, 139]
abbrev dktX3_print_2 : List UInt8 := dkwX3_print_2 ++ dktX3_print_3
def dkwX3_print_1 : List UInt8 := [20, 0, 149, 20, 0, 151, 184, 0, 101, 153, 0, 14, 21, 5, 133, 9, 10, 184, 0, 101, 154, 0, 5, 2]
abbrev dktX3_print_1 : List UInt8 := dkwX3_print_1 ++ dktX3_print_2
def dkwX3_print_0 : List UInt8 := [42, 27, 28, 182, 0, 146, 153, 0, 39, 29, 133, 9, 10, 184, 0, 101, 153, 0, 29, 21, 4, 133]
abbrev dktX3_print_0 : List UInt8 := dkwX3_print_0 ++ dktX3_print_1
theorem dksX3_print_0 : cX3_print.data.toList.drop 0 = dktX3_print_0 := by decide +kernel
theorem dksX3_print_1 : cX3_print.data.toList.drop 22 = dktX3_print_1 := dk_seg dksX3_print_0 22 rfl rfl
theorem dksX3_print_2 : cX3_print.data.toList.drop 46 = dktX3_print_2 := dk_seg dksX3_print_1 24 rfl rfl
theorem dksX3_print_3 : cX3_print.data.toList.drop 70 = dktX3_print_3 := dk_seg dksX3_print_2 24 rfl rfl
theorem dksX3_print_4 : cX3_print.data.toList.drop 94 = dktX3_print_4 := dk_seg dksX3_print_3 24 rfl rfl
theorem dksX3_print_5 : cX3_print.data.toList.drop 116 = dktX3_print_5 := dk_seg dksX3_print_4 22 rfl rfl
theorem dX3_print_0 : decode cX3_print 0 = .ok (.aload_n 0, 1) := dk_42 (dk_at dksX3_print_0 0 rfl rfl)
theorem dX3_print_1 : decode cX3_print 1 = .ok (.iload_n 1, 1) := dk_27 (dk_at dksX3_print_0 1 rfl rfl)
theorem dX3_print_2 : decode cX3_print 2 = .ok (.iload_n 2, 1) := dk_28 (dk_at dksX3_print_0 2 rfl rfl)
theorem dX3_print_3 : decode cX3_print 3 = .ok (.invokevirtual 146, 3) := dk_182 0 146 (dk_at dksX3_print_0 3 rfl rfl)
theorem dX3_print_6 : decode cX3_print 6 = .ok (.ifCond .eq 39, 3) := dk_153 0 39 (dk_at dksX3_print_0 6 rfl rfl)
theorem dX3_print_9 : decode cX3_print 9 = .ok (.iload_n 3, 1) := dk_29 (dk_at dksX3_print_0 9 rfl rfl)
theorem dX3_print_10 : decode cX3_print 10 = .ok (.i2l, 1) := dk_133 (dk_at dksX3_print_0 10 rfl rfl)
theorem dX3_print_11 : decode cX3_print 11 = .ok (.lconst 0, 1) := dk_9 (dk_at dksX3_print_0 11 rfl rfl)
theorem dX3_print_12 : decode cX3_print 12 = .ok (.lconst 1, 1) := dk_10 (dk_at dksX3_print_0 12 rfl rfl)
theorem dX3_print_13 : decode cX3_print 13 = .ok (.invokestatic 101, 3) := dk_184 0 101 (dk_at dksX3_print_0 13 rfl rfl)
theorem dX3_print_16 : decode cX3_print 16 = .ok (.ifCond .eq 29, 3) := dk_153 0 29 (dk_at dksX3_print_0 16 rfl rfl)
theorem dX3_print_19 : decode cX3_print 19 = .ok (.iload 4, 2) := dk_21 4 (dk_at dksX3_print_0 19 rfl rfl)
theorem dX3_print_21 : decode cX3_print 21 = .ok (.i2l, 1) := dk_133 (dk_at dksX3_print_0 21 rfl rfl)
theorem dX3_print_22 : decode cX3_print 22 = .ok (.ldc2_w 149, 3) := dk_20 0 149 (dk_at dksX3_print_1 0 rfl rfl)
theorem dX3_print_25 : decode cX3_print 25 = .ok (.ldc2_w 151, 3) := dk_20 0 151 (dk_at dksX3_print_1 3 rfl rfl)
theorem dX3_print_28 : decode cX3_print 28 = .ok (.invokestatic 101, 3) := dk_184 0 101 (dk_at dksX3_print_1 6 rfl rfl)
theorem dX3_print_31 : decode cX3_print 31 = .ok (.ifCond .eq 14, 3) := dk_153 0 14 (dk_at dksX3_print_1 9 rfl rfl)
theorem dX3_print_34 : decode cX3_print 34 = .ok (.iload 5, 2) := dk_21 5 (dk_at dksX3_print_1 12 rfl rfl)
theorem dX3_print_36 : decode cX3_print 36 = .ok (.i2l, 1) := dk_133 (dk_at dksX3_print_1 14 rfl rfl)
theorem dX3_print_37 : decode cX3_print 37 = .ok (.lconst 0, 1) := dk_9 (dk_at dksX3_print_1 15 rfl rfl)
theorem dX3_print_38 : decode cX3_print 38 = .ok (.lconst 1, 1) := dk_10 (dk_at dksX3_print_1 16 rfl rfl)
theorem dX3_print_39 : decode cX3_print 39 = .ok (.invokestatic 101, 3) := dk_184 0 101 (dk_at dksX3_print_1 17 rfl rfl)
theorem dX3_print_42 : decode cX3_print 42 = .ok (.ifCond .ne 5, 3) := dk_154 0 5 (dk_at dksX3_print_1 20 rfl rfl)
theorem dX3_print_45 : decode cX3_print 45 = .ok (.iconst (-1), 1) := dk_2 (dk_at dksX3_print_1 23 rfl rfl)
theorem dX3_print_46 : decode cX3_print 46 = .ok (.ireturn, 1) := dk_172 (dk_at dksX3_print_2 0 rfl rfl)
theorem dX3_print_47 : decode cX3_print 47 = .ok (.aload_n 0, 1) := dk_42 (dk_at dksX3_print_2 1 rfl rfl)
theorem dX3_print_48 : decode cX3_print 48 = .ok (.getfield 7, 3) := dk_180 0 7 (dk_at dksX3_print_2 2 rfl rfl)
theorem dX3_print_51 : decode cX3_print 51 = .ok (.iconst 2, 1) := dk_5 (dk_at dksX3_print_2 5 rfl rfl)
theorem dX3_print_52 : decode cX3_print 52 = .ok (.iaload, 1) := dk_46 (dk_at dksX3_print_2 6 rfl rfl)
theorem dX3_print_53 : decode cX3_print 53 = .ok (.ifCond .gt 10, 3) := dk_157 0 10 (dk_at dksX3_print_2 7 rfl rfl)
theorem dX3_print_56 : decode cX3_print 56 = .ok (.aload_n 0, 1) := dk_42 (dk_at dksX3_print_2 10 rfl rfl)
theorem dX3_print_57 : decode cX3_print 57 = .ok (.invokevirtual 142, 3) := dk_182 0 142 (dk_at dksX3_print_2 11 rfl rfl)
theorem dX3_print_60 : decode cX3_print 60 = .ok (.ifCond .eq 6, 3) := dk_153 0 6 (dk_at dksX3_print_2 14 rfl rfl)
theorem dX3_print_63 : decode cX3_print 63 = .ok (.bipush (-2), 2) := dk_16 254 (dk_at dksX3_print_2 17 rfl rfl)
theorem dX3_print_65 : decode cX3_print 65 = .ok (.ireturn, 1) := dk_172 (dk_at dksX3_print_2 19 rfl rfl)
theorem dX3_print_66 : decode cX3_print 66 = .ok (.aload_n 0, 1) := dk_42 (dk_at dksX3_print_2 20 rfl rfl)
theorem dX3_print_67 : decode cX3_print 67 = .ok (.invokevirtual 139, 3) := dk_182 0 139 (dk_at dksX3_print_2 21 rfl rfl)
theorem dX3_print_70 : decode cX3_print 70 = .ok (.iconst 2, 1) := dk_5 (dk_at dksX3_print_3 0 rfl rfl)
theorem dX3_print_71 : decode cX3_print 71 = .ok (.aload_n 0, 1) := dk_42 (dk_at dksX3_print_3 1 rfl rfl)
theorem dX3_print_72 : decode cX3_print 72 = .ok (.getfield 7, 3) := dk_180 0 7 (dk_at dksX3_print_3 2 rfl rfl)
theorem dX3_print_75 : decode cX3_print 75 = .ok (.iconst 1, 1) := dk_4 (dk_at dksX3_print_3 5 rfl rfl)
theorem dX3_print_76 : decode cX3_print 76 = .ok (.iaload, 1) := dk_46 (dk_at dksX3_print_3 6 rfl rfl)
theorem dX3_print_77 : decode cX3_print 77 = .ok (.iload_n 1, 1) := dk_27 (dk_at dksX3_print_3 7 rfl rfl)
theorem dX3_print_78 : decode cX3_print 78 = .ok (.imul, 1) := dk_104 (dk_at dksX3_print_3 8 rfl rfl)
theorem dX3_print_79 : decode cX3_print 79 = .ok (.iload_n 2, 1) := dk_28 (dk_at dksX3_print_3 9 rfl rfl)
theorem dX3_print_80 : decode cX3_print 80 = .ok (.iadd, 1) := dk_96 (dk_at dksX3_print_3 10 rfl rfl)
theorem dX3_print_81 : decode cX3_print 81 = .ok (.imul, 1) := dk_104 (dk_at dksX3_print_3 11 rfl rfl)
theorem dX3_print_82 : decode cX3_print 82 = .ok (.iload_n 3, 1) := dk_29 (dk_at dksX3_print_3 12 rfl rfl)
theorem dX3_print_83 : decode cX3_print 83 = .ok (.iadd, 1) := dk_96 (dk_at dksX3_print_3 13 rfl rfl)
theorem dX3_print_84 : decode cX3_print 84 = .ok (.istore 6, 2) := dk_54 6 (dk_at dksX3_print_3 14 rfl rfl)
theorem dX3_print_86 : decode cX3_print 86 = .ok (.aload_n 0, 1) := dk_42 (dk_at dksX3_print_3 16 rfl rfl)
theorem dX3_print_87 : decode cX3_print 87 = .ok (.getfield 7, 3) := dk_180 0 7 (dk_at dksX3_print_3 17 rfl rfl)
theorem dX3_print_90 : decode cX3_print 90 = .ok (.bipush 90, 2) := dk_16 90 (dk_at dksX3_print_3 20 rfl rfl)
theorem dX3_print_92 : decode cX3_print 92 = .ok (.iload 6, 2) := dk_21 6 (dk_at dksX3_print_3 22 rfl rfl)
theorem dX3_print_94 : decode cX3_print 94 = .ok (.iadd, 1) := dk_96 (dk_at dksX3_print_4 0 rfl rfl)
theorem dX3_print_95 : decode cX3_print 95 = .ok (.iaload, 1) := dk_46 (dk_at dksX3_print_4 1 rfl rfl)
theorem dX3_print_96 : decode cX3_print 96 = .ok (.istore 7, 2) := dk_54 7 (dk_at dksX3_print_4 2 rfl rfl)
theorem dX3_print_98 : decode cX3_print 98 = .ok (.aload_n 0, 1) := dk_42 (dk_at dksX3_print_4 4 rfl rfl)
theorem dX3_print_99 : decode cX3_print 99 = .ok (.iload 6, 2) := dk_21 6 (dk_at dksX3_print_4 5 rfl rfl)
theorem dX3_print_101 : decode cX3_print 101 = .ok (.iload 4, 2) := dk_21 4 (dk_at dksX3_print_4 7 rfl rfl)
theorem dX3_print_103 : decode cX3_print 103 = .ok (.iload 5, 2) := dk_21 5 (dk_at dksX3_print_4 9 rfl rfl)
theorem dX3_print_105 : decode cX3_print 105 = .ok (.invokevirtual 153, 3) := dk_182 0 153 (dk_at dksX3_print_4 11 rfl rfl)
theorem dX3_print_108 : decode cX3_print 108 = .ok (.pop, 1) := dk_87 (dk_at dksX3_print_4 14 rfl rfl)
theorem dX3_print_109 : decode cX3_print 109 = .ok (.iload 7, 2) := dk_21 7 (dk_at dksX3_print_4 15 rfl rfl)
theorem dX3_print_111 : decode cX3_print 111 = .ok (.ifCond .ge 8, 3) := dk_156 0 8 (dk_at dksX3_print_4 17 rfl rfl)
theorem dX3_print_114 : decode cX3_print 114 = .ok (.bipush (-9), 2) := dk_16 247 (dk_at dksX3_print_4 20 rfl rfl)
theorem dX3_print_116 : decode cX3_print 116 = .ok (.goto 5, 3) := dk_167 0 5 (dk_at dksX3_print_5 0 rfl rfl)
theorem dX3_print_119 : decode cX3_print 119 = .ok (.iload 7, 2) := dk_21 7 (dk_at dksX3_print_5 3 rfl rfl)
theorem dX3_print_121 : decode cX3_print 121 = .ok (.ireturn, 1) := dk_172 (dk_at dksX3_print_5 5 rfl rfl)
abbrev cX3_isCell : ByteArray := prog_33_method_31_code
def yX3_isCell : MethodName := ⟨RX3, "isCell", "(II)Z"⟩
def dkwX3_isCell_1 : List UInt8 := [180, 0, 7, 4, 46, 4, 100, 133, 184, 0, 101, 153, 0, 7, 4, 167, 0, 4, 3, 172]
abbrev dktX3_isCell_1 : List UInt8 := dkwX3_isCell_1 ++ []
def dkwX3_isCell_0 : List UInt8 := [27, 133, 9, 42, 180, 0, 7, 3, 46, 4, 100, 133, 184, 0, 101, 153, 0, 25, 28, 133, 9, 42]
abbrev dktX3_isCell_0 : List UInt8 := dkwX3_isCell_0 ++ dktX3_isCell_1
theorem dksX3_isCell_0 : cX3_isCell.data.toList.drop 0 = dktX3_isCell_0 := by decide +kernel
theorem dksX3_isCell_1 : cX3_isCell.data.toList.drop 22 = dktX3_isCell_1 := dk_seg dksX3_isCell_0 22 rfl rfl
theorem dX3_isCell_0 : decode cX3_isCell 0 = .ok (.iload_n 1, 1) := dk_27 (dk_at dksX3_isCell_0 0 rfl rfl)
theorem dX3_isCell_1 : decode cX3_isCell 1 = .ok (.i2l, 1) := dk_133 (dk_at dksX3_isCell_0 1 rfl rfl)
theorem dX3_isCell_2 : decode cX3_isCell 2 = .ok (.lconst 0, 1) := dk_9 (dk_at dksX3_isCell_0 2 rfl rfl)
theorem dX3_isCell_3 : decode cX3_isCell 3 = .ok (.aload_n 0, 1) := dk_42 (dk_at dksX3_isCell_0 3 rfl rfl)
theorem dX3_isCell_4 : decode cX3_isCell 4 = .ok (.getfield 7, 3) := dk_180 0 7 (dk_at dksX3_isCell_0 4 rfl rfl)
theorem dX3_isCell_7 : decode cX3_isCell 7 = .ok (.iconst 0, 1) := dk_3 (dk_at dksX3_isCell_0 7 rfl rfl)
theorem dX3_isCell_8 : decode cX3_isCell 8 = .ok (.iaload, 1) := dk_46 (dk_at dksX3_isCell_0 8 rfl rfl)
theorem dX3_isCell_9 : decode cX3_isCell 9 = .ok (.iconst 1, 1) := dk_4 (dk_at dksX3_isCell_0 9 rfl rfl)
theorem dX3_isCell_10 : decode cX3_isCell 10 = .ok (.isub, 1) := dk_100 (dk_at dksX3_isCell_0 10 rfl rfl)
theorem dX3_isCell_11 : decode cX3_isCell 11 = .ok (.i2l, 1) := dk_133 (dk_at dksX3_isCell_0 11 rfl rfl)
theorem dX3_isCell_12 : decode cX3_isCell 12 = .ok (.invokestatic 101, 3) := dk_184 0 101 (dk_at dksX3_isCell_0 12 rfl rfl)
theorem dX3_isCell_15 : decode cX3_isCell 15 = .ok (.ifCond .eq 25, 3) := dk_153 0 25 (dk_at dksX3_isCell_0 15 rfl rfl)
theorem dX3_isCell_18 : decode cX3_isCell 18 = .ok (.iload_n 2, 1) := dk_28 (dk_at dksX3_isCell_0 18 rfl rfl)
theorem dX3_isCell_19 : decode cX3_isCell 19 = .ok (.i2l, 1) := dk_133 (dk_at dksX3_isCell_0 19 rfl rfl)
theorem dX3_isCell_20 : decode cX3_isCell 20 = .ok (.lconst 0, 1) := dk_9 (dk_at dksX3_isCell_0 20 rfl rfl)
theorem dX3_isCell_21 : decode cX3_isCell 21 = .ok (.aload_n 0, 1) := dk_42 (dk_at dksX3_isCell_0 21 rfl rfl)
theorem dX3_isCell_22 : decode cX3_isCell 22 = .ok (.getfield 7, 3) := dk_180 0 7 (dk_at dksX3_isCell_1 0 rfl rfl)
theorem dX3_isCell_25 : decode cX3_isCell 25 = .ok (.iconst 1, 1) := dk_4 (dk_at dksX3_isCell_1 3 rfl rfl)
theorem dX3_isCell_26 : decode cX3_isCell 26 = .ok (.iaload, 1) := dk_46 (dk_at dksX3_isCell_1 4 rfl rfl)
theorem dX3_isCell_27 : decode cX3_isCell 27 = .ok (.iconst 1, 1) := dk_4 (dk_at dksX3_isCell_1 5 rfl rfl)
theorem dX3_isCell_28 : decode cX3_isCell 28 = .ok (.isub, 1) := dk_100 (dk_at dksX3_isCell_1 6 rfl rfl)
theorem dX3_isCell_29 : decode cX3_isCell 29 = .ok (.i2l, 1) := dk_133 (dk_at dksX3_isCell_1 7 rfl rfl)
theorem dX3_isCell_30 : decode cX3_isCell 30 = .ok (.invokestatic 101, 3) := dk_184 0 101 (dk_at dksX3_isCell_1 8 rfl rfl)
theorem dX3_isCell_33 : decode cX3_isCell 33 = .ok (.ifCond .eq 7, 3) := dk_153 0 7 (dk_at dksX3_isCell_1 11 rfl rfl)
theorem dX3_isCell_36 : decode cX3_isCell 36 = .ok (.iconst 1, 1) := dk_4 (dk_at dksX3_isCell_1 14 rfl rfl)
theorem dX3_isCell_37 : decode cX3_isCell 37 = .ok (.goto 4, 3) := dk_167 0 4 (dk_at dksX3_isCell_1 15 rfl rfl)
theorem dX3_isCell_40 : decode cX3_isCell 40 = .ok (.iconst 0, 1) := dk_3 (dk_at dksX3_isCell_1 18 rfl rfl)
theorem dX3_isCell_41 : decode cX3_isCell 41 = .ok (.ireturn, 1) := dk_172 (dk_at dksX3_isCell_1 19 rfl rfl)
abbrev cX3_printOn : ByteArray := prog_33_method_32_code
def yX3_printOn : MethodName := ⟨RX3, "printOn", "(III)I"⟩
def dkwX3_printOn_3 : List UInt8 := [16, 87, 92, 46, 21, 5, 96, 79, 21, 5, 172]
abbrev dktX3_printOn_3 : List UInt8 := dkwX3_printOn_3 ++ []
def dkwX3_printOn_2 : List UInt8 := [180, 0, 7, 16, 90, 27, 96, 28, 79, 42, 180, 0, 7, 16, 122, 27, 96, 21, 4, 79, 42, 180, 0, 7]
abbrev dktX3_printOn_2 : List UInt8 := dkwX3_printOn_2 ++ dktX3_printOn_3
def dkwX3_printOn_1 : List UInt8 := [42, 180, 0, 7, 16, 122, 27, 96, 46, 21, 4, 159, 0, 7, 4, 167, 0, 4, 3, 54, 5, 42]
abbrev dktX3_printOn_1 : List UInt8 := dkwX3_printOn_1 ++ dktX3_printOn_2
def dkwX3_printOn_0 : List UInt8 := [28, 156, 0, 7, 3, 167, 0, 4, 29, 54, 4, 42, 180, 0, 7, 16, 90, 27, 96, 46, 28, 160, 0, 17]
abbrev dktX3_printOn_0 : List UInt8 := dkwX3_printOn_0 ++ dktX3_printOn_1
theorem dksX3_printOn_0 : cX3_printOn.data.toList.drop 0 = dktX3_printOn_0 := by decide +kernel
theorem dksX3_printOn_1 : cX3_printOn.data.toList.drop 24 = dktX3_printOn_1 := dk_seg dksX3_printOn_0 24 rfl rfl
theorem dksX3_printOn_2 : cX3_printOn.data.toList.drop 46 = dktX3_printOn_2 := dk_seg dksX3_printOn_1 22 rfl rfl
theorem dksX3_printOn_3 : cX3_printOn.data.toList.drop 70 = dktX3_printOn_3 := dk_seg dksX3_printOn_2 24 rfl rfl
theorem dX3_printOn_0 : decode cX3_printOn 0 = .ok (.iload_n 2, 1) := dk_28 (dk_at dksX3_printOn_0 0 rfl rfl)
theorem dX3_printOn_1 : decode cX3_printOn 1 = .ok (.ifCond .ge 7, 3) := dk_156 0 7 (dk_at dksX3_printOn_0 1 rfl rfl)
theorem dX3_printOn_4 : decode cX3_printOn 4 = .ok (.iconst 0, 1) := dk_3 (dk_at dksX3_printOn_0 4 rfl rfl)
theorem dX3_printOn_5 : decode cX3_printOn 5 = .ok (.goto 4, 3) := dk_167 0 4 (dk_at dksX3_printOn_0 5 rfl rfl)
theorem dX3_printOn_8 : decode cX3_printOn 8 = .ok (.iload_n 3, 1) := dk_29 (dk_at dksX3_printOn_0 8 rfl rfl)
theorem dX3_printOn_9 : decode cX3_printOn 9 = .ok (.istore 4, 2) := dk_54 4 (dk_at dksX3_printOn_0 9 rfl rfl)
theorem dX3_printOn_11 : decode cX3_printOn 11 = .ok (.aload_n 0, 1) := dk_42 (dk_at dksX3_printOn_0 11 rfl rfl)
theorem dX3_printOn_12 : decode cX3_printOn 12 = .ok (.getfield 7, 3) := dk_180 0 7 (dk_at dksX3_printOn_0 12 rfl rfl)
theorem dX3_printOn_15 : decode cX3_printOn 15 = .ok (.bipush 90, 2) := dk_16 90 (dk_at dksX3_printOn_0 15 rfl rfl)
theorem dX3_printOn_17 : decode cX3_printOn 17 = .ok (.iload_n 1, 1) := dk_27 (dk_at dksX3_printOn_0 17 rfl rfl)
theorem dX3_printOn_18 : decode cX3_printOn 18 = .ok (.iadd, 1) := dk_96 (dk_at dksX3_printOn_0 18 rfl rfl)
theorem dX3_printOn_19 : decode cX3_printOn 19 = .ok (.iaload, 1) := dk_46 (dk_at dksX3_printOn_0 19 rfl rfl)
theorem dX3_printOn_20 : decode cX3_printOn 20 = .ok (.iload_n 2, 1) := dk_28 (dk_at dksX3_printOn_0 20 rfl rfl)
theorem dX3_printOn_21 : decode cX3_printOn 21 = .ok (.if_icmp .ne 17, 3) := dk_160 0 17 (dk_at dksX3_printOn_0 21 rfl rfl)
theorem dX3_printOn_24 : decode cX3_printOn 24 = .ok (.aload_n 0, 1) := dk_42 (dk_at dksX3_printOn_1 0 rfl rfl)
theorem dX3_printOn_25 : decode cX3_printOn 25 = .ok (.getfield 7, 3) := dk_180 0 7 (dk_at dksX3_printOn_1 1 rfl rfl)
theorem dX3_printOn_28 : decode cX3_printOn 28 = .ok (.bipush 122, 2) := dk_16 122 (dk_at dksX3_printOn_1 4 rfl rfl)
theorem dX3_printOn_30 : decode cX3_printOn 30 = .ok (.iload_n 1, 1) := dk_27 (dk_at dksX3_printOn_1 6 rfl rfl)
theorem dX3_printOn_31 : decode cX3_printOn 31 = .ok (.iadd, 1) := dk_96 (dk_at dksX3_printOn_1 7 rfl rfl)
theorem dX3_printOn_32 : decode cX3_printOn 32 = .ok (.iaload, 1) := dk_46 (dk_at dksX3_printOn_1 8 rfl rfl)
theorem dX3_printOn_33 : decode cX3_printOn 33 = .ok (.iload 4, 2) := dk_21 4 (dk_at dksX3_printOn_1 9 rfl rfl)
theorem dX3_printOn_35 : decode cX3_printOn 35 = .ok (.if_icmp .eq 7, 3) := dk_159 0 7 (dk_at dksX3_printOn_1 11 rfl rfl)
theorem dX3_printOn_38 : decode cX3_printOn 38 = .ok (.iconst 1, 1) := dk_4 (dk_at dksX3_printOn_1 14 rfl rfl)
theorem dX3_printOn_39 : decode cX3_printOn 39 = .ok (.goto 4, 3) := dk_167 0 4 (dk_at dksX3_printOn_1 15 rfl rfl)
theorem dX3_printOn_42 : decode cX3_printOn 42 = .ok (.iconst 0, 1) := dk_3 (dk_at dksX3_printOn_1 18 rfl rfl)
theorem dX3_printOn_43 : decode cX3_printOn 43 = .ok (.istore 5, 2) := dk_54 5 (dk_at dksX3_printOn_1 19 rfl rfl)
theorem dX3_printOn_45 : decode cX3_printOn 45 = .ok (.aload_n 0, 1) := dk_42 (dk_at dksX3_printOn_1 21 rfl rfl)
theorem dX3_printOn_46 : decode cX3_printOn 46 = .ok (.getfield 7, 3) := dk_180 0 7 (dk_at dksX3_printOn_2 0 rfl rfl)
theorem dX3_printOn_49 : decode cX3_printOn 49 = .ok (.bipush 90, 2) := dk_16 90 (dk_at dksX3_printOn_2 3 rfl rfl)
theorem dX3_printOn_51 : decode cX3_printOn 51 = .ok (.iload_n 1, 1) := dk_27 (dk_at dksX3_printOn_2 5 rfl rfl)
theorem dX3_printOn_52 : decode cX3_printOn 52 = .ok (.iadd, 1) := dk_96 (dk_at dksX3_printOn_2 6 rfl rfl)
theorem dX3_printOn_53 : decode cX3_printOn 53 = .ok (.iload_n 2, 1) := dk_28 (dk_at dksX3_printOn_2 7 rfl rfl)
theorem dX3_printOn_54 : decode cX3_printOn 54 = .ok (.iastore, 1) := dk_79 (dk_at dksX3_printOn_2 8 rfl rfl)
theorem dX3_printOn_55 : decode cX3_printOn 55 = .ok (.aload_n 0, 1) := dk_42 (dk_at dksX3_printOn_2 9 rfl rfl)
theorem dX3_printOn_56 : decode cX3_printOn 56 = .ok (.getfield 7, 3) := dk_180 0 7 (dk_at dksX3_printOn_2 10 rfl rfl)
theorem dX3_printOn_59 : decode cX3_printOn 59 = .ok (.bipush 122, 2) := dk_16 122 (dk_at dksX3_printOn_2 13 rfl rfl)
theorem dX3_printOn_61 : decode cX3_printOn 61 = .ok (.iload_n 1, 1) := dk_27 (dk_at dksX3_printOn_2 15 rfl rfl)
theorem dX3_printOn_62 : decode cX3_printOn 62 = .ok (.iadd, 1) := dk_96 (dk_at dksX3_printOn_2 16 rfl rfl)
theorem dX3_printOn_63 : decode cX3_printOn 63 = .ok (.iload 4, 2) := dk_21 4 (dk_at dksX3_printOn_2 17 rfl rfl)
theorem dX3_printOn_65 : decode cX3_printOn 65 = .ok (.iastore, 1) := dk_79 (dk_at dksX3_printOn_2 19 rfl rfl)
theorem dX3_printOn_66 : decode cX3_printOn 66 = .ok (.aload_n 0, 1) := dk_42 (dk_at dksX3_printOn_2 20 rfl rfl)
theorem dX3_printOn_67 : decode cX3_printOn 67 = .ok (.getfield 7, 3) := dk_180 0 7 (dk_at dksX3_printOn_2 21 rfl rfl)
theorem dX3_printOn_70 : decode cX3_printOn 70 = .ok (.bipush 87, 2) := dk_16 87 (dk_at dksX3_printOn_3 0 rfl rfl)
theorem dX3_printOn_72 : decode cX3_printOn 72 = .ok (.dup2, 1) := dk_92 (dk_at dksX3_printOn_3 2 rfl rfl)
theorem dX3_printOn_73 : decode cX3_printOn 73 = .ok (.iaload, 1) := dk_46 (dk_at dksX3_printOn_3 3 rfl rfl)
theorem dX3_printOn_74 : decode cX3_printOn 74 = .ok (.iload 5, 2) := dk_21 5 (dk_at dksX3_printOn_3 4 rfl rfl)
theorem dX3_printOn_76 : decode cX3_printOn 76 = .ok (.iadd, 1) := dk_96 (dk_at dksX3_printOn_3 6 rfl rfl)
theorem dX3_printOn_77 : decode cX3_printOn 77 = .ok (.iastore, 1) := dk_79 (dk_at dksX3_printOn_3 7 rfl rfl)
theorem dX3_printOn_78 : decode cX3_printOn 78 = .ok (.iload 5, 2) := dk_21 5 (dk_at dksX3_printOn_3 8 rfl rfl)
theorem dX3_printOn_80 : decode cX3_printOn 80 = .ok (.ireturn, 1) := dk_172 (dk_at dksX3_printOn_3 10 rfl rfl)
abbrev cX3_printAll : ByteArray := prog_33_method_34_code
def yX3_printAll : MethodName := ⟨RX3, "printAll", "(I)I"⟩
def dkwX3_printAll_3 : List UInt8 := [28, 172]
abbrev dktX3_printAll_3 : List UInt8 := dkwX3_printAll_3 ++ []
def dkwX3_printAll_2 : List UInt8 := [28, 42, 42, 29, 182, 0, 113, 29, 42, 29, 182, 0, 109, 182, 0, 153, 96, 61, 132, 3, 1, 167, 255, 225]
abbrev dktX3_printAll_2 : List UInt8 := dkwX3_printAll_2 ++ dktX3_printAll_3
def dkwX3_printAll_1 : List UInt8 := [153, 0, 6, 16, 254, 172, 42, 182, 0, 139, 3, 61, 3, 62, 29, 5, 42, 180, 0, 78, 104, 162, 0, 27]
abbrev dktX3_printAll_1 : List UInt8 := dkwX3_printAll_1 ++ dktX3_printAll_2
def dkwX3_printAll_0 : List UInt8 := [42, 27, 182, 0, 157, 154, 0, 5, 2, 172, 42, 180, 0, 7, 5, 46, 157, 0, 10, 42, 182, 0, 142]
abbrev dktX3_printAll_0 : List UInt8 := dkwX3_printAll_0 ++ dktX3_printAll_1
theorem dksX3_printAll_0 : cX3_printAll.data.toList.drop 0 = dktX3_printAll_0 := by decide +kernel
theorem dksX3_printAll_1 : cX3_printAll.data.toList.drop 23 = dktX3_printAll_1 := dk_seg dksX3_printAll_0 23 rfl rfl
theorem dksX3_printAll_2 : cX3_printAll.data.toList.drop 47 = dktX3_printAll_2 := dk_seg dksX3_printAll_1 24 rfl rfl
theorem dksX3_printAll_3 : cX3_printAll.data.toList.drop 71 = dktX3_printAll_3 := dk_seg dksX3_printAll_2 24 rfl rfl
theorem dX3_printAll_0 : decode cX3_printAll 0 = .ok (.aload_n 0, 1) := dk_42 (dk_at dksX3_printAll_0 0 rfl rfl)
theorem dX3_printAll_1 : decode cX3_printAll 1 = .ok (.iload_n 1, 1) := dk_27 (dk_at dksX3_printAll_0 1 rfl rfl)
theorem dX3_printAll_2 : decode cX3_printAll 2 = .ok (.invokevirtual 157, 3) := dk_182 0 157 (dk_at dksX3_printAll_0 2 rfl rfl)
theorem dX3_printAll_5 : decode cX3_printAll 5 = .ok (.ifCond .ne 5, 3) := dk_154 0 5 (dk_at dksX3_printAll_0 5 rfl rfl)
theorem dX3_printAll_8 : decode cX3_printAll 8 = .ok (.iconst (-1), 1) := dk_2 (dk_at dksX3_printAll_0 8 rfl rfl)
theorem dX3_printAll_9 : decode cX3_printAll 9 = .ok (.ireturn, 1) := dk_172 (dk_at dksX3_printAll_0 9 rfl rfl)
theorem dX3_printAll_10 : decode cX3_printAll 10 = .ok (.aload_n 0, 1) := dk_42 (dk_at dksX3_printAll_0 10 rfl rfl)
theorem dX3_printAll_11 : decode cX3_printAll 11 = .ok (.getfield 7, 3) := dk_180 0 7 (dk_at dksX3_printAll_0 11 rfl rfl)
theorem dX3_printAll_14 : decode cX3_printAll 14 = .ok (.iconst 2, 1) := dk_5 (dk_at dksX3_printAll_0 14 rfl rfl)
theorem dX3_printAll_15 : decode cX3_printAll 15 = .ok (.iaload, 1) := dk_46 (dk_at dksX3_printAll_0 15 rfl rfl)
theorem dX3_printAll_16 : decode cX3_printAll 16 = .ok (.ifCond .gt 10, 3) := dk_157 0 10 (dk_at dksX3_printAll_0 16 rfl rfl)
theorem dX3_printAll_19 : decode cX3_printAll 19 = .ok (.aload_n 0, 1) := dk_42 (dk_at dksX3_printAll_0 19 rfl rfl)
theorem dX3_printAll_20 : decode cX3_printAll 20 = .ok (.invokevirtual 142, 3) := dk_182 0 142 (dk_at dksX3_printAll_0 20 rfl rfl)
theorem dX3_printAll_23 : decode cX3_printAll 23 = .ok (.ifCond .eq 6, 3) := dk_153 0 6 (dk_at dksX3_printAll_1 0 rfl rfl)
theorem dX3_printAll_26 : decode cX3_printAll 26 = .ok (.bipush (-2), 2) := dk_16 254 (dk_at dksX3_printAll_1 3 rfl rfl)
theorem dX3_printAll_28 : decode cX3_printAll 28 = .ok (.ireturn, 1) := dk_172 (dk_at dksX3_printAll_1 5 rfl rfl)
theorem dX3_printAll_29 : decode cX3_printAll 29 = .ok (.aload_n 0, 1) := dk_42 (dk_at dksX3_printAll_1 6 rfl rfl)
theorem dX3_printAll_30 : decode cX3_printAll 30 = .ok (.invokevirtual 139, 3) := dk_182 0 139 (dk_at dksX3_printAll_1 7 rfl rfl)
theorem dX3_printAll_33 : decode cX3_printAll 33 = .ok (.iconst 0, 1) := dk_3 (dk_at dksX3_printAll_1 10 rfl rfl)
theorem dX3_printAll_34 : decode cX3_printAll 34 = .ok (.istore_n 2, 1) := dk_61 (dk_at dksX3_printAll_1 11 rfl rfl)
theorem dX3_printAll_35 : decode cX3_printAll 35 = .ok (.iconst 0, 1) := dk_3 (dk_at dksX3_printAll_1 12 rfl rfl)
theorem dX3_printAll_36 : decode cX3_printAll 36 = .ok (.istore_n 3, 1) := dk_62 (dk_at dksX3_printAll_1 13 rfl rfl)
theorem dX3_printAll_37 : decode cX3_printAll 37 = .ok (.iload_n 3, 1) := dk_29 (dk_at dksX3_printAll_1 14 rfl rfl)
theorem dX3_printAll_38 : decode cX3_printAll 38 = .ok (.iconst 2, 1) := dk_5 (dk_at dksX3_printAll_1 15 rfl rfl)
theorem dX3_printAll_39 : decode cX3_printAll 39 = .ok (.aload_n 0, 1) := dk_42 (dk_at dksX3_printAll_1 16 rfl rfl)
theorem dX3_printAll_40 : decode cX3_printAll 40 = .ok (.getfield 78, 3) := dk_180 0 78 (dk_at dksX3_printAll_1 17 rfl rfl)
theorem dX3_printAll_43 : decode cX3_printAll 43 = .ok (.imul, 1) := dk_104 (dk_at dksX3_printAll_1 20 rfl rfl)
theorem dX3_printAll_44 : decode cX3_printAll 44 = .ok (.if_icmp .ge 27, 3) := dk_162 0 27 (dk_at dksX3_printAll_1 21 rfl rfl)
theorem dX3_printAll_47 : decode cX3_printAll 47 = .ok (.iload_n 2, 1) := dk_28 (dk_at dksX3_printAll_2 0 rfl rfl)
theorem dX3_printAll_48 : decode cX3_printAll 48 = .ok (.aload_n 0, 1) := dk_42 (dk_at dksX3_printAll_2 1 rfl rfl)
theorem dX3_printAll_49 : decode cX3_printAll 49 = .ok (.aload_n 0, 1) := dk_42 (dk_at dksX3_printAll_2 2 rfl rfl)
theorem dX3_printAll_50 : decode cX3_printAll 50 = .ok (.iload_n 3, 1) := dk_29 (dk_at dksX3_printAll_2 3 rfl rfl)
theorem dX3_printAll_51 : decode cX3_printAll 51 = .ok (.invokevirtual 113, 3) := dk_182 0 113 (dk_at dksX3_printAll_2 4 rfl rfl)
theorem dX3_printAll_54 : decode cX3_printAll 54 = .ok (.iload_n 3, 1) := dk_29 (dk_at dksX3_printAll_2 7 rfl rfl)
theorem dX3_printAll_55 : decode cX3_printAll 55 = .ok (.aload_n 0, 1) := dk_42 (dk_at dksX3_printAll_2 8 rfl rfl)
theorem dX3_printAll_56 : decode cX3_printAll 56 = .ok (.iload_n 3, 1) := dk_29 (dk_at dksX3_printAll_2 9 rfl rfl)
theorem dX3_printAll_57 : decode cX3_printAll 57 = .ok (.invokevirtual 109, 3) := dk_182 0 109 (dk_at dksX3_printAll_2 10 rfl rfl)
theorem dX3_printAll_60 : decode cX3_printAll 60 = .ok (.invokevirtual 153, 3) := dk_182 0 153 (dk_at dksX3_printAll_2 13 rfl rfl)
theorem dX3_printAll_63 : decode cX3_printAll 63 = .ok (.iadd, 1) := dk_96 (dk_at dksX3_printAll_2 16 rfl rfl)
theorem dX3_printAll_64 : decode cX3_printAll 64 = .ok (.istore_n 2, 1) := dk_61 (dk_at dksX3_printAll_2 17 rfl rfl)
theorem dX3_printAll_65 : decode cX3_printAll 65 = .ok (.iinc 3 1, 3) := dk_132 3 1 (dk_at dksX3_printAll_2 18 rfl rfl)
theorem dX3_printAll_68 : decode cX3_printAll 68 = .ok (.goto (-31), 3) := dk_167 255 225 (dk_at dksX3_printAll_2 21 rfl rfl)
theorem dX3_printAll_71 : decode cX3_printAll 71 = .ok (.iload_n 2, 1) := dk_28 (dk_at dksX3_printAll_3 0 rfl rfl)
theorem dX3_printAll_72 : decode cX3_printAll 72 = .ok (.ireturn, 1) := dk_172 (dk_at dksX3_printAll_3 1 rfl rfl)
abbrev cX3_layBy : ByteArray := prog_33_method_16_code
def yX3_layBy : MethodName := ⟨RX3, "layBy", "(I)Z"⟩
def dkwX3_layBy_5 : List UInt8 := [160, 0, 7, 4, 167, 0, 4, 3, 172]
abbrev dktX3_layBy_5 : List UInt8 := dkwX3_layBy_5 ++ []
def dkwX3_layBy_4 : List UInt8 := [3, 172, 42, 21, 4, 182, 0, 88, 29, 16, 10, 108, 62, 167, 255, 205, 42, 180, 0, 78, 42, 182, 0, 95]
abbrev dktX3_layBy_4 : List UInt8 := dkwX3_layBy_4 ++ dktX3_layBy_5
def dkwX3_layBy_3 : List UInt8 := [54, 4, 21, 4, 133, 10, 20, 0, 99, 184, 0, 101, 153, 0, 12, 42, 21, 4, 182, 0, 105, 154, 0, 5]
abbrev dktX3_layBy_3 : List UInt8 := dkwX3_layBy_3 ++ dktX3_layBy_4
def dkwX3_layBy_2 : List UInt8 := [16, 10, 167, 0, 4, 4, 61, 28, 62, 27, 158, 0, 53, 29, 158, 0, 49, 27, 29, 108, 16, 10, 112]
abbrev dktX3_layBy_2 : List UInt8 := dkwX3_layBy_2 ++ dktX3_layBy_3
def dkwX3_layBy_1 : List UInt8 := [17, 3, 232, 167, 0, 26, 27, 16, 99, 164, 0, 8, 16, 100, 167, 0, 15, 27, 16, 9, 164, 0, 8]
abbrev dktX3_layBy_1 : List UInt8 := dkwX3_layBy_1 ++ dktX3_layBy_2
def dkwX3_layBy_0 : List UInt8 := [42, 182, 0, 85, 27, 155, 0, 10, 27, 17, 39, 15, 164, 0, 5, 3, 172, 27, 17, 3, 231, 164, 0, 9]
abbrev dktX3_layBy_0 : List UInt8 := dkwX3_layBy_0 ++ dktX3_layBy_1
theorem dksX3_layBy_0 : cX3_layBy.data.toList.drop 0 = dktX3_layBy_0 := by decide +kernel
theorem dksX3_layBy_1 : cX3_layBy.data.toList.drop 24 = dktX3_layBy_1 := dk_seg dksX3_layBy_0 24 rfl rfl
theorem dksX3_layBy_2 : cX3_layBy.data.toList.drop 47 = dktX3_layBy_2 := dk_seg dksX3_layBy_1 23 rfl rfl
theorem dksX3_layBy_3 : cX3_layBy.data.toList.drop 70 = dktX3_layBy_3 := dk_seg dksX3_layBy_2 23 rfl rfl
theorem dksX3_layBy_4 : cX3_layBy.data.toList.drop 94 = dktX3_layBy_4 := dk_seg dksX3_layBy_3 24 rfl rfl
theorem dksX3_layBy_5 : cX3_layBy.data.toList.drop 118 = dktX3_layBy_5 := dk_seg dksX3_layBy_4 24 rfl rfl
theorem dX3_layBy_0 : decode cX3_layBy 0 = .ok (.aload_n 0, 1) := dk_42 (dk_at dksX3_layBy_0 0 rfl rfl)
theorem dX3_layBy_1 : decode cX3_layBy 1 = .ok (.invokevirtual 85, 3) := dk_182 0 85 (dk_at dksX3_layBy_0 1 rfl rfl)
theorem dX3_layBy_4 : decode cX3_layBy 4 = .ok (.iload_n 1, 1) := dk_27 (dk_at dksX3_layBy_0 4 rfl rfl)
theorem dX3_layBy_5 : decode cX3_layBy 5 = .ok (.ifCond .lt 10, 3) := dk_155 0 10 (dk_at dksX3_layBy_0 5 rfl rfl)
theorem dX3_layBy_8 : decode cX3_layBy 8 = .ok (.iload_n 1, 1) := dk_27 (dk_at dksX3_layBy_0 8 rfl rfl)
theorem dX3_layBy_9 : decode cX3_layBy 9 = .ok (.sipush 9999, 3) := dk_17 39 15 (dk_at dksX3_layBy_0 9 rfl rfl)
theorem dX3_layBy_12 : decode cX3_layBy 12 = .ok (.if_icmp .le 5, 3) := dk_164 0 5 (dk_at dksX3_layBy_0 12 rfl rfl)
theorem dX3_layBy_15 : decode cX3_layBy 15 = .ok (.iconst 0, 1) := dk_3 (dk_at dksX3_layBy_0 15 rfl rfl)
theorem dX3_layBy_16 : decode cX3_layBy 16 = .ok (.ireturn, 1) := dk_172 (dk_at dksX3_layBy_0 16 rfl rfl)
theorem dX3_layBy_17 : decode cX3_layBy 17 = .ok (.iload_n 1, 1) := dk_27 (dk_at dksX3_layBy_0 17 rfl rfl)
theorem dX3_layBy_18 : decode cX3_layBy 18 = .ok (.sipush 999, 3) := dk_17 3 231 (dk_at dksX3_layBy_0 18 rfl rfl)
theorem dX3_layBy_21 : decode cX3_layBy 21 = .ok (.if_icmp .le 9, 3) := dk_164 0 9 (dk_at dksX3_layBy_0 21 rfl rfl)
theorem dX3_layBy_24 : decode cX3_layBy 24 = .ok (.sipush 1000, 3) := dk_17 3 232 (dk_at dksX3_layBy_1 0 rfl rfl)
theorem dX3_layBy_27 : decode cX3_layBy 27 = .ok (.goto 26, 3) := dk_167 0 26 (dk_at dksX3_layBy_1 3 rfl rfl)
theorem dX3_layBy_30 : decode cX3_layBy 30 = .ok (.iload_n 1, 1) := dk_27 (dk_at dksX3_layBy_1 6 rfl rfl)
theorem dX3_layBy_31 : decode cX3_layBy 31 = .ok (.bipush 99, 2) := dk_16 99 (dk_at dksX3_layBy_1 7 rfl rfl)
theorem dX3_layBy_33 : decode cX3_layBy 33 = .ok (.if_icmp .le 8, 3) := dk_164 0 8 (dk_at dksX3_layBy_1 9 rfl rfl)
theorem dX3_layBy_36 : decode cX3_layBy 36 = .ok (.bipush 100, 2) := dk_16 100 (dk_at dksX3_layBy_1 12 rfl rfl)
theorem dX3_layBy_38 : decode cX3_layBy 38 = .ok (.goto 15, 3) := dk_167 0 15 (dk_at dksX3_layBy_1 14 rfl rfl)
theorem dX3_layBy_41 : decode cX3_layBy 41 = .ok (.iload_n 1, 1) := dk_27 (dk_at dksX3_layBy_1 17 rfl rfl)
theorem dX3_layBy_42 : decode cX3_layBy 42 = .ok (.bipush 9, 2) := dk_16 9 (dk_at dksX3_layBy_1 18 rfl rfl)
theorem dX3_layBy_44 : decode cX3_layBy 44 = .ok (.if_icmp .le 8, 3) := dk_164 0 8 (dk_at dksX3_layBy_1 20 rfl rfl)
theorem dX3_layBy_47 : decode cX3_layBy 47 = .ok (.bipush 10, 2) := dk_16 10 (dk_at dksX3_layBy_2 0 rfl rfl)
theorem dX3_layBy_49 : decode cX3_layBy 49 = .ok (.goto 4, 3) := dk_167 0 4 (dk_at dksX3_layBy_2 2 rfl rfl)
theorem dX3_layBy_52 : decode cX3_layBy 52 = .ok (.iconst 1, 1) := dk_4 (dk_at dksX3_layBy_2 5 rfl rfl)
theorem dX3_layBy_53 : decode cX3_layBy 53 = .ok (.istore_n 2, 1) := dk_61 (dk_at dksX3_layBy_2 6 rfl rfl)
theorem dX3_layBy_54 : decode cX3_layBy 54 = .ok (.iload_n 2, 1) := dk_28 (dk_at dksX3_layBy_2 7 rfl rfl)
theorem dX3_layBy_55 : decode cX3_layBy 55 = .ok (.istore_n 3, 1) := dk_62 (dk_at dksX3_layBy_2 8 rfl rfl)
theorem dX3_layBy_56 : decode cX3_layBy 56 = .ok (.iload_n 1, 1) := dk_27 (dk_at dksX3_layBy_2 9 rfl rfl)
theorem dX3_layBy_57 : decode cX3_layBy 57 = .ok (.ifCond .le 53, 3) := dk_158 0 53 (dk_at dksX3_layBy_2 10 rfl rfl)
theorem dX3_layBy_60 : decode cX3_layBy 60 = .ok (.iload_n 3, 1) := dk_29 (dk_at dksX3_layBy_2 13 rfl rfl)
theorem dX3_layBy_61 : decode cX3_layBy 61 = .ok (.ifCond .le 49, 3) := dk_158 0 49 (dk_at dksX3_layBy_2 14 rfl rfl)
theorem dX3_layBy_64 : decode cX3_layBy 64 = .ok (.iload_n 1, 1) := dk_27 (dk_at dksX3_layBy_2 17 rfl rfl)
theorem dX3_layBy_65 : decode cX3_layBy 65 = .ok (.iload_n 3, 1) := dk_29 (dk_at dksX3_layBy_2 18 rfl rfl)
theorem dX3_layBy_66 : decode cX3_layBy 66 = .ok (.idiv, 1) := dk_108 (dk_at dksX3_layBy_2 19 rfl rfl)
theorem dX3_layBy_67 : decode cX3_layBy 67 = .ok (.bipush 10, 2) := dk_16 10 (dk_at dksX3_layBy_2 20 rfl rfl)
theorem dX3_layBy_69 : decode cX3_layBy 69 = .ok (.irem, 1) := dk_112 (dk_at dksX3_layBy_2 22 rfl rfl)
theorem dX3_layBy_70 : decode cX3_layBy 70 = .ok (.istore 4, 2) := dk_54 4 (dk_at dksX3_layBy_3 0 rfl rfl)
theorem dX3_layBy_72 : decode cX3_layBy 72 = .ok (.iload 4, 2) := dk_21 4 (dk_at dksX3_layBy_3 2 rfl rfl)
theorem dX3_layBy_74 : decode cX3_layBy 74 = .ok (.i2l, 1) := dk_133 (dk_at dksX3_layBy_3 4 rfl rfl)
theorem dX3_layBy_75 : decode cX3_layBy 75 = .ok (.lconst 1, 1) := dk_10 (dk_at dksX3_layBy_3 5 rfl rfl)
theorem dX3_layBy_76 : decode cX3_layBy 76 = .ok (.ldc2_w 99, 3) := dk_20 0 99 (dk_at dksX3_layBy_3 6 rfl rfl)
theorem dX3_layBy_79 : decode cX3_layBy 79 = .ok (.invokestatic 101, 3) := dk_184 0 101 (dk_at dksX3_layBy_3 9 rfl rfl)
theorem dX3_layBy_82 : decode cX3_layBy 82 = .ok (.ifCond .eq 12, 3) := dk_153 0 12 (dk_at dksX3_layBy_3 12 rfl rfl)
theorem dX3_layBy_85 : decode cX3_layBy 85 = .ok (.aload_n 0, 1) := dk_42 (dk_at dksX3_layBy_3 15 rfl rfl)
theorem dX3_layBy_86 : decode cX3_layBy 86 = .ok (.iload 4, 2) := dk_21 4 (dk_at dksX3_layBy_3 16 rfl rfl)
theorem dX3_layBy_88 : decode cX3_layBy 88 = .ok (.invokevirtual 105, 3) := dk_182 0 105 (dk_at dksX3_layBy_3 18 rfl rfl)
theorem dX3_layBy_91 : decode cX3_layBy 91 = .ok (.ifCond .ne 5, 3) := dk_154 0 5 (dk_at dksX3_layBy_3 21 rfl rfl)
theorem dX3_layBy_94 : decode cX3_layBy 94 = .ok (.iconst 0, 1) := dk_3 (dk_at dksX3_layBy_4 0 rfl rfl)
theorem dX3_layBy_95 : decode cX3_layBy 95 = .ok (.ireturn, 1) := dk_172 (dk_at dksX3_layBy_4 1 rfl rfl)
theorem dX3_layBy_96 : decode cX3_layBy 96 = .ok (.aload_n 0, 1) := dk_42 (dk_at dksX3_layBy_4 2 rfl rfl)
theorem dX3_layBy_97 : decode cX3_layBy 97 = .ok (.iload 4, 2) := dk_21 4 (dk_at dksX3_layBy_4 3 rfl rfl)
theorem dX3_layBy_99 : decode cX3_layBy 99 = .ok (.invokevirtual 88, 3) := dk_182 0 88 (dk_at dksX3_layBy_4 5 rfl rfl)
theorem dX3_layBy_102 : decode cX3_layBy 102 = .ok (.iload_n 3, 1) := dk_29 (dk_at dksX3_layBy_4 8 rfl rfl)
theorem dX3_layBy_103 : decode cX3_layBy 103 = .ok (.bipush 10, 2) := dk_16 10 (dk_at dksX3_layBy_4 9 rfl rfl)
theorem dX3_layBy_105 : decode cX3_layBy 105 = .ok (.idiv, 1) := dk_108 (dk_at dksX3_layBy_4 11 rfl rfl)
theorem dX3_layBy_106 : decode cX3_layBy 106 = .ok (.istore_n 3, 1) := dk_62 (dk_at dksX3_layBy_4 12 rfl rfl)
theorem dX3_layBy_107 : decode cX3_layBy 107 = .ok (.goto (-51), 3) := dk_167 255 205 (dk_at dksX3_layBy_4 13 rfl rfl)
theorem dX3_layBy_110 : decode cX3_layBy 110 = .ok (.aload_n 0, 1) := dk_42 (dk_at dksX3_layBy_4 16 rfl rfl)
theorem dX3_layBy_111 : decode cX3_layBy 111 = .ok (.getfield 78, 3) := dk_180 0 78 (dk_at dksX3_layBy_4 17 rfl rfl)
theorem dX3_layBy_114 : decode cX3_layBy 114 = .ok (.aload_n 0, 1) := dk_42 (dk_at dksX3_layBy_4 20 rfl rfl)
theorem dX3_layBy_115 : decode cX3_layBy 115 = .ok (.invokevirtual 95, 3) := dk_182 0 95 (dk_at dksX3_layBy_4 21 rfl rfl)
theorem dX3_layBy_118 : decode cX3_layBy 118 = .ok (.if_icmp .ne 7, 3) := dk_160 0 7 (dk_at dksX3_layBy_5 0 rfl rfl)
theorem dX3_layBy_121 : decode cX3_layBy 121 = .ok (.iconst 1, 1) := dk_4 (dk_at dksX3_layBy_5 3 rfl rfl)
theorem dX3_layBy_122 : decode cX3_layBy 122 = .ok (.goto 4, 3) := dk_167 0 4 (dk_at dksX3_layBy_5 4 rfl rfl)
theorem dX3_layBy_125 : decode cX3_layBy 125 = .ok (.iconst 0, 1) := dk_3 (dk_at dksX3_layBy_5 7 rfl rfl)
theorem dX3_layBy_126 : decode cX3_layBy 126 = .ok (.ireturn, 1) := dk_172 (dk_at dksX3_layBy_5 8 rfl rfl)
abbrev cX3_cells : ByteArray := prog_33_method_6_code
def yX3_cells : MethodName := ⟨RX3, "cells", "()I"⟩
def dkwX3_cells_0 : List UInt8 := [42, 180, 0, 7, 3, 46, 42, 180, 0, 7, 4, 46, 104, 172]
abbrev dktX3_cells_0 : List UInt8 := dkwX3_cells_0 ++ []
theorem dksX3_cells_0 : cX3_cells.data.toList.drop 0 = dktX3_cells_0 := by decide +kernel
theorem dX3_cells_0 : decode cX3_cells 0 = .ok (.aload_n 0, 1) := dk_42 (dk_at dksX3_cells_0 0 rfl rfl)
theorem dX3_cells_1 : decode cX3_cells 1 = .ok (.getfield 7, 3) := dk_180 0 7 (dk_at dksX3_cells_0 1 rfl rfl)
theorem dX3_cells_4 : decode cX3_cells 4 = .ok (.iconst 0, 1) := dk_3 (dk_at dksX3_cells_0 4 rfl rfl)
theorem dX3_cells_5 : decode cX3_cells 5 = .ok (.iaload, 1) := dk_46 (dk_at dksX3_cells_0 5 rfl rfl)
theorem dX3_cells_6 : decode cX3_cells 6 = .ok (.aload_n 0, 1) := dk_42 (dk_at dksX3_cells_0 6 rfl rfl)
theorem dX3_cells_7 : decode cX3_cells 7 = .ok (.getfield 7, 3) := dk_180 0 7 (dk_at dksX3_cells_0 7 rfl rfl)
theorem dX3_cells_10 : decode cX3_cells 10 = .ok (.iconst 1, 1) := dk_4 (dk_at dksX3_cells_0 10 rfl rfl)
theorem dX3_cells_11 : decode cX3_cells 11 = .ok (.iaload, 1) := dk_46 (dk_at dksX3_cells_0 11 rfl rfl)
theorem dX3_cells_12 : decode cX3_cells 12 = .ok (.imul, 1) := dk_104 (dk_at dksX3_cells_0 12 rfl rfl)
theorem dX3_cells_13 : decode cX3_cells 13 = .ok (.ireturn, 1) := dk_172 (dk_at dksX3_cells_0 13 rfl rfl)
abbrev cX3_sideOf : ByteArray := prog_33_method_17_code
def yX3_sideOf : MethodName := ⟨RX3, "sideOf", "(I)I"⟩
def dkwX3_sideOf_1 : List UInt8 := [167, 0, 11, 4, 42, 180, 0, 25, 28, 46, 100, 96, 172]
abbrev dktX3_sideOf_1 : List UInt8 := dkwX3_sideOf_1 ++ []
def dkwX3_sideOf_0 : List UInt8 := [27, 5, 108, 61, 5, 42, 180, 0, 22, 28, 46, 104, 27, 5, 112, 154, 0, 12, 42, 180, 0, 25, 28, 46]
abbrev dktX3_sideOf_0 : List UInt8 := dkwX3_sideOf_0 ++ dktX3_sideOf_1
theorem dksX3_sideOf_0 : cX3_sideOf.data.toList.drop 0 = dktX3_sideOf_0 := by decide +kernel
theorem dksX3_sideOf_1 : cX3_sideOf.data.toList.drop 24 = dktX3_sideOf_1 := dk_seg dksX3_sideOf_0 24 rfl rfl
theorem dX3_sideOf_0 : decode cX3_sideOf 0 = .ok (.iload_n 1, 1) := dk_27 (dk_at dksX3_sideOf_0 0 rfl rfl)
theorem dX3_sideOf_1 : decode cX3_sideOf 1 = .ok (.iconst 2, 1) := dk_5 (dk_at dksX3_sideOf_0 1 rfl rfl)
theorem dX3_sideOf_2 : decode cX3_sideOf 2 = .ok (.idiv, 1) := dk_108 (dk_at dksX3_sideOf_0 2 rfl rfl)
theorem dX3_sideOf_3 : decode cX3_sideOf 3 = .ok (.istore_n 2, 1) := dk_61 (dk_at dksX3_sideOf_0 3 rfl rfl)
theorem dX3_sideOf_4 : decode cX3_sideOf 4 = .ok (.iconst 2, 1) := dk_5 (dk_at dksX3_sideOf_0 4 rfl rfl)
theorem dX3_sideOf_5 : decode cX3_sideOf 5 = .ok (.aload_n 0, 1) := dk_42 (dk_at dksX3_sideOf_0 5 rfl rfl)
theorem dX3_sideOf_6 : decode cX3_sideOf 6 = .ok (.getfield 22, 3) := dk_180 0 22 (dk_at dksX3_sideOf_0 6 rfl rfl)
theorem dX3_sideOf_9 : decode cX3_sideOf 9 = .ok (.iload_n 2, 1) := dk_28 (dk_at dksX3_sideOf_0 9 rfl rfl)
theorem dX3_sideOf_10 : decode cX3_sideOf 10 = .ok (.iaload, 1) := dk_46 (dk_at dksX3_sideOf_0 10 rfl rfl)
theorem dX3_sideOf_11 : decode cX3_sideOf 11 = .ok (.imul, 1) := dk_104 (dk_at dksX3_sideOf_0 11 rfl rfl)
theorem dX3_sideOf_12 : decode cX3_sideOf 12 = .ok (.iload_n 1, 1) := dk_27 (dk_at dksX3_sideOf_0 12 rfl rfl)
theorem dX3_sideOf_13 : decode cX3_sideOf 13 = .ok (.iconst 2, 1) := dk_5 (dk_at dksX3_sideOf_0 13 rfl rfl)
theorem dX3_sideOf_14 : decode cX3_sideOf 14 = .ok (.irem, 1) := dk_112 (dk_at dksX3_sideOf_0 14 rfl rfl)
theorem dX3_sideOf_15 : decode cX3_sideOf 15 = .ok (.ifCond .ne 12, 3) := dk_154 0 12 (dk_at dksX3_sideOf_0 15 rfl rfl)
theorem dX3_sideOf_18 : decode cX3_sideOf 18 = .ok (.aload_n 0, 1) := dk_42 (dk_at dksX3_sideOf_0 18 rfl rfl)
theorem dX3_sideOf_19 : decode cX3_sideOf 19 = .ok (.getfield 25, 3) := dk_180 0 25 (dk_at dksX3_sideOf_0 19 rfl rfl)
theorem dX3_sideOf_22 : decode cX3_sideOf 22 = .ok (.iload_n 2, 1) := dk_28 (dk_at dksX3_sideOf_0 22 rfl rfl)
theorem dX3_sideOf_23 : decode cX3_sideOf 23 = .ok (.iaload, 1) := dk_46 (dk_at dksX3_sideOf_0 23 rfl rfl)
theorem dX3_sideOf_24 : decode cX3_sideOf 24 = .ok (.goto 11, 3) := dk_167 0 11 (dk_at dksX3_sideOf_1 0 rfl rfl)
theorem dX3_sideOf_27 : decode cX3_sideOf 27 = .ok (.iconst 1, 1) := dk_4 (dk_at dksX3_sideOf_1 3 rfl rfl)
theorem dX3_sideOf_28 : decode cX3_sideOf 28 = .ok (.aload_n 0, 1) := dk_42 (dk_at dksX3_sideOf_1 4 rfl rfl)
theorem dX3_sideOf_29 : decode cX3_sideOf 29 = .ok (.getfield 25, 3) := dk_180 0 25 (dk_at dksX3_sideOf_1 5 rfl rfl)
theorem dX3_sideOf_32 : decode cX3_sideOf 32 = .ok (.iload_n 2, 1) := dk_28 (dk_at dksX3_sideOf_1 8 rfl rfl)
theorem dX3_sideOf_33 : decode cX3_sideOf 33 = .ok (.iaload, 1) := dk_46 (dk_at dksX3_sideOf_1 9 rfl rfl)
theorem dX3_sideOf_34 : decode cX3_sideOf 34 = .ok (.isub, 1) := dk_100 (dk_at dksX3_sideOf_1 10 rfl rfl)
theorem dX3_sideOf_35 : decode cX3_sideOf 35 = .ok (.iadd, 1) := dk_96 (dk_at dksX3_sideOf_1 11 rfl rfl)
theorem dX3_sideOf_36 : decode cX3_sideOf 36 = .ok (.ireturn, 1) := dk_172 (dk_at dksX3_sideOf_1 12 rfl rfl)
abbrev cX3_turnOf : ByteArray := prog_33_method_18_code
def yX3_turnOf : MethodName := ⟨RX3, "turnOf", "(I)I"⟩
def dkwX3_turnOf_1 : List UInt8 := [160, 0, 7, 4, 167, 0, 4, 3, 130, 172]
abbrev dktX3_turnOf_1 : List UInt8 := dkwX3_turnOf_1 ++ []
def dkwX3_turnOf_0 : List UInt8 := [42, 180, 0, 31, 27, 5, 108, 46, 42, 180, 0, 7, 16, 7, 46, 4, 160, 0, 14, 27, 5, 112, 4]
abbrev dktX3_turnOf_0 : List UInt8 := dkwX3_turnOf_0 ++ dktX3_turnOf_1
theorem dksX3_turnOf_0 : cX3_turnOf.data.toList.drop 0 = dktX3_turnOf_0 := by decide +kernel
theorem dksX3_turnOf_1 : cX3_turnOf.data.toList.drop 23 = dktX3_turnOf_1 := dk_seg dksX3_turnOf_0 23 rfl rfl
theorem dX3_turnOf_0 : decode cX3_turnOf 0 = .ok (.aload_n 0, 1) := dk_42 (dk_at dksX3_turnOf_0 0 rfl rfl)
theorem dX3_turnOf_1 : decode cX3_turnOf 1 = .ok (.getfield 31, 3) := dk_180 0 31 (dk_at dksX3_turnOf_0 1 rfl rfl)
theorem dX3_turnOf_4 : decode cX3_turnOf 4 = .ok (.iload_n 1, 1) := dk_27 (dk_at dksX3_turnOf_0 4 rfl rfl)
theorem dX3_turnOf_5 : decode cX3_turnOf 5 = .ok (.iconst 2, 1) := dk_5 (dk_at dksX3_turnOf_0 5 rfl rfl)
theorem dX3_turnOf_6 : decode cX3_turnOf 6 = .ok (.idiv, 1) := dk_108 (dk_at dksX3_turnOf_0 6 rfl rfl)
theorem dX3_turnOf_7 : decode cX3_turnOf 7 = .ok (.iaload, 1) := dk_46 (dk_at dksX3_turnOf_0 7 rfl rfl)
theorem dX3_turnOf_8 : decode cX3_turnOf 8 = .ok (.aload_n 0, 1) := dk_42 (dk_at dksX3_turnOf_0 8 rfl rfl)
theorem dX3_turnOf_9 : decode cX3_turnOf 9 = .ok (.getfield 7, 3) := dk_180 0 7 (dk_at dksX3_turnOf_0 9 rfl rfl)
theorem dX3_turnOf_12 : decode cX3_turnOf 12 = .ok (.bipush 7, 2) := dk_16 7 (dk_at dksX3_turnOf_0 12 rfl rfl)
theorem dX3_turnOf_14 : decode cX3_turnOf 14 = .ok (.iaload, 1) := dk_46 (dk_at dksX3_turnOf_0 14 rfl rfl)
theorem dX3_turnOf_15 : decode cX3_turnOf 15 = .ok (.iconst 1, 1) := dk_4 (dk_at dksX3_turnOf_0 15 rfl rfl)
theorem dX3_turnOf_16 : decode cX3_turnOf 16 = .ok (.if_icmp .ne 14, 3) := dk_160 0 14 (dk_at dksX3_turnOf_0 16 rfl rfl)
theorem dX3_turnOf_19 : decode cX3_turnOf 19 = .ok (.iload_n 1, 1) := dk_27 (dk_at dksX3_turnOf_0 19 rfl rfl)
theorem dX3_turnOf_20 : decode cX3_turnOf 20 = .ok (.iconst 2, 1) := dk_5 (dk_at dksX3_turnOf_0 20 rfl rfl)
theorem dX3_turnOf_21 : decode cX3_turnOf 21 = .ok (.irem, 1) := dk_112 (dk_at dksX3_turnOf_0 21 rfl rfl)
theorem dX3_turnOf_22 : decode cX3_turnOf 22 = .ok (.iconst 1, 1) := dk_4 (dk_at dksX3_turnOf_0 22 rfl rfl)
theorem dX3_turnOf_23 : decode cX3_turnOf 23 = .ok (.if_icmp .ne 7, 3) := dk_160 0 7 (dk_at dksX3_turnOf_1 0 rfl rfl)
theorem dX3_turnOf_26 : decode cX3_turnOf 26 = .ok (.iconst 1, 1) := dk_4 (dk_at dksX3_turnOf_1 3 rfl rfl)
theorem dX3_turnOf_27 : decode cX3_turnOf 27 = .ok (.goto 4, 3) := dk_167 0 4 (dk_at dksX3_turnOf_1 4 rfl rfl)
theorem dX3_turnOf_30 : decode cX3_turnOf 30 = .ok (.iconst 0, 1) := dk_3 (dk_at dksX3_turnOf_1 7 rfl rfl)
theorem dX3_turnOf_31 : decode cX3_turnOf 31 = .ok (.ixor, 1) := dk_130 (dk_at dksX3_turnOf_1 8 rfl rfl)
theorem dX3_turnOf_32 : decode cX3_turnOf 32 = .ok (.ireturn, 1) := dk_172 (dk_at dksX3_turnOf_1 9 rfl rfl)
abbrev cX3_cut : ByteArray := prog_33_method_36_code
def yX3_cut : MethodName := ⟨RX3, "cut", "(I)I"⟩
def dkwX3_cut_3 : List UInt8 := [27, 182, 0, 165, 172]
abbrev dktX3_cut_3 : List UInt8 := dkwX3_cut_3 ++ []
def dkwX3_cut_2 : List UInt8 := [16, 8, 92, 46, 4, 27, 120, 128, 79, 42, 180, 0, 7, 16, 88, 92, 46, 42, 180, 0, 78, 96, 79, 42]
abbrev dktX3_cut_2 : List UInt8 := dkwX3_cut_2 ++ dktX3_cut_3
def dkwX3_cut_1 : List UInt8 := [180, 0, 7, 16, 8, 46, 27, 184, 0, 120, 153, 0, 6, 16, 254, 172, 42, 182, 0, 139, 42, 180, 0, 7]
abbrev dktX3_cut_1 : List UInt8 := dkwX3_cut_1 ++ dktX3_cut_2
def dkwX3_cut_0 : List UInt8 := [27, 133, 9, 20, 0, 160, 184, 0, 101, 154, 0, 5, 2, 172, 42, 182, 0, 162, 153, 0, 17, 42]
abbrev dktX3_cut_0 : List UInt8 := dkwX3_cut_0 ++ dktX3_cut_1
theorem dksX3_cut_0 : cX3_cut.data.toList.drop 0 = dktX3_cut_0 := by decide +kernel
theorem dksX3_cut_1 : cX3_cut.data.toList.drop 22 = dktX3_cut_1 := dk_seg dksX3_cut_0 22 rfl rfl
theorem dksX3_cut_2 : cX3_cut.data.toList.drop 46 = dktX3_cut_2 := dk_seg dksX3_cut_1 24 rfl rfl
theorem dksX3_cut_3 : cX3_cut.data.toList.drop 70 = dktX3_cut_3 := dk_seg dksX3_cut_2 24 rfl rfl
theorem dX3_cut_0 : decode cX3_cut 0 = .ok (.iload_n 1, 1) := dk_27 (dk_at dksX3_cut_0 0 rfl rfl)
theorem dX3_cut_1 : decode cX3_cut 1 = .ok (.i2l, 1) := dk_133 (dk_at dksX3_cut_0 1 rfl rfl)
theorem dX3_cut_2 : decode cX3_cut 2 = .ok (.lconst 0, 1) := dk_9 (dk_at dksX3_cut_0 2 rfl rfl)
theorem dX3_cut_3 : decode cX3_cut 3 = .ok (.ldc2_w 160, 3) := dk_20 0 160 (dk_at dksX3_cut_0 3 rfl rfl)
theorem dX3_cut_6 : decode cX3_cut 6 = .ok (.invokestatic 101, 3) := dk_184 0 101 (dk_at dksX3_cut_0 6 rfl rfl)
theorem dX3_cut_9 : decode cX3_cut 9 = .ok (.ifCond .ne 5, 3) := dk_154 0 5 (dk_at dksX3_cut_0 9 rfl rfl)
theorem dX3_cut_12 : decode cX3_cut 12 = .ok (.iconst (-1), 1) := dk_2 (dk_at dksX3_cut_0 12 rfl rfl)
theorem dX3_cut_13 : decode cX3_cut 13 = .ok (.ireturn, 1) := dk_172 (dk_at dksX3_cut_0 13 rfl rfl)
theorem dX3_cut_14 : decode cX3_cut 14 = .ok (.aload_n 0, 1) := dk_42 (dk_at dksX3_cut_0 14 rfl rfl)
theorem dX3_cut_15 : decode cX3_cut 15 = .ok (.invokevirtual 162, 3) := dk_182 0 162 (dk_at dksX3_cut_0 15 rfl rfl)
theorem dX3_cut_18 : decode cX3_cut 18 = .ok (.ifCond .eq 17, 3) := dk_153 0 17 (dk_at dksX3_cut_0 18 rfl rfl)
theorem dX3_cut_21 : decode cX3_cut 21 = .ok (.aload_n 0, 1) := dk_42 (dk_at dksX3_cut_0 21 rfl rfl)
theorem dX3_cut_22 : decode cX3_cut 22 = .ok (.getfield 7, 3) := dk_180 0 7 (dk_at dksX3_cut_1 0 rfl rfl)
theorem dX3_cut_25 : decode cX3_cut 25 = .ok (.bipush 8, 2) := dk_16 8 (dk_at dksX3_cut_1 3 rfl rfl)
theorem dX3_cut_27 : decode cX3_cut 27 = .ok (.iaload, 1) := dk_46 (dk_at dksX3_cut_1 5 rfl rfl)
theorem dX3_cut_28 : decode cX3_cut 28 = .ok (.iload_n 1, 1) := dk_27 (dk_at dksX3_cut_1 6 rfl rfl)
theorem dX3_cut_29 : decode cX3_cut 29 = .ok (.invokestatic 120, 3) := dk_184 0 120 (dk_at dksX3_cut_1 7 rfl rfl)
theorem dX3_cut_32 : decode cX3_cut 32 = .ok (.ifCond .eq 6, 3) := dk_153 0 6 (dk_at dksX3_cut_1 10 rfl rfl)
theorem dX3_cut_35 : decode cX3_cut 35 = .ok (.bipush (-2), 2) := dk_16 254 (dk_at dksX3_cut_1 13 rfl rfl)
theorem dX3_cut_37 : decode cX3_cut 37 = .ok (.ireturn, 1) := dk_172 (dk_at dksX3_cut_1 15 rfl rfl)
theorem dX3_cut_38 : decode cX3_cut 38 = .ok (.aload_n 0, 1) := dk_42 (dk_at dksX3_cut_1 16 rfl rfl)
theorem dX3_cut_39 : decode cX3_cut 39 = .ok (.invokevirtual 139, 3) := dk_182 0 139 (dk_at dksX3_cut_1 17 rfl rfl)
theorem dX3_cut_42 : decode cX3_cut 42 = .ok (.aload_n 0, 1) := dk_42 (dk_at dksX3_cut_1 20 rfl rfl)
theorem dX3_cut_43 : decode cX3_cut 43 = .ok (.getfield 7, 3) := dk_180 0 7 (dk_at dksX3_cut_1 21 rfl rfl)
theorem dX3_cut_46 : decode cX3_cut 46 = .ok (.bipush 8, 2) := dk_16 8 (dk_at dksX3_cut_2 0 rfl rfl)
theorem dX3_cut_48 : decode cX3_cut 48 = .ok (.dup2, 1) := dk_92 (dk_at dksX3_cut_2 2 rfl rfl)
theorem dX3_cut_49 : decode cX3_cut 49 = .ok (.iaload, 1) := dk_46 (dk_at dksX3_cut_2 3 rfl rfl)
theorem dX3_cut_50 : decode cX3_cut 50 = .ok (.iconst 1, 1) := dk_4 (dk_at dksX3_cut_2 4 rfl rfl)
theorem dX3_cut_51 : decode cX3_cut 51 = .ok (.iload_n 1, 1) := dk_27 (dk_at dksX3_cut_2 5 rfl rfl)
theorem dX3_cut_52 : decode cX3_cut 52 = .ok (.ishl, 1) := dk_120 (dk_at dksX3_cut_2 6 rfl rfl)
theorem dX3_cut_53 : decode cX3_cut 53 = .ok (.ior, 1) := dk_128 (dk_at dksX3_cut_2 7 rfl rfl)
theorem dX3_cut_54 : decode cX3_cut 54 = .ok (.iastore, 1) := dk_79 (dk_at dksX3_cut_2 8 rfl rfl)
theorem dX3_cut_55 : decode cX3_cut 55 = .ok (.aload_n 0, 1) := dk_42 (dk_at dksX3_cut_2 9 rfl rfl)
theorem dX3_cut_56 : decode cX3_cut 56 = .ok (.getfield 7, 3) := dk_180 0 7 (dk_at dksX3_cut_2 10 rfl rfl)
theorem dX3_cut_59 : decode cX3_cut 59 = .ok (.bipush 88, 2) := dk_16 88 (dk_at dksX3_cut_2 13 rfl rfl)
theorem dX3_cut_61 : decode cX3_cut 61 = .ok (.dup2, 1) := dk_92 (dk_at dksX3_cut_2 15 rfl rfl)
theorem dX3_cut_62 : decode cX3_cut 62 = .ok (.iaload, 1) := dk_46 (dk_at dksX3_cut_2 16 rfl rfl)
theorem dX3_cut_63 : decode cX3_cut 63 = .ok (.aload_n 0, 1) := dk_42 (dk_at dksX3_cut_2 17 rfl rfl)
theorem dX3_cut_64 : decode cX3_cut 64 = .ok (.getfield 78, 3) := dk_180 0 78 (dk_at dksX3_cut_2 18 rfl rfl)
theorem dX3_cut_67 : decode cX3_cut 67 = .ok (.iadd, 1) := dk_96 (dk_at dksX3_cut_2 21 rfl rfl)
theorem dX3_cut_68 : decode cX3_cut 68 = .ok (.iastore, 1) := dk_79 (dk_at dksX3_cut_2 22 rfl rfl)
theorem dX3_cut_69 : decode cX3_cut 69 = .ok (.aload_n 0, 1) := dk_42 (dk_at dksX3_cut_2 23 rfl rfl)
theorem dX3_cut_70 : decode cX3_cut 70 = .ok (.iload_n 1, 1) := dk_27 (dk_at dksX3_cut_3 0 rfl rfl)
theorem dX3_cut_71 : decode cX3_cut 71 = .ok (.invokevirtual 165, 3) := dk_182 0 165 (dk_at dksX3_cut_3 1 rfl rfl)
theorem dX3_cut_74 : decode cX3_cut 74 = .ok (.ireturn, 1) := dk_172 (dk_at dksX3_cut_3 4 rfl rfl)
abbrev cX3_isBooklet : ByteArray := prog_33_method_15_code
def yX3_isBooklet : MethodName := ⟨RX3, "isBooklet", "()Z"⟩
def dkwX3_isBooklet_0 : List UInt8 := [42, 182, 0, 92, 42, 180, 0, 78, 42, 182, 0, 95, 160, 0, 7, 4, 167, 0, 4, 3, 172]
abbrev dktX3_isBooklet_0 : List UInt8 := dkwX3_isBooklet_0 ++ []
theorem dksX3_isBooklet_0 : cX3_isBooklet.data.toList.drop 0 = dktX3_isBooklet_0 := by decide +kernel
theorem dX3_isBooklet_0 : decode cX3_isBooklet 0 = .ok (.aload_n 0, 1) := dk_42 (dk_at dksX3_isBooklet_0 0 rfl rfl)
theorem dX3_isBooklet_1 : decode cX3_isBooklet 1 = .ok (.invokevirtual 92, 3) := dk_182 0 92 (dk_at dksX3_isBooklet_0 1 rfl rfl)
theorem dX3_isBooklet_4 : decode cX3_isBooklet 4 = .ok (.aload_n 0, 1) := dk_42 (dk_at dksX3_isBooklet_0 4 rfl rfl)
theorem dX3_isBooklet_5 : decode cX3_isBooklet 5 = .ok (.getfield 78, 3) := dk_180 0 78 (dk_at dksX3_isBooklet_0 5 rfl rfl)
theorem dX3_isBooklet_8 : decode cX3_isBooklet 8 = .ok (.aload_n 0, 1) := dk_42 (dk_at dksX3_isBooklet_0 8 rfl rfl)
theorem dX3_isBooklet_9 : decode cX3_isBooklet 9 = .ok (.invokevirtual 95, 3) := dk_182 0 95 (dk_at dksX3_isBooklet_0 9 rfl rfl)
theorem dX3_isBooklet_12 : decode cX3_isBooklet 12 = .ok (.if_icmp .ne 7, 3) := dk_160 0 7 (dk_at dksX3_isBooklet_0 12 rfl rfl)
theorem dX3_isBooklet_15 : decode cX3_isBooklet 15 = .ok (.iconst 1, 1) := dk_4 (dk_at dksX3_isBooklet_0 15 rfl rfl)
theorem dX3_isBooklet_16 : decode cX3_isBooklet 16 = .ok (.goto 4, 3) := dk_167 0 4 (dk_at dksX3_isBooklet_0 16 rfl rfl)
theorem dX3_isBooklet_19 : decode cX3_isBooklet 19 = .ok (.iconst 0, 1) := dk_3 (dk_at dksX3_isBooklet_0 19 rfl rfl)
theorem dX3_isBooklet_20 : decode cX3_isBooklet 20 = .ok (.ireturn, 1) := dk_172 (dk_at dksX3_isBooklet_0 20 rfl rfl)
abbrev cX3_has : ByteArray := prog_33_method_3_code
def yX3_has : MethodName := ⟨RX3, "has", "(II)Z"⟩
def dkwX3_has_0 : List UInt8 := [26, 27, 122, 4, 126, 4, 160, 0, 7, 4, 167, 0, 4, 3, 172]
abbrev dktX3_has_0 : List UInt8 := dkwX3_has_0 ++ []
theorem dksX3_has_0 : cX3_has.data.toList.drop 0 = dktX3_has_0 := by decide +kernel
theorem dX3_has_0 : decode cX3_has 0 = .ok (.iload_n 0, 1) := dk_26 (dk_at dksX3_has_0 0 rfl rfl)
theorem dX3_has_1 : decode cX3_has 1 = .ok (.iload_n 1, 1) := dk_27 (dk_at dksX3_has_0 1 rfl rfl)
theorem dX3_has_2 : decode cX3_has 2 = .ok (.ishr, 1) := dk_122 (dk_at dksX3_has_0 2 rfl rfl)
theorem dX3_has_3 : decode cX3_has 3 = .ok (.iconst 1, 1) := dk_4 (dk_at dksX3_has_0 3 rfl rfl)
theorem dX3_has_4 : decode cX3_has 4 = .ok (.iand, 1) := dk_126 (dk_at dksX3_has_0 4 rfl rfl)
theorem dX3_has_5 : decode cX3_has 5 = .ok (.iconst 1, 1) := dk_4 (dk_at dksX3_has_0 5 rfl rfl)
theorem dX3_has_6 : decode cX3_has 6 = .ok (.if_icmp .ne 7, 3) := dk_160 0 7 (dk_at dksX3_has_0 6 rfl rfl)
theorem dX3_has_9 : decode cX3_has 9 = .ok (.iconst 1, 1) := dk_4 (dk_at dksX3_has_0 9 rfl rfl)
theorem dX3_has_10 : decode cX3_has 10 = .ok (.goto 4, 3) := dk_167 0 4 (dk_at dksX3_has_0 10 rfl rfl)
theorem dX3_has_13 : decode cX3_has 13 = .ok (.iconst 0, 1) := dk_3 (dk_at dksX3_has_0 13 rfl rfl)
theorem dX3_has_14 : decode cX3_has 14 = .ok (.ireturn, 1) := dk_172 (dk_at dksX3_has_0 14 rfl rfl)
abbrev cX3_pairsAt : ByteArray := prog_33_method_35_code
def yX3_pairsAt : MethodName := ⟨RX3, "pairsAt", "(I)I"⟩
def dkwX3_pairsAt_2 : List UInt8 := [132, 4, 1, 167, 255, 225, 132, 3, 1, 167, 255, 206, 28, 172]
abbrev dktX3_pairsAt_2 : List UInt8 := dkwX3_pairsAt_2 ++ []
def dkwX3_pairsAt_1 : List UInt8 := [162, 0, 28, 28, 42, 29, 21, 4, 182, 0, 116, 27, 160, 0, 7, 4, 167, 0, 4, 3, 96, 61]
abbrev dktX3_pairsAt_1 : List UInt8 := dkwX3_pairsAt_1 ++ dktX3_pairsAt_2
def dkwX3_pairsAt_0 : List UInt8 := [3, 61, 3, 62, 29, 42, 180, 0, 78, 162, 0, 48, 29, 4, 96, 54, 4, 21, 4, 42, 180, 0, 78]
abbrev dktX3_pairsAt_0 : List UInt8 := dkwX3_pairsAt_0 ++ dktX3_pairsAt_1
theorem dksX3_pairsAt_0 : cX3_pairsAt.data.toList.drop 0 = dktX3_pairsAt_0 := by decide +kernel
theorem dksX3_pairsAt_1 : cX3_pairsAt.data.toList.drop 23 = dktX3_pairsAt_1 := dk_seg dksX3_pairsAt_0 23 rfl rfl
theorem dksX3_pairsAt_2 : cX3_pairsAt.data.toList.drop 45 = dktX3_pairsAt_2 := dk_seg dksX3_pairsAt_1 22 rfl rfl
theorem dX3_pairsAt_0 : decode cX3_pairsAt 0 = .ok (.iconst 0, 1) := dk_3 (dk_at dksX3_pairsAt_0 0 rfl rfl)
theorem dX3_pairsAt_1 : decode cX3_pairsAt 1 = .ok (.istore_n 2, 1) := dk_61 (dk_at dksX3_pairsAt_0 1 rfl rfl)
theorem dX3_pairsAt_2 : decode cX3_pairsAt 2 = .ok (.iconst 0, 1) := dk_3 (dk_at dksX3_pairsAt_0 2 rfl rfl)
theorem dX3_pairsAt_3 : decode cX3_pairsAt 3 = .ok (.istore_n 3, 1) := dk_62 (dk_at dksX3_pairsAt_0 3 rfl rfl)
theorem dX3_pairsAt_4 : decode cX3_pairsAt 4 = .ok (.iload_n 3, 1) := dk_29 (dk_at dksX3_pairsAt_0 4 rfl rfl)
theorem dX3_pairsAt_5 : decode cX3_pairsAt 5 = .ok (.aload_n 0, 1) := dk_42 (dk_at dksX3_pairsAt_0 5 rfl rfl)
theorem dX3_pairsAt_6 : decode cX3_pairsAt 6 = .ok (.getfield 78, 3) := dk_180 0 78 (dk_at dksX3_pairsAt_0 6 rfl rfl)
theorem dX3_pairsAt_9 : decode cX3_pairsAt 9 = .ok (.if_icmp .ge 48, 3) := dk_162 0 48 (dk_at dksX3_pairsAt_0 9 rfl rfl)
theorem dX3_pairsAt_12 : decode cX3_pairsAt 12 = .ok (.iload_n 3, 1) := dk_29 (dk_at dksX3_pairsAt_0 12 rfl rfl)
theorem dX3_pairsAt_13 : decode cX3_pairsAt 13 = .ok (.iconst 1, 1) := dk_4 (dk_at dksX3_pairsAt_0 13 rfl rfl)
theorem dX3_pairsAt_14 : decode cX3_pairsAt 14 = .ok (.iadd, 1) := dk_96 (dk_at dksX3_pairsAt_0 14 rfl rfl)
theorem dX3_pairsAt_15 : decode cX3_pairsAt 15 = .ok (.istore 4, 2) := dk_54 4 (dk_at dksX3_pairsAt_0 15 rfl rfl)
theorem dX3_pairsAt_17 : decode cX3_pairsAt 17 = .ok (.iload 4, 2) := dk_21 4 (dk_at dksX3_pairsAt_0 17 rfl rfl)
theorem dX3_pairsAt_19 : decode cX3_pairsAt 19 = .ok (.aload_n 0, 1) := dk_42 (dk_at dksX3_pairsAt_0 19 rfl rfl)
theorem dX3_pairsAt_20 : decode cX3_pairsAt 20 = .ok (.getfield 78, 3) := dk_180 0 78 (dk_at dksX3_pairsAt_0 20 rfl rfl)
theorem dX3_pairsAt_23 : decode cX3_pairsAt 23 = .ok (.if_icmp .ge 28, 3) := dk_162 0 28 (dk_at dksX3_pairsAt_1 0 rfl rfl)
theorem dX3_pairsAt_26 : decode cX3_pairsAt 26 = .ok (.iload_n 2, 1) := dk_28 (dk_at dksX3_pairsAt_1 3 rfl rfl)
theorem dX3_pairsAt_27 : decode cX3_pairsAt 27 = .ok (.aload_n 0, 1) := dk_42 (dk_at dksX3_pairsAt_1 4 rfl rfl)
theorem dX3_pairsAt_28 : decode cX3_pairsAt 28 = .ok (.iload_n 3, 1) := dk_29 (dk_at dksX3_pairsAt_1 5 rfl rfl)
theorem dX3_pairsAt_29 : decode cX3_pairsAt 29 = .ok (.iload 4, 2) := dk_21 4 (dk_at dksX3_pairsAt_1 6 rfl rfl)
theorem dX3_pairsAt_31 : decode cX3_pairsAt 31 = .ok (.invokevirtual 116, 3) := dk_182 0 116 (dk_at dksX3_pairsAt_1 8 rfl rfl)
theorem dX3_pairsAt_34 : decode cX3_pairsAt 34 = .ok (.iload_n 1, 1) := dk_27 (dk_at dksX3_pairsAt_1 11 rfl rfl)
theorem dX3_pairsAt_35 : decode cX3_pairsAt 35 = .ok (.if_icmp .ne 7, 3) := dk_160 0 7 (dk_at dksX3_pairsAt_1 12 rfl rfl)
theorem dX3_pairsAt_38 : decode cX3_pairsAt 38 = .ok (.iconst 1, 1) := dk_4 (dk_at dksX3_pairsAt_1 15 rfl rfl)
theorem dX3_pairsAt_39 : decode cX3_pairsAt 39 = .ok (.goto 4, 3) := dk_167 0 4 (dk_at dksX3_pairsAt_1 16 rfl rfl)
theorem dX3_pairsAt_42 : decode cX3_pairsAt 42 = .ok (.iconst 0, 1) := dk_3 (dk_at dksX3_pairsAt_1 19 rfl rfl)
theorem dX3_pairsAt_43 : decode cX3_pairsAt 43 = .ok (.iadd, 1) := dk_96 (dk_at dksX3_pairsAt_1 20 rfl rfl)
theorem dX3_pairsAt_44 : decode cX3_pairsAt 44 = .ok (.istore_n 2, 1) := dk_61 (dk_at dksX3_pairsAt_1 21 rfl rfl)
theorem dX3_pairsAt_45 : decode cX3_pairsAt 45 = .ok (.iinc 4 1, 3) := dk_132 4 1 (dk_at dksX3_pairsAt_2 0 rfl rfl)
theorem dX3_pairsAt_48 : decode cX3_pairsAt 48 = .ok (.goto (-31), 3) := dk_167 255 225 (dk_at dksX3_pairsAt_2 3 rfl rfl)
theorem dX3_pairsAt_51 : decode cX3_pairsAt 51 = .ok (.iinc 3 1, 3) := dk_132 3 1 (dk_at dksX3_pairsAt_2 6 rfl rfl)
theorem dX3_pairsAt_54 : decode cX3_pairsAt 54 = .ok (.goto (-50), 3) := dk_167 255 206 (dk_at dksX3_pairsAt_2 9 rfl rfl)
theorem dX3_pairsAt_57 : decode cX3_pairsAt 57 = .ok (.iload_n 2, 1) := dk_28 (dk_at dksX3_pairsAt_2 12 rfl rfl)
theorem dX3_pairsAt_58 : decode cX3_pairsAt 58 = .ok (.ireturn, 1) := dk_172 (dk_at dksX3_pairsAt_2 13 rfl rfl)
abbrev cX3_edgeOf : ByteArray := prog_33_method_22_code
def yX3_edgeOf : MethodName := ⟨RX3, "edgeOf", "(II)I"⟩
def dkwX3_edgeOf_4 : List UInt8 := [180, 0, 31, 29, 46, 154, 0, 7, 6, 167, 0, 8, 5, 167, 0, 4, 2, 172]
abbrev dktX3_edgeOf_4 : List UInt8 := dkwX3_edgeOf_4 ++ []
def dkwX3_edgeOf_3 : List UInt8 := [29, 46, 154, 0, 7, 4, 167, 0, 4, 3, 172, 21, 6, 21, 5, 21, 4, 96, 160, 0, 20, 42]
abbrev dktX3_edgeOf_3 : List UInt8 := dkwX3_edgeOf_3 ++ dktX3_edgeOf_4
def dkwX3_edgeOf_2 : List UInt8 := [46, 54, 6, 21, 6, 21, 5, 4, 96, 160, 0, 26, 21, 6, 21, 4, 112, 158, 0, 18, 42, 180, 0, 28]
abbrev dktX3_edgeOf_2 : List UInt8 := dkwX3_edgeOf_2 ++ dktX3_edgeOf_3
def dkwX3_edgeOf_1 : List UInt8 := [180, 0, 7, 4, 46, 54, 4, 42, 180, 0, 22, 29, 46, 54, 5, 42, 180, 0, 22, 27, 28, 96, 29, 100]
abbrev dktX3_edgeOf_1 : List UInt8 := dkwX3_edgeOf_1 ++ dktX3_edgeOf_2
def dkwX3_edgeOf_0 : List UInt8 := [42, 180, 0, 22, 27, 46, 42, 180, 0, 22, 28, 46, 162, 0, 7, 27, 167, 0, 4, 28, 62, 42]
abbrev dktX3_edgeOf_0 : List UInt8 := dkwX3_edgeOf_0 ++ dktX3_edgeOf_1
theorem dksX3_edgeOf_0 : cX3_edgeOf.data.toList.drop 0 = dktX3_edgeOf_0 := by decide +kernel
theorem dksX3_edgeOf_1 : cX3_edgeOf.data.toList.drop 22 = dktX3_edgeOf_1 := dk_seg dksX3_edgeOf_0 22 rfl rfl
theorem dksX3_edgeOf_2 : cX3_edgeOf.data.toList.drop 46 = dktX3_edgeOf_2 := dk_seg dksX3_edgeOf_1 24 rfl rfl
theorem dksX3_edgeOf_3 : cX3_edgeOf.data.toList.drop 70 = dktX3_edgeOf_3 := dk_seg dksX3_edgeOf_2 24 rfl rfl
theorem dksX3_edgeOf_4 : cX3_edgeOf.data.toList.drop 92 = dktX3_edgeOf_4 := dk_seg dksX3_edgeOf_3 22 rfl rfl
theorem dX3_edgeOf_0 : decode cX3_edgeOf 0 = .ok (.aload_n 0, 1) := dk_42 (dk_at dksX3_edgeOf_0 0 rfl rfl)
theorem dX3_edgeOf_1 : decode cX3_edgeOf 1 = .ok (.getfield 22, 3) := dk_180 0 22 (dk_at dksX3_edgeOf_0 1 rfl rfl)
theorem dX3_edgeOf_4 : decode cX3_edgeOf 4 = .ok (.iload_n 1, 1) := dk_27 (dk_at dksX3_edgeOf_0 4 rfl rfl)
theorem dX3_edgeOf_5 : decode cX3_edgeOf 5 = .ok (.iaload, 1) := dk_46 (dk_at dksX3_edgeOf_0 5 rfl rfl)
theorem dX3_edgeOf_6 : decode cX3_edgeOf 6 = .ok (.aload_n 0, 1) := dk_42 (dk_at dksX3_edgeOf_0 6 rfl rfl)
theorem dX3_edgeOf_7 : decode cX3_edgeOf 7 = .ok (.getfield 22, 3) := dk_180 0 22 (dk_at dksX3_edgeOf_0 7 rfl rfl)
theorem dX3_edgeOf_10 : decode cX3_edgeOf 10 = .ok (.iload_n 2, 1) := dk_28 (dk_at dksX3_edgeOf_0 10 rfl rfl)
theorem dX3_edgeOf_11 : decode cX3_edgeOf 11 = .ok (.iaload, 1) := dk_46 (dk_at dksX3_edgeOf_0 11 rfl rfl)
theorem dX3_edgeOf_12 : decode cX3_edgeOf 12 = .ok (.if_icmp .ge 7, 3) := dk_162 0 7 (dk_at dksX3_edgeOf_0 12 rfl rfl)
theorem dX3_edgeOf_15 : decode cX3_edgeOf 15 = .ok (.iload_n 1, 1) := dk_27 (dk_at dksX3_edgeOf_0 15 rfl rfl)
theorem dX3_edgeOf_16 : decode cX3_edgeOf 16 = .ok (.goto 4, 3) := dk_167 0 4 (dk_at dksX3_edgeOf_0 16 rfl rfl)
theorem dX3_edgeOf_19 : decode cX3_edgeOf 19 = .ok (.iload_n 2, 1) := dk_28 (dk_at dksX3_edgeOf_0 19 rfl rfl)
theorem dX3_edgeOf_20 : decode cX3_edgeOf 20 = .ok (.istore_n 3, 1) := dk_62 (dk_at dksX3_edgeOf_0 20 rfl rfl)
theorem dX3_edgeOf_21 : decode cX3_edgeOf 21 = .ok (.aload_n 0, 1) := dk_42 (dk_at dksX3_edgeOf_0 21 rfl rfl)
theorem dX3_edgeOf_22 : decode cX3_edgeOf 22 = .ok (.getfield 7, 3) := dk_180 0 7 (dk_at dksX3_edgeOf_1 0 rfl rfl)
theorem dX3_edgeOf_25 : decode cX3_edgeOf 25 = .ok (.iconst 1, 1) := dk_4 (dk_at dksX3_edgeOf_1 3 rfl rfl)
theorem dX3_edgeOf_26 : decode cX3_edgeOf 26 = .ok (.iaload, 1) := dk_46 (dk_at dksX3_edgeOf_1 4 rfl rfl)
theorem dX3_edgeOf_27 : decode cX3_edgeOf 27 = .ok (.istore 4, 2) := dk_54 4 (dk_at dksX3_edgeOf_1 5 rfl rfl)
theorem dX3_edgeOf_29 : decode cX3_edgeOf 29 = .ok (.aload_n 0, 1) := dk_42 (dk_at dksX3_edgeOf_1 7 rfl rfl)
theorem dX3_edgeOf_30 : decode cX3_edgeOf 30 = .ok (.getfield 22, 3) := dk_180 0 22 (dk_at dksX3_edgeOf_1 8 rfl rfl)
theorem dX3_edgeOf_33 : decode cX3_edgeOf 33 = .ok (.iload_n 3, 1) := dk_29 (dk_at dksX3_edgeOf_1 11 rfl rfl)
theorem dX3_edgeOf_34 : decode cX3_edgeOf 34 = .ok (.iaload, 1) := dk_46 (dk_at dksX3_edgeOf_1 12 rfl rfl)
theorem dX3_edgeOf_35 : decode cX3_edgeOf 35 = .ok (.istore 5, 2) := dk_54 5 (dk_at dksX3_edgeOf_1 13 rfl rfl)
theorem dX3_edgeOf_37 : decode cX3_edgeOf 37 = .ok (.aload_n 0, 1) := dk_42 (dk_at dksX3_edgeOf_1 15 rfl rfl)
theorem dX3_edgeOf_38 : decode cX3_edgeOf 38 = .ok (.getfield 22, 3) := dk_180 0 22 (dk_at dksX3_edgeOf_1 16 rfl rfl)
theorem dX3_edgeOf_41 : decode cX3_edgeOf 41 = .ok (.iload_n 1, 1) := dk_27 (dk_at dksX3_edgeOf_1 19 rfl rfl)
theorem dX3_edgeOf_42 : decode cX3_edgeOf 42 = .ok (.iload_n 2, 1) := dk_28 (dk_at dksX3_edgeOf_1 20 rfl rfl)
theorem dX3_edgeOf_43 : decode cX3_edgeOf 43 = .ok (.iadd, 1) := dk_96 (dk_at dksX3_edgeOf_1 21 rfl rfl)
theorem dX3_edgeOf_44 : decode cX3_edgeOf 44 = .ok (.iload_n 3, 1) := dk_29 (dk_at dksX3_edgeOf_1 22 rfl rfl)
theorem dX3_edgeOf_45 : decode cX3_edgeOf 45 = .ok (.isub, 1) := dk_100 (dk_at dksX3_edgeOf_1 23 rfl rfl)
theorem dX3_edgeOf_46 : decode cX3_edgeOf 46 = .ok (.iaload, 1) := dk_46 (dk_at dksX3_edgeOf_2 0 rfl rfl)
theorem dX3_edgeOf_47 : decode cX3_edgeOf 47 = .ok (.istore 6, 2) := dk_54 6 (dk_at dksX3_edgeOf_2 1 rfl rfl)
theorem dX3_edgeOf_49 : decode cX3_edgeOf 49 = .ok (.iload 6, 2) := dk_21 6 (dk_at dksX3_edgeOf_2 3 rfl rfl)
theorem dX3_edgeOf_51 : decode cX3_edgeOf 51 = .ok (.iload 5, 2) := dk_21 5 (dk_at dksX3_edgeOf_2 5 rfl rfl)
theorem dX3_edgeOf_53 : decode cX3_edgeOf 53 = .ok (.iconst 1, 1) := dk_4 (dk_at dksX3_edgeOf_2 7 rfl rfl)
theorem dX3_edgeOf_54 : decode cX3_edgeOf 54 = .ok (.iadd, 1) := dk_96 (dk_at dksX3_edgeOf_2 8 rfl rfl)
theorem dX3_edgeOf_55 : decode cX3_edgeOf 55 = .ok (.if_icmp .ne 26, 3) := dk_160 0 26 (dk_at dksX3_edgeOf_2 9 rfl rfl)
theorem dX3_edgeOf_58 : decode cX3_edgeOf 58 = .ok (.iload 6, 2) := dk_21 6 (dk_at dksX3_edgeOf_2 12 rfl rfl)
theorem dX3_edgeOf_60 : decode cX3_edgeOf 60 = .ok (.iload 4, 2) := dk_21 4 (dk_at dksX3_edgeOf_2 14 rfl rfl)
theorem dX3_edgeOf_62 : decode cX3_edgeOf 62 = .ok (.irem, 1) := dk_112 (dk_at dksX3_edgeOf_2 16 rfl rfl)
theorem dX3_edgeOf_63 : decode cX3_edgeOf 63 = .ok (.ifCond .le 18, 3) := dk_158 0 18 (dk_at dksX3_edgeOf_2 17 rfl rfl)
theorem dX3_edgeOf_66 : decode cX3_edgeOf 66 = .ok (.aload_n 0, 1) := dk_42 (dk_at dksX3_edgeOf_2 20 rfl rfl)
theorem dX3_edgeOf_67 : decode cX3_edgeOf 67 = .ok (.getfield 28, 3) := dk_180 0 28 (dk_at dksX3_edgeOf_2 21 rfl rfl)
theorem dX3_edgeOf_70 : decode cX3_edgeOf 70 = .ok (.iload_n 3, 1) := dk_29 (dk_at dksX3_edgeOf_3 0 rfl rfl)
theorem dX3_edgeOf_71 : decode cX3_edgeOf 71 = .ok (.iaload, 1) := dk_46 (dk_at dksX3_edgeOf_3 1 rfl rfl)
theorem dX3_edgeOf_72 : decode cX3_edgeOf 72 = .ok (.ifCond .ne 7, 3) := dk_154 0 7 (dk_at dksX3_edgeOf_3 2 rfl rfl)
theorem dX3_edgeOf_75 : decode cX3_edgeOf 75 = .ok (.iconst 1, 1) := dk_4 (dk_at dksX3_edgeOf_3 5 rfl rfl)
theorem dX3_edgeOf_76 : decode cX3_edgeOf 76 = .ok (.goto 4, 3) := dk_167 0 4 (dk_at dksX3_edgeOf_3 6 rfl rfl)
theorem dX3_edgeOf_79 : decode cX3_edgeOf 79 = .ok (.iconst 0, 1) := dk_3 (dk_at dksX3_edgeOf_3 9 rfl rfl)
theorem dX3_edgeOf_80 : decode cX3_edgeOf 80 = .ok (.ireturn, 1) := dk_172 (dk_at dksX3_edgeOf_3 10 rfl rfl)
theorem dX3_edgeOf_81 : decode cX3_edgeOf 81 = .ok (.iload 6, 2) := dk_21 6 (dk_at dksX3_edgeOf_3 11 rfl rfl)
theorem dX3_edgeOf_83 : decode cX3_edgeOf 83 = .ok (.iload 5, 2) := dk_21 5 (dk_at dksX3_edgeOf_3 13 rfl rfl)
theorem dX3_edgeOf_85 : decode cX3_edgeOf 85 = .ok (.iload 4, 2) := dk_21 4 (dk_at dksX3_edgeOf_3 15 rfl rfl)
theorem dX3_edgeOf_87 : decode cX3_edgeOf 87 = .ok (.iadd, 1) := dk_96 (dk_at dksX3_edgeOf_3 17 rfl rfl)
theorem dX3_edgeOf_88 : decode cX3_edgeOf 88 = .ok (.if_icmp .ne 20, 3) := dk_160 0 20 (dk_at dksX3_edgeOf_3 18 rfl rfl)
theorem dX3_edgeOf_91 : decode cX3_edgeOf 91 = .ok (.aload_n 0, 1) := dk_42 (dk_at dksX3_edgeOf_3 21 rfl rfl)
theorem dX3_edgeOf_92 : decode cX3_edgeOf 92 = .ok (.getfield 31, 3) := dk_180 0 31 (dk_at dksX3_edgeOf_4 0 rfl rfl)
theorem dX3_edgeOf_95 : decode cX3_edgeOf 95 = .ok (.iload_n 3, 1) := dk_29 (dk_at dksX3_edgeOf_4 3 rfl rfl)
theorem dX3_edgeOf_96 : decode cX3_edgeOf 96 = .ok (.iaload, 1) := dk_46 (dk_at dksX3_edgeOf_4 4 rfl rfl)
theorem dX3_edgeOf_97 : decode cX3_edgeOf 97 = .ok (.ifCond .ne 7, 3) := dk_154 0 7 (dk_at dksX3_edgeOf_4 5 rfl rfl)
theorem dX3_edgeOf_100 : decode cX3_edgeOf 100 = .ok (.iconst 3, 1) := dk_6 (dk_at dksX3_edgeOf_4 8 rfl rfl)
theorem dX3_edgeOf_101 : decode cX3_edgeOf 101 = .ok (.goto 8, 3) := dk_167 0 8 (dk_at dksX3_edgeOf_4 9 rfl rfl)
theorem dX3_edgeOf_104 : decode cX3_edgeOf 104 = .ok (.iconst 2, 1) := dk_5 (dk_at dksX3_edgeOf_4 12 rfl rfl)
theorem dX3_edgeOf_105 : decode cX3_edgeOf 105 = .ok (.goto 4, 3) := dk_167 0 4 (dk_at dksX3_edgeOf_4 13 rfl rfl)
theorem dX3_edgeOf_108 : decode cX3_edgeOf 108 = .ok (.iconst (-1), 1) := dk_2 (dk_at dksX3_edgeOf_4 16 rfl rfl)
theorem dX3_edgeOf_109 : decode cX3_edgeOf 109 = .ok (.ireturn, 1) := dk_172 (dk_at dksX3_edgeOf_4 17 rfl rfl)
abbrev cX3_staple : ByteArray := prog_33_method_37_code
def yX3_staple : MethodName := ⟨RX3, "staple", "(I)I"⟩
def dkwX3_staple_4 : List UInt8 := [180, 0, 78, 162, 0, 13, 42, 180, 0, 7, 16, 10, 46, 167, 0, 7, 42, 180, 0, 78, 172]
abbrev dktX3_staple_4 : List UInt8 := dkwX3_staple_4 ++ []
def dkwX3_staple_3 : List UInt8 := [120, 128, 79, 42, 180, 0, 7, 16, 89, 92, 46, 6, 96, 79, 42, 180, 0, 7, 16, 10, 46, 42]
abbrev dktX3_staple_3 : List UInt8 := dkwX3_staple_3 ++ dktX3_staple_4
def dkwX3_staple_2 : List UInt8 := [184, 0, 170, 6, 160, 0, 6, 16, 253, 172, 42, 182, 0, 139, 42, 180, 0, 7, 16, 9, 92, 46, 4, 27]
abbrev dktX3_staple_2 : List UInt8 := dkwX3_staple_2 ++ dktX3_staple_3
def dkwX3_staple_1 : List UInt8 := [180, 0, 7, 16, 9, 46, 27, 184, 0, 120, 153, 0, 6, 16, 254, 172, 42, 180, 0, 7, 16, 9, 46]
abbrev dktX3_staple_1 : List UInt8 := dkwX3_staple_1 ++ dktX3_staple_2
def dkwX3_staple_0 : List UInt8 := [27, 133, 9, 20, 0, 168, 184, 0, 101, 154, 0, 5, 2, 172, 42, 182, 0, 162, 153, 0, 17, 42]
abbrev dktX3_staple_0 : List UInt8 := dkwX3_staple_0 ++ dktX3_staple_1
theorem dksX3_staple_0 : cX3_staple.data.toList.drop 0 = dktX3_staple_0 := by decide +kernel
theorem dksX3_staple_1 : cX3_staple.data.toList.drop 22 = dktX3_staple_1 := dk_seg dksX3_staple_0 22 rfl rfl
theorem dksX3_staple_2 : cX3_staple.data.toList.drop 45 = dktX3_staple_2 := dk_seg dksX3_staple_1 23 rfl rfl
theorem dksX3_staple_3 : cX3_staple.data.toList.drop 69 = dktX3_staple_3 := dk_seg dksX3_staple_2 24 rfl rfl
theorem dksX3_staple_4 : cX3_staple.data.toList.drop 91 = dktX3_staple_4 := dk_seg dksX3_staple_3 22 rfl rfl
theorem dX3_staple_0 : decode cX3_staple 0 = .ok (.iload_n 1, 1) := dk_27 (dk_at dksX3_staple_0 0 rfl rfl)
theorem dX3_staple_1 : decode cX3_staple 1 = .ok (.i2l, 1) := dk_133 (dk_at dksX3_staple_0 1 rfl rfl)
theorem dX3_staple_2 : decode cX3_staple 2 = .ok (.lconst 0, 1) := dk_9 (dk_at dksX3_staple_0 2 rfl rfl)
theorem dX3_staple_3 : decode cX3_staple 3 = .ok (.ldc2_w 168, 3) := dk_20 0 168 (dk_at dksX3_staple_0 3 rfl rfl)
theorem dX3_staple_6 : decode cX3_staple 6 = .ok (.invokestatic 101, 3) := dk_184 0 101 (dk_at dksX3_staple_0 6 rfl rfl)
theorem dX3_staple_9 : decode cX3_staple 9 = .ok (.ifCond .ne 5, 3) := dk_154 0 5 (dk_at dksX3_staple_0 9 rfl rfl)
theorem dX3_staple_12 : decode cX3_staple 12 = .ok (.iconst (-1), 1) := dk_2 (dk_at dksX3_staple_0 12 rfl rfl)
theorem dX3_staple_13 : decode cX3_staple 13 = .ok (.ireturn, 1) := dk_172 (dk_at dksX3_staple_0 13 rfl rfl)
theorem dX3_staple_14 : decode cX3_staple 14 = .ok (.aload_n 0, 1) := dk_42 (dk_at dksX3_staple_0 14 rfl rfl)
theorem dX3_staple_15 : decode cX3_staple 15 = .ok (.invokevirtual 162, 3) := dk_182 0 162 (dk_at dksX3_staple_0 15 rfl rfl)
theorem dX3_staple_18 : decode cX3_staple 18 = .ok (.ifCond .eq 17, 3) := dk_153 0 17 (dk_at dksX3_staple_0 18 rfl rfl)
theorem dX3_staple_21 : decode cX3_staple 21 = .ok (.aload_n 0, 1) := dk_42 (dk_at dksX3_staple_0 21 rfl rfl)
theorem dX3_staple_22 : decode cX3_staple 22 = .ok (.getfield 7, 3) := dk_180 0 7 (dk_at dksX3_staple_1 0 rfl rfl)
theorem dX3_staple_25 : decode cX3_staple 25 = .ok (.bipush 9, 2) := dk_16 9 (dk_at dksX3_staple_1 3 rfl rfl)
theorem dX3_staple_27 : decode cX3_staple 27 = .ok (.iaload, 1) := dk_46 (dk_at dksX3_staple_1 5 rfl rfl)
theorem dX3_staple_28 : decode cX3_staple 28 = .ok (.iload_n 1, 1) := dk_27 (dk_at dksX3_staple_1 6 rfl rfl)
theorem dX3_staple_29 : decode cX3_staple 29 = .ok (.invokestatic 120, 3) := dk_184 0 120 (dk_at dksX3_staple_1 7 rfl rfl)
theorem dX3_staple_32 : decode cX3_staple 32 = .ok (.ifCond .eq 6, 3) := dk_153 0 6 (dk_at dksX3_staple_1 10 rfl rfl)
theorem dX3_staple_35 : decode cX3_staple 35 = .ok (.bipush (-2), 2) := dk_16 254 (dk_at dksX3_staple_1 13 rfl rfl)
theorem dX3_staple_37 : decode cX3_staple 37 = .ok (.ireturn, 1) := dk_172 (dk_at dksX3_staple_1 15 rfl rfl)
theorem dX3_staple_38 : decode cX3_staple 38 = .ok (.aload_n 0, 1) := dk_42 (dk_at dksX3_staple_1 16 rfl rfl)
theorem dX3_staple_39 : decode cX3_staple 39 = .ok (.getfield 7, 3) := dk_180 0 7 (dk_at dksX3_staple_1 17 rfl rfl)
theorem dX3_staple_42 : decode cX3_staple 42 = .ok (.bipush 9, 2) := dk_16 9 (dk_at dksX3_staple_1 20 rfl rfl)
theorem dX3_staple_44 : decode cX3_staple 44 = .ok (.iaload, 1) := dk_46 (dk_at dksX3_staple_1 22 rfl rfl)
theorem dX3_staple_45 : decode cX3_staple 45 = .ok (.invokestatic 170, 3) := dk_184 0 170 (dk_at dksX3_staple_2 0 rfl rfl)
theorem dX3_staple_48 : decode cX3_staple 48 = .ok (.iconst 3, 1) := dk_6 (dk_at dksX3_staple_2 3 rfl rfl)
theorem dX3_staple_49 : decode cX3_staple 49 = .ok (.if_icmp .ne 6, 3) := dk_160 0 6 (dk_at dksX3_staple_2 4 rfl rfl)
theorem dX3_staple_52 : decode cX3_staple 52 = .ok (.bipush (-3), 2) := dk_16 253 (dk_at dksX3_staple_2 7 rfl rfl)
theorem dX3_staple_54 : decode cX3_staple 54 = .ok (.ireturn, 1) := dk_172 (dk_at dksX3_staple_2 9 rfl rfl)
theorem dX3_staple_55 : decode cX3_staple 55 = .ok (.aload_n 0, 1) := dk_42 (dk_at dksX3_staple_2 10 rfl rfl)
theorem dX3_staple_56 : decode cX3_staple 56 = .ok (.invokevirtual 139, 3) := dk_182 0 139 (dk_at dksX3_staple_2 11 rfl rfl)
theorem dX3_staple_59 : decode cX3_staple 59 = .ok (.aload_n 0, 1) := dk_42 (dk_at dksX3_staple_2 14 rfl rfl)
theorem dX3_staple_60 : decode cX3_staple 60 = .ok (.getfield 7, 3) := dk_180 0 7 (dk_at dksX3_staple_2 15 rfl rfl)
theorem dX3_staple_63 : decode cX3_staple 63 = .ok (.bipush 9, 2) := dk_16 9 (dk_at dksX3_staple_2 18 rfl rfl)
theorem dX3_staple_65 : decode cX3_staple 65 = .ok (.dup2, 1) := dk_92 (dk_at dksX3_staple_2 20 rfl rfl)
theorem dX3_staple_66 : decode cX3_staple 66 = .ok (.iaload, 1) := dk_46 (dk_at dksX3_staple_2 21 rfl rfl)
theorem dX3_staple_67 : decode cX3_staple 67 = .ok (.iconst 1, 1) := dk_4 (dk_at dksX3_staple_2 22 rfl rfl)
theorem dX3_staple_68 : decode cX3_staple 68 = .ok (.iload_n 1, 1) := dk_27 (dk_at dksX3_staple_2 23 rfl rfl)
theorem dX3_staple_69 : decode cX3_staple 69 = .ok (.ishl, 1) := dk_120 (dk_at dksX3_staple_3 0 rfl rfl)
theorem dX3_staple_70 : decode cX3_staple 70 = .ok (.ior, 1) := dk_128 (dk_at dksX3_staple_3 1 rfl rfl)
theorem dX3_staple_71 : decode cX3_staple 71 = .ok (.iastore, 1) := dk_79 (dk_at dksX3_staple_3 2 rfl rfl)
theorem dX3_staple_72 : decode cX3_staple 72 = .ok (.aload_n 0, 1) := dk_42 (dk_at dksX3_staple_3 3 rfl rfl)
theorem dX3_staple_73 : decode cX3_staple 73 = .ok (.getfield 7, 3) := dk_180 0 7 (dk_at dksX3_staple_3 4 rfl rfl)
theorem dX3_staple_76 : decode cX3_staple 76 = .ok (.bipush 89, 2) := dk_16 89 (dk_at dksX3_staple_3 7 rfl rfl)
theorem dX3_staple_78 : decode cX3_staple 78 = .ok (.dup2, 1) := dk_92 (dk_at dksX3_staple_3 9 rfl rfl)
theorem dX3_staple_79 : decode cX3_staple 79 = .ok (.iaload, 1) := dk_46 (dk_at dksX3_staple_3 10 rfl rfl)
theorem dX3_staple_80 : decode cX3_staple 80 = .ok (.iconst 3, 1) := dk_6 (dk_at dksX3_staple_3 11 rfl rfl)
theorem dX3_staple_81 : decode cX3_staple 81 = .ok (.iadd, 1) := dk_96 (dk_at dksX3_staple_3 12 rfl rfl)
theorem dX3_staple_82 : decode cX3_staple 82 = .ok (.iastore, 1) := dk_79 (dk_at dksX3_staple_3 13 rfl rfl)
theorem dX3_staple_83 : decode cX3_staple 83 = .ok (.aload_n 0, 1) := dk_42 (dk_at dksX3_staple_3 14 rfl rfl)
theorem dX3_staple_84 : decode cX3_staple 84 = .ok (.getfield 7, 3) := dk_180 0 7 (dk_at dksX3_staple_3 15 rfl rfl)
theorem dX3_staple_87 : decode cX3_staple 87 = .ok (.bipush 10, 2) := dk_16 10 (dk_at dksX3_staple_3 18 rfl rfl)
theorem dX3_staple_89 : decode cX3_staple 89 = .ok (.iaload, 1) := dk_46 (dk_at dksX3_staple_3 20 rfl rfl)
theorem dX3_staple_90 : decode cX3_staple 90 = .ok (.aload_n 0, 1) := dk_42 (dk_at dksX3_staple_3 21 rfl rfl)
theorem dX3_staple_91 : decode cX3_staple 91 = .ok (.getfield 78, 3) := dk_180 0 78 (dk_at dksX3_staple_4 0 rfl rfl)
theorem dX3_staple_94 : decode cX3_staple 94 = .ok (.if_icmp .ge 13, 3) := dk_162 0 13 (dk_at dksX3_staple_4 3 rfl rfl)
theorem dX3_staple_97 : decode cX3_staple 97 = .ok (.aload_n 0, 1) := dk_42 (dk_at dksX3_staple_4 6 rfl rfl)
theorem dX3_staple_98 : decode cX3_staple 98 = .ok (.getfield 7, 3) := dk_180 0 7 (dk_at dksX3_staple_4 7 rfl rfl)
theorem dX3_staple_101 : decode cX3_staple 101 = .ok (.bipush 10, 2) := dk_16 10 (dk_at dksX3_staple_4 10 rfl rfl)
theorem dX3_staple_103 : decode cX3_staple 103 = .ok (.iaload, 1) := dk_46 (dk_at dksX3_staple_4 12 rfl rfl)
theorem dX3_staple_104 : decode cX3_staple 104 = .ok (.goto 7, 3) := dk_167 0 7 (dk_at dksX3_staple_4 13 rfl rfl)
theorem dX3_staple_107 : decode cX3_staple 107 = .ok (.aload_n 0, 1) := dk_42 (dk_at dksX3_staple_4 16 rfl rfl)
theorem dX3_staple_108 : decode cX3_staple 108 = .ok (.getfield 78, 3) := dk_180 0 78 (dk_at dksX3_staple_4 17 rfl rfl)
theorem dX3_staple_111 : decode cX3_staple 111 = .ok (.ireturn, 1) := dk_172 (dk_at dksX3_staple_4 20 rfl rfl)
abbrev cX3_ones : ByteArray := prog_33_method_4_code
def yX3_ones : MethodName := ⟨RX3, "ones", "(I)I"⟩
def dkwX3_ones_0 : List UInt8 := [3, 60, 26, 61, 28, 153, 0, 15, 132, 1, 1, 28, 28, 4, 100, 126, 61, 167, 255, 243, 27, 172]
abbrev dktX3_ones_0 : List UInt8 := dkwX3_ones_0 ++ []
theorem dksX3_ones_0 : cX3_ones.data.toList.drop 0 = dktX3_ones_0 := by decide +kernel
theorem dX3_ones_0 : decode cX3_ones 0 = .ok (.iconst 0, 1) := dk_3 (dk_at dksX3_ones_0 0 rfl rfl)
theorem dX3_ones_1 : decode cX3_ones 1 = .ok (.istore_n 1, 1) := dk_60 (dk_at dksX3_ones_0 1 rfl rfl)
theorem dX3_ones_2 : decode cX3_ones 2 = .ok (.iload_n 0, 1) := dk_26 (dk_at dksX3_ones_0 2 rfl rfl)
theorem dX3_ones_3 : decode cX3_ones 3 = .ok (.istore_n 2, 1) := dk_61 (dk_at dksX3_ones_0 3 rfl rfl)
theorem dX3_ones_4 : decode cX3_ones 4 = .ok (.iload_n 2, 1) := dk_28 (dk_at dksX3_ones_0 4 rfl rfl)
theorem dX3_ones_5 : decode cX3_ones 5 = .ok (.ifCond .eq 15, 3) := dk_153 0 15 (dk_at dksX3_ones_0 5 rfl rfl)
theorem dX3_ones_8 : decode cX3_ones 8 = .ok (.iinc 1 1, 3) := dk_132 1 1 (dk_at dksX3_ones_0 8 rfl rfl)
theorem dX3_ones_11 : decode cX3_ones 11 = .ok (.iload_n 2, 1) := dk_28 (dk_at dksX3_ones_0 11 rfl rfl)
theorem dX3_ones_12 : decode cX3_ones 12 = .ok (.iload_n 2, 1) := dk_28 (dk_at dksX3_ones_0 12 rfl rfl)
theorem dX3_ones_13 : decode cX3_ones 13 = .ok (.iconst 1, 1) := dk_4 (dk_at dksX3_ones_0 13 rfl rfl)
theorem dX3_ones_14 : decode cX3_ones 14 = .ok (.isub, 1) := dk_100 (dk_at dksX3_ones_0 14 rfl rfl)
theorem dX3_ones_15 : decode cX3_ones 15 = .ok (.iand, 1) := dk_126 (dk_at dksX3_ones_0 15 rfl rfl)
theorem dX3_ones_16 : decode cX3_ones 16 = .ok (.istore_n 2, 1) := dk_61 (dk_at dksX3_ones_0 16 rfl rfl)
theorem dX3_ones_17 : decode cX3_ones 17 = .ok (.goto (-13), 3) := dk_167 255 243 (dk_at dksX3_ones_0 17 rfl rfl)
theorem dX3_ones_20 : decode cX3_ones 20 = .ok (.iload_n 1, 1) := dk_27 (dk_at dksX3_ones_0 20 rfl rfl)
theorem dX3_ones_21 : decode cX3_ones 21 = .ok (.ireturn, 1) := dk_172 (dk_at dksX3_ones_0 21 rfl rfl)
abbrev cX3_unstaple : ByteArray := prog_33_method_38_code
def yX3_unstaple : MethodName := ⟨RX3, "unstaple", "(I)I"⟩
def dkwX3_unstaple_3 : List UInt8 := [184, 0, 170, 172]
abbrev dktX3_unstaple_3 : List UInt8 := dkwX3_unstaple_3 ++ []
def dkwX3_unstaple_2 : List UInt8 := [2, 130, 126, 79, 42, 180, 0, 7, 16, 89, 92, 46, 4, 96, 79, 42, 180, 0, 7, 16, 9, 46]
abbrev dktX3_unstaple_2 : List UInt8 := dkwX3_unstaple_2 ++ dktX3_unstaple_3
def dkwX3_unstaple_1 : List UInt8 := [184, 0, 120, 154, 0, 6, 16, 254, 172, 42, 182, 0, 139, 42, 180, 0, 7, 16, 9, 92, 46, 4, 27, 120]
abbrev dktX3_unstaple_1 : List UInt8 := dkwX3_unstaple_1 ++ dktX3_unstaple_2
def dkwX3_unstaple_0 : List UInt8 := [27, 133, 9, 20, 0, 168, 184, 0, 101, 154, 0, 5, 2, 172, 42, 180, 0, 7, 16, 9, 46, 27]
abbrev dktX3_unstaple_0 : List UInt8 := dkwX3_unstaple_0 ++ dktX3_unstaple_1
theorem dksX3_unstaple_0 : cX3_unstaple.data.toList.drop 0 = dktX3_unstaple_0 := by decide +kernel
theorem dksX3_unstaple_1 : cX3_unstaple.data.toList.drop 22 = dktX3_unstaple_1 := dk_seg dksX3_unstaple_0 22 rfl rfl
theorem dksX3_unstaple_2 : cX3_unstaple.data.toList.drop 46 = dktX3_unstaple_2 := dk_seg dksX3_unstaple_1 24 rfl rfl
theorem dksX3_unstaple_3 : cX3_unstaple.data.toList.drop 68 = dktX3_unstaple_3 := dk_seg dksX3_unstaple_2 22 rfl rfl
theorem dX3_unstaple_0 : decode cX3_unstaple 0 = .ok (.iload_n 1, 1) := dk_27 (dk_at dksX3_unstaple_0 0 rfl rfl)
theorem dX3_unstaple_1 : decode cX3_unstaple 1 = .ok (.i2l, 1) := dk_133 (dk_at dksX3_unstaple_0 1 rfl rfl)
theorem dX3_unstaple_2 : decode cX3_unstaple 2 = .ok (.lconst 0, 1) := dk_9 (dk_at dksX3_unstaple_0 2 rfl rfl)
theorem dX3_unstaple_3 : decode cX3_unstaple 3 = .ok (.ldc2_w 168, 3) := dk_20 0 168 (dk_at dksX3_unstaple_0 3 rfl rfl)
theorem dX3_unstaple_6 : decode cX3_unstaple 6 = .ok (.invokestatic 101, 3) := dk_184 0 101 (dk_at dksX3_unstaple_0 6 rfl rfl)
theorem dX3_unstaple_9 : decode cX3_unstaple 9 = .ok (.ifCond .ne 5, 3) := dk_154 0 5 (dk_at dksX3_unstaple_0 9 rfl rfl)
theorem dX3_unstaple_12 : decode cX3_unstaple 12 = .ok (.iconst (-1), 1) := dk_2 (dk_at dksX3_unstaple_0 12 rfl rfl)
theorem dX3_unstaple_13 : decode cX3_unstaple 13 = .ok (.ireturn, 1) := dk_172 (dk_at dksX3_unstaple_0 13 rfl rfl)
theorem dX3_unstaple_14 : decode cX3_unstaple 14 = .ok (.aload_n 0, 1) := dk_42 (dk_at dksX3_unstaple_0 14 rfl rfl)
theorem dX3_unstaple_15 : decode cX3_unstaple 15 = .ok (.getfield 7, 3) := dk_180 0 7 (dk_at dksX3_unstaple_0 15 rfl rfl)
theorem dX3_unstaple_18 : decode cX3_unstaple 18 = .ok (.bipush 9, 2) := dk_16 9 (dk_at dksX3_unstaple_0 18 rfl rfl)
theorem dX3_unstaple_20 : decode cX3_unstaple 20 = .ok (.iaload, 1) := dk_46 (dk_at dksX3_unstaple_0 20 rfl rfl)
theorem dX3_unstaple_21 : decode cX3_unstaple 21 = .ok (.iload_n 1, 1) := dk_27 (dk_at dksX3_unstaple_0 21 rfl rfl)
theorem dX3_unstaple_22 : decode cX3_unstaple 22 = .ok (.invokestatic 120, 3) := dk_184 0 120 (dk_at dksX3_unstaple_1 0 rfl rfl)
theorem dX3_unstaple_25 : decode cX3_unstaple 25 = .ok (.ifCond .ne 6, 3) := dk_154 0 6 (dk_at dksX3_unstaple_1 3 rfl rfl)
theorem dX3_unstaple_28 : decode cX3_unstaple 28 = .ok (.bipush (-2), 2) := dk_16 254 (dk_at dksX3_unstaple_1 6 rfl rfl)
theorem dX3_unstaple_30 : decode cX3_unstaple 30 = .ok (.ireturn, 1) := dk_172 (dk_at dksX3_unstaple_1 8 rfl rfl)
theorem dX3_unstaple_31 : decode cX3_unstaple 31 = .ok (.aload_n 0, 1) := dk_42 (dk_at dksX3_unstaple_1 9 rfl rfl)
theorem dX3_unstaple_32 : decode cX3_unstaple 32 = .ok (.invokevirtual 139, 3) := dk_182 0 139 (dk_at dksX3_unstaple_1 10 rfl rfl)
theorem dX3_unstaple_35 : decode cX3_unstaple 35 = .ok (.aload_n 0, 1) := dk_42 (dk_at dksX3_unstaple_1 13 rfl rfl)
theorem dX3_unstaple_36 : decode cX3_unstaple 36 = .ok (.getfield 7, 3) := dk_180 0 7 (dk_at dksX3_unstaple_1 14 rfl rfl)
theorem dX3_unstaple_39 : decode cX3_unstaple 39 = .ok (.bipush 9, 2) := dk_16 9 (dk_at dksX3_unstaple_1 17 rfl rfl)
theorem dX3_unstaple_41 : decode cX3_unstaple 41 = .ok (.dup2, 1) := dk_92 (dk_at dksX3_unstaple_1 19 rfl rfl)
theorem dX3_unstaple_42 : decode cX3_unstaple 42 = .ok (.iaload, 1) := dk_46 (dk_at dksX3_unstaple_1 20 rfl rfl)
theorem dX3_unstaple_43 : decode cX3_unstaple 43 = .ok (.iconst 1, 1) := dk_4 (dk_at dksX3_unstaple_1 21 rfl rfl)
theorem dX3_unstaple_44 : decode cX3_unstaple 44 = .ok (.iload_n 1, 1) := dk_27 (dk_at dksX3_unstaple_1 22 rfl rfl)
theorem dX3_unstaple_45 : decode cX3_unstaple 45 = .ok (.ishl, 1) := dk_120 (dk_at dksX3_unstaple_1 23 rfl rfl)
theorem dX3_unstaple_46 : decode cX3_unstaple 46 = .ok (.iconst (-1), 1) := dk_2 (dk_at dksX3_unstaple_2 0 rfl rfl)
theorem dX3_unstaple_47 : decode cX3_unstaple 47 = .ok (.ixor, 1) := dk_130 (dk_at dksX3_unstaple_2 1 rfl rfl)
theorem dX3_unstaple_48 : decode cX3_unstaple 48 = .ok (.iand, 1) := dk_126 (dk_at dksX3_unstaple_2 2 rfl rfl)
theorem dX3_unstaple_49 : decode cX3_unstaple 49 = .ok (.iastore, 1) := dk_79 (dk_at dksX3_unstaple_2 3 rfl rfl)
theorem dX3_unstaple_50 : decode cX3_unstaple 50 = .ok (.aload_n 0, 1) := dk_42 (dk_at dksX3_unstaple_2 4 rfl rfl)
theorem dX3_unstaple_51 : decode cX3_unstaple 51 = .ok (.getfield 7, 3) := dk_180 0 7 (dk_at dksX3_unstaple_2 5 rfl rfl)
theorem dX3_unstaple_54 : decode cX3_unstaple 54 = .ok (.bipush 89, 2) := dk_16 89 (dk_at dksX3_unstaple_2 8 rfl rfl)
theorem dX3_unstaple_56 : decode cX3_unstaple 56 = .ok (.dup2, 1) := dk_92 (dk_at dksX3_unstaple_2 10 rfl rfl)
theorem dX3_unstaple_57 : decode cX3_unstaple 57 = .ok (.iaload, 1) := dk_46 (dk_at dksX3_unstaple_2 11 rfl rfl)
theorem dX3_unstaple_58 : decode cX3_unstaple 58 = .ok (.iconst 1, 1) := dk_4 (dk_at dksX3_unstaple_2 12 rfl rfl)
theorem dX3_unstaple_59 : decode cX3_unstaple 59 = .ok (.iadd, 1) := dk_96 (dk_at dksX3_unstaple_2 13 rfl rfl)
theorem dX3_unstaple_60 : decode cX3_unstaple 60 = .ok (.iastore, 1) := dk_79 (dk_at dksX3_unstaple_2 14 rfl rfl)
theorem dX3_unstaple_61 : decode cX3_unstaple 61 = .ok (.aload_n 0, 1) := dk_42 (dk_at dksX3_unstaple_2 15 rfl rfl)
theorem dX3_unstaple_62 : decode cX3_unstaple 62 = .ok (.getfield 7, 3) := dk_180 0 7 (dk_at dksX3_unstaple_2 16 rfl rfl)
theorem dX3_unstaple_65 : decode cX3_unstaple 65 = .ok (.bipush 9, 2) := dk_16 9 (dk_at dksX3_unstaple_2 19 rfl rfl)
theorem dX3_unstaple_67 : decode cX3_unstaple 67 = .ok (.iaload, 1) := dk_46 (dk_at dksX3_unstaple_2 21 rfl rfl)
theorem dX3_unstaple_68 : decode cX3_unstaple 68 = .ok (.invokestatic 170, 3) := dk_184 0 170 (dk_at dksX3_unstaple_3 0 rfl rfl)
theorem dX3_unstaple_71 : decode cX3_unstaple 71 = .ok (.ireturn, 1) := dk_172 (dk_at dksX3_unstaple_3 3 rfl rfl)
abbrev cX3_setLegs : ByteArray := prog_33_method_39_code
def yX3_setLegs : MethodName := ⟨RX3, "setLegs", "(I)I"⟩
def dkwX3_setLegs_1 : List UInt8 := [46, 61, 42, 180, 0, 7, 16, 10, 27, 79, 28, 172]
abbrev dktX3_setLegs_1 : List UInt8 := dkwX3_setLegs_1 ++ []
def dkwX3_setLegs_0 : List UInt8 := [27, 133, 10, 20, 0, 173, 184, 0, 101, 154, 0, 5, 2, 172, 42, 182, 0, 139, 42, 180, 0, 7, 16, 10]
abbrev dktX3_setLegs_0 : List UInt8 := dkwX3_setLegs_0 ++ dktX3_setLegs_1
theorem dksX3_setLegs_0 : cX3_setLegs.data.toList.drop 0 = dktX3_setLegs_0 := by decide +kernel
theorem dksX3_setLegs_1 : cX3_setLegs.data.toList.drop 24 = dktX3_setLegs_1 := dk_seg dksX3_setLegs_0 24 rfl rfl
theorem dX3_setLegs_0 : decode cX3_setLegs 0 = .ok (.iload_n 1, 1) := dk_27 (dk_at dksX3_setLegs_0 0 rfl rfl)
theorem dX3_setLegs_1 : decode cX3_setLegs 1 = .ok (.i2l, 1) := dk_133 (dk_at dksX3_setLegs_0 1 rfl rfl)
theorem dX3_setLegs_2 : decode cX3_setLegs 2 = .ok (.lconst 1, 1) := dk_10 (dk_at dksX3_setLegs_0 2 rfl rfl)
theorem dX3_setLegs_3 : decode cX3_setLegs 3 = .ok (.ldc2_w 173, 3) := dk_20 0 173 (dk_at dksX3_setLegs_0 3 rfl rfl)
theorem dX3_setLegs_6 : decode cX3_setLegs 6 = .ok (.invokestatic 101, 3) := dk_184 0 101 (dk_at dksX3_setLegs_0 6 rfl rfl)
theorem dX3_setLegs_9 : decode cX3_setLegs 9 = .ok (.ifCond .ne 5, 3) := dk_154 0 5 (dk_at dksX3_setLegs_0 9 rfl rfl)
theorem dX3_setLegs_12 : decode cX3_setLegs 12 = .ok (.iconst (-1), 1) := dk_2 (dk_at dksX3_setLegs_0 12 rfl rfl)
theorem dX3_setLegs_13 : decode cX3_setLegs 13 = .ok (.ireturn, 1) := dk_172 (dk_at dksX3_setLegs_0 13 rfl rfl)
theorem dX3_setLegs_14 : decode cX3_setLegs 14 = .ok (.aload_n 0, 1) := dk_42 (dk_at dksX3_setLegs_0 14 rfl rfl)
theorem dX3_setLegs_15 : decode cX3_setLegs 15 = .ok (.invokevirtual 139, 3) := dk_182 0 139 (dk_at dksX3_setLegs_0 15 rfl rfl)
theorem dX3_setLegs_18 : decode cX3_setLegs 18 = .ok (.aload_n 0, 1) := dk_42 (dk_at dksX3_setLegs_0 18 rfl rfl)
theorem dX3_setLegs_19 : decode cX3_setLegs 19 = .ok (.getfield 7, 3) := dk_180 0 7 (dk_at dksX3_setLegs_0 19 rfl rfl)
theorem dX3_setLegs_22 : decode cX3_setLegs 22 = .ok (.bipush 10, 2) := dk_16 10 (dk_at dksX3_setLegs_0 22 rfl rfl)
theorem dX3_setLegs_24 : decode cX3_setLegs 24 = .ok (.iaload, 1) := dk_46 (dk_at dksX3_setLegs_1 0 rfl rfl)
theorem dX3_setLegs_25 : decode cX3_setLegs 25 = .ok (.istore_n 2, 1) := dk_61 (dk_at dksX3_setLegs_1 1 rfl rfl)
theorem dX3_setLegs_26 : decode cX3_setLegs 26 = .ok (.aload_n 0, 1) := dk_42 (dk_at dksX3_setLegs_1 2 rfl rfl)
theorem dX3_setLegs_27 : decode cX3_setLegs 27 = .ok (.getfield 7, 3) := dk_180 0 7 (dk_at dksX3_setLegs_1 3 rfl rfl)
theorem dX3_setLegs_30 : decode cX3_setLegs 30 = .ok (.bipush 10, 2) := dk_16 10 (dk_at dksX3_setLegs_1 6 rfl rfl)
theorem dX3_setLegs_32 : decode cX3_setLegs 32 = .ok (.iload_n 1, 1) := dk_27 (dk_at dksX3_setLegs_1 8 rfl rfl)
theorem dX3_setLegs_33 : decode cX3_setLegs 33 = .ok (.iastore, 1) := dk_79 (dk_at dksX3_setLegs_1 9 rfl rfl)
theorem dX3_setLegs_34 : decode cX3_setLegs 34 = .ok (.iload_n 2, 1) := dk_28 (dk_at dksX3_setLegs_1 10 rfl rfl)
theorem dX3_setLegs_35 : decode cX3_setLegs 35 = .ok (.ireturn, 1) := dk_172 (dk_at dksX3_setLegs_1 11 rfl rfl)
abbrev cX3_see : ByteArray := prog_33_method_40_code
def yX3_see : MethodName := ⟨RX3, "see", "(III)I"⟩
def dkwX3_see_5 : List UInt8 := [16, 12, 46, 172]
abbrev dktX3_see_5 : List UInt8 := dkwX3_see_5 ++ []
def dkwX3_see_4 : List UInt8 := [180, 0, 7, 21, 4, 5, 96, 29, 79, 42, 180, 0, 7, 16, 12, 92, 46, 4, 96, 79, 42, 180, 0, 7]
abbrev dktX3_see_4 : List UInt8 := dkwX3_see_4 ++ dktX3_see_5
def dkwX3_see_3 : List UInt8 := [96, 54, 4, 42, 180, 0, 7, 21, 4, 27, 79, 42, 180, 0, 7, 21, 4, 4, 96, 28, 79, 42]
abbrev dktX3_see_3 : List UInt8 := dkwX3_see_3 ++ dktX3_see_4
def dkwX3_see_2 : List UInt8 := [46, 16, 8, 160, 0, 6, 16, 253, 172, 42, 182, 0, 139, 16, 13, 6, 42, 180, 0, 7, 16, 12, 46, 104]
abbrev dktX3_see_2 : List UInt8 := dkwX3_see_2 ++ dktX3_see_3
def dkwX3_see_1 : List UInt8 := [184, 0, 101, 153, 0, 13, 29, 133, 9, 10, 184, 0, 101, 154, 0, 5, 2, 172, 42, 180, 0, 7, 16, 12]
abbrev dktX3_see_1 : List UInt8 := dkwX3_see_1 ++ dktX3_see_2
def dkwX3_see_0 : List UInt8 := [27, 133, 9, 5, 42, 182, 0, 95, 104, 4, 100, 133, 184, 0, 101, 153, 0, 25, 28, 133, 9, 20, 0, 151]
abbrev dktX3_see_0 : List UInt8 := dkwX3_see_0 ++ dktX3_see_1
theorem dksX3_see_0 : cX3_see.data.toList.drop 0 = dktX3_see_0 := by decide +kernel
theorem dksX3_see_1 : cX3_see.data.toList.drop 24 = dktX3_see_1 := dk_seg dksX3_see_0 24 rfl rfl
theorem dksX3_see_2 : cX3_see.data.toList.drop 48 = dktX3_see_2 := dk_seg dksX3_see_1 24 rfl rfl
theorem dksX3_see_3 : cX3_see.data.toList.drop 72 = dktX3_see_3 := dk_seg dksX3_see_2 24 rfl rfl
theorem dksX3_see_4 : cX3_see.data.toList.drop 94 = dktX3_see_4 := dk_seg dksX3_see_3 22 rfl rfl
theorem dksX3_see_5 : cX3_see.data.toList.drop 118 = dktX3_see_5 := dk_seg dksX3_see_4 24 rfl rfl
theorem dX3_see_0 : decode cX3_see 0 = .ok (.iload_n 1, 1) := dk_27 (dk_at dksX3_see_0 0 rfl rfl)
theorem dX3_see_1 : decode cX3_see 1 = .ok (.i2l, 1) := dk_133 (dk_at dksX3_see_0 1 rfl rfl)
theorem dX3_see_2 : decode cX3_see 2 = .ok (.lconst 0, 1) := dk_9 (dk_at dksX3_see_0 2 rfl rfl)
theorem dX3_see_3 : decode cX3_see 3 = .ok (.iconst 2, 1) := dk_5 (dk_at dksX3_see_0 3 rfl rfl)
theorem dX3_see_4 : decode cX3_see 4 = .ok (.aload_n 0, 1) := dk_42 (dk_at dksX3_see_0 4 rfl rfl)
theorem dX3_see_5 : decode cX3_see 5 = .ok (.invokevirtual 95, 3) := dk_182 0 95 (dk_at dksX3_see_0 5 rfl rfl)
theorem dX3_see_8 : decode cX3_see 8 = .ok (.imul, 1) := dk_104 (dk_at dksX3_see_0 8 rfl rfl)
theorem dX3_see_9 : decode cX3_see 9 = .ok (.iconst 1, 1) := dk_4 (dk_at dksX3_see_0 9 rfl rfl)
theorem dX3_see_10 : decode cX3_see 10 = .ok (.isub, 1) := dk_100 (dk_at dksX3_see_0 10 rfl rfl)
theorem dX3_see_11 : decode cX3_see 11 = .ok (.i2l, 1) := dk_133 (dk_at dksX3_see_0 11 rfl rfl)
theorem dX3_see_12 : decode cX3_see 12 = .ok (.invokestatic 101, 3) := dk_184 0 101 (dk_at dksX3_see_0 12 rfl rfl)
theorem dX3_see_15 : decode cX3_see 15 = .ok (.ifCond .eq 25, 3) := dk_153 0 25 (dk_at dksX3_see_0 15 rfl rfl)
theorem dX3_see_18 : decode cX3_see 18 = .ok (.iload_n 2, 1) := dk_28 (dk_at dksX3_see_0 18 rfl rfl)
theorem dX3_see_19 : decode cX3_see 19 = .ok (.i2l, 1) := dk_133 (dk_at dksX3_see_0 19 rfl rfl)
theorem dX3_see_20 : decode cX3_see 20 = .ok (.lconst 0, 1) := dk_9 (dk_at dksX3_see_0 20 rfl rfl)
theorem dX3_see_21 : decode cX3_see 21 = .ok (.ldc2_w 151, 3) := dk_20 0 151 (dk_at dksX3_see_0 21 rfl rfl)
theorem dX3_see_24 : decode cX3_see 24 = .ok (.invokestatic 101, 3) := dk_184 0 101 (dk_at dksX3_see_1 0 rfl rfl)
theorem dX3_see_27 : decode cX3_see 27 = .ok (.ifCond .eq 13, 3) := dk_153 0 13 (dk_at dksX3_see_1 3 rfl rfl)
theorem dX3_see_30 : decode cX3_see 30 = .ok (.iload_n 3, 1) := dk_29 (dk_at dksX3_see_1 6 rfl rfl)
theorem dX3_see_31 : decode cX3_see 31 = .ok (.i2l, 1) := dk_133 (dk_at dksX3_see_1 7 rfl rfl)
theorem dX3_see_32 : decode cX3_see 32 = .ok (.lconst 0, 1) := dk_9 (dk_at dksX3_see_1 8 rfl rfl)
theorem dX3_see_33 : decode cX3_see 33 = .ok (.lconst 1, 1) := dk_10 (dk_at dksX3_see_1 9 rfl rfl)
theorem dX3_see_34 : decode cX3_see 34 = .ok (.invokestatic 101, 3) := dk_184 0 101 (dk_at dksX3_see_1 10 rfl rfl)
theorem dX3_see_37 : decode cX3_see 37 = .ok (.ifCond .ne 5, 3) := dk_154 0 5 (dk_at dksX3_see_1 13 rfl rfl)
theorem dX3_see_40 : decode cX3_see 40 = .ok (.iconst (-1), 1) := dk_2 (dk_at dksX3_see_1 16 rfl rfl)
theorem dX3_see_41 : decode cX3_see 41 = .ok (.ireturn, 1) := dk_172 (dk_at dksX3_see_1 17 rfl rfl)
theorem dX3_see_42 : decode cX3_see 42 = .ok (.aload_n 0, 1) := dk_42 (dk_at dksX3_see_1 18 rfl rfl)
theorem dX3_see_43 : decode cX3_see 43 = .ok (.getfield 7, 3) := dk_180 0 7 (dk_at dksX3_see_1 19 rfl rfl)
theorem dX3_see_46 : decode cX3_see 46 = .ok (.bipush 12, 2) := dk_16 12 (dk_at dksX3_see_1 22 rfl rfl)
theorem dX3_see_48 : decode cX3_see 48 = .ok (.iaload, 1) := dk_46 (dk_at dksX3_see_2 0 rfl rfl)
theorem dX3_see_49 : decode cX3_see 49 = .ok (.bipush 8, 2) := dk_16 8 (dk_at dksX3_see_2 1 rfl rfl)
theorem dX3_see_51 : decode cX3_see 51 = .ok (.if_icmp .ne 6, 3) := dk_160 0 6 (dk_at dksX3_see_2 3 rfl rfl)
theorem dX3_see_54 : decode cX3_see 54 = .ok (.bipush (-3), 2) := dk_16 253 (dk_at dksX3_see_2 6 rfl rfl)
theorem dX3_see_56 : decode cX3_see 56 = .ok (.ireturn, 1) := dk_172 (dk_at dksX3_see_2 8 rfl rfl)
theorem dX3_see_57 : decode cX3_see 57 = .ok (.aload_n 0, 1) := dk_42 (dk_at dksX3_see_2 9 rfl rfl)
theorem dX3_see_58 : decode cX3_see 58 = .ok (.invokevirtual 139, 3) := dk_182 0 139 (dk_at dksX3_see_2 10 rfl rfl)
theorem dX3_see_61 : decode cX3_see 61 = .ok (.bipush 13, 2) := dk_16 13 (dk_at dksX3_see_2 13 rfl rfl)
theorem dX3_see_63 : decode cX3_see 63 = .ok (.iconst 3, 1) := dk_6 (dk_at dksX3_see_2 15 rfl rfl)
theorem dX3_see_64 : decode cX3_see 64 = .ok (.aload_n 0, 1) := dk_42 (dk_at dksX3_see_2 16 rfl rfl)
theorem dX3_see_65 : decode cX3_see 65 = .ok (.getfield 7, 3) := dk_180 0 7 (dk_at dksX3_see_2 17 rfl rfl)
theorem dX3_see_68 : decode cX3_see 68 = .ok (.bipush 12, 2) := dk_16 12 (dk_at dksX3_see_2 20 rfl rfl)
theorem dX3_see_70 : decode cX3_see 70 = .ok (.iaload, 1) := dk_46 (dk_at dksX3_see_2 22 rfl rfl)
theorem dX3_see_71 : decode cX3_see 71 = .ok (.imul, 1) := dk_104 (dk_at dksX3_see_2 23 rfl rfl)
theorem dX3_see_72 : decode cX3_see 72 = .ok (.iadd, 1) := dk_96 (dk_at dksX3_see_3 0 rfl rfl)
theorem dX3_see_73 : decode cX3_see 73 = .ok (.istore 4, 2) := dk_54 4 (dk_at dksX3_see_3 1 rfl rfl)
theorem dX3_see_75 : decode cX3_see 75 = .ok (.aload_n 0, 1) := dk_42 (dk_at dksX3_see_3 3 rfl rfl)
theorem dX3_see_76 : decode cX3_see 76 = .ok (.getfield 7, 3) := dk_180 0 7 (dk_at dksX3_see_3 4 rfl rfl)
theorem dX3_see_79 : decode cX3_see 79 = .ok (.iload 4, 2) := dk_21 4 (dk_at dksX3_see_3 7 rfl rfl)
theorem dX3_see_81 : decode cX3_see 81 = .ok (.iload_n 1, 1) := dk_27 (dk_at dksX3_see_3 9 rfl rfl)
theorem dX3_see_82 : decode cX3_see 82 = .ok (.iastore, 1) := dk_79 (dk_at dksX3_see_3 10 rfl rfl)
theorem dX3_see_83 : decode cX3_see 83 = .ok (.aload_n 0, 1) := dk_42 (dk_at dksX3_see_3 11 rfl rfl)
theorem dX3_see_84 : decode cX3_see 84 = .ok (.getfield 7, 3) := dk_180 0 7 (dk_at dksX3_see_3 12 rfl rfl)
theorem dX3_see_87 : decode cX3_see 87 = .ok (.iload 4, 2) := dk_21 4 (dk_at dksX3_see_3 15 rfl rfl)
theorem dX3_see_89 : decode cX3_see 89 = .ok (.iconst 1, 1) := dk_4 (dk_at dksX3_see_3 17 rfl rfl)
theorem dX3_see_90 : decode cX3_see 90 = .ok (.iadd, 1) := dk_96 (dk_at dksX3_see_3 18 rfl rfl)
theorem dX3_see_91 : decode cX3_see 91 = .ok (.iload_n 2, 1) := dk_28 (dk_at dksX3_see_3 19 rfl rfl)
theorem dX3_see_92 : decode cX3_see 92 = .ok (.iastore, 1) := dk_79 (dk_at dksX3_see_3 20 rfl rfl)
theorem dX3_see_93 : decode cX3_see 93 = .ok (.aload_n 0, 1) := dk_42 (dk_at dksX3_see_3 21 rfl rfl)
theorem dX3_see_94 : decode cX3_see 94 = .ok (.getfield 7, 3) := dk_180 0 7 (dk_at dksX3_see_4 0 rfl rfl)
theorem dX3_see_97 : decode cX3_see 97 = .ok (.iload 4, 2) := dk_21 4 (dk_at dksX3_see_4 3 rfl rfl)
theorem dX3_see_99 : decode cX3_see 99 = .ok (.iconst 2, 1) := dk_5 (dk_at dksX3_see_4 5 rfl rfl)
theorem dX3_see_100 : decode cX3_see 100 = .ok (.iadd, 1) := dk_96 (dk_at dksX3_see_4 6 rfl rfl)
theorem dX3_see_101 : decode cX3_see 101 = .ok (.iload_n 3, 1) := dk_29 (dk_at dksX3_see_4 7 rfl rfl)
theorem dX3_see_102 : decode cX3_see 102 = .ok (.iastore, 1) := dk_79 (dk_at dksX3_see_4 8 rfl rfl)
theorem dX3_see_103 : decode cX3_see 103 = .ok (.aload_n 0, 1) := dk_42 (dk_at dksX3_see_4 9 rfl rfl)
theorem dX3_see_104 : decode cX3_see 104 = .ok (.getfield 7, 3) := dk_180 0 7 (dk_at dksX3_see_4 10 rfl rfl)
theorem dX3_see_107 : decode cX3_see 107 = .ok (.bipush 12, 2) := dk_16 12 (dk_at dksX3_see_4 13 rfl rfl)
theorem dX3_see_109 : decode cX3_see 109 = .ok (.dup2, 1) := dk_92 (dk_at dksX3_see_4 15 rfl rfl)
theorem dX3_see_110 : decode cX3_see 110 = .ok (.iaload, 1) := dk_46 (dk_at dksX3_see_4 16 rfl rfl)
theorem dX3_see_111 : decode cX3_see 111 = .ok (.iconst 1, 1) := dk_4 (dk_at dksX3_see_4 17 rfl rfl)
theorem dX3_see_112 : decode cX3_see 112 = .ok (.iadd, 1) := dk_96 (dk_at dksX3_see_4 18 rfl rfl)
theorem dX3_see_113 : decode cX3_see 113 = .ok (.iastore, 1) := dk_79 (dk_at dksX3_see_4 19 rfl rfl)
theorem dX3_see_114 : decode cX3_see 114 = .ok (.aload_n 0, 1) := dk_42 (dk_at dksX3_see_4 20 rfl rfl)
theorem dX3_see_115 : decode cX3_see 115 = .ok (.getfield 7, 3) := dk_180 0 7 (dk_at dksX3_see_4 21 rfl rfl)
theorem dX3_see_118 : decode cX3_see 118 = .ok (.bipush 12, 2) := dk_16 12 (dk_at dksX3_see_5 0 rfl rfl)
theorem dX3_see_120 : decode cX3_see 120 = .ok (.iaload, 1) := dk_46 (dk_at dksX3_see_5 2 rfl rfl)
theorem dX3_see_121 : decode cX3_see 121 = .ok (.ireturn, 1) := dk_172 (dk_at dksX3_see_5 3 rfl rfl)
abbrev cX3_forget : ByteArray := prog_33_method_41_code
def yX3_forget : MethodName := ⟨RX3, "forget", "()I"⟩
def dkwX3_forget_0 : List UInt8 := [42, 182, 0, 139, 42, 180, 0, 7, 16, 12, 46, 60, 42, 180, 0, 7, 16, 12, 3, 79, 27, 172]
abbrev dktX3_forget_0 : List UInt8 := dkwX3_forget_0 ++ []
theorem dksX3_forget_0 : cX3_forget.data.toList.drop 0 = dktX3_forget_0 := by decide +kernel
theorem dX3_forget_0 : decode cX3_forget 0 = .ok (.aload_n 0, 1) := dk_42 (dk_at dksX3_forget_0 0 rfl rfl)
theorem dX3_forget_1 : decode cX3_forget 1 = .ok (.invokevirtual 139, 3) := dk_182 0 139 (dk_at dksX3_forget_0 1 rfl rfl)
theorem dX3_forget_4 : decode cX3_forget 4 = .ok (.aload_n 0, 1) := dk_42 (dk_at dksX3_forget_0 4 rfl rfl)
theorem dX3_forget_5 : decode cX3_forget 5 = .ok (.getfield 7, 3) := dk_180 0 7 (dk_at dksX3_forget_0 5 rfl rfl)
theorem dX3_forget_8 : decode cX3_forget 8 = .ok (.bipush 12, 2) := dk_16 12 (dk_at dksX3_forget_0 8 rfl rfl)
theorem dX3_forget_10 : decode cX3_forget 10 = .ok (.iaload, 1) := dk_46 (dk_at dksX3_forget_0 10 rfl rfl)
theorem dX3_forget_11 : decode cX3_forget 11 = .ok (.istore_n 1, 1) := dk_60 (dk_at dksX3_forget_0 11 rfl rfl)
theorem dX3_forget_12 : decode cX3_forget 12 = .ok (.aload_n 0, 1) := dk_42 (dk_at dksX3_forget_0 12 rfl rfl)
theorem dX3_forget_13 : decode cX3_forget 13 = .ok (.getfield 7, 3) := dk_180 0 7 (dk_at dksX3_forget_0 13 rfl rfl)
theorem dX3_forget_16 : decode cX3_forget 16 = .ok (.bipush 12, 2) := dk_16 12 (dk_at dksX3_forget_0 16 rfl rfl)
theorem dX3_forget_18 : decode cX3_forget 18 = .ok (.iconst 0, 1) := dk_3 (dk_at dksX3_forget_0 18 rfl rfl)
theorem dX3_forget_19 : decode cX3_forget 19 = .ok (.iastore, 1) := dk_79 (dk_at dksX3_forget_0 19 rfl rfl)
theorem dX3_forget_20 : decode cX3_forget 20 = .ok (.iload_n 1, 1) := dk_27 (dk_at dksX3_forget_0 20 rfl rfl)
theorem dX3_forget_21 : decode cX3_forget 21 = .ok (.ireturn, 1) := dk_172 (dk_at dksX3_forget_0 21 rfl rfl)
abbrev cX3_addNote : ByteArray := prog_33_method_42_code
def yX3_addNote : MethodName := ⟨RX3, "addNote", "(IIII)I"⟩
def dkwX3_addNote_5 : List UInt8 := [79, 42, 180, 0, 7, 16, 37, 92, 46, 4, 96, 79, 42, 180, 0, 7, 16, 37, 46, 4, 100, 172]
abbrev dktX3_addNote_5 : List UInt8 := dkwX3_addNote_5 ++ []
def dkwX3_addNote_4 : List UInt8 := [4, 96, 28, 79, 42, 180, 0, 7, 21, 5, 5, 96, 29, 79, 42, 180, 0, 7, 21, 5, 6, 96, 21, 4]
abbrev dktX3_addNote_4 : List UInt8 := dkwX3_addNote_4 ++ dktX3_addNote_5
def dkwX3_addNote_3 : List UInt8 := [180, 0, 7, 16, 37, 46, 104, 96, 54, 5, 42, 180, 0, 7, 21, 5, 27, 79, 42, 180, 0, 7, 21, 5]
abbrev dktX3_addNote_3 : List UInt8 := dkwX3_addNote_3 ++ dktX3_addNote_4
def dkwX3_addNote_2 : List UInt8 := [172, 42, 180, 0, 7, 16, 37, 46, 16, 12, 160, 0, 6, 16, 253, 172, 42, 182, 0, 139, 16, 38, 7, 42]
abbrev dktX3_addNote_2 : List UInt8 := dkwX3_addNote_2 ++ dktX3_addNote_3
def dkwX3_addNote_1 : List UInt8 := [29, 133, 10, 20, 0, 177, 184, 0, 101, 153, 0, 14, 21, 4, 133, 9, 10, 184, 0, 101, 154, 0, 5, 2]
abbrev dktX3_addNote_1 : List UInt8 := dkwX3_addNote_1 ++ dktX3_addNote_2
def dkwX3_addNote_0 : List UInt8 := [27, 133, 9, 20, 0, 175, 184, 0, 101, 153, 0, 38, 28, 133, 9, 20, 0, 168, 184, 0, 101, 153, 0, 26]
abbrev dktX3_addNote_0 : List UInt8 := dkwX3_addNote_0 ++ dktX3_addNote_1
theorem dksX3_addNote_0 : cX3_addNote.data.toList.drop 0 = dktX3_addNote_0 := by decide +kernel
theorem dksX3_addNote_1 : cX3_addNote.data.toList.drop 24 = dktX3_addNote_1 := dk_seg dksX3_addNote_0 24 rfl rfl
theorem dksX3_addNote_2 : cX3_addNote.data.toList.drop 48 = dktX3_addNote_2 := dk_seg dksX3_addNote_1 24 rfl rfl
theorem dksX3_addNote_3 : cX3_addNote.data.toList.drop 72 = dktX3_addNote_3 := dk_seg dksX3_addNote_2 24 rfl rfl
theorem dksX3_addNote_4 : cX3_addNote.data.toList.drop 96 = dktX3_addNote_4 := dk_seg dksX3_addNote_3 24 rfl rfl
theorem dksX3_addNote_5 : cX3_addNote.data.toList.drop 120 = dktX3_addNote_5 := dk_seg dksX3_addNote_4 24 rfl rfl
theorem dX3_addNote_0 : decode cX3_addNote 0 = .ok (.iload_n 1, 1) := dk_27 (dk_at dksX3_addNote_0 0 rfl rfl)
theorem dX3_addNote_1 : decode cX3_addNote 1 = .ok (.i2l, 1) := dk_133 (dk_at dksX3_addNote_0 1 rfl rfl)
theorem dX3_addNote_2 : decode cX3_addNote 2 = .ok (.lconst 0, 1) := dk_9 (dk_at dksX3_addNote_0 2 rfl rfl)
theorem dX3_addNote_3 : decode cX3_addNote 3 = .ok (.ldc2_w 175, 3) := dk_20 0 175 (dk_at dksX3_addNote_0 3 rfl rfl)
theorem dX3_addNote_6 : decode cX3_addNote 6 = .ok (.invokestatic 101, 3) := dk_184 0 101 (dk_at dksX3_addNote_0 6 rfl rfl)
theorem dX3_addNote_9 : decode cX3_addNote 9 = .ok (.ifCond .eq 38, 3) := dk_153 0 38 (dk_at dksX3_addNote_0 9 rfl rfl)
theorem dX3_addNote_12 : decode cX3_addNote 12 = .ok (.iload_n 2, 1) := dk_28 (dk_at dksX3_addNote_0 12 rfl rfl)
theorem dX3_addNote_13 : decode cX3_addNote 13 = .ok (.i2l, 1) := dk_133 (dk_at dksX3_addNote_0 13 rfl rfl)
theorem dX3_addNote_14 : decode cX3_addNote 14 = .ok (.lconst 0, 1) := dk_9 (dk_at dksX3_addNote_0 14 rfl rfl)
theorem dX3_addNote_15 : decode cX3_addNote 15 = .ok (.ldc2_w 168, 3) := dk_20 0 168 (dk_at dksX3_addNote_0 15 rfl rfl)
theorem dX3_addNote_18 : decode cX3_addNote 18 = .ok (.invokestatic 101, 3) := dk_184 0 101 (dk_at dksX3_addNote_0 18 rfl rfl)
theorem dX3_addNote_21 : decode cX3_addNote 21 = .ok (.ifCond .eq 26, 3) := dk_153 0 26 (dk_at dksX3_addNote_0 21 rfl rfl)
theorem dX3_addNote_24 : decode cX3_addNote 24 = .ok (.iload_n 3, 1) := dk_29 (dk_at dksX3_addNote_1 0 rfl rfl)
theorem dX3_addNote_25 : decode cX3_addNote 25 = .ok (.i2l, 1) := dk_133 (dk_at dksX3_addNote_1 1 rfl rfl)
theorem dX3_addNote_26 : decode cX3_addNote 26 = .ok (.lconst 1, 1) := dk_10 (dk_at dksX3_addNote_1 2 rfl rfl)
theorem dX3_addNote_27 : decode cX3_addNote 27 = .ok (.ldc2_w 177, 3) := dk_20 0 177 (dk_at dksX3_addNote_1 3 rfl rfl)
theorem dX3_addNote_30 : decode cX3_addNote 30 = .ok (.invokestatic 101, 3) := dk_184 0 101 (dk_at dksX3_addNote_1 6 rfl rfl)
theorem dX3_addNote_33 : decode cX3_addNote 33 = .ok (.ifCond .eq 14, 3) := dk_153 0 14 (dk_at dksX3_addNote_1 9 rfl rfl)
theorem dX3_addNote_36 : decode cX3_addNote 36 = .ok (.iload 4, 2) := dk_21 4 (dk_at dksX3_addNote_1 12 rfl rfl)
theorem dX3_addNote_38 : decode cX3_addNote 38 = .ok (.i2l, 1) := dk_133 (dk_at dksX3_addNote_1 14 rfl rfl)
theorem dX3_addNote_39 : decode cX3_addNote 39 = .ok (.lconst 0, 1) := dk_9 (dk_at dksX3_addNote_1 15 rfl rfl)
theorem dX3_addNote_40 : decode cX3_addNote 40 = .ok (.lconst 1, 1) := dk_10 (dk_at dksX3_addNote_1 16 rfl rfl)
theorem dX3_addNote_41 : decode cX3_addNote 41 = .ok (.invokestatic 101, 3) := dk_184 0 101 (dk_at dksX3_addNote_1 17 rfl rfl)
theorem dX3_addNote_44 : decode cX3_addNote 44 = .ok (.ifCond .ne 5, 3) := dk_154 0 5 (dk_at dksX3_addNote_1 20 rfl rfl)
theorem dX3_addNote_47 : decode cX3_addNote 47 = .ok (.iconst (-1), 1) := dk_2 (dk_at dksX3_addNote_1 23 rfl rfl)
theorem dX3_addNote_48 : decode cX3_addNote 48 = .ok (.ireturn, 1) := dk_172 (dk_at dksX3_addNote_2 0 rfl rfl)
theorem dX3_addNote_49 : decode cX3_addNote 49 = .ok (.aload_n 0, 1) := dk_42 (dk_at dksX3_addNote_2 1 rfl rfl)
theorem dX3_addNote_50 : decode cX3_addNote 50 = .ok (.getfield 7, 3) := dk_180 0 7 (dk_at dksX3_addNote_2 2 rfl rfl)
theorem dX3_addNote_53 : decode cX3_addNote 53 = .ok (.bipush 37, 2) := dk_16 37 (dk_at dksX3_addNote_2 5 rfl rfl)
theorem dX3_addNote_55 : decode cX3_addNote 55 = .ok (.iaload, 1) := dk_46 (dk_at dksX3_addNote_2 7 rfl rfl)
theorem dX3_addNote_56 : decode cX3_addNote 56 = .ok (.bipush 12, 2) := dk_16 12 (dk_at dksX3_addNote_2 8 rfl rfl)
theorem dX3_addNote_58 : decode cX3_addNote 58 = .ok (.if_icmp .ne 6, 3) := dk_160 0 6 (dk_at dksX3_addNote_2 10 rfl rfl)
theorem dX3_addNote_61 : decode cX3_addNote 61 = .ok (.bipush (-3), 2) := dk_16 253 (dk_at dksX3_addNote_2 13 rfl rfl)
theorem dX3_addNote_63 : decode cX3_addNote 63 = .ok (.ireturn, 1) := dk_172 (dk_at dksX3_addNote_2 15 rfl rfl)
theorem dX3_addNote_64 : decode cX3_addNote 64 = .ok (.aload_n 0, 1) := dk_42 (dk_at dksX3_addNote_2 16 rfl rfl)
theorem dX3_addNote_65 : decode cX3_addNote 65 = .ok (.invokevirtual 139, 3) := dk_182 0 139 (dk_at dksX3_addNote_2 17 rfl rfl)
theorem dX3_addNote_68 : decode cX3_addNote 68 = .ok (.bipush 38, 2) := dk_16 38 (dk_at dksX3_addNote_2 20 rfl rfl)
theorem dX3_addNote_70 : decode cX3_addNote 70 = .ok (.iconst 4, 1) := dk_7 (dk_at dksX3_addNote_2 22 rfl rfl)
theorem dX3_addNote_71 : decode cX3_addNote 71 = .ok (.aload_n 0, 1) := dk_42 (dk_at dksX3_addNote_2 23 rfl rfl)
theorem dX3_addNote_72 : decode cX3_addNote 72 = .ok (.getfield 7, 3) := dk_180 0 7 (dk_at dksX3_addNote_3 0 rfl rfl)
theorem dX3_addNote_75 : decode cX3_addNote 75 = .ok (.bipush 37, 2) := dk_16 37 (dk_at dksX3_addNote_3 3 rfl rfl)
theorem dX3_addNote_77 : decode cX3_addNote 77 = .ok (.iaload, 1) := dk_46 (dk_at dksX3_addNote_3 5 rfl rfl)
theorem dX3_addNote_78 : decode cX3_addNote 78 = .ok (.imul, 1) := dk_104 (dk_at dksX3_addNote_3 6 rfl rfl)
theorem dX3_addNote_79 : decode cX3_addNote 79 = .ok (.iadd, 1) := dk_96 (dk_at dksX3_addNote_3 7 rfl rfl)
theorem dX3_addNote_80 : decode cX3_addNote 80 = .ok (.istore 5, 2) := dk_54 5 (dk_at dksX3_addNote_3 8 rfl rfl)
theorem dX3_addNote_82 : decode cX3_addNote 82 = .ok (.aload_n 0, 1) := dk_42 (dk_at dksX3_addNote_3 10 rfl rfl)
theorem dX3_addNote_83 : decode cX3_addNote 83 = .ok (.getfield 7, 3) := dk_180 0 7 (dk_at dksX3_addNote_3 11 rfl rfl)
theorem dX3_addNote_86 : decode cX3_addNote 86 = .ok (.iload 5, 2) := dk_21 5 (dk_at dksX3_addNote_3 14 rfl rfl)
theorem dX3_addNote_88 : decode cX3_addNote 88 = .ok (.iload_n 1, 1) := dk_27 (dk_at dksX3_addNote_3 16 rfl rfl)
theorem dX3_addNote_89 : decode cX3_addNote 89 = .ok (.iastore, 1) := dk_79 (dk_at dksX3_addNote_3 17 rfl rfl)
theorem dX3_addNote_90 : decode cX3_addNote 90 = .ok (.aload_n 0, 1) := dk_42 (dk_at dksX3_addNote_3 18 rfl rfl)
theorem dX3_addNote_91 : decode cX3_addNote 91 = .ok (.getfield 7, 3) := dk_180 0 7 (dk_at dksX3_addNote_3 19 rfl rfl)
theorem dX3_addNote_94 : decode cX3_addNote 94 = .ok (.iload 5, 2) := dk_21 5 (dk_at dksX3_addNote_3 22 rfl rfl)
theorem dX3_addNote_96 : decode cX3_addNote 96 = .ok (.iconst 1, 1) := dk_4 (dk_at dksX3_addNote_4 0 rfl rfl)
theorem dX3_addNote_97 : decode cX3_addNote 97 = .ok (.iadd, 1) := dk_96 (dk_at dksX3_addNote_4 1 rfl rfl)
theorem dX3_addNote_98 : decode cX3_addNote 98 = .ok (.iload_n 2, 1) := dk_28 (dk_at dksX3_addNote_4 2 rfl rfl)
theorem dX3_addNote_99 : decode cX3_addNote 99 = .ok (.iastore, 1) := dk_79 (dk_at dksX3_addNote_4 3 rfl rfl)
theorem dX3_addNote_100 : decode cX3_addNote 100 = .ok (.aload_n 0, 1) := dk_42 (dk_at dksX3_addNote_4 4 rfl rfl)
theorem dX3_addNote_101 : decode cX3_addNote 101 = .ok (.getfield 7, 3) := dk_180 0 7 (dk_at dksX3_addNote_4 5 rfl rfl)
theorem dX3_addNote_104 : decode cX3_addNote 104 = .ok (.iload 5, 2) := dk_21 5 (dk_at dksX3_addNote_4 8 rfl rfl)
theorem dX3_addNote_106 : decode cX3_addNote 106 = .ok (.iconst 2, 1) := dk_5 (dk_at dksX3_addNote_4 10 rfl rfl)
theorem dX3_addNote_107 : decode cX3_addNote 107 = .ok (.iadd, 1) := dk_96 (dk_at dksX3_addNote_4 11 rfl rfl)
theorem dX3_addNote_108 : decode cX3_addNote 108 = .ok (.iload_n 3, 1) := dk_29 (dk_at dksX3_addNote_4 12 rfl rfl)
theorem dX3_addNote_109 : decode cX3_addNote 109 = .ok (.iastore, 1) := dk_79 (dk_at dksX3_addNote_4 13 rfl rfl)
theorem dX3_addNote_110 : decode cX3_addNote 110 = .ok (.aload_n 0, 1) := dk_42 (dk_at dksX3_addNote_4 14 rfl rfl)
theorem dX3_addNote_111 : decode cX3_addNote 111 = .ok (.getfield 7, 3) := dk_180 0 7 (dk_at dksX3_addNote_4 15 rfl rfl)
theorem dX3_addNote_114 : decode cX3_addNote 114 = .ok (.iload 5, 2) := dk_21 5 (dk_at dksX3_addNote_4 18 rfl rfl)
theorem dX3_addNote_116 : decode cX3_addNote 116 = .ok (.iconst 3, 1) := dk_6 (dk_at dksX3_addNote_4 20 rfl rfl)
theorem dX3_addNote_117 : decode cX3_addNote 117 = .ok (.iadd, 1) := dk_96 (dk_at dksX3_addNote_4 21 rfl rfl)
theorem dX3_addNote_118 : decode cX3_addNote 118 = .ok (.iload 4, 2) := dk_21 4 (dk_at dksX3_addNote_4 22 rfl rfl)
theorem dX3_addNote_120 : decode cX3_addNote 120 = .ok (.iastore, 1) := dk_79 (dk_at dksX3_addNote_5 0 rfl rfl)
theorem dX3_addNote_121 : decode cX3_addNote 121 = .ok (.aload_n 0, 1) := dk_42 (dk_at dksX3_addNote_5 1 rfl rfl)
theorem dX3_addNote_122 : decode cX3_addNote 122 = .ok (.getfield 7, 3) := dk_180 0 7 (dk_at dksX3_addNote_5 2 rfl rfl)
theorem dX3_addNote_125 : decode cX3_addNote 125 = .ok (.bipush 37, 2) := dk_16 37 (dk_at dksX3_addNote_5 5 rfl rfl)
theorem dX3_addNote_127 : decode cX3_addNote 127 = .ok (.dup2, 1) := dk_92 (dk_at dksX3_addNote_5 7 rfl rfl)
theorem dX3_addNote_128 : decode cX3_addNote 128 = .ok (.iaload, 1) := dk_46 (dk_at dksX3_addNote_5 8 rfl rfl)
theorem dX3_addNote_129 : decode cX3_addNote 129 = .ok (.iconst 1, 1) := dk_4 (dk_at dksX3_addNote_5 9 rfl rfl)
theorem dX3_addNote_130 : decode cX3_addNote 130 = .ok (.iadd, 1) := dk_96 (dk_at dksX3_addNote_5 10 rfl rfl)
theorem dX3_addNote_131 : decode cX3_addNote 131 = .ok (.iastore, 1) := dk_79 (dk_at dksX3_addNote_5 11 rfl rfl)
theorem dX3_addNote_132 : decode cX3_addNote 132 = .ok (.aload_n 0, 1) := dk_42 (dk_at dksX3_addNote_5 12 rfl rfl)
theorem dX3_addNote_133 : decode cX3_addNote 133 = .ok (.getfield 7, 3) := dk_180 0 7 (dk_at dksX3_addNote_5 13 rfl rfl)
theorem dX3_addNote_136 : decode cX3_addNote 136 = .ok (.bipush 37, 2) := dk_16 37 (dk_at dksX3_addNote_5 16 rfl rfl)
theorem dX3_addNote_138 : decode cX3_addNote 138 = .ok (.iaload, 1) := dk_46 (dk_at dksX3_addNote_5 18 rfl rfl)
theorem dX3_addNote_139 : decode cX3_addNote 139 = .ok (.iconst 1, 1) := dk_4 (dk_at dksX3_addNote_5 19 rfl rfl)
theorem dX3_addNote_140 : decode cX3_addNote 140 = .ok (.isub, 1) := dk_100 (dk_at dksX3_addNote_5 20 rfl rfl)
theorem dX3_addNote_141 : decode cX3_addNote 141 = .ok (.ireturn, 1) := dk_172 (dk_at dksX3_addNote_5 21 rfl rfl)
abbrev cX3_removeNote : ByteArray := prog_33_method_43_code
def yX3_removeNote : MethodName := ⟨RX3, "removeNote", "(I)I"⟩
def dkwX3_removeNote_3 : List UInt8 := [96, 46, 79, 132, 2, 1, 167, 255, 223, 42, 180, 0, 7, 16, 37, 46, 172]
abbrev dktX3_removeNote_3 : List UInt8 := dkwX3_removeNote_3 ++ []
def dkwX3_removeNote_2 : List UInt8 := [7, 42, 180, 0, 7, 16, 37, 46, 104, 96, 162, 0, 23, 42, 180, 0, 7, 28, 42, 180, 0, 7, 28, 7]
abbrev dktX3_removeNote_2 : List UInt8 := dkwX3_removeNote_2 ++ dktX3_removeNote_3
def dkwX3_removeNote_1 : List UInt8 := [182, 0, 139, 42, 180, 0, 7, 16, 37, 92, 46, 4, 100, 79, 16, 38, 7, 27, 104, 96, 61, 28, 16, 38]
abbrev dktX3_removeNote_1 : List UInt8 := dkwX3_removeNote_1 ++ dktX3_removeNote_2
def dkwX3_removeNote_0 : List UInt8 := [27, 133, 9, 42, 180, 0, 7, 16, 37, 46, 4, 100, 133, 184, 0, 101, 154, 0, 5, 2, 172, 42]
abbrev dktX3_removeNote_0 : List UInt8 := dkwX3_removeNote_0 ++ dktX3_removeNote_1
theorem dksX3_removeNote_0 : cX3_removeNote.data.toList.drop 0 = dktX3_removeNote_0 := by decide +kernel
theorem dksX3_removeNote_1 : cX3_removeNote.data.toList.drop 22 = dktX3_removeNote_1 := dk_seg dksX3_removeNote_0 22 rfl rfl
theorem dksX3_removeNote_2 : cX3_removeNote.data.toList.drop 46 = dktX3_removeNote_2 := dk_seg dksX3_removeNote_1 24 rfl rfl
theorem dksX3_removeNote_3 : cX3_removeNote.data.toList.drop 70 = dktX3_removeNote_3 := dk_seg dksX3_removeNote_2 24 rfl rfl
theorem dX3_removeNote_0 : decode cX3_removeNote 0 = .ok (.iload_n 1, 1) := dk_27 (dk_at dksX3_removeNote_0 0 rfl rfl)
theorem dX3_removeNote_1 : decode cX3_removeNote 1 = .ok (.i2l, 1) := dk_133 (dk_at dksX3_removeNote_0 1 rfl rfl)
theorem dX3_removeNote_2 : decode cX3_removeNote 2 = .ok (.lconst 0, 1) := dk_9 (dk_at dksX3_removeNote_0 2 rfl rfl)
theorem dX3_removeNote_3 : decode cX3_removeNote 3 = .ok (.aload_n 0, 1) := dk_42 (dk_at dksX3_removeNote_0 3 rfl rfl)
theorem dX3_removeNote_4 : decode cX3_removeNote 4 = .ok (.getfield 7, 3) := dk_180 0 7 (dk_at dksX3_removeNote_0 4 rfl rfl)
theorem dX3_removeNote_7 : decode cX3_removeNote 7 = .ok (.bipush 37, 2) := dk_16 37 (dk_at dksX3_removeNote_0 7 rfl rfl)
theorem dX3_removeNote_9 : decode cX3_removeNote 9 = .ok (.iaload, 1) := dk_46 (dk_at dksX3_removeNote_0 9 rfl rfl)
theorem dX3_removeNote_10 : decode cX3_removeNote 10 = .ok (.iconst 1, 1) := dk_4 (dk_at dksX3_removeNote_0 10 rfl rfl)
theorem dX3_removeNote_11 : decode cX3_removeNote 11 = .ok (.isub, 1) := dk_100 (dk_at dksX3_removeNote_0 11 rfl rfl)
theorem dX3_removeNote_12 : decode cX3_removeNote 12 = .ok (.i2l, 1) := dk_133 (dk_at dksX3_removeNote_0 12 rfl rfl)
theorem dX3_removeNote_13 : decode cX3_removeNote 13 = .ok (.invokestatic 101, 3) := dk_184 0 101 (dk_at dksX3_removeNote_0 13 rfl rfl)
theorem dX3_removeNote_16 : decode cX3_removeNote 16 = .ok (.ifCond .ne 5, 3) := dk_154 0 5 (dk_at dksX3_removeNote_0 16 rfl rfl)
theorem dX3_removeNote_19 : decode cX3_removeNote 19 = .ok (.iconst (-1), 1) := dk_2 (dk_at dksX3_removeNote_0 19 rfl rfl)
theorem dX3_removeNote_20 : decode cX3_removeNote 20 = .ok (.ireturn, 1) := dk_172 (dk_at dksX3_removeNote_0 20 rfl rfl)
theorem dX3_removeNote_21 : decode cX3_removeNote 21 = .ok (.aload_n 0, 1) := dk_42 (dk_at dksX3_removeNote_0 21 rfl rfl)
theorem dX3_removeNote_22 : decode cX3_removeNote 22 = .ok (.invokevirtual 139, 3) := dk_182 0 139 (dk_at dksX3_removeNote_1 0 rfl rfl)
theorem dX3_removeNote_25 : decode cX3_removeNote 25 = .ok (.aload_n 0, 1) := dk_42 (dk_at dksX3_removeNote_1 3 rfl rfl)
theorem dX3_removeNote_26 : decode cX3_removeNote 26 = .ok (.getfield 7, 3) := dk_180 0 7 (dk_at dksX3_removeNote_1 4 rfl rfl)
theorem dX3_removeNote_29 : decode cX3_removeNote 29 = .ok (.bipush 37, 2) := dk_16 37 (dk_at dksX3_removeNote_1 7 rfl rfl)
theorem dX3_removeNote_31 : decode cX3_removeNote 31 = .ok (.dup2, 1) := dk_92 (dk_at dksX3_removeNote_1 9 rfl rfl)
theorem dX3_removeNote_32 : decode cX3_removeNote 32 = .ok (.iaload, 1) := dk_46 (dk_at dksX3_removeNote_1 10 rfl rfl)
theorem dX3_removeNote_33 : decode cX3_removeNote 33 = .ok (.iconst 1, 1) := dk_4 (dk_at dksX3_removeNote_1 11 rfl rfl)
theorem dX3_removeNote_34 : decode cX3_removeNote 34 = .ok (.isub, 1) := dk_100 (dk_at dksX3_removeNote_1 12 rfl rfl)
theorem dX3_removeNote_35 : decode cX3_removeNote 35 = .ok (.iastore, 1) := dk_79 (dk_at dksX3_removeNote_1 13 rfl rfl)
theorem dX3_removeNote_36 : decode cX3_removeNote 36 = .ok (.bipush 38, 2) := dk_16 38 (dk_at dksX3_removeNote_1 14 rfl rfl)
theorem dX3_removeNote_38 : decode cX3_removeNote 38 = .ok (.iconst 4, 1) := dk_7 (dk_at dksX3_removeNote_1 16 rfl rfl)
theorem dX3_removeNote_39 : decode cX3_removeNote 39 = .ok (.iload_n 1, 1) := dk_27 (dk_at dksX3_removeNote_1 17 rfl rfl)
theorem dX3_removeNote_40 : decode cX3_removeNote 40 = .ok (.imul, 1) := dk_104 (dk_at dksX3_removeNote_1 18 rfl rfl)
theorem dX3_removeNote_41 : decode cX3_removeNote 41 = .ok (.iadd, 1) := dk_96 (dk_at dksX3_removeNote_1 19 rfl rfl)
theorem dX3_removeNote_42 : decode cX3_removeNote 42 = .ok (.istore_n 2, 1) := dk_61 (dk_at dksX3_removeNote_1 20 rfl rfl)
theorem dX3_removeNote_43 : decode cX3_removeNote 43 = .ok (.iload_n 2, 1) := dk_28 (dk_at dksX3_removeNote_1 21 rfl rfl)
theorem dX3_removeNote_44 : decode cX3_removeNote 44 = .ok (.bipush 38, 2) := dk_16 38 (dk_at dksX3_removeNote_1 22 rfl rfl)
theorem dX3_removeNote_46 : decode cX3_removeNote 46 = .ok (.iconst 4, 1) := dk_7 (dk_at dksX3_removeNote_2 0 rfl rfl)
theorem dX3_removeNote_47 : decode cX3_removeNote 47 = .ok (.aload_n 0, 1) := dk_42 (dk_at dksX3_removeNote_2 1 rfl rfl)
theorem dX3_removeNote_48 : decode cX3_removeNote 48 = .ok (.getfield 7, 3) := dk_180 0 7 (dk_at dksX3_removeNote_2 2 rfl rfl)
theorem dX3_removeNote_51 : decode cX3_removeNote 51 = .ok (.bipush 37, 2) := dk_16 37 (dk_at dksX3_removeNote_2 5 rfl rfl)
theorem dX3_removeNote_53 : decode cX3_removeNote 53 = .ok (.iaload, 1) := dk_46 (dk_at dksX3_removeNote_2 7 rfl rfl)
theorem dX3_removeNote_54 : decode cX3_removeNote 54 = .ok (.imul, 1) := dk_104 (dk_at dksX3_removeNote_2 8 rfl rfl)
theorem dX3_removeNote_55 : decode cX3_removeNote 55 = .ok (.iadd, 1) := dk_96 (dk_at dksX3_removeNote_2 9 rfl rfl)
theorem dX3_removeNote_56 : decode cX3_removeNote 56 = .ok (.if_icmp .ge 23, 3) := dk_162 0 23 (dk_at dksX3_removeNote_2 10 rfl rfl)
theorem dX3_removeNote_59 : decode cX3_removeNote 59 = .ok (.aload_n 0, 1) := dk_42 (dk_at dksX3_removeNote_2 13 rfl rfl)
theorem dX3_removeNote_60 : decode cX3_removeNote 60 = .ok (.getfield 7, 3) := dk_180 0 7 (dk_at dksX3_removeNote_2 14 rfl rfl)
theorem dX3_removeNote_63 : decode cX3_removeNote 63 = .ok (.iload_n 2, 1) := dk_28 (dk_at dksX3_removeNote_2 17 rfl rfl)
theorem dX3_removeNote_64 : decode cX3_removeNote 64 = .ok (.aload_n 0, 1) := dk_42 (dk_at dksX3_removeNote_2 18 rfl rfl)
theorem dX3_removeNote_65 : decode cX3_removeNote 65 = .ok (.getfield 7, 3) := dk_180 0 7 (dk_at dksX3_removeNote_2 19 rfl rfl)
theorem dX3_removeNote_68 : decode cX3_removeNote 68 = .ok (.iload_n 2, 1) := dk_28 (dk_at dksX3_removeNote_2 22 rfl rfl)
theorem dX3_removeNote_69 : decode cX3_removeNote 69 = .ok (.iconst 4, 1) := dk_7 (dk_at dksX3_removeNote_2 23 rfl rfl)
theorem dX3_removeNote_70 : decode cX3_removeNote 70 = .ok (.iadd, 1) := dk_96 (dk_at dksX3_removeNote_3 0 rfl rfl)
theorem dX3_removeNote_71 : decode cX3_removeNote 71 = .ok (.iaload, 1) := dk_46 (dk_at dksX3_removeNote_3 1 rfl rfl)
theorem dX3_removeNote_72 : decode cX3_removeNote 72 = .ok (.iastore, 1) := dk_79 (dk_at dksX3_removeNote_3 2 rfl rfl)
theorem dX3_removeNote_73 : decode cX3_removeNote 73 = .ok (.iinc 2 1, 3) := dk_132 2 1 (dk_at dksX3_removeNote_3 3 rfl rfl)
theorem dX3_removeNote_76 : decode cX3_removeNote 76 = .ok (.goto (-33), 3) := dk_167 255 223 (dk_at dksX3_removeNote_3 6 rfl rfl)
theorem dX3_removeNote_79 : decode cX3_removeNote 79 = .ok (.aload_n 0, 1) := dk_42 (dk_at dksX3_removeNote_3 9 rfl rfl)
theorem dX3_removeNote_80 : decode cX3_removeNote 80 = .ok (.getfield 7, 3) := dk_180 0 7 (dk_at dksX3_removeNote_3 10 rfl rfl)
theorem dX3_removeNote_83 : decode cX3_removeNote 83 = .ok (.bipush 37, 2) := dk_16 37 (dk_at dksX3_removeNote_3 13 rfl rfl)
theorem dX3_removeNote_85 : decode cX3_removeNote 85 = .ok (.iaload, 1) := dk_46 (dk_at dksX3_removeNote_3 15 rfl rfl)
theorem dX3_removeNote_86 : decode cX3_removeNote 86 = .ok (.ireturn, 1) := dk_172 (dk_at dksX3_removeNote_3 16 rfl rfl)
abbrev cX3_setLines : ByteArray := prog_33_method_44_code
def yX3_setLines : MethodName := ⟨RX3, "setLines", "(I)I"⟩
def dkwX3_setLines_1 : List UInt8 := [46, 61, 42, 180, 0, 7, 16, 11, 27, 79, 28, 172]
abbrev dktX3_setLines_1 : List UInt8 := dkwX3_setLines_1 ++ []
def dkwX3_setLines_0 : List UInt8 := [27, 133, 10, 20, 0, 168, 184, 0, 101, 154, 0, 5, 2, 172, 42, 182, 0, 139, 42, 180, 0, 7, 16, 11]
abbrev dktX3_setLines_0 : List UInt8 := dkwX3_setLines_0 ++ dktX3_setLines_1
theorem dksX3_setLines_0 : cX3_setLines.data.toList.drop 0 = dktX3_setLines_0 := by decide +kernel
theorem dksX3_setLines_1 : cX3_setLines.data.toList.drop 24 = dktX3_setLines_1 := dk_seg dksX3_setLines_0 24 rfl rfl
theorem dX3_setLines_0 : decode cX3_setLines 0 = .ok (.iload_n 1, 1) := dk_27 (dk_at dksX3_setLines_0 0 rfl rfl)
theorem dX3_setLines_1 : decode cX3_setLines 1 = .ok (.i2l, 1) := dk_133 (dk_at dksX3_setLines_0 1 rfl rfl)
theorem dX3_setLines_2 : decode cX3_setLines 2 = .ok (.lconst 1, 1) := dk_10 (dk_at dksX3_setLines_0 2 rfl rfl)
theorem dX3_setLines_3 : decode cX3_setLines 3 = .ok (.ldc2_w 168, 3) := dk_20 0 168 (dk_at dksX3_setLines_0 3 rfl rfl)
theorem dX3_setLines_6 : decode cX3_setLines 6 = .ok (.invokestatic 101, 3) := dk_184 0 101 (dk_at dksX3_setLines_0 6 rfl rfl)
theorem dX3_setLines_9 : decode cX3_setLines 9 = .ok (.ifCond .ne 5, 3) := dk_154 0 5 (dk_at dksX3_setLines_0 9 rfl rfl)
theorem dX3_setLines_12 : decode cX3_setLines 12 = .ok (.iconst (-1), 1) := dk_2 (dk_at dksX3_setLines_0 12 rfl rfl)
theorem dX3_setLines_13 : decode cX3_setLines 13 = .ok (.ireturn, 1) := dk_172 (dk_at dksX3_setLines_0 13 rfl rfl)
theorem dX3_setLines_14 : decode cX3_setLines 14 = .ok (.aload_n 0, 1) := dk_42 (dk_at dksX3_setLines_0 14 rfl rfl)
theorem dX3_setLines_15 : decode cX3_setLines 15 = .ok (.invokevirtual 139, 3) := dk_182 0 139 (dk_at dksX3_setLines_0 15 rfl rfl)
theorem dX3_setLines_18 : decode cX3_setLines 18 = .ok (.aload_n 0, 1) := dk_42 (dk_at dksX3_setLines_0 18 rfl rfl)
theorem dX3_setLines_19 : decode cX3_setLines 19 = .ok (.getfield 7, 3) := dk_180 0 7 (dk_at dksX3_setLines_0 19 rfl rfl)
theorem dX3_setLines_22 : decode cX3_setLines 22 = .ok (.bipush 11, 2) := dk_16 11 (dk_at dksX3_setLines_0 22 rfl rfl)
theorem dX3_setLines_24 : decode cX3_setLines 24 = .ok (.iaload, 1) := dk_46 (dk_at dksX3_setLines_1 0 rfl rfl)
theorem dX3_setLines_25 : decode cX3_setLines 25 = .ok (.istore_n 2, 1) := dk_61 (dk_at dksX3_setLines_1 1 rfl rfl)
theorem dX3_setLines_26 : decode cX3_setLines 26 = .ok (.aload_n 0, 1) := dk_42 (dk_at dksX3_setLines_1 2 rfl rfl)
theorem dX3_setLines_27 : decode cX3_setLines 27 = .ok (.getfield 7, 3) := dk_180 0 7 (dk_at dksX3_setLines_1 3 rfl rfl)
theorem dX3_setLines_30 : decode cX3_setLines 30 = .ok (.bipush 11, 2) := dk_16 11 (dk_at dksX3_setLines_1 6 rfl rfl)
theorem dX3_setLines_32 : decode cX3_setLines 32 = .ok (.iload_n 1, 1) := dk_27 (dk_at dksX3_setLines_1 8 rfl rfl)
theorem dX3_setLines_33 : decode cX3_setLines 33 = .ok (.iastore, 1) := dk_79 (dk_at dksX3_setLines_1 9 rfl rfl)
theorem dX3_setLines_34 : decode cX3_setLines 34 = .ok (.iload_n 2, 1) := dk_28 (dk_at dksX3_setLines_1 10 rfl rfl)
theorem dX3_setLines_35 : decode cX3_setLines 35 = .ok (.ireturn, 1) := dk_172 (dk_at dksX3_setLines_1 11 rfl rfl)
abbrev cX3_take : ByteArray := prog_33_method_45_code
def yX3_take : MethodName := ⟨RX3, "take", "(I)I"⟩
def dkwX3_take_2 : List UInt8 := [96, 28, 96, 42, 180, 0, 7, 28, 46, 79, 132, 2, 1, 167, 255, 224, 42, 180, 0, 7, 5, 46, 172]
abbrev dktX3_take_2 : List UInt8 := dkwX3_take_2 ++ []
def dkwX3_take_1 : List UInt8 := [96, 4, 79, 3, 61, 28, 17, 0, 154, 162, 0, 31, 42, 180, 0, 7, 17, 0, 156, 17, 0, 154, 27, 104]
abbrev dktX3_take_1 : List UInt8 := dkwX3_take_1 ++ dktX3_take_2
def dkwX3_take_0 : List UInt8 := [27, 133, 9, 10, 184, 0, 101, 154, 0, 5, 2, 172, 42, 182, 0, 139, 42, 180, 0, 7, 17, 0, 154, 27]
abbrev dktX3_take_0 : List UInt8 := dkwX3_take_0 ++ dktX3_take_1
theorem dksX3_take_0 : cX3_take.data.toList.drop 0 = dktX3_take_0 := by decide +kernel
theorem dksX3_take_1 : cX3_take.data.toList.drop 24 = dktX3_take_1 := dk_seg dksX3_take_0 24 rfl rfl
theorem dksX3_take_2 : cX3_take.data.toList.drop 48 = dktX3_take_2 := dk_seg dksX3_take_1 24 rfl rfl
theorem dX3_take_0 : decode cX3_take 0 = .ok (.iload_n 1, 1) := dk_27 (dk_at dksX3_take_0 0 rfl rfl)
theorem dX3_take_1 : decode cX3_take 1 = .ok (.i2l, 1) := dk_133 (dk_at dksX3_take_0 1 rfl rfl)
theorem dX3_take_2 : decode cX3_take 2 = .ok (.lconst 0, 1) := dk_9 (dk_at dksX3_take_0 2 rfl rfl)
theorem dX3_take_3 : decode cX3_take 3 = .ok (.lconst 1, 1) := dk_10 (dk_at dksX3_take_0 3 rfl rfl)
theorem dX3_take_4 : decode cX3_take 4 = .ok (.invokestatic 101, 3) := dk_184 0 101 (dk_at dksX3_take_0 4 rfl rfl)
theorem dX3_take_7 : decode cX3_take 7 = .ok (.ifCond .ne 5, 3) := dk_154 0 5 (dk_at dksX3_take_0 7 rfl rfl)
theorem dX3_take_10 : decode cX3_take 10 = .ok (.iconst (-1), 1) := dk_2 (dk_at dksX3_take_0 10 rfl rfl)
theorem dX3_take_11 : decode cX3_take 11 = .ok (.ireturn, 1) := dk_172 (dk_at dksX3_take_0 11 rfl rfl)
theorem dX3_take_12 : decode cX3_take 12 = .ok (.aload_n 0, 1) := dk_42 (dk_at dksX3_take_0 12 rfl rfl)
theorem dX3_take_13 : decode cX3_take 13 = .ok (.invokevirtual 139, 3) := dk_182 0 139 (dk_at dksX3_take_0 13 rfl rfl)
theorem dX3_take_16 : decode cX3_take 16 = .ok (.aload_n 0, 1) := dk_42 (dk_at dksX3_take_0 16 rfl rfl)
theorem dX3_take_17 : decode cX3_take 17 = .ok (.getfield 7, 3) := dk_180 0 7 (dk_at dksX3_take_0 17 rfl rfl)
theorem dX3_take_20 : decode cX3_take 20 = .ok (.sipush 154, 3) := dk_17 0 154 (dk_at dksX3_take_0 20 rfl rfl)
theorem dX3_take_23 : decode cX3_take 23 = .ok (.iload_n 1, 1) := dk_27 (dk_at dksX3_take_0 23 rfl rfl)
theorem dX3_take_24 : decode cX3_take 24 = .ok (.iadd, 1) := dk_96 (dk_at dksX3_take_1 0 rfl rfl)
theorem dX3_take_25 : decode cX3_take 25 = .ok (.iconst 1, 1) := dk_4 (dk_at dksX3_take_1 1 rfl rfl)
theorem dX3_take_26 : decode cX3_take 26 = .ok (.iastore, 1) := dk_79 (dk_at dksX3_take_1 2 rfl rfl)
theorem dX3_take_27 : decode cX3_take 27 = .ok (.iconst 0, 1) := dk_3 (dk_at dksX3_take_1 3 rfl rfl)
theorem dX3_take_28 : decode cX3_take 28 = .ok (.istore_n 2, 1) := dk_61 (dk_at dksX3_take_1 4 rfl rfl)
theorem dX3_take_29 : decode cX3_take 29 = .ok (.iload_n 2, 1) := dk_28 (dk_at dksX3_take_1 5 rfl rfl)
theorem dX3_take_30 : decode cX3_take 30 = .ok (.sipush 154, 3) := dk_17 0 154 (dk_at dksX3_take_1 6 rfl rfl)
theorem dX3_take_33 : decode cX3_take 33 = .ok (.if_icmp .ge 31, 3) := dk_162 0 31 (dk_at dksX3_take_1 9 rfl rfl)
theorem dX3_take_36 : decode cX3_take 36 = .ok (.aload_n 0, 1) := dk_42 (dk_at dksX3_take_1 12 rfl rfl)
theorem dX3_take_37 : decode cX3_take 37 = .ok (.getfield 7, 3) := dk_180 0 7 (dk_at dksX3_take_1 13 rfl rfl)
theorem dX3_take_40 : decode cX3_take 40 = .ok (.sipush 156, 3) := dk_17 0 156 (dk_at dksX3_take_1 16 rfl rfl)
theorem dX3_take_43 : decode cX3_take 43 = .ok (.sipush 154, 3) := dk_17 0 154 (dk_at dksX3_take_1 19 rfl rfl)
theorem dX3_take_46 : decode cX3_take 46 = .ok (.iload_n 1, 1) := dk_27 (dk_at dksX3_take_1 22 rfl rfl)
theorem dX3_take_47 : decode cX3_take 47 = .ok (.imul, 1) := dk_104 (dk_at dksX3_take_1 23 rfl rfl)
theorem dX3_take_48 : decode cX3_take 48 = .ok (.iadd, 1) := dk_96 (dk_at dksX3_take_2 0 rfl rfl)
theorem dX3_take_49 : decode cX3_take 49 = .ok (.iload_n 2, 1) := dk_28 (dk_at dksX3_take_2 1 rfl rfl)
theorem dX3_take_50 : decode cX3_take 50 = .ok (.iadd, 1) := dk_96 (dk_at dksX3_take_2 2 rfl rfl)
theorem dX3_take_51 : decode cX3_take 51 = .ok (.aload_n 0, 1) := dk_42 (dk_at dksX3_take_2 3 rfl rfl)
theorem dX3_take_52 : decode cX3_take 52 = .ok (.getfield 7, 3) := dk_180 0 7 (dk_at dksX3_take_2 4 rfl rfl)
theorem dX3_take_55 : decode cX3_take 55 = .ok (.iload_n 2, 1) := dk_28 (dk_at dksX3_take_2 7 rfl rfl)
theorem dX3_take_56 : decode cX3_take 56 = .ok (.iaload, 1) := dk_46 (dk_at dksX3_take_2 8 rfl rfl)
theorem dX3_take_57 : decode cX3_take 57 = .ok (.iastore, 1) := dk_79 (dk_at dksX3_take_2 9 rfl rfl)
theorem dX3_take_58 : decode cX3_take 58 = .ok (.iinc 2 1, 3) := dk_132 2 1 (dk_at dksX3_take_2 10 rfl rfl)
theorem dX3_take_61 : decode cX3_take 61 = .ok (.goto (-32), 3) := dk_167 255 224 (dk_at dksX3_take_2 13 rfl rfl)
theorem dX3_take_64 : decode cX3_take 64 = .ok (.aload_n 0, 1) := dk_42 (dk_at dksX3_take_2 16 rfl rfl)
theorem dX3_take_65 : decode cX3_take 65 = .ok (.getfield 7, 3) := dk_180 0 7 (dk_at dksX3_take_2 17 rfl rfl)
theorem dX3_take_68 : decode cX3_take 68 = .ok (.iconst 2, 1) := dk_5 (dk_at dksX3_take_2 20 rfl rfl)
theorem dX3_take_69 : decode cX3_take 69 = .ok (.iaload, 1) := dk_46 (dk_at dksX3_take_2 21 rfl rfl)
theorem dX3_take_70 : decode cX3_take 70 = .ok (.ireturn, 1) := dk_172 (dk_at dksX3_take_2 22 rfl rfl)
abbrev cX3_restore : ByteArray := prog_33_method_46_code
def yX3_restore : MethodName := ⟨RX3, "restore", "(I)I"⟩
def dkwX3_restore_3 : List UInt8 := [180, 0, 7, 5, 46, 172]
abbrev dktX3_restore_3 : List UInt8 := dkwX3_restore_3 ++ []
def dkwX3_restore_2 : List UInt8 := [42, 180, 0, 7, 17, 0, 156, 17, 0, 154, 27, 104, 96, 28, 96, 46, 79, 132, 2, 1, 167, 255, 224, 42]
abbrev dktX3_restore_2 : List UInt8 := dkwX3_restore_2 ++ dktX3_restore_3
def dkwX3_restore_1 : List UInt8 := [154, 0, 6, 16, 254, 172, 42, 182, 0, 139, 3, 61, 28, 17, 0, 154, 162, 0, 31, 42, 180, 0, 7, 28]
abbrev dktX3_restore_1 : List UInt8 := dkwX3_restore_1 ++ dktX3_restore_2
def dkwX3_restore_0 : List UInt8 := [27, 133, 9, 10, 184, 0, 101, 154, 0, 5, 2, 172, 42, 180, 0, 7, 17, 0, 154, 27, 96, 46]
abbrev dktX3_restore_0 : List UInt8 := dkwX3_restore_0 ++ dktX3_restore_1
theorem dksX3_restore_0 : cX3_restore.data.toList.drop 0 = dktX3_restore_0 := by decide +kernel
theorem dksX3_restore_1 : cX3_restore.data.toList.drop 22 = dktX3_restore_1 := dk_seg dksX3_restore_0 22 rfl rfl
theorem dksX3_restore_2 : cX3_restore.data.toList.drop 46 = dktX3_restore_2 := dk_seg dksX3_restore_1 24 rfl rfl
theorem dksX3_restore_3 : cX3_restore.data.toList.drop 70 = dktX3_restore_3 := dk_seg dksX3_restore_2 24 rfl rfl
theorem dX3_restore_0 : decode cX3_restore 0 = .ok (.iload_n 1, 1) := dk_27 (dk_at dksX3_restore_0 0 rfl rfl)
theorem dX3_restore_1 : decode cX3_restore 1 = .ok (.i2l, 1) := dk_133 (dk_at dksX3_restore_0 1 rfl rfl)
theorem dX3_restore_2 : decode cX3_restore 2 = .ok (.lconst 0, 1) := dk_9 (dk_at dksX3_restore_0 2 rfl rfl)
theorem dX3_restore_3 : decode cX3_restore 3 = .ok (.lconst 1, 1) := dk_10 (dk_at dksX3_restore_0 3 rfl rfl)
theorem dX3_restore_4 : decode cX3_restore 4 = .ok (.invokestatic 101, 3) := dk_184 0 101 (dk_at dksX3_restore_0 4 rfl rfl)
theorem dX3_restore_7 : decode cX3_restore 7 = .ok (.ifCond .ne 5, 3) := dk_154 0 5 (dk_at dksX3_restore_0 7 rfl rfl)
theorem dX3_restore_10 : decode cX3_restore 10 = .ok (.iconst (-1), 1) := dk_2 (dk_at dksX3_restore_0 10 rfl rfl)
theorem dX3_restore_11 : decode cX3_restore 11 = .ok (.ireturn, 1) := dk_172 (dk_at dksX3_restore_0 11 rfl rfl)
theorem dX3_restore_12 : decode cX3_restore 12 = .ok (.aload_n 0, 1) := dk_42 (dk_at dksX3_restore_0 12 rfl rfl)
theorem dX3_restore_13 : decode cX3_restore 13 = .ok (.getfield 7, 3) := dk_180 0 7 (dk_at dksX3_restore_0 13 rfl rfl)
theorem dX3_restore_16 : decode cX3_restore 16 = .ok (.sipush 154, 3) := dk_17 0 154 (dk_at dksX3_restore_0 16 rfl rfl)
theorem dX3_restore_19 : decode cX3_restore 19 = .ok (.iload_n 1, 1) := dk_27 (dk_at dksX3_restore_0 19 rfl rfl)
theorem dX3_restore_20 : decode cX3_restore 20 = .ok (.iadd, 1) := dk_96 (dk_at dksX3_restore_0 20 rfl rfl)
theorem dX3_restore_21 : decode cX3_restore 21 = .ok (.iaload, 1) := dk_46 (dk_at dksX3_restore_0 21 rfl rfl)
theorem dX3_restore_22 : decode cX3_restore 22 = .ok (.ifCond .ne 6, 3) := dk_154 0 6 (dk_at dksX3_restore_1 0 rfl rfl)
theorem dX3_restore_25 : decode cX3_restore 25 = .ok (.bipush (-2), 2) := dk_16 254 (dk_at dksX3_restore_1 3 rfl rfl)
theorem dX3_restore_27 : decode cX3_restore 27 = .ok (.ireturn, 1) := dk_172 (dk_at dksX3_restore_1 5 rfl rfl)
theorem dX3_restore_28 : decode cX3_restore 28 = .ok (.aload_n 0, 1) := dk_42 (dk_at dksX3_restore_1 6 rfl rfl)
theorem dX3_restore_29 : decode cX3_restore 29 = .ok (.invokevirtual 139, 3) := dk_182 0 139 (dk_at dksX3_restore_1 7 rfl rfl)
theorem dX3_restore_32 : decode cX3_restore 32 = .ok (.iconst 0, 1) := dk_3 (dk_at dksX3_restore_1 10 rfl rfl)
theorem dX3_restore_33 : decode cX3_restore 33 = .ok (.istore_n 2, 1) := dk_61 (dk_at dksX3_restore_1 11 rfl rfl)
theorem dX3_restore_34 : decode cX3_restore 34 = .ok (.iload_n 2, 1) := dk_28 (dk_at dksX3_restore_1 12 rfl rfl)
theorem dX3_restore_35 : decode cX3_restore 35 = .ok (.sipush 154, 3) := dk_17 0 154 (dk_at dksX3_restore_1 13 rfl rfl)
theorem dX3_restore_38 : decode cX3_restore 38 = .ok (.if_icmp .ge 31, 3) := dk_162 0 31 (dk_at dksX3_restore_1 16 rfl rfl)
theorem dX3_restore_41 : decode cX3_restore 41 = .ok (.aload_n 0, 1) := dk_42 (dk_at dksX3_restore_1 19 rfl rfl)
theorem dX3_restore_42 : decode cX3_restore 42 = .ok (.getfield 7, 3) := dk_180 0 7 (dk_at dksX3_restore_1 20 rfl rfl)
theorem dX3_restore_45 : decode cX3_restore 45 = .ok (.iload_n 2, 1) := dk_28 (dk_at dksX3_restore_1 23 rfl rfl)
theorem dX3_restore_46 : decode cX3_restore 46 = .ok (.aload_n 0, 1) := dk_42 (dk_at dksX3_restore_2 0 rfl rfl)
theorem dX3_restore_47 : decode cX3_restore 47 = .ok (.getfield 7, 3) := dk_180 0 7 (dk_at dksX3_restore_2 1 rfl rfl)
theorem dX3_restore_50 : decode cX3_restore 50 = .ok (.sipush 156, 3) := dk_17 0 156 (dk_at dksX3_restore_2 4 rfl rfl)
theorem dX3_restore_53 : decode cX3_restore 53 = .ok (.sipush 154, 3) := dk_17 0 154 (dk_at dksX3_restore_2 7 rfl rfl)
theorem dX3_restore_56 : decode cX3_restore 56 = .ok (.iload_n 1, 1) := dk_27 (dk_at dksX3_restore_2 10 rfl rfl)
theorem dX3_restore_57 : decode cX3_restore 57 = .ok (.imul, 1) := dk_104 (dk_at dksX3_restore_2 11 rfl rfl)
theorem dX3_restore_58 : decode cX3_restore 58 = .ok (.iadd, 1) := dk_96 (dk_at dksX3_restore_2 12 rfl rfl)
theorem dX3_restore_59 : decode cX3_restore 59 = .ok (.iload_n 2, 1) := dk_28 (dk_at dksX3_restore_2 13 rfl rfl)
theorem dX3_restore_60 : decode cX3_restore 60 = .ok (.iadd, 1) := dk_96 (dk_at dksX3_restore_2 14 rfl rfl)
theorem dX3_restore_61 : decode cX3_restore 61 = .ok (.iaload, 1) := dk_46 (dk_at dksX3_restore_2 15 rfl rfl)
theorem dX3_restore_62 : decode cX3_restore 62 = .ok (.iastore, 1) := dk_79 (dk_at dksX3_restore_2 16 rfl rfl)
theorem dX3_restore_63 : decode cX3_restore 63 = .ok (.iinc 2 1, 3) := dk_132 2 1 (dk_at dksX3_restore_2 17 rfl rfl)
theorem dX3_restore_66 : decode cX3_restore 66 = .ok (.goto (-32), 3) := dk_167 255 224 (dk_at dksX3_restore_2 20 rfl rfl)
theorem dX3_restore_69 : decode cX3_restore 69 = .ok (.aload_n 0, 1) := dk_42 (dk_at dksX3_restore_2 23 rfl rfl)
theorem dX3_restore_70 : decode cX3_restore 70 = .ok (.getfield 7, 3) := dk_180 0 7 (dk_at dksX3_restore_3 0 rfl rfl)
theorem dX3_restore_73 : decode cX3_restore 73 = .ok (.iconst 2, 1) := dk_5 (dk_at dksX3_restore_3 3 rfl rfl)
theorem dX3_restore_74 : decode cX3_restore 74 = .ok (.iaload, 1) := dk_46 (dk_at dksX3_restore_3 4 rfl rfl)
theorem dX3_restore_75 : decode cX3_restore 75 = .ok (.ireturn, 1) := dk_172 (dk_at dksX3_restore_3 5 rfl rfl)
abbrev cX3_undo : ByteArray := prog_33_method_47_code
def yX3_undo : MethodName := ⟨RX3, "undo", "()I"⟩
def dkwX3_undo_2 : List UInt8 := [96, 46, 79, 132, 1, 1, 167, 255, 225, 42, 180, 0, 61, 172]
abbrev dktX3_undo_2 : List UInt8 := dkwX3_undo_2 ++ []
def dkwX3_undo_1 : List UInt8 := [17, 1, 208, 162, 0, 30, 42, 180, 0, 7, 27, 42, 180, 0, 13, 17, 1, 208, 42, 180, 0, 61, 104, 27]
abbrev dktX3_undo_1 : List UInt8 := dkwX3_undo_1 ++ dktX3_undo_2
def dkwX3_undo_0 : List UInt8 := [42, 180, 0, 61, 154, 0, 6, 16, 254, 172, 42, 89, 180, 0, 61, 4, 100, 181, 0, 61, 3, 60, 27]
abbrev dktX3_undo_0 : List UInt8 := dkwX3_undo_0 ++ dktX3_undo_1
theorem dksX3_undo_0 : cX3_undo.data.toList.drop 0 = dktX3_undo_0 := by decide +kernel
theorem dksX3_undo_1 : cX3_undo.data.toList.drop 23 = dktX3_undo_1 := dk_seg dksX3_undo_0 23 rfl rfl
theorem dksX3_undo_2 : cX3_undo.data.toList.drop 47 = dktX3_undo_2 := dk_seg dksX3_undo_1 24 rfl rfl
theorem dX3_undo_0 : decode cX3_undo 0 = .ok (.aload_n 0, 1) := dk_42 (dk_at dksX3_undo_0 0 rfl rfl)
theorem dX3_undo_1 : decode cX3_undo 1 = .ok (.getfield 61, 3) := dk_180 0 61 (dk_at dksX3_undo_0 1 rfl rfl)
theorem dX3_undo_4 : decode cX3_undo 4 = .ok (.ifCond .ne 6, 3) := dk_154 0 6 (dk_at dksX3_undo_0 4 rfl rfl)
theorem dX3_undo_7 : decode cX3_undo 7 = .ok (.bipush (-2), 2) := dk_16 254 (dk_at dksX3_undo_0 7 rfl rfl)
theorem dX3_undo_9 : decode cX3_undo 9 = .ok (.ireturn, 1) := dk_172 (dk_at dksX3_undo_0 9 rfl rfl)
theorem dX3_undo_10 : decode cX3_undo 10 = .ok (.aload_n 0, 1) := dk_42 (dk_at dksX3_undo_0 10 rfl rfl)
theorem dX3_undo_11 : decode cX3_undo 11 = .ok (.dup, 1) := dk_89 (dk_at dksX3_undo_0 11 rfl rfl)
theorem dX3_undo_12 : decode cX3_undo 12 = .ok (.getfield 61, 3) := dk_180 0 61 (dk_at dksX3_undo_0 12 rfl rfl)
theorem dX3_undo_15 : decode cX3_undo 15 = .ok (.iconst 1, 1) := dk_4 (dk_at dksX3_undo_0 15 rfl rfl)
theorem dX3_undo_16 : decode cX3_undo 16 = .ok (.isub, 1) := dk_100 (dk_at dksX3_undo_0 16 rfl rfl)
theorem dX3_undo_17 : decode cX3_undo 17 = .ok (.putfield 61, 3) := dk_181 0 61 (dk_at dksX3_undo_0 17 rfl rfl)
theorem dX3_undo_20 : decode cX3_undo 20 = .ok (.iconst 0, 1) := dk_3 (dk_at dksX3_undo_0 20 rfl rfl)
theorem dX3_undo_21 : decode cX3_undo 21 = .ok (.istore_n 1, 1) := dk_60 (dk_at dksX3_undo_0 21 rfl rfl)
theorem dX3_undo_22 : decode cX3_undo 22 = .ok (.iload_n 1, 1) := dk_27 (dk_at dksX3_undo_0 22 rfl rfl)
theorem dX3_undo_23 : decode cX3_undo 23 = .ok (.sipush 464, 3) := dk_17 1 208 (dk_at dksX3_undo_1 0 rfl rfl)
theorem dX3_undo_26 : decode cX3_undo 26 = .ok (.if_icmp .ge 30, 3) := dk_162 0 30 (dk_at dksX3_undo_1 3 rfl rfl)
theorem dX3_undo_29 : decode cX3_undo 29 = .ok (.aload_n 0, 1) := dk_42 (dk_at dksX3_undo_1 6 rfl rfl)
theorem dX3_undo_30 : decode cX3_undo 30 = .ok (.getfield 7, 3) := dk_180 0 7 (dk_at dksX3_undo_1 7 rfl rfl)
theorem dX3_undo_33 : decode cX3_undo 33 = .ok (.iload_n 1, 1) := dk_27 (dk_at dksX3_undo_1 10 rfl rfl)
theorem dX3_undo_34 : decode cX3_undo 34 = .ok (.aload_n 0, 1) := dk_42 (dk_at dksX3_undo_1 11 rfl rfl)
theorem dX3_undo_35 : decode cX3_undo 35 = .ok (.getfield 13, 3) := dk_180 0 13 (dk_at dksX3_undo_1 12 rfl rfl)
theorem dX3_undo_38 : decode cX3_undo 38 = .ok (.sipush 464, 3) := dk_17 1 208 (dk_at dksX3_undo_1 15 rfl rfl)
theorem dX3_undo_41 : decode cX3_undo 41 = .ok (.aload_n 0, 1) := dk_42 (dk_at dksX3_undo_1 18 rfl rfl)
theorem dX3_undo_42 : decode cX3_undo 42 = .ok (.getfield 61, 3) := dk_180 0 61 (dk_at dksX3_undo_1 19 rfl rfl)
theorem dX3_undo_45 : decode cX3_undo 45 = .ok (.imul, 1) := dk_104 (dk_at dksX3_undo_1 22 rfl rfl)
theorem dX3_undo_46 : decode cX3_undo 46 = .ok (.iload_n 1, 1) := dk_27 (dk_at dksX3_undo_1 23 rfl rfl)
theorem dX3_undo_47 : decode cX3_undo 47 = .ok (.iadd, 1) := dk_96 (dk_at dksX3_undo_2 0 rfl rfl)
theorem dX3_undo_48 : decode cX3_undo 48 = .ok (.iaload, 1) := dk_46 (dk_at dksX3_undo_2 1 rfl rfl)
theorem dX3_undo_49 : decode cX3_undo 49 = .ok (.iastore, 1) := dk_79 (dk_at dksX3_undo_2 2 rfl rfl)
theorem dX3_undo_50 : decode cX3_undo 50 = .ok (.iinc 1 1, 3) := dk_132 1 1 (dk_at dksX3_undo_2 3 rfl rfl)
theorem dX3_undo_53 : decode cX3_undo 53 = .ok (.goto (-31), 3) := dk_167 255 225 (dk_at dksX3_undo_2 6 rfl rfl)
theorem dX3_undo_56 : decode cX3_undo 56 = .ok (.aload_n 0, 1) := dk_42 (dk_at dksX3_undo_2 9 rfl rfl)
theorem dX3_undo_57 : decode cX3_undo 57 = .ok (.getfield 61, 3) := dk_180 0 61 (dk_at dksX3_undo_2 10 rfl rfl)
theorem dX3_undo_60 : decode cX3_undo 60 = .ok (.ireturn, 1) := dk_172 (dk_at dksX3_undo_2 13 rfl rfl)
abbrev cX3_append : ByteArray := prog_33_method_48_code
def yX3_append : MethodName := ⟨RX3, "append", "(I)I"⟩
def dkwX3_append_2 : List UInt8 := [180, 0, 181, 172]
abbrev dktX3_append_2 : List UInt8 := dkwX3_append_2 ++ []
def dkwX3_append_1 : List UInt8 := [16, 253, 172, 42, 180, 0, 19, 42, 180, 0, 181, 27, 79, 42, 89, 180, 0, 181, 4, 96, 181, 0, 181, 42]
abbrev dktX3_append_1 : List UInt8 := dkwX3_append_1 ++ dktX3_append_2
def dkwX3_append_0 : List UInt8 := [27, 133, 10, 20, 0, 179, 184, 0, 101, 154, 0, 5, 2, 172, 42, 180, 0, 181, 16, 120, 160, 0, 6]
abbrev dktX3_append_0 : List UInt8 := dkwX3_append_0 ++ dktX3_append_1
theorem dksX3_append_0 : cX3_append.data.toList.drop 0 = dktX3_append_0 := by decide +kernel
theorem dksX3_append_1 : cX3_append.data.toList.drop 23 = dktX3_append_1 := dk_seg dksX3_append_0 23 rfl rfl
theorem dksX3_append_2 : cX3_append.data.toList.drop 47 = dktX3_append_2 := dk_seg dksX3_append_1 24 rfl rfl
theorem dX3_append_0 : decode cX3_append 0 = .ok (.iload_n 1, 1) := dk_27 (dk_at dksX3_append_0 0 rfl rfl)
theorem dX3_append_1 : decode cX3_append 1 = .ok (.i2l, 1) := dk_133 (dk_at dksX3_append_0 1 rfl rfl)
theorem dX3_append_2 : decode cX3_append 2 = .ok (.lconst 1, 1) := dk_10 (dk_at dksX3_append_0 2 rfl rfl)
theorem dX3_append_3 : decode cX3_append 3 = .ok (.ldc2_w 179, 3) := dk_20 0 179 (dk_at dksX3_append_0 3 rfl rfl)
theorem dX3_append_6 : decode cX3_append 6 = .ok (.invokestatic 101, 3) := dk_184 0 101 (dk_at dksX3_append_0 6 rfl rfl)
theorem dX3_append_9 : decode cX3_append 9 = .ok (.ifCond .ne 5, 3) := dk_154 0 5 (dk_at dksX3_append_0 9 rfl rfl)
theorem dX3_append_12 : decode cX3_append 12 = .ok (.iconst (-1), 1) := dk_2 (dk_at dksX3_append_0 12 rfl rfl)
theorem dX3_append_13 : decode cX3_append 13 = .ok (.ireturn, 1) := dk_172 (dk_at dksX3_append_0 13 rfl rfl)
theorem dX3_append_14 : decode cX3_append 14 = .ok (.aload_n 0, 1) := dk_42 (dk_at dksX3_append_0 14 rfl rfl)
theorem dX3_append_15 : decode cX3_append 15 = .ok (.getfield 181, 3) := dk_180 0 181 (dk_at dksX3_append_0 15 rfl rfl)
theorem dX3_append_18 : decode cX3_append 18 = .ok (.bipush 120, 2) := dk_16 120 (dk_at dksX3_append_0 18 rfl rfl)
theorem dX3_append_20 : decode cX3_append 20 = .ok (.if_icmp .ne 6, 3) := dk_160 0 6 (dk_at dksX3_append_0 20 rfl rfl)
theorem dX3_append_23 : decode cX3_append 23 = .ok (.bipush (-3), 2) := dk_16 253 (dk_at dksX3_append_1 0 rfl rfl)
theorem dX3_append_25 : decode cX3_append 25 = .ok (.ireturn, 1) := dk_172 (dk_at dksX3_append_1 2 rfl rfl)
theorem dX3_append_26 : decode cX3_append 26 = .ok (.aload_n 0, 1) := dk_42 (dk_at dksX3_append_1 3 rfl rfl)
theorem dX3_append_27 : decode cX3_append 27 = .ok (.getfield 19, 3) := dk_180 0 19 (dk_at dksX3_append_1 4 rfl rfl)
theorem dX3_append_30 : decode cX3_append 30 = .ok (.aload_n 0, 1) := dk_42 (dk_at dksX3_append_1 7 rfl rfl)
theorem dX3_append_31 : decode cX3_append 31 = .ok (.getfield 181, 3) := dk_180 0 181 (dk_at dksX3_append_1 8 rfl rfl)
theorem dX3_append_34 : decode cX3_append 34 = .ok (.iload_n 1, 1) := dk_27 (dk_at dksX3_append_1 11 rfl rfl)
theorem dX3_append_35 : decode cX3_append 35 = .ok (.iastore, 1) := dk_79 (dk_at dksX3_append_1 12 rfl rfl)
theorem dX3_append_36 : decode cX3_append 36 = .ok (.aload_n 0, 1) := dk_42 (dk_at dksX3_append_1 13 rfl rfl)
theorem dX3_append_37 : decode cX3_append 37 = .ok (.dup, 1) := dk_89 (dk_at dksX3_append_1 14 rfl rfl)
theorem dX3_append_38 : decode cX3_append 38 = .ok (.getfield 181, 3) := dk_180 0 181 (dk_at dksX3_append_1 15 rfl rfl)
theorem dX3_append_41 : decode cX3_append 41 = .ok (.iconst 1, 1) := dk_4 (dk_at dksX3_append_1 18 rfl rfl)
theorem dX3_append_42 : decode cX3_append 42 = .ok (.iadd, 1) := dk_96 (dk_at dksX3_append_1 19 rfl rfl)
theorem dX3_append_43 : decode cX3_append 43 = .ok (.putfield 181, 3) := dk_181 0 181 (dk_at dksX3_append_1 20 rfl rfl)
theorem dX3_append_46 : decode cX3_append 46 = .ok (.aload_n 0, 1) := dk_42 (dk_at dksX3_append_1 23 rfl rfl)
theorem dX3_append_47 : decode cX3_append 47 = .ok (.getfield 181, 3) := dk_180 0 181 (dk_at dksX3_append_2 0 rfl rfl)
theorem dX3_append_50 : decode cX3_append 50 = .ok (.ireturn, 1) := dk_172 (dk_at dksX3_append_2 3 rfl rfl)
abbrev cX3_clearText : ByteArray := prog_33_method_49_code
def yX3_clearText : MethodName := ⟨RX3, "clearText", "()I"⟩
def dkwX3_clearText_0 : List UInt8 := [42, 180, 0, 181, 60, 42, 3, 181, 0, 181, 27, 172]
abbrev dktX3_clearText_0 : List UInt8 := dkwX3_clearText_0 ++ []
theorem dksX3_clearText_0 : cX3_clearText.data.toList.drop 0 = dktX3_clearText_0 := by decide +kernel
theorem dX3_clearText_0 : decode cX3_clearText 0 = .ok (.aload_n 0, 1) := dk_42 (dk_at dksX3_clearText_0 0 rfl rfl)
theorem dX3_clearText_1 : decode cX3_clearText 1 = .ok (.getfield 181, 3) := dk_180 0 181 (dk_at dksX3_clearText_0 1 rfl rfl)
theorem dX3_clearText_4 : decode cX3_clearText 4 = .ok (.istore_n 1, 1) := dk_60 (dk_at dksX3_clearText_0 4 rfl rfl)
theorem dX3_clearText_5 : decode cX3_clearText 5 = .ok (.aload_n 0, 1) := dk_42 (dk_at dksX3_clearText_0 5 rfl rfl)
theorem dX3_clearText_6 : decode cX3_clearText 6 = .ok (.iconst 0, 1) := dk_3 (dk_at dksX3_clearText_0 6 rfl rfl)
theorem dX3_clearText_7 : decode cX3_clearText 7 = .ok (.putfield 181, 3) := dk_181 0 181 (dk_at dksX3_clearText_0 7 rfl rfl)
theorem dX3_clearText_10 : decode cX3_clearText 10 = .ok (.iload_n 1, 1) := dk_27 (dk_at dksX3_clearText_0 10 rfl rfl)
theorem dX3_clearText_11 : decode cX3_clearText 11 = .ok (.ireturn, 1) := dk_172 (dk_at dksX3_clearText_0 11 rfl rfl)
abbrev cX3_run : ByteArray := prog_33_method_62_code
def yX3_run : MethodName := ⟨RX3, "run", "()I"⟩
def dkwX3_run_6 : List UInt8 := [180, 0, 7, 28, 42, 180, 0, 16, 28, 46, 79, 132, 2, 1, 167, 255, 234, 42, 3, 181, 0, 181, 27, 172]
abbrev dktX3_run_6 : List UInt8 := dkwX3_run_6 ++ []
def dkwX3_run_5 : List UInt8 := [29, 79, 132, 2, 1, 167, 255, 220, 42, 182, 0, 69, 3, 61, 28, 17, 1, 208, 162, 0, 21, 42]
abbrev dktX3_run_5 : List UInt8 := dkwX3_run_5 ++ dktX3_run_6
def dkwX3_run_4 : List UInt8 := [42, 180, 0, 7, 28, 46, 62, 42, 180, 0, 7, 28, 42, 180, 0, 16, 28, 46, 79, 42, 180, 0, 16, 28]
abbrev dktX3_run_4 : List UInt8 := dkwX3_run_4 ++ dktX3_run_5
def dkwX3_run_3 : List UInt8 := [132, 2, 1, 167, 255, 234, 17, 252, 24, 42, 180, 1, 42, 100, 172, 3, 61, 28, 17, 1, 208, 162, 0, 35]
abbrev dktX3_run_3 : List UInt8 := dkwX3_run_3 ++ dktX3_run_4
def dkwX3_run_2 : List UInt8 := [155, 0, 39, 3, 61, 28, 17, 1, 208, 162, 0, 21, 42, 180, 0, 7, 28, 42, 180, 0, 16, 28, 46, 79]
abbrev dktX3_run_2 : List UInt8 := dkwX3_run_2 ++ dktX3_run_3
def dkwX3_run_1 : List UInt8 := [167, 255, 234, 42, 4, 181, 0, 65, 42, 182, 1, 56, 60, 42, 3, 181, 0, 65, 42, 180, 1, 42]
abbrev dktX3_run_1 : List UInt8 := dkwX3_run_1 ++ dktX3_run_2
def dkwX3_run_0 : List UInt8 := [3, 60, 27, 17, 1, 208, 162, 0, 21, 42, 180, 0, 16, 27, 42, 180, 0, 7, 27, 46, 79, 132, 1, 1]
abbrev dktX3_run_0 : List UInt8 := dkwX3_run_0 ++ dktX3_run_1
theorem dksX3_run_0 : cX3_run.data.toList.drop 0 = dktX3_run_0 := by decide +kernel
theorem dksX3_run_1 : cX3_run.data.toList.drop 24 = dktX3_run_1 := dk_seg dksX3_run_0 24 rfl rfl
theorem dksX3_run_2 : cX3_run.data.toList.drop 46 = dktX3_run_2 := dk_seg dksX3_run_1 22 rfl rfl
theorem dksX3_run_3 : cX3_run.data.toList.drop 70 = dktX3_run_3 := dk_seg dksX3_run_2 24 rfl rfl
theorem dksX3_run_4 : cX3_run.data.toList.drop 94 = dktX3_run_4 := dk_seg dksX3_run_3 24 rfl rfl
theorem dksX3_run_5 : cX3_run.data.toList.drop 118 = dktX3_run_5 := dk_seg dksX3_run_4 24 rfl rfl
theorem dksX3_run_6 : cX3_run.data.toList.drop 140 = dktX3_run_6 := dk_seg dksX3_run_5 22 rfl rfl
theorem dX3_run_0 : decode cX3_run 0 = .ok (.iconst 0, 1) := dk_3 (dk_at dksX3_run_0 0 rfl rfl)
theorem dX3_run_1 : decode cX3_run 1 = .ok (.istore_n 1, 1) := dk_60 (dk_at dksX3_run_0 1 rfl rfl)
theorem dX3_run_2 : decode cX3_run 2 = .ok (.iload_n 1, 1) := dk_27 (dk_at dksX3_run_0 2 rfl rfl)
theorem dX3_run_3 : decode cX3_run 3 = .ok (.sipush 464, 3) := dk_17 1 208 (dk_at dksX3_run_0 3 rfl rfl)
theorem dX3_run_6 : decode cX3_run 6 = .ok (.if_icmp .ge 21, 3) := dk_162 0 21 (dk_at dksX3_run_0 6 rfl rfl)
theorem dX3_run_9 : decode cX3_run 9 = .ok (.aload_n 0, 1) := dk_42 (dk_at dksX3_run_0 9 rfl rfl)
theorem dX3_run_10 : decode cX3_run 10 = .ok (.getfield 16, 3) := dk_180 0 16 (dk_at dksX3_run_0 10 rfl rfl)
theorem dX3_run_13 : decode cX3_run 13 = .ok (.iload_n 1, 1) := dk_27 (dk_at dksX3_run_0 13 rfl rfl)
theorem dX3_run_14 : decode cX3_run 14 = .ok (.aload_n 0, 1) := dk_42 (dk_at dksX3_run_0 14 rfl rfl)
theorem dX3_run_15 : decode cX3_run 15 = .ok (.getfield 7, 3) := dk_180 0 7 (dk_at dksX3_run_0 15 rfl rfl)
theorem dX3_run_18 : decode cX3_run 18 = .ok (.iload_n 1, 1) := dk_27 (dk_at dksX3_run_0 18 rfl rfl)
theorem dX3_run_19 : decode cX3_run 19 = .ok (.iaload, 1) := dk_46 (dk_at dksX3_run_0 19 rfl rfl)
theorem dX3_run_20 : decode cX3_run 20 = .ok (.iastore, 1) := dk_79 (dk_at dksX3_run_0 20 rfl rfl)
theorem dX3_run_21 : decode cX3_run 21 = .ok (.iinc 1 1, 3) := dk_132 1 1 (dk_at dksX3_run_0 21 rfl rfl)
theorem dX3_run_24 : decode cX3_run 24 = .ok (.goto (-22), 3) := dk_167 255 234 (dk_at dksX3_run_1 0 rfl rfl)
theorem dX3_run_27 : decode cX3_run 27 = .ok (.aload_n 0, 1) := dk_42 (dk_at dksX3_run_1 3 rfl rfl)
theorem dX3_run_28 : decode cX3_run 28 = .ok (.iconst 1, 1) := dk_4 (dk_at dksX3_run_1 4 rfl rfl)
theorem dX3_run_29 : decode cX3_run 29 = .ok (.putfield 65, 3) := dk_181 0 65 (dk_at dksX3_run_1 5 rfl rfl)
theorem dX3_run_32 : decode cX3_run 32 = .ok (.aload_n 0, 1) := dk_42 (dk_at dksX3_run_1 8 rfl rfl)
theorem dX3_run_33 : decode cX3_run 33 = .ok (.invokevirtual 312, 3) := dk_182 1 56 (dk_at dksX3_run_1 9 rfl rfl)
theorem dX3_run_36 : decode cX3_run 36 = .ok (.istore_n 1, 1) := dk_60 (dk_at dksX3_run_1 12 rfl rfl)
theorem dX3_run_37 : decode cX3_run 37 = .ok (.aload_n 0, 1) := dk_42 (dk_at dksX3_run_1 13 rfl rfl)
theorem dX3_run_38 : decode cX3_run 38 = .ok (.iconst 0, 1) := dk_3 (dk_at dksX3_run_1 14 rfl rfl)
theorem dX3_run_39 : decode cX3_run 39 = .ok (.putfield 65, 3) := dk_181 0 65 (dk_at dksX3_run_1 15 rfl rfl)
theorem dX3_run_42 : decode cX3_run 42 = .ok (.aload_n 0, 1) := dk_42 (dk_at dksX3_run_1 18 rfl rfl)
theorem dX3_run_43 : decode cX3_run 43 = .ok (.getfield 298, 3) := dk_180 1 42 (dk_at dksX3_run_1 19 rfl rfl)
theorem dX3_run_46 : decode cX3_run 46 = .ok (.ifCond .lt 39, 3) := dk_155 0 39 (dk_at dksX3_run_2 0 rfl rfl)
theorem dX3_run_49 : decode cX3_run 49 = .ok (.iconst 0, 1) := dk_3 (dk_at dksX3_run_2 3 rfl rfl)
theorem dX3_run_50 : decode cX3_run 50 = .ok (.istore_n 2, 1) := dk_61 (dk_at dksX3_run_2 4 rfl rfl)
theorem dX3_run_51 : decode cX3_run 51 = .ok (.iload_n 2, 1) := dk_28 (dk_at dksX3_run_2 5 rfl rfl)
theorem dX3_run_52 : decode cX3_run 52 = .ok (.sipush 464, 3) := dk_17 1 208 (dk_at dksX3_run_2 6 rfl rfl)
theorem dX3_run_55 : decode cX3_run 55 = .ok (.if_icmp .ge 21, 3) := dk_162 0 21 (dk_at dksX3_run_2 9 rfl rfl)
theorem dX3_run_58 : decode cX3_run 58 = .ok (.aload_n 0, 1) := dk_42 (dk_at dksX3_run_2 12 rfl rfl)
theorem dX3_run_59 : decode cX3_run 59 = .ok (.getfield 7, 3) := dk_180 0 7 (dk_at dksX3_run_2 13 rfl rfl)
theorem dX3_run_62 : decode cX3_run 62 = .ok (.iload_n 2, 1) := dk_28 (dk_at dksX3_run_2 16 rfl rfl)
theorem dX3_run_63 : decode cX3_run 63 = .ok (.aload_n 0, 1) := dk_42 (dk_at dksX3_run_2 17 rfl rfl)
theorem dX3_run_64 : decode cX3_run 64 = .ok (.getfield 16, 3) := dk_180 0 16 (dk_at dksX3_run_2 18 rfl rfl)
theorem dX3_run_67 : decode cX3_run 67 = .ok (.iload_n 2, 1) := dk_28 (dk_at dksX3_run_2 21 rfl rfl)
theorem dX3_run_68 : decode cX3_run 68 = .ok (.iaload, 1) := dk_46 (dk_at dksX3_run_2 22 rfl rfl)
theorem dX3_run_69 : decode cX3_run 69 = .ok (.iastore, 1) := dk_79 (dk_at dksX3_run_2 23 rfl rfl)
theorem dX3_run_70 : decode cX3_run 70 = .ok (.iinc 2 1, 3) := dk_132 2 1 (dk_at dksX3_run_3 0 rfl rfl)
theorem dX3_run_73 : decode cX3_run 73 = .ok (.goto (-22), 3) := dk_167 255 234 (dk_at dksX3_run_3 3 rfl rfl)
theorem dX3_run_76 : decode cX3_run 76 = .ok (.sipush (-1000), 3) := dk_17 252 24 (dk_at dksX3_run_3 6 rfl rfl)
theorem dX3_run_79 : decode cX3_run 79 = .ok (.aload_n 0, 1) := dk_42 (dk_at dksX3_run_3 9 rfl rfl)
theorem dX3_run_80 : decode cX3_run 80 = .ok (.getfield 298, 3) := dk_180 1 42 (dk_at dksX3_run_3 10 rfl rfl)
theorem dX3_run_83 : decode cX3_run 83 = .ok (.isub, 1) := dk_100 (dk_at dksX3_run_3 13 rfl rfl)
theorem dX3_run_84 : decode cX3_run 84 = .ok (.ireturn, 1) := dk_172 (dk_at dksX3_run_3 14 rfl rfl)
theorem dX3_run_85 : decode cX3_run 85 = .ok (.iconst 0, 1) := dk_3 (dk_at dksX3_run_3 15 rfl rfl)
theorem dX3_run_86 : decode cX3_run 86 = .ok (.istore_n 2, 1) := dk_61 (dk_at dksX3_run_3 16 rfl rfl)
theorem dX3_run_87 : decode cX3_run 87 = .ok (.iload_n 2, 1) := dk_28 (dk_at dksX3_run_3 17 rfl rfl)
theorem dX3_run_88 : decode cX3_run 88 = .ok (.sipush 464, 3) := dk_17 1 208 (dk_at dksX3_run_3 18 rfl rfl)
theorem dX3_run_91 : decode cX3_run 91 = .ok (.if_icmp .ge 35, 3) := dk_162 0 35 (dk_at dksX3_run_3 21 rfl rfl)
theorem dX3_run_94 : decode cX3_run 94 = .ok (.aload_n 0, 1) := dk_42 (dk_at dksX3_run_4 0 rfl rfl)
theorem dX3_run_95 : decode cX3_run 95 = .ok (.getfield 7, 3) := dk_180 0 7 (dk_at dksX3_run_4 1 rfl rfl)
theorem dX3_run_98 : decode cX3_run 98 = .ok (.iload_n 2, 1) := dk_28 (dk_at dksX3_run_4 4 rfl rfl)
theorem dX3_run_99 : decode cX3_run 99 = .ok (.iaload, 1) := dk_46 (dk_at dksX3_run_4 5 rfl rfl)
theorem dX3_run_100 : decode cX3_run 100 = .ok (.istore_n 3, 1) := dk_62 (dk_at dksX3_run_4 6 rfl rfl)
theorem dX3_run_101 : decode cX3_run 101 = .ok (.aload_n 0, 1) := dk_42 (dk_at dksX3_run_4 7 rfl rfl)
theorem dX3_run_102 : decode cX3_run 102 = .ok (.getfield 7, 3) := dk_180 0 7 (dk_at dksX3_run_4 8 rfl rfl)
theorem dX3_run_105 : decode cX3_run 105 = .ok (.iload_n 2, 1) := dk_28 (dk_at dksX3_run_4 11 rfl rfl)
theorem dX3_run_106 : decode cX3_run 106 = .ok (.aload_n 0, 1) := dk_42 (dk_at dksX3_run_4 12 rfl rfl)
theorem dX3_run_107 : decode cX3_run 107 = .ok (.getfield 16, 3) := dk_180 0 16 (dk_at dksX3_run_4 13 rfl rfl)
theorem dX3_run_110 : decode cX3_run 110 = .ok (.iload_n 2, 1) := dk_28 (dk_at dksX3_run_4 16 rfl rfl)
theorem dX3_run_111 : decode cX3_run 111 = .ok (.iaload, 1) := dk_46 (dk_at dksX3_run_4 17 rfl rfl)
theorem dX3_run_112 : decode cX3_run 112 = .ok (.iastore, 1) := dk_79 (dk_at dksX3_run_4 18 rfl rfl)
theorem dX3_run_113 : decode cX3_run 113 = .ok (.aload_n 0, 1) := dk_42 (dk_at dksX3_run_4 19 rfl rfl)
theorem dX3_run_114 : decode cX3_run 114 = .ok (.getfield 16, 3) := dk_180 0 16 (dk_at dksX3_run_4 20 rfl rfl)
theorem dX3_run_117 : decode cX3_run 117 = .ok (.iload_n 2, 1) := dk_28 (dk_at dksX3_run_4 23 rfl rfl)
theorem dX3_run_118 : decode cX3_run 118 = .ok (.iload_n 3, 1) := dk_29 (dk_at dksX3_run_5 0 rfl rfl)
theorem dX3_run_119 : decode cX3_run 119 = .ok (.iastore, 1) := dk_79 (dk_at dksX3_run_5 1 rfl rfl)
theorem dX3_run_120 : decode cX3_run 120 = .ok (.iinc 2 1, 3) := dk_132 2 1 (dk_at dksX3_run_5 2 rfl rfl)
theorem dX3_run_123 : decode cX3_run 123 = .ok (.goto (-36), 3) := dk_167 255 220 (dk_at dksX3_run_5 5 rfl rfl)
theorem dX3_run_126 : decode cX3_run 126 = .ok (.aload_n 0, 1) := dk_42 (dk_at dksX3_run_5 8 rfl rfl)
theorem dX3_run_127 : decode cX3_run 127 = .ok (.invokevirtual 69, 3) := dk_182 0 69 (dk_at dksX3_run_5 9 rfl rfl)
theorem dX3_run_130 : decode cX3_run 130 = .ok (.iconst 0, 1) := dk_3 (dk_at dksX3_run_5 12 rfl rfl)
theorem dX3_run_131 : decode cX3_run 131 = .ok (.istore_n 2, 1) := dk_61 (dk_at dksX3_run_5 13 rfl rfl)
theorem dX3_run_132 : decode cX3_run 132 = .ok (.iload_n 2, 1) := dk_28 (dk_at dksX3_run_5 14 rfl rfl)
theorem dX3_run_133 : decode cX3_run 133 = .ok (.sipush 464, 3) := dk_17 1 208 (dk_at dksX3_run_5 15 rfl rfl)
theorem dX3_run_136 : decode cX3_run 136 = .ok (.if_icmp .ge 21, 3) := dk_162 0 21 (dk_at dksX3_run_5 18 rfl rfl)
theorem dX3_run_139 : decode cX3_run 139 = .ok (.aload_n 0, 1) := dk_42 (dk_at dksX3_run_5 21 rfl rfl)
theorem dX3_run_140 : decode cX3_run 140 = .ok (.getfield 7, 3) := dk_180 0 7 (dk_at dksX3_run_6 0 rfl rfl)
theorem dX3_run_143 : decode cX3_run 143 = .ok (.iload_n 2, 1) := dk_28 (dk_at dksX3_run_6 3 rfl rfl)
theorem dX3_run_144 : decode cX3_run 144 = .ok (.aload_n 0, 1) := dk_42 (dk_at dksX3_run_6 4 rfl rfl)
theorem dX3_run_145 : decode cX3_run 145 = .ok (.getfield 16, 3) := dk_180 0 16 (dk_at dksX3_run_6 5 rfl rfl)
theorem dX3_run_148 : decode cX3_run 148 = .ok (.iload_n 2, 1) := dk_28 (dk_at dksX3_run_6 8 rfl rfl)
theorem dX3_run_149 : decode cX3_run 149 = .ok (.iaload, 1) := dk_46 (dk_at dksX3_run_6 9 rfl rfl)
theorem dX3_run_150 : decode cX3_run 150 = .ok (.iastore, 1) := dk_79 (dk_at dksX3_run_6 10 rfl rfl)
theorem dX3_run_151 : decode cX3_run 151 = .ok (.iinc 2 1, 3) := dk_132 2 1 (dk_at dksX3_run_6 11 rfl rfl)
theorem dX3_run_154 : decode cX3_run 154 = .ok (.goto (-22), 3) := dk_167 255 234 (dk_at dksX3_run_6 14 rfl rfl)
theorem dX3_run_157 : decode cX3_run 157 = .ok (.aload_n 0, 1) := dk_42 (dk_at dksX3_run_6 17 rfl rfl)
theorem dX3_run_158 : decode cX3_run 158 = .ok (.iconst 0, 1) := dk_3 (dk_at dksX3_run_6 18 rfl rfl)
theorem dX3_run_159 : decode cX3_run 159 = .ok (.putfield 181, 3) := dk_181 0 181 (dk_at dksX3_run_6 19 rfl rfl)
theorem dX3_run_162 : decode cX3_run 162 = .ok (.iload_n 1, 1) := dk_27 (dk_at dksX3_run_6 22 rfl rfl)
theorem dX3_run_163 : decode cX3_run 163 = .ok (.ireturn, 1) := dk_172 (dk_at dksX3_run_6 23 rfl rfl)
abbrev cX3_runAll : ByteArray := prog_33_method_61_code
def yX3_runAll : MethodName := ⟨RX3, "runAll", "()I"⟩
def dkwX3_runAll_5 : List UInt8 := [182, 0, 227, 167, 255, 155, 27, 172]
abbrev dktX3_runAll_5 : List UInt8 := dkwX3_runAll_5 ++ []
def dkwX3_runAll_4 : List UInt8 := [167, 0, 26, 42, 33, 182, 1, 52, 156, 0, 11, 42, 28, 181, 1, 42, 167, 0, 10, 132, 1, 1, 42]
abbrev dktX3_runAll_4 : List UInt8 := dkwX3_runAll_4 ++ dktX3_runAll_5
def dkwX3_runAll_3 : List UInt8 := [182, 1, 49, 153, 0, 11, 42, 180, 0, 206, 6, 159, 0, 14, 42, 42, 180, 0, 215, 181, 1, 42]
abbrev dktX3_runAll_3 : List UInt8 := dkwX3_runAll_3 ++ dktX3_runAll_4
def dkwX3_runAll_2 : List UInt8 := [167, 0, 4, 9, 66, 33, 184, 1, 45, 154, 0, 11, 42, 28, 181, 1, 42, 167, 0, 53, 42, 33]
abbrev dktX3_runAll_2 : List UInt8 := dkwX3_runAll_2 ++ dktX3_runAll_3
def dkwX3_runAll_1 : List UInt8 := [180, 1, 42, 156, 0, 93, 42, 180, 0, 215, 61, 42, 180, 0, 206, 4, 160, 0, 10, 42, 180, 0, 192]
abbrev dktX3_runAll_1 : List UInt8 := dkwX3_runAll_1 ++ dktX3_runAll_2
def dkwX3_runAll_0 : List UInt8 := [3, 60, 42, 3, 181, 0, 196, 42, 2, 181, 1, 42, 42, 182, 0, 227, 42, 180, 0, 206, 153, 0, 100, 42]
abbrev dktX3_runAll_0 : List UInt8 := dkwX3_runAll_0 ++ dktX3_runAll_1
theorem dksX3_runAll_0 : cX3_runAll.data.toList.drop 0 = dktX3_runAll_0 := by decide +kernel
theorem dksX3_runAll_1 : cX3_runAll.data.toList.drop 24 = dktX3_runAll_1 := dk_seg dksX3_runAll_0 24 rfl rfl
theorem dksX3_runAll_2 : cX3_runAll.data.toList.drop 47 = dktX3_runAll_2 := dk_seg dksX3_runAll_1 23 rfl rfl
theorem dksX3_runAll_3 : cX3_runAll.data.toList.drop 69 = dktX3_runAll_3 := dk_seg dksX3_runAll_2 22 rfl rfl
theorem dksX3_runAll_4 : cX3_runAll.data.toList.drop 91 = dktX3_runAll_4 := dk_seg dksX3_runAll_3 22 rfl rfl
theorem dksX3_runAll_5 : cX3_runAll.data.toList.drop 114 = dktX3_runAll_5 := dk_seg dksX3_runAll_4 23 rfl rfl
theorem dX3_runAll_0 : decode cX3_runAll 0 = .ok (.iconst 0, 1) := dk_3 (dk_at dksX3_runAll_0 0 rfl rfl)
theorem dX3_runAll_1 : decode cX3_runAll 1 = .ok (.istore_n 1, 1) := dk_60 (dk_at dksX3_runAll_0 1 rfl rfl)
theorem dX3_runAll_2 : decode cX3_runAll 2 = .ok (.aload_n 0, 1) := dk_42 (dk_at dksX3_runAll_0 2 rfl rfl)
theorem dX3_runAll_3 : decode cX3_runAll 3 = .ok (.iconst 0, 1) := dk_3 (dk_at dksX3_runAll_0 3 rfl rfl)
theorem dX3_runAll_4 : decode cX3_runAll 4 = .ok (.putfield 196, 3) := dk_181 0 196 (dk_at dksX3_runAll_0 4 rfl rfl)
theorem dX3_runAll_7 : decode cX3_runAll 7 = .ok (.aload_n 0, 1) := dk_42 (dk_at dksX3_runAll_0 7 rfl rfl)
theorem dX3_runAll_8 : decode cX3_runAll 8 = .ok (.iconst (-1), 1) := dk_2 (dk_at dksX3_runAll_0 8 rfl rfl)
theorem dX3_runAll_9 : decode cX3_runAll 9 = .ok (.putfield 298, 3) := dk_181 1 42 (dk_at dksX3_runAll_0 9 rfl rfl)
theorem dX3_runAll_12 : decode cX3_runAll 12 = .ok (.aload_n 0, 1) := dk_42 (dk_at dksX3_runAll_0 12 rfl rfl)
theorem dX3_runAll_13 : decode cX3_runAll 13 = .ok (.invokevirtual 227, 3) := dk_182 0 227 (dk_at dksX3_runAll_0 13 rfl rfl)
theorem dX3_runAll_16 : decode cX3_runAll 16 = .ok (.aload_n 0, 1) := dk_42 (dk_at dksX3_runAll_0 16 rfl rfl)
theorem dX3_runAll_17 : decode cX3_runAll 17 = .ok (.getfield 206, 3) := dk_180 0 206 (dk_at dksX3_runAll_0 17 rfl rfl)
theorem dX3_runAll_20 : decode cX3_runAll 20 = .ok (.ifCond .eq 100, 3) := dk_153 0 100 (dk_at dksX3_runAll_0 20 rfl rfl)
theorem dX3_runAll_23 : decode cX3_runAll 23 = .ok (.aload_n 0, 1) := dk_42 (dk_at dksX3_runAll_0 23 rfl rfl)
theorem dX3_runAll_24 : decode cX3_runAll 24 = .ok (.getfield 298, 3) := dk_180 1 42 (dk_at dksX3_runAll_1 0 rfl rfl)
theorem dX3_runAll_27 : decode cX3_runAll 27 = .ok (.ifCond .ge 93, 3) := dk_156 0 93 (dk_at dksX3_runAll_1 3 rfl rfl)
theorem dX3_runAll_30 : decode cX3_runAll 30 = .ok (.aload_n 0, 1) := dk_42 (dk_at dksX3_runAll_1 6 rfl rfl)
theorem dX3_runAll_31 : decode cX3_runAll 31 = .ok (.getfield 215, 3) := dk_180 0 215 (dk_at dksX3_runAll_1 7 rfl rfl)
theorem dX3_runAll_34 : decode cX3_runAll 34 = .ok (.istore_n 2, 1) := dk_61 (dk_at dksX3_runAll_1 10 rfl rfl)
theorem dX3_runAll_35 : decode cX3_runAll 35 = .ok (.aload_n 0, 1) := dk_42 (dk_at dksX3_runAll_1 11 rfl rfl)
theorem dX3_runAll_36 : decode cX3_runAll 36 = .ok (.getfield 206, 3) := dk_180 0 206 (dk_at dksX3_runAll_1 12 rfl rfl)
theorem dX3_runAll_39 : decode cX3_runAll 39 = .ok (.iconst 1, 1) := dk_4 (dk_at dksX3_runAll_1 15 rfl rfl)
theorem dX3_runAll_40 : decode cX3_runAll 40 = .ok (.if_icmp .ne 10, 3) := dk_160 0 10 (dk_at dksX3_runAll_1 16 rfl rfl)
theorem dX3_runAll_43 : decode cX3_runAll 43 = .ok (.aload_n 0, 1) := dk_42 (dk_at dksX3_runAll_1 19 rfl rfl)
theorem dX3_runAll_44 : decode cX3_runAll 44 = .ok (.getfield 192, 3) := dk_180 0 192 (dk_at dksX3_runAll_1 20 rfl rfl)
theorem dX3_runAll_47 : decode cX3_runAll 47 = .ok (.goto 4, 3) := dk_167 0 4 (dk_at dksX3_runAll_2 0 rfl rfl)
theorem dX3_runAll_50 : decode cX3_runAll 50 = .ok (.lconst 0, 1) := dk_9 (dk_at dksX3_runAll_2 3 rfl rfl)
theorem dX3_runAll_51 : decode cX3_runAll 51 = .ok (.lstore_n 3, 1) := dk_66 (dk_at dksX3_runAll_2 4 rfl rfl)
theorem dX3_runAll_52 : decode cX3_runAll 52 = .ok (.lload_n 3, 1) := dk_33 (dk_at dksX3_runAll_2 5 rfl rfl)
theorem dX3_runAll_53 : decode cX3_runAll 53 = .ok (.invokestatic 301, 3) := dk_184 1 45 (dk_at dksX3_runAll_2 6 rfl rfl)
theorem dX3_runAll_56 : decode cX3_runAll 56 = .ok (.ifCond .ne 11, 3) := dk_154 0 11 (dk_at dksX3_runAll_2 9 rfl rfl)
theorem dX3_runAll_59 : decode cX3_runAll 59 = .ok (.aload_n 0, 1) := dk_42 (dk_at dksX3_runAll_2 12 rfl rfl)
theorem dX3_runAll_60 : decode cX3_runAll 60 = .ok (.iload_n 2, 1) := dk_28 (dk_at dksX3_runAll_2 13 rfl rfl)
theorem dX3_runAll_61 : decode cX3_runAll 61 = .ok (.putfield 298, 3) := dk_181 1 42 (dk_at dksX3_runAll_2 14 rfl rfl)
theorem dX3_runAll_64 : decode cX3_runAll 64 = .ok (.goto 53, 3) := dk_167 0 53 (dk_at dksX3_runAll_2 17 rfl rfl)
theorem dX3_runAll_67 : decode cX3_runAll 67 = .ok (.aload_n 0, 1) := dk_42 (dk_at dksX3_runAll_2 20 rfl rfl)
theorem dX3_runAll_68 : decode cX3_runAll 68 = .ok (.lload_n 3, 1) := dk_33 (dk_at dksX3_runAll_2 21 rfl rfl)
theorem dX3_runAll_69 : decode cX3_runAll 69 = .ok (.invokevirtual 305, 3) := dk_182 1 49 (dk_at dksX3_runAll_3 0 rfl rfl)
theorem dX3_runAll_72 : decode cX3_runAll 72 = .ok (.ifCond .eq 11, 3) := dk_153 0 11 (dk_at dksX3_runAll_3 3 rfl rfl)
theorem dX3_runAll_75 : decode cX3_runAll 75 = .ok (.aload_n 0, 1) := dk_42 (dk_at dksX3_runAll_3 6 rfl rfl)
theorem dX3_runAll_76 : decode cX3_runAll 76 = .ok (.getfield 206, 3) := dk_180 0 206 (dk_at dksX3_runAll_3 7 rfl rfl)
theorem dX3_runAll_79 : decode cX3_runAll 79 = .ok (.iconst 3, 1) := dk_6 (dk_at dksX3_runAll_3 10 rfl rfl)
theorem dX3_runAll_80 : decode cX3_runAll 80 = .ok (.if_icmp .eq 14, 3) := dk_159 0 14 (dk_at dksX3_runAll_3 11 rfl rfl)
theorem dX3_runAll_83 : decode cX3_runAll 83 = .ok (.aload_n 0, 1) := dk_42 (dk_at dksX3_runAll_3 14 rfl rfl)
theorem dX3_runAll_84 : decode cX3_runAll 84 = .ok (.aload_n 0, 1) := dk_42 (dk_at dksX3_runAll_3 15 rfl rfl)
theorem dX3_runAll_85 : decode cX3_runAll 85 = .ok (.getfield 215, 3) := dk_180 0 215 (dk_at dksX3_runAll_3 16 rfl rfl)
theorem dX3_runAll_88 : decode cX3_runAll 88 = .ok (.putfield 298, 3) := dk_181 1 42 (dk_at dksX3_runAll_3 19 rfl rfl)
theorem dX3_runAll_91 : decode cX3_runAll 91 = .ok (.goto 26, 3) := dk_167 0 26 (dk_at dksX3_runAll_4 0 rfl rfl)
theorem dX3_runAll_94 : decode cX3_runAll 94 = .ok (.aload_n 0, 1) := dk_42 (dk_at dksX3_runAll_4 3 rfl rfl)
theorem dX3_runAll_95 : decode cX3_runAll 95 = .ok (.lload_n 3, 1) := dk_33 (dk_at dksX3_runAll_4 4 rfl rfl)
theorem dX3_runAll_96 : decode cX3_runAll 96 = .ok (.invokevirtual 308, 3) := dk_182 1 52 (dk_at dksX3_runAll_4 5 rfl rfl)
theorem dX3_runAll_99 : decode cX3_runAll 99 = .ok (.ifCond .ge 11, 3) := dk_156 0 11 (dk_at dksX3_runAll_4 8 rfl rfl)
theorem dX3_runAll_102 : decode cX3_runAll 102 = .ok (.aload_n 0, 1) := dk_42 (dk_at dksX3_runAll_4 11 rfl rfl)
theorem dX3_runAll_103 : decode cX3_runAll 103 = .ok (.iload_n 2, 1) := dk_28 (dk_at dksX3_runAll_4 12 rfl rfl)
theorem dX3_runAll_104 : decode cX3_runAll 104 = .ok (.putfield 298, 3) := dk_181 1 42 (dk_at dksX3_runAll_4 13 rfl rfl)
theorem dX3_runAll_107 : decode cX3_runAll 107 = .ok (.goto 10, 3) := dk_167 0 10 (dk_at dksX3_runAll_4 16 rfl rfl)
theorem dX3_runAll_110 : decode cX3_runAll 110 = .ok (.iinc 1 1, 3) := dk_132 1 1 (dk_at dksX3_runAll_4 19 rfl rfl)
theorem dX3_runAll_113 : decode cX3_runAll 113 = .ok (.aload_n 0, 1) := dk_42 (dk_at dksX3_runAll_4 22 rfl rfl)
theorem dX3_runAll_114 : decode cX3_runAll 114 = .ok (.invokevirtual 227, 3) := dk_182 0 227 (dk_at dksX3_runAll_5 0 rfl rfl)
theorem dX3_runAll_117 : decode cX3_runAll 117 = .ok (.goto (-101), 3) := dk_167 255 155 (dk_at dksX3_runAll_5 3 rfl rfl)
theorem dX3_runAll_120 : decode cX3_runAll 120 = .ok (.iload_n 1, 1) := dk_27 (dk_at dksX3_runAll_5 6 rfl rfl)
theorem dX3_runAll_121 : decode cX3_runAll 121 = .ok (.ireturn, 1) := dk_172 (dk_at dksX3_runAll_5 7 rfl rfl)
abbrev cX3_next : ByteArray := prog_33_method_54_code
def yX3_next : MethodName := ⟨RX3, "next", "()V"⟩
def dkwX3_next_6 : List UInt8 := [180, 0, 196, 4, 96, 181, 0, 196, 177]
abbrev dktX3_next_6 : List UInt8 := dkwX3_next_6 ++ []
def dkwX3_next_5 : List UInt8 := [180, 0, 19, 42, 180, 0, 196, 46, 16, 59, 160, 0, 7, 6, 167, 0, 4, 7, 181, 0, 206, 42, 89]
abbrev dktX3_next_5 : List UInt8 := dkwX3_next_5 ++ dktX3_next_6
def dkwX3_next_4 : List UInt8 := [180, 0, 19, 42, 180, 0, 196, 46, 184, 0, 212, 153, 0, 10, 42, 182, 0, 221, 167, 0, 36, 42, 42]
abbrev dktX3_next_4 : List UInt8 := dkwX3_next_4 ++ dktX3_next_5
def dkwX3_next_3 : List UInt8 := [42, 180, 0, 19, 42, 180, 0, 196, 46, 184, 0, 199, 153, 0, 10, 42, 182, 0, 218, 167, 0, 58, 42]
abbrev dktX3_next_3 : List UInt8 := dkwX3_next_3 ++ dktX3_next_4
def dkwX3_next_2 : List UInt8 := [42, 9, 181, 0, 192, 42, 180, 0, 196, 42, 180, 0, 181, 160, 0, 11, 42, 3, 181, 0, 206, 167, 0, 80]
abbrev dktX3_next_2 : List UInt8 := dkwX3_next_2 ++ dktX3_next_3
def dkwX3_next_1 : List UInt8 := [160, 0, 16, 42, 89, 180, 0, 196, 4, 96, 181, 0, 196, 167, 255, 221, 42, 42, 180, 0, 196, 181, 0, 215]
abbrev dktX3_next_1 : List UInt8 := dkwX3_next_1 ++ dktX3_next_2
def dkwX3_next_0 : List UInt8 := [42, 180, 0, 196, 42, 180, 0, 181, 162, 0, 30, 42, 180, 0, 19, 42, 180, 0, 196, 46, 16, 32]
abbrev dktX3_next_0 : List UInt8 := dkwX3_next_0 ++ dktX3_next_1
theorem dksX3_next_0 : cX3_next.data.toList.drop 0 = dktX3_next_0 := by decide +kernel
theorem dksX3_next_1 : cX3_next.data.toList.drop 22 = dktX3_next_1 := dk_seg dksX3_next_0 22 rfl rfl
theorem dksX3_next_2 : cX3_next.data.toList.drop 46 = dktX3_next_2 := dk_seg dksX3_next_1 24 rfl rfl
theorem dksX3_next_3 : cX3_next.data.toList.drop 70 = dktX3_next_3 := dk_seg dksX3_next_2 24 rfl rfl
theorem dksX3_next_4 : cX3_next.data.toList.drop 93 = dktX3_next_4 := dk_seg dksX3_next_3 23 rfl rfl
theorem dksX3_next_5 : cX3_next.data.toList.drop 116 = dktX3_next_5 := dk_seg dksX3_next_4 23 rfl rfl
theorem dksX3_next_6 : cX3_next.data.toList.drop 139 = dktX3_next_6 := dk_seg dksX3_next_5 23 rfl rfl
theorem dX3_next_0 : decode cX3_next 0 = .ok (.aload_n 0, 1) := dk_42 (dk_at dksX3_next_0 0 rfl rfl)
theorem dX3_next_1 : decode cX3_next 1 = .ok (.getfield 196, 3) := dk_180 0 196 (dk_at dksX3_next_0 1 rfl rfl)
theorem dX3_next_4 : decode cX3_next 4 = .ok (.aload_n 0, 1) := dk_42 (dk_at dksX3_next_0 4 rfl rfl)
theorem dX3_next_5 : decode cX3_next 5 = .ok (.getfield 181, 3) := dk_180 0 181 (dk_at dksX3_next_0 5 rfl rfl)
theorem dX3_next_8 : decode cX3_next 8 = .ok (.if_icmp .ge 30, 3) := dk_162 0 30 (dk_at dksX3_next_0 8 rfl rfl)
theorem dX3_next_11 : decode cX3_next 11 = .ok (.aload_n 0, 1) := dk_42 (dk_at dksX3_next_0 11 rfl rfl)
theorem dX3_next_12 : decode cX3_next 12 = .ok (.getfield 19, 3) := dk_180 0 19 (dk_at dksX3_next_0 12 rfl rfl)
theorem dX3_next_15 : decode cX3_next 15 = .ok (.aload_n 0, 1) := dk_42 (dk_at dksX3_next_0 15 rfl rfl)
theorem dX3_next_16 : decode cX3_next 16 = .ok (.getfield 196, 3) := dk_180 0 196 (dk_at dksX3_next_0 16 rfl rfl)
theorem dX3_next_19 : decode cX3_next 19 = .ok (.iaload, 1) := dk_46 (dk_at dksX3_next_0 19 rfl rfl)
theorem dX3_next_20 : decode cX3_next 20 = .ok (.bipush 32, 2) := dk_16 32 (dk_at dksX3_next_0 20 rfl rfl)
theorem dX3_next_22 : decode cX3_next 22 = .ok (.if_icmp .ne 16, 3) := dk_160 0 16 (dk_at dksX3_next_1 0 rfl rfl)
theorem dX3_next_25 : decode cX3_next 25 = .ok (.aload_n 0, 1) := dk_42 (dk_at dksX3_next_1 3 rfl rfl)
theorem dX3_next_26 : decode cX3_next 26 = .ok (.dup, 1) := dk_89 (dk_at dksX3_next_1 4 rfl rfl)
theorem dX3_next_27 : decode cX3_next 27 = .ok (.getfield 196, 3) := dk_180 0 196 (dk_at dksX3_next_1 5 rfl rfl)
theorem dX3_next_30 : decode cX3_next 30 = .ok (.iconst 1, 1) := dk_4 (dk_at dksX3_next_1 8 rfl rfl)
theorem dX3_next_31 : decode cX3_next 31 = .ok (.iadd, 1) := dk_96 (dk_at dksX3_next_1 9 rfl rfl)
theorem dX3_next_32 : decode cX3_next 32 = .ok (.putfield 196, 3) := dk_181 0 196 (dk_at dksX3_next_1 10 rfl rfl)
theorem dX3_next_35 : decode cX3_next 35 = .ok (.goto (-35), 3) := dk_167 255 221 (dk_at dksX3_next_1 13 rfl rfl)
theorem dX3_next_38 : decode cX3_next 38 = .ok (.aload_n 0, 1) := dk_42 (dk_at dksX3_next_1 16 rfl rfl)
theorem dX3_next_39 : decode cX3_next 39 = .ok (.aload_n 0, 1) := dk_42 (dk_at dksX3_next_1 17 rfl rfl)
theorem dX3_next_40 : decode cX3_next 40 = .ok (.getfield 196, 3) := dk_180 0 196 (dk_at dksX3_next_1 18 rfl rfl)
theorem dX3_next_43 : decode cX3_next 43 = .ok (.putfield 215, 3) := dk_181 0 215 (dk_at dksX3_next_1 21 rfl rfl)
theorem dX3_next_46 : decode cX3_next 46 = .ok (.aload_n 0, 1) := dk_42 (dk_at dksX3_next_2 0 rfl rfl)
theorem dX3_next_47 : decode cX3_next 47 = .ok (.lconst 0, 1) := dk_9 (dk_at dksX3_next_2 1 rfl rfl)
theorem dX3_next_48 : decode cX3_next 48 = .ok (.putfield 192, 3) := dk_181 0 192 (dk_at dksX3_next_2 2 rfl rfl)
theorem dX3_next_51 : decode cX3_next 51 = .ok (.aload_n 0, 1) := dk_42 (dk_at dksX3_next_2 5 rfl rfl)
theorem dX3_next_52 : decode cX3_next 52 = .ok (.getfield 196, 3) := dk_180 0 196 (dk_at dksX3_next_2 6 rfl rfl)
theorem dX3_next_55 : decode cX3_next 55 = .ok (.aload_n 0, 1) := dk_42 (dk_at dksX3_next_2 9 rfl rfl)
theorem dX3_next_56 : decode cX3_next 56 = .ok (.getfield 181, 3) := dk_180 0 181 (dk_at dksX3_next_2 10 rfl rfl)
theorem dX3_next_59 : decode cX3_next 59 = .ok (.if_icmp .ne 11, 3) := dk_160 0 11 (dk_at dksX3_next_2 13 rfl rfl)
theorem dX3_next_62 : decode cX3_next 62 = .ok (.aload_n 0, 1) := dk_42 (dk_at dksX3_next_2 16 rfl rfl)
theorem dX3_next_63 : decode cX3_next 63 = .ok (.iconst 0, 1) := dk_3 (dk_at dksX3_next_2 17 rfl rfl)
theorem dX3_next_64 : decode cX3_next 64 = .ok (.putfield 206, 3) := dk_181 0 206 (dk_at dksX3_next_2 18 rfl rfl)
theorem dX3_next_67 : decode cX3_next 67 = .ok (.goto 80, 3) := dk_167 0 80 (dk_at dksX3_next_2 21 rfl rfl)
theorem dX3_next_70 : decode cX3_next 70 = .ok (.aload_n 0, 1) := dk_42 (dk_at dksX3_next_3 0 rfl rfl)
theorem dX3_next_71 : decode cX3_next 71 = .ok (.getfield 19, 3) := dk_180 0 19 (dk_at dksX3_next_3 1 rfl rfl)
theorem dX3_next_74 : decode cX3_next 74 = .ok (.aload_n 0, 1) := dk_42 (dk_at dksX3_next_3 4 rfl rfl)
theorem dX3_next_75 : decode cX3_next 75 = .ok (.getfield 196, 3) := dk_180 0 196 (dk_at dksX3_next_3 5 rfl rfl)
theorem dX3_next_78 : decode cX3_next 78 = .ok (.iaload, 1) := dk_46 (dk_at dksX3_next_3 8 rfl rfl)
theorem dX3_next_79 : decode cX3_next 79 = .ok (.invokestatic 199, 3) := dk_184 0 199 (dk_at dksX3_next_3 9 rfl rfl)
theorem dX3_next_82 : decode cX3_next 82 = .ok (.ifCond .eq 10, 3) := dk_153 0 10 (dk_at dksX3_next_3 12 rfl rfl)
theorem dX3_next_85 : decode cX3_next 85 = .ok (.aload_n 0, 1) := dk_42 (dk_at dksX3_next_3 15 rfl rfl)
theorem dX3_next_86 : decode cX3_next 86 = .ok (.invokevirtual 218, 3) := dk_182 0 218 (dk_at dksX3_next_3 16 rfl rfl)
theorem dX3_next_89 : decode cX3_next 89 = .ok (.goto 58, 3) := dk_167 0 58 (dk_at dksX3_next_3 19 rfl rfl)
theorem dX3_next_92 : decode cX3_next 92 = .ok (.aload_n 0, 1) := dk_42 (dk_at dksX3_next_3 22 rfl rfl)
theorem dX3_next_93 : decode cX3_next 93 = .ok (.getfield 19, 3) := dk_180 0 19 (dk_at dksX3_next_4 0 rfl rfl)
theorem dX3_next_96 : decode cX3_next 96 = .ok (.aload_n 0, 1) := dk_42 (dk_at dksX3_next_4 3 rfl rfl)
theorem dX3_next_97 : decode cX3_next 97 = .ok (.getfield 196, 3) := dk_180 0 196 (dk_at dksX3_next_4 4 rfl rfl)
theorem dX3_next_100 : decode cX3_next 100 = .ok (.iaload, 1) := dk_46 (dk_at dksX3_next_4 7 rfl rfl)
theorem dX3_next_101 : decode cX3_next 101 = .ok (.invokestatic 212, 3) := dk_184 0 212 (dk_at dksX3_next_4 8 rfl rfl)
theorem dX3_next_104 : decode cX3_next 104 = .ok (.ifCond .eq 10, 3) := dk_153 0 10 (dk_at dksX3_next_4 11 rfl rfl)
theorem dX3_next_107 : decode cX3_next 107 = .ok (.aload_n 0, 1) := dk_42 (dk_at dksX3_next_4 14 rfl rfl)
theorem dX3_next_108 : decode cX3_next 108 = .ok (.invokevirtual 221, 3) := dk_182 0 221 (dk_at dksX3_next_4 15 rfl rfl)
theorem dX3_next_111 : decode cX3_next 111 = .ok (.goto 36, 3) := dk_167 0 36 (dk_at dksX3_next_4 18 rfl rfl)
theorem dX3_next_114 : decode cX3_next 114 = .ok (.aload_n 0, 1) := dk_42 (dk_at dksX3_next_4 21 rfl rfl)
theorem dX3_next_115 : decode cX3_next 115 = .ok (.aload_n 0, 1) := dk_42 (dk_at dksX3_next_4 22 rfl rfl)
theorem dX3_next_116 : decode cX3_next 116 = .ok (.getfield 19, 3) := dk_180 0 19 (dk_at dksX3_next_5 0 rfl rfl)
theorem dX3_next_119 : decode cX3_next 119 = .ok (.aload_n 0, 1) := dk_42 (dk_at dksX3_next_5 3 rfl rfl)
theorem dX3_next_120 : decode cX3_next 120 = .ok (.getfield 196, 3) := dk_180 0 196 (dk_at dksX3_next_5 4 rfl rfl)
theorem dX3_next_123 : decode cX3_next 123 = .ok (.iaload, 1) := dk_46 (dk_at dksX3_next_5 7 rfl rfl)
theorem dX3_next_124 : decode cX3_next 124 = .ok (.bipush 59, 2) := dk_16 59 (dk_at dksX3_next_5 8 rfl rfl)
theorem dX3_next_126 : decode cX3_next 126 = .ok (.if_icmp .ne 7, 3) := dk_160 0 7 (dk_at dksX3_next_5 10 rfl rfl)
theorem dX3_next_129 : decode cX3_next 129 = .ok (.iconst 3, 1) := dk_6 (dk_at dksX3_next_5 13 rfl rfl)
theorem dX3_next_130 : decode cX3_next 130 = .ok (.goto 4, 3) := dk_167 0 4 (dk_at dksX3_next_5 14 rfl rfl)
theorem dX3_next_133 : decode cX3_next 133 = .ok (.iconst 4, 1) := dk_7 (dk_at dksX3_next_5 17 rfl rfl)
theorem dX3_next_134 : decode cX3_next 134 = .ok (.putfield 206, 3) := dk_181 0 206 (dk_at dksX3_next_5 18 rfl rfl)
theorem dX3_next_137 : decode cX3_next 137 = .ok (.aload_n 0, 1) := dk_42 (dk_at dksX3_next_5 21 rfl rfl)
theorem dX3_next_138 : decode cX3_next 138 = .ok (.dup, 1) := dk_89 (dk_at dksX3_next_5 22 rfl rfl)
theorem dX3_next_139 : decode cX3_next 139 = .ok (.getfield 196, 3) := dk_180 0 196 (dk_at dksX3_next_6 0 rfl rfl)
theorem dX3_next_142 : decode cX3_next 142 = .ok (.iconst 1, 1) := dk_4 (dk_at dksX3_next_6 3 rfl rfl)
theorem dX3_next_143 : decode cX3_next 143 = .ok (.iadd, 1) := dk_96 (dk_at dksX3_next_6 4 rfl rfl)
theorem dX3_next_144 : decode cX3_next 144 = .ok (.putfield 196, 3) := dk_181 0 196 (dk_at dksX3_next_6 5 rfl rfl)
theorem dX3_next_147 : decode cX3_next 147 = .ok (.return_, 1) := dk_177 (dk_at dksX3_next_6 8 rfl rfl)
abbrev cX3_isLetter : ByteArray := prog_33_method_50_code
def yX3_isLetter : MethodName := ⟨RX3, "isLetter", "(I)Z"⟩
def dkwX3_isLetter_0 : List UInt8 := [26, 133, 20, 0, 184, 20, 0, 186, 184, 0, 101, 172]
abbrev dktX3_isLetter_0 : List UInt8 := dkwX3_isLetter_0 ++ []
theorem dksX3_isLetter_0 : cX3_isLetter.data.toList.drop 0 = dktX3_isLetter_0 := by decide +kernel
theorem dX3_isLetter_0 : decode cX3_isLetter 0 = .ok (.iload_n 0, 1) := dk_26 (dk_at dksX3_isLetter_0 0 rfl rfl)
theorem dX3_isLetter_1 : decode cX3_isLetter 1 = .ok (.i2l, 1) := dk_133 (dk_at dksX3_isLetter_0 1 rfl rfl)
theorem dX3_isLetter_2 : decode cX3_isLetter 2 = .ok (.ldc2_w 184, 3) := dk_20 0 184 (dk_at dksX3_isLetter_0 2 rfl rfl)
theorem dX3_isLetter_5 : decode cX3_isLetter 5 = .ok (.ldc2_w 186, 3) := dk_20 0 186 (dk_at dksX3_isLetter_0 5 rfl rfl)
theorem dX3_isLetter_8 : decode cX3_isLetter 8 = .ok (.invokestatic 101, 3) := dk_184 0 101 (dk_at dksX3_isLetter_0 8 rfl rfl)
theorem dX3_isLetter_11 : decode cX3_isLetter 11 = .ok (.ireturn, 1) := dk_172 (dk_at dksX3_isLetter_0 11 rfl rfl)
abbrev cX3_readWord : ByteArray := prog_33_method_52_code
def yX3_readWord : MethodName := ⟨RX3, "readWord", "()V"⟩
def dkwX3_readWord_3 : List UInt8 := [89, 180, 0, 196, 4, 96, 181, 0, 196, 132, 1, 1, 167, 255, 180, 42, 4, 181, 0, 206, 177]
abbrev dktX3_readWord_3 : List UInt8 := dkwX3_readWord_3 ++ []
def dkwX3_readWord_2 : List UInt8 := [105, 42, 180, 0, 19, 42, 180, 0, 196, 46, 133, 97, 20, 0, 204, 101, 167, 0, 4, 9, 181, 0, 192, 42]
abbrev dktX3_readWord_2 : List UInt8 := dkwX3_readWord_2 ++ dktX3_readWord_3
def dkwX3_readWord_1 : List UInt8 := [180, 0, 196, 46, 184, 0, 199, 153, 0, 56, 42, 27, 16, 11, 162, 0, 29, 20, 0, 202, 42, 180, 0, 192]
abbrev dktX3_readWord_1 : List UInt8 := dkwX3_readWord_1 ++ dktX3_readWord_2
def dkwX3_readWord_0 : List UInt8 := [42, 9, 181, 0, 192, 3, 60, 42, 180, 0, 196, 42, 180, 0, 181, 162, 0, 71, 42, 180, 0, 19, 42]
abbrev dktX3_readWord_0 : List UInt8 := dkwX3_readWord_0 ++ dktX3_readWord_1
theorem dksX3_readWord_0 : cX3_readWord.data.toList.drop 0 = dktX3_readWord_0 := by decide +kernel
theorem dksX3_readWord_1 : cX3_readWord.data.toList.drop 23 = dktX3_readWord_1 := dk_seg dksX3_readWord_0 23 rfl rfl
theorem dksX3_readWord_2 : cX3_readWord.data.toList.drop 47 = dktX3_readWord_2 := dk_seg dksX3_readWord_1 24 rfl rfl
theorem dksX3_readWord_3 : cX3_readWord.data.toList.drop 71 = dktX3_readWord_3 := dk_seg dksX3_readWord_2 24 rfl rfl
theorem dX3_readWord_0 : decode cX3_readWord 0 = .ok (.aload_n 0, 1) := dk_42 (dk_at dksX3_readWord_0 0 rfl rfl)
theorem dX3_readWord_1 : decode cX3_readWord 1 = .ok (.lconst 0, 1) := dk_9 (dk_at dksX3_readWord_0 1 rfl rfl)
theorem dX3_readWord_2 : decode cX3_readWord 2 = .ok (.putfield 192, 3) := dk_181 0 192 (dk_at dksX3_readWord_0 2 rfl rfl)
theorem dX3_readWord_5 : decode cX3_readWord 5 = .ok (.iconst 0, 1) := dk_3 (dk_at dksX3_readWord_0 5 rfl rfl)
theorem dX3_readWord_6 : decode cX3_readWord 6 = .ok (.istore_n 1, 1) := dk_60 (dk_at dksX3_readWord_0 6 rfl rfl)
theorem dX3_readWord_7 : decode cX3_readWord 7 = .ok (.aload_n 0, 1) := dk_42 (dk_at dksX3_readWord_0 7 rfl rfl)
theorem dX3_readWord_8 : decode cX3_readWord 8 = .ok (.getfield 196, 3) := dk_180 0 196 (dk_at dksX3_readWord_0 8 rfl rfl)
theorem dX3_readWord_11 : decode cX3_readWord 11 = .ok (.aload_n 0, 1) := dk_42 (dk_at dksX3_readWord_0 11 rfl rfl)
theorem dX3_readWord_12 : decode cX3_readWord 12 = .ok (.getfield 181, 3) := dk_180 0 181 (dk_at dksX3_readWord_0 12 rfl rfl)
theorem dX3_readWord_15 : decode cX3_readWord 15 = .ok (.if_icmp .ge 71, 3) := dk_162 0 71 (dk_at dksX3_readWord_0 15 rfl rfl)
theorem dX3_readWord_18 : decode cX3_readWord 18 = .ok (.aload_n 0, 1) := dk_42 (dk_at dksX3_readWord_0 18 rfl rfl)
theorem dX3_readWord_19 : decode cX3_readWord 19 = .ok (.getfield 19, 3) := dk_180 0 19 (dk_at dksX3_readWord_0 19 rfl rfl)
theorem dX3_readWord_22 : decode cX3_readWord 22 = .ok (.aload_n 0, 1) := dk_42 (dk_at dksX3_readWord_0 22 rfl rfl)
theorem dX3_readWord_23 : decode cX3_readWord 23 = .ok (.getfield 196, 3) := dk_180 0 196 (dk_at dksX3_readWord_1 0 rfl rfl)
theorem dX3_readWord_26 : decode cX3_readWord 26 = .ok (.iaload, 1) := dk_46 (dk_at dksX3_readWord_1 3 rfl rfl)
theorem dX3_readWord_27 : decode cX3_readWord 27 = .ok (.invokestatic 199, 3) := dk_184 0 199 (dk_at dksX3_readWord_1 4 rfl rfl)
theorem dX3_readWord_30 : decode cX3_readWord 30 = .ok (.ifCond .eq 56, 3) := dk_153 0 56 (dk_at dksX3_readWord_1 7 rfl rfl)
theorem dX3_readWord_33 : decode cX3_readWord 33 = .ok (.aload_n 0, 1) := dk_42 (dk_at dksX3_readWord_1 10 rfl rfl)
theorem dX3_readWord_34 : decode cX3_readWord 34 = .ok (.iload_n 1, 1) := dk_27 (dk_at dksX3_readWord_1 11 rfl rfl)
theorem dX3_readWord_35 : decode cX3_readWord 35 = .ok (.bipush 11, 2) := dk_16 11 (dk_at dksX3_readWord_1 12 rfl rfl)
theorem dX3_readWord_37 : decode cX3_readWord 37 = .ok (.if_icmp .ge 29, 3) := dk_162 0 29 (dk_at dksX3_readWord_1 14 rfl rfl)
theorem dX3_readWord_40 : decode cX3_readWord 40 = .ok (.ldc2_w 202, 3) := dk_20 0 202 (dk_at dksX3_readWord_1 17 rfl rfl)
theorem dX3_readWord_43 : decode cX3_readWord 43 = .ok (.aload_n 0, 1) := dk_42 (dk_at dksX3_readWord_1 20 rfl rfl)
theorem dX3_readWord_44 : decode cX3_readWord 44 = .ok (.getfield 192, 3) := dk_180 0 192 (dk_at dksX3_readWord_1 21 rfl rfl)
theorem dX3_readWord_47 : decode cX3_readWord 47 = .ok (.lmul, 1) := dk_105 (dk_at dksX3_readWord_2 0 rfl rfl)
theorem dX3_readWord_48 : decode cX3_readWord 48 = .ok (.aload_n 0, 1) := dk_42 (dk_at dksX3_readWord_2 1 rfl rfl)
theorem dX3_readWord_49 : decode cX3_readWord 49 = .ok (.getfield 19, 3) := dk_180 0 19 (dk_at dksX3_readWord_2 2 rfl rfl)
theorem dX3_readWord_52 : decode cX3_readWord 52 = .ok (.aload_n 0, 1) := dk_42 (dk_at dksX3_readWord_2 5 rfl rfl)
theorem dX3_readWord_53 : decode cX3_readWord 53 = .ok (.getfield 196, 3) := dk_180 0 196 (dk_at dksX3_readWord_2 6 rfl rfl)
theorem dX3_readWord_56 : decode cX3_readWord 56 = .ok (.iaload, 1) := dk_46 (dk_at dksX3_readWord_2 9 rfl rfl)
theorem dX3_readWord_57 : decode cX3_readWord 57 = .ok (.i2l, 1) := dk_133 (dk_at dksX3_readWord_2 10 rfl rfl)
theorem dX3_readWord_58 : decode cX3_readWord 58 = .ok (.ladd, 1) := dk_97 (dk_at dksX3_readWord_2 11 rfl rfl)
theorem dX3_readWord_59 : decode cX3_readWord 59 = .ok (.ldc2_w 204, 3) := dk_20 0 204 (dk_at dksX3_readWord_2 12 rfl rfl)
theorem dX3_readWord_62 : decode cX3_readWord 62 = .ok (.lsub, 1) := dk_101 (dk_at dksX3_readWord_2 15 rfl rfl)
theorem dX3_readWord_63 : decode cX3_readWord 63 = .ok (.goto 4, 3) := dk_167 0 4 (dk_at dksX3_readWord_2 16 rfl rfl)
theorem dX3_readWord_66 : decode cX3_readWord 66 = .ok (.lconst 0, 1) := dk_9 (dk_at dksX3_readWord_2 19 rfl rfl)
theorem dX3_readWord_67 : decode cX3_readWord 67 = .ok (.putfield 192, 3) := dk_181 0 192 (dk_at dksX3_readWord_2 20 rfl rfl)
theorem dX3_readWord_70 : decode cX3_readWord 70 = .ok (.aload_n 0, 1) := dk_42 (dk_at dksX3_readWord_2 23 rfl rfl)
theorem dX3_readWord_71 : decode cX3_readWord 71 = .ok (.dup, 1) := dk_89 (dk_at dksX3_readWord_3 0 rfl rfl)
theorem dX3_readWord_72 : decode cX3_readWord 72 = .ok (.getfield 196, 3) := dk_180 0 196 (dk_at dksX3_readWord_3 1 rfl rfl)
theorem dX3_readWord_75 : decode cX3_readWord 75 = .ok (.iconst 1, 1) := dk_4 (dk_at dksX3_readWord_3 4 rfl rfl)
theorem dX3_readWord_76 : decode cX3_readWord 76 = .ok (.iadd, 1) := dk_96 (dk_at dksX3_readWord_3 5 rfl rfl)
theorem dX3_readWord_77 : decode cX3_readWord 77 = .ok (.putfield 196, 3) := dk_181 0 196 (dk_at dksX3_readWord_3 6 rfl rfl)
theorem dX3_readWord_80 : decode cX3_readWord 80 = .ok (.iinc 1 1, 3) := dk_132 1 1 (dk_at dksX3_readWord_3 9 rfl rfl)
theorem dX3_readWord_83 : decode cX3_readWord 83 = .ok (.goto (-76), 3) := dk_167 255 180 (dk_at dksX3_readWord_3 12 rfl rfl)
theorem dX3_readWord_86 : decode cX3_readWord 86 = .ok (.aload_n 0, 1) := dk_42 (dk_at dksX3_readWord_3 15 rfl rfl)
theorem dX3_readWord_87 : decode cX3_readWord 87 = .ok (.iconst 1, 1) := dk_4 (dk_at dksX3_readWord_3 16 rfl rfl)
theorem dX3_readWord_88 : decode cX3_readWord 88 = .ok (.putfield 206, 3) := dk_181 0 206 (dk_at dksX3_readWord_3 17 rfl rfl)
theorem dX3_readWord_91 : decode cX3_readWord 91 = .ok (.return_, 1) := dk_177 (dk_at dksX3_readWord_3 20 rfl rfl)
abbrev cX3_isFigure : ByteArray := prog_33_method_51_code
def yX3_isFigure : MethodName := ⟨RX3, "isFigure", "(I)Z"⟩
def dkwX3_isFigure_0 : List UInt8 := [26, 133, 20, 0, 188, 20, 0, 190, 184, 0, 101, 172]
abbrev dktX3_isFigure_0 : List UInt8 := dkwX3_isFigure_0 ++ []
theorem dksX3_isFigure_0 : cX3_isFigure.data.toList.drop 0 = dktX3_isFigure_0 := by decide +kernel
theorem dX3_isFigure_0 : decode cX3_isFigure 0 = .ok (.iload_n 0, 1) := dk_26 (dk_at dksX3_isFigure_0 0 rfl rfl)
theorem dX3_isFigure_1 : decode cX3_isFigure 1 = .ok (.i2l, 1) := dk_133 (dk_at dksX3_isFigure_0 1 rfl rfl)
theorem dX3_isFigure_2 : decode cX3_isFigure 2 = .ok (.ldc2_w 188, 3) := dk_20 0 188 (dk_at dksX3_isFigure_0 2 rfl rfl)
theorem dX3_isFigure_5 : decode cX3_isFigure 5 = .ok (.ldc2_w 190, 3) := dk_20 0 190 (dk_at dksX3_isFigure_0 5 rfl rfl)
theorem dX3_isFigure_8 : decode cX3_isFigure 8 = .ok (.invokestatic 101, 3) := dk_184 0 101 (dk_at dksX3_isFigure_0 8 rfl rfl)
theorem dX3_isFigure_11 : decode cX3_isFigure 11 = .ok (.ireturn, 1) := dk_172 (dk_at dksX3_isFigure_0 11 rfl rfl)
abbrev cX3_readNumber : ByteArray := prog_33_method_53_code
def yX3_readNumber : MethodName := ⟨RX3, "readNumber", "()V"⟩
def dkwX3_readNumber_5 : List UInt8 := [28, 153, 0, 7, 5, 167, 0, 4, 7, 181, 0, 206, 177]
abbrev dktX3_readNumber_5 : List UInt8 := dkwX3_readNumber_5 ++ []
def dkwX3_readNumber_4 : List UInt8 := [159, 0, 17, 42, 180, 0, 19, 42, 180, 0, 215, 46, 16, 48, 159, 0, 7, 4, 167, 0, 4, 3, 61, 42]
abbrev dktX3_readNumber_4 : List UInt8 := dkwX3_readNumber_4 ++ dktX3_readNumber_5
def dkwX3_readNumber_3 : List UInt8 := [132, 1, 1, 42, 89, 180, 0, 196, 4, 96, 181, 0, 196, 167, 255, 181, 27, 8, 162, 0, 26, 27, 4]
abbrev dktX3_readNumber_3 : List UInt8 := dkwX3_readNumber_3 ++ dktX3_readNumber_4
def dkwX3_readNumber_2 : List UInt8 := [180, 0, 19, 42, 180, 0, 196, 46, 96, 16, 48, 100, 167, 0, 7, 42, 180, 0, 209, 181, 0, 209]
abbrev dktX3_readNumber_2 : List UInt8 := dkwX3_readNumber_2 ++ dktX3_readNumber_3
def dkwX3_readNumber_1 : List UInt8 := [180, 0, 196, 46, 184, 0, 212, 153, 0, 55, 42, 27, 7, 162, 0, 26, 16, 10, 42, 180, 0, 209, 104, 42]
abbrev dktX3_readNumber_1 : List UInt8 := dkwX3_readNumber_1 ++ dktX3_readNumber_2
def dkwX3_readNumber_0 : List UInt8 := [3, 60, 42, 3, 181, 0, 209, 42, 180, 0, 196, 42, 180, 0, 181, 162, 0, 70, 42, 180, 0, 19, 42]
abbrev dktX3_readNumber_0 : List UInt8 := dkwX3_readNumber_0 ++ dktX3_readNumber_1
theorem dksX3_readNumber_0 : cX3_readNumber.data.toList.drop 0 = dktX3_readNumber_0 := by decide +kernel
theorem dksX3_readNumber_1 : cX3_readNumber.data.toList.drop 23 = dktX3_readNumber_1 := dk_seg dksX3_readNumber_0 23 rfl rfl
theorem dksX3_readNumber_2 : cX3_readNumber.data.toList.drop 47 = dktX3_readNumber_2 := dk_seg dksX3_readNumber_1 24 rfl rfl
theorem dksX3_readNumber_3 : cX3_readNumber.data.toList.drop 69 = dktX3_readNumber_3 := dk_seg dksX3_readNumber_2 22 rfl rfl
theorem dksX3_readNumber_4 : cX3_readNumber.data.toList.drop 92 = dktX3_readNumber_4 := dk_seg dksX3_readNumber_3 23 rfl rfl
theorem dksX3_readNumber_5 : cX3_readNumber.data.toList.drop 116 = dktX3_readNumber_5 := dk_seg dksX3_readNumber_4 24 rfl rfl
theorem dX3_readNumber_0 : decode cX3_readNumber 0 = .ok (.iconst 0, 1) := dk_3 (dk_at dksX3_readNumber_0 0 rfl rfl)
theorem dX3_readNumber_1 : decode cX3_readNumber 1 = .ok (.istore_n 1, 1) := dk_60 (dk_at dksX3_readNumber_0 1 rfl rfl)
theorem dX3_readNumber_2 : decode cX3_readNumber 2 = .ok (.aload_n 0, 1) := dk_42 (dk_at dksX3_readNumber_0 2 rfl rfl)
theorem dX3_readNumber_3 : decode cX3_readNumber 3 = .ok (.iconst 0, 1) := dk_3 (dk_at dksX3_readNumber_0 3 rfl rfl)
theorem dX3_readNumber_4 : decode cX3_readNumber 4 = .ok (.putfield 209, 3) := dk_181 0 209 (dk_at dksX3_readNumber_0 4 rfl rfl)
theorem dX3_readNumber_7 : decode cX3_readNumber 7 = .ok (.aload_n 0, 1) := dk_42 (dk_at dksX3_readNumber_0 7 rfl rfl)
theorem dX3_readNumber_8 : decode cX3_readNumber 8 = .ok (.getfield 196, 3) := dk_180 0 196 (dk_at dksX3_readNumber_0 8 rfl rfl)
theorem dX3_readNumber_11 : decode cX3_readNumber 11 = .ok (.aload_n 0, 1) := dk_42 (dk_at dksX3_readNumber_0 11 rfl rfl)
theorem dX3_readNumber_12 : decode cX3_readNumber 12 = .ok (.getfield 181, 3) := dk_180 0 181 (dk_at dksX3_readNumber_0 12 rfl rfl)
theorem dX3_readNumber_15 : decode cX3_readNumber 15 = .ok (.if_icmp .ge 70, 3) := dk_162 0 70 (dk_at dksX3_readNumber_0 15 rfl rfl)
theorem dX3_readNumber_18 : decode cX3_readNumber 18 = .ok (.aload_n 0, 1) := dk_42 (dk_at dksX3_readNumber_0 18 rfl rfl)
theorem dX3_readNumber_19 : decode cX3_readNumber 19 = .ok (.getfield 19, 3) := dk_180 0 19 (dk_at dksX3_readNumber_0 19 rfl rfl)
theorem dX3_readNumber_22 : decode cX3_readNumber 22 = .ok (.aload_n 0, 1) := dk_42 (dk_at dksX3_readNumber_0 22 rfl rfl)
theorem dX3_readNumber_23 : decode cX3_readNumber 23 = .ok (.getfield 196, 3) := dk_180 0 196 (dk_at dksX3_readNumber_1 0 rfl rfl)
theorem dX3_readNumber_26 : decode cX3_readNumber 26 = .ok (.iaload, 1) := dk_46 (dk_at dksX3_readNumber_1 3 rfl rfl)
theorem dX3_readNumber_27 : decode cX3_readNumber 27 = .ok (.invokestatic 212, 3) := dk_184 0 212 (dk_at dksX3_readNumber_1 4 rfl rfl)
theorem dX3_readNumber_30 : decode cX3_readNumber 30 = .ok (.ifCond .eq 55, 3) := dk_153 0 55 (dk_at dksX3_readNumber_1 7 rfl rfl)
theorem dX3_readNumber_33 : decode cX3_readNumber 33 = .ok (.aload_n 0, 1) := dk_42 (dk_at dksX3_readNumber_1 10 rfl rfl)
theorem dX3_readNumber_34 : decode cX3_readNumber 34 = .ok (.iload_n 1, 1) := dk_27 (dk_at dksX3_readNumber_1 11 rfl rfl)
theorem dX3_readNumber_35 : decode cX3_readNumber 35 = .ok (.iconst 4, 1) := dk_7 (dk_at dksX3_readNumber_1 12 rfl rfl)
theorem dX3_readNumber_36 : decode cX3_readNumber 36 = .ok (.if_icmp .ge 26, 3) := dk_162 0 26 (dk_at dksX3_readNumber_1 13 rfl rfl)
theorem dX3_readNumber_39 : decode cX3_readNumber 39 = .ok (.bipush 10, 2) := dk_16 10 (dk_at dksX3_readNumber_1 16 rfl rfl)
theorem dX3_readNumber_41 : decode cX3_readNumber 41 = .ok (.aload_n 0, 1) := dk_42 (dk_at dksX3_readNumber_1 18 rfl rfl)
theorem dX3_readNumber_42 : decode cX3_readNumber 42 = .ok (.getfield 209, 3) := dk_180 0 209 (dk_at dksX3_readNumber_1 19 rfl rfl)
theorem dX3_readNumber_45 : decode cX3_readNumber 45 = .ok (.imul, 1) := dk_104 (dk_at dksX3_readNumber_1 22 rfl rfl)
theorem dX3_readNumber_46 : decode cX3_readNumber 46 = .ok (.aload_n 0, 1) := dk_42 (dk_at dksX3_readNumber_1 23 rfl rfl)
theorem dX3_readNumber_47 : decode cX3_readNumber 47 = .ok (.getfield 19, 3) := dk_180 0 19 (dk_at dksX3_readNumber_2 0 rfl rfl)
theorem dX3_readNumber_50 : decode cX3_readNumber 50 = .ok (.aload_n 0, 1) := dk_42 (dk_at dksX3_readNumber_2 3 rfl rfl)
theorem dX3_readNumber_51 : decode cX3_readNumber 51 = .ok (.getfield 196, 3) := dk_180 0 196 (dk_at dksX3_readNumber_2 4 rfl rfl)
theorem dX3_readNumber_54 : decode cX3_readNumber 54 = .ok (.iaload, 1) := dk_46 (dk_at dksX3_readNumber_2 7 rfl rfl)
theorem dX3_readNumber_55 : decode cX3_readNumber 55 = .ok (.iadd, 1) := dk_96 (dk_at dksX3_readNumber_2 8 rfl rfl)
theorem dX3_readNumber_56 : decode cX3_readNumber 56 = .ok (.bipush 48, 2) := dk_16 48 (dk_at dksX3_readNumber_2 9 rfl rfl)
theorem dX3_readNumber_58 : decode cX3_readNumber 58 = .ok (.isub, 1) := dk_100 (dk_at dksX3_readNumber_2 11 rfl rfl)
theorem dX3_readNumber_59 : decode cX3_readNumber 59 = .ok (.goto 7, 3) := dk_167 0 7 (dk_at dksX3_readNumber_2 12 rfl rfl)
theorem dX3_readNumber_62 : decode cX3_readNumber 62 = .ok (.aload_n 0, 1) := dk_42 (dk_at dksX3_readNumber_2 15 rfl rfl)
theorem dX3_readNumber_63 : decode cX3_readNumber 63 = .ok (.getfield 209, 3) := dk_180 0 209 (dk_at dksX3_readNumber_2 16 rfl rfl)
theorem dX3_readNumber_66 : decode cX3_readNumber 66 = .ok (.putfield 209, 3) := dk_181 0 209 (dk_at dksX3_readNumber_2 19 rfl rfl)
theorem dX3_readNumber_69 : decode cX3_readNumber 69 = .ok (.iinc 1 1, 3) := dk_132 1 1 (dk_at dksX3_readNumber_3 0 rfl rfl)
theorem dX3_readNumber_72 : decode cX3_readNumber 72 = .ok (.aload_n 0, 1) := dk_42 (dk_at dksX3_readNumber_3 3 rfl rfl)
theorem dX3_readNumber_73 : decode cX3_readNumber 73 = .ok (.dup, 1) := dk_89 (dk_at dksX3_readNumber_3 4 rfl rfl)
theorem dX3_readNumber_74 : decode cX3_readNumber 74 = .ok (.getfield 196, 3) := dk_180 0 196 (dk_at dksX3_readNumber_3 5 rfl rfl)
theorem dX3_readNumber_77 : decode cX3_readNumber 77 = .ok (.iconst 1, 1) := dk_4 (dk_at dksX3_readNumber_3 8 rfl rfl)
theorem dX3_readNumber_78 : decode cX3_readNumber 78 = .ok (.iadd, 1) := dk_96 (dk_at dksX3_readNumber_3 9 rfl rfl)
theorem dX3_readNumber_79 : decode cX3_readNumber 79 = .ok (.putfield 196, 3) := dk_181 0 196 (dk_at dksX3_readNumber_3 10 rfl rfl)
theorem dX3_readNumber_82 : decode cX3_readNumber 82 = .ok (.goto (-75), 3) := dk_167 255 181 (dk_at dksX3_readNumber_3 13 rfl rfl)
theorem dX3_readNumber_85 : decode cX3_readNumber 85 = .ok (.iload_n 1, 1) := dk_27 (dk_at dksX3_readNumber_3 16 rfl rfl)
theorem dX3_readNumber_86 : decode cX3_readNumber 86 = .ok (.iconst 5, 1) := dk_8 (dk_at dksX3_readNumber_3 17 rfl rfl)
theorem dX3_readNumber_87 : decode cX3_readNumber 87 = .ok (.if_icmp .ge 26, 3) := dk_162 0 26 (dk_at dksX3_readNumber_3 18 rfl rfl)
theorem dX3_readNumber_90 : decode cX3_readNumber 90 = .ok (.iload_n 1, 1) := dk_27 (dk_at dksX3_readNumber_3 21 rfl rfl)
theorem dX3_readNumber_91 : decode cX3_readNumber 91 = .ok (.iconst 1, 1) := dk_4 (dk_at dksX3_readNumber_3 22 rfl rfl)
theorem dX3_readNumber_92 : decode cX3_readNumber 92 = .ok (.if_icmp .eq 17, 3) := dk_159 0 17 (dk_at dksX3_readNumber_4 0 rfl rfl)
theorem dX3_readNumber_95 : decode cX3_readNumber 95 = .ok (.aload_n 0, 1) := dk_42 (dk_at dksX3_readNumber_4 3 rfl rfl)
theorem dX3_readNumber_96 : decode cX3_readNumber 96 = .ok (.getfield 19, 3) := dk_180 0 19 (dk_at dksX3_readNumber_4 4 rfl rfl)
theorem dX3_readNumber_99 : decode cX3_readNumber 99 = .ok (.aload_n 0, 1) := dk_42 (dk_at dksX3_readNumber_4 7 rfl rfl)
theorem dX3_readNumber_100 : decode cX3_readNumber 100 = .ok (.getfield 215, 3) := dk_180 0 215 (dk_at dksX3_readNumber_4 8 rfl rfl)
theorem dX3_readNumber_103 : decode cX3_readNumber 103 = .ok (.iaload, 1) := dk_46 (dk_at dksX3_readNumber_4 11 rfl rfl)
theorem dX3_readNumber_104 : decode cX3_readNumber 104 = .ok (.bipush 48, 2) := dk_16 48 (dk_at dksX3_readNumber_4 12 rfl rfl)
theorem dX3_readNumber_106 : decode cX3_readNumber 106 = .ok (.if_icmp .eq 7, 3) := dk_159 0 7 (dk_at dksX3_readNumber_4 14 rfl rfl)
theorem dX3_readNumber_109 : decode cX3_readNumber 109 = .ok (.iconst 1, 1) := dk_4 (dk_at dksX3_readNumber_4 17 rfl rfl)
theorem dX3_readNumber_110 : decode cX3_readNumber 110 = .ok (.goto 4, 3) := dk_167 0 4 (dk_at dksX3_readNumber_4 18 rfl rfl)
theorem dX3_readNumber_113 : decode cX3_readNumber 113 = .ok (.iconst 0, 1) := dk_3 (dk_at dksX3_readNumber_4 21 rfl rfl)
theorem dX3_readNumber_114 : decode cX3_readNumber 114 = .ok (.istore_n 2, 1) := dk_61 (dk_at dksX3_readNumber_4 22 rfl rfl)
theorem dX3_readNumber_115 : decode cX3_readNumber 115 = .ok (.aload_n 0, 1) := dk_42 (dk_at dksX3_readNumber_4 23 rfl rfl)
theorem dX3_readNumber_116 : decode cX3_readNumber 116 = .ok (.iload_n 2, 1) := dk_28 (dk_at dksX3_readNumber_5 0 rfl rfl)
theorem dX3_readNumber_117 : decode cX3_readNumber 117 = .ok (.ifCond .eq 7, 3) := dk_153 0 7 (dk_at dksX3_readNumber_5 1 rfl rfl)
theorem dX3_readNumber_120 : decode cX3_readNumber 120 = .ok (.iconst 2, 1) := dk_5 (dk_at dksX3_readNumber_5 4 rfl rfl)
theorem dX3_readNumber_121 : decode cX3_readNumber 121 = .ok (.goto 4, 3) := dk_167 0 4 (dk_at dksX3_readNumber_5 5 rfl rfl)
theorem dX3_readNumber_124 : decode cX3_readNumber 124 = .ok (.iconst 4, 1) := dk_7 (dk_at dksX3_readNumber_5 8 rfl rfl)
theorem dX3_readNumber_125 : decode cX3_readNumber 125 = .ok (.putfield 206, 3) := dk_181 0 206 (dk_at dksX3_readNumber_5 9 rfl rfl)
theorem dX3_readNumber_128 : decode cX3_readNumber 128 = .ok (.return_, 1) := dk_177 (dk_at dksX3_readNumber_5 12 rfl rfl)
abbrev cX3_isCommand : ByteArray := prog_33_method_58_code
def yX3_isCommand : MethodName := ⟨RX3, "isCommand", "(J)Z"⟩
def dkwX3_isCommand_3 : List UInt8 := [4, 167, 0, 4, 3, 172]
abbrev dktX3_isCommand_3 : List UInt8 := dkwX3_isCommand_3 ++ []
def dkwX3_isCommand_2 : List UInt8 := [30, 20, 1, 7, 148, 153, 0, 19, 30, 20, 0, 248, 148, 153, 0, 11, 30, 20, 1, 9, 148, 154, 0, 7]
abbrev dktX3_isCommand_2 : List UInt8 := dkwX3_isCommand_2 ++ dktX3_isCommand_3
def dkwX3_isCommand_1 : List UInt8 := [30, 20, 0, 243, 148, 153, 0, 43, 30, 20, 1, 5, 148, 153, 0, 35, 30, 20, 0, 241, 148, 153, 0, 27]
abbrev dktX3_isCommand_1 : List UInt8 := dkwX3_isCommand_1 ++ dktX3_isCommand_2
def dkwX3_isCommand_0 : List UInt8 := [30, 20, 1, 1, 148, 153, 0, 67, 30, 20, 0, 255, 148, 153, 0, 59, 30, 20, 1, 3, 148, 153, 0, 51]
abbrev dktX3_isCommand_0 : List UInt8 := dkwX3_isCommand_0 ++ dktX3_isCommand_1
theorem dksX3_isCommand_0 : cX3_isCommand.data.toList.drop 0 = dktX3_isCommand_0 := by decide +kernel
theorem dksX3_isCommand_1 : cX3_isCommand.data.toList.drop 24 = dktX3_isCommand_1 := dk_seg dksX3_isCommand_0 24 rfl rfl
theorem dksX3_isCommand_2 : cX3_isCommand.data.toList.drop 48 = dktX3_isCommand_2 := dk_seg dksX3_isCommand_1 24 rfl rfl
theorem dksX3_isCommand_3 : cX3_isCommand.data.toList.drop 72 = dktX3_isCommand_3 := dk_seg dksX3_isCommand_2 24 rfl rfl
theorem dX3_isCommand_0 : decode cX3_isCommand 0 = .ok (.lload_n 0, 1) := dk_30 (dk_at dksX3_isCommand_0 0 rfl rfl)
theorem dX3_isCommand_1 : decode cX3_isCommand 1 = .ok (.ldc2_w 257, 3) := dk_20 1 1 (dk_at dksX3_isCommand_0 1 rfl rfl)
theorem dX3_isCommand_4 : decode cX3_isCommand 4 = .ok (.lcmp, 1) := dk_148 (dk_at dksX3_isCommand_0 4 rfl rfl)
theorem dX3_isCommand_5 : decode cX3_isCommand 5 = .ok (.ifCond .eq 67, 3) := dk_153 0 67 (dk_at dksX3_isCommand_0 5 rfl rfl)
theorem dX3_isCommand_8 : decode cX3_isCommand 8 = .ok (.lload_n 0, 1) := dk_30 (dk_at dksX3_isCommand_0 8 rfl rfl)
theorem dX3_isCommand_9 : decode cX3_isCommand 9 = .ok (.ldc2_w 255, 3) := dk_20 0 255 (dk_at dksX3_isCommand_0 9 rfl rfl)
theorem dX3_isCommand_12 : decode cX3_isCommand 12 = .ok (.lcmp, 1) := dk_148 (dk_at dksX3_isCommand_0 12 rfl rfl)
theorem dX3_isCommand_13 : decode cX3_isCommand 13 = .ok (.ifCond .eq 59, 3) := dk_153 0 59 (dk_at dksX3_isCommand_0 13 rfl rfl)
theorem dX3_isCommand_16 : decode cX3_isCommand 16 = .ok (.lload_n 0, 1) := dk_30 (dk_at dksX3_isCommand_0 16 rfl rfl)
theorem dX3_isCommand_17 : decode cX3_isCommand 17 = .ok (.ldc2_w 259, 3) := dk_20 1 3 (dk_at dksX3_isCommand_0 17 rfl rfl)
theorem dX3_isCommand_20 : decode cX3_isCommand 20 = .ok (.lcmp, 1) := dk_148 (dk_at dksX3_isCommand_0 20 rfl rfl)
theorem dX3_isCommand_21 : decode cX3_isCommand 21 = .ok (.ifCond .eq 51, 3) := dk_153 0 51 (dk_at dksX3_isCommand_0 21 rfl rfl)
theorem dX3_isCommand_24 : decode cX3_isCommand 24 = .ok (.lload_n 0, 1) := dk_30 (dk_at dksX3_isCommand_1 0 rfl rfl)
theorem dX3_isCommand_25 : decode cX3_isCommand 25 = .ok (.ldc2_w 243, 3) := dk_20 0 243 (dk_at dksX3_isCommand_1 1 rfl rfl)
theorem dX3_isCommand_28 : decode cX3_isCommand 28 = .ok (.lcmp, 1) := dk_148 (dk_at dksX3_isCommand_1 4 rfl rfl)
theorem dX3_isCommand_29 : decode cX3_isCommand 29 = .ok (.ifCond .eq 43, 3) := dk_153 0 43 (dk_at dksX3_isCommand_1 5 rfl rfl)
theorem dX3_isCommand_32 : decode cX3_isCommand 32 = .ok (.lload_n 0, 1) := dk_30 (dk_at dksX3_isCommand_1 8 rfl rfl)
theorem dX3_isCommand_33 : decode cX3_isCommand 33 = .ok (.ldc2_w 261, 3) := dk_20 1 5 (dk_at dksX3_isCommand_1 9 rfl rfl)
theorem dX3_isCommand_36 : decode cX3_isCommand 36 = .ok (.lcmp, 1) := dk_148 (dk_at dksX3_isCommand_1 12 rfl rfl)
theorem dX3_isCommand_37 : decode cX3_isCommand 37 = .ok (.ifCond .eq 35, 3) := dk_153 0 35 (dk_at dksX3_isCommand_1 13 rfl rfl)
theorem dX3_isCommand_40 : decode cX3_isCommand 40 = .ok (.lload_n 0, 1) := dk_30 (dk_at dksX3_isCommand_1 16 rfl rfl)
theorem dX3_isCommand_41 : decode cX3_isCommand 41 = .ok (.ldc2_w 241, 3) := dk_20 0 241 (dk_at dksX3_isCommand_1 17 rfl rfl)
theorem dX3_isCommand_44 : decode cX3_isCommand 44 = .ok (.lcmp, 1) := dk_148 (dk_at dksX3_isCommand_1 20 rfl rfl)
theorem dX3_isCommand_45 : decode cX3_isCommand 45 = .ok (.ifCond .eq 27, 3) := dk_153 0 27 (dk_at dksX3_isCommand_1 21 rfl rfl)
theorem dX3_isCommand_48 : decode cX3_isCommand 48 = .ok (.lload_n 0, 1) := dk_30 (dk_at dksX3_isCommand_2 0 rfl rfl)
theorem dX3_isCommand_49 : decode cX3_isCommand 49 = .ok (.ldc2_w 263, 3) := dk_20 1 7 (dk_at dksX3_isCommand_2 1 rfl rfl)
theorem dX3_isCommand_52 : decode cX3_isCommand 52 = .ok (.lcmp, 1) := dk_148 (dk_at dksX3_isCommand_2 4 rfl rfl)
theorem dX3_isCommand_53 : decode cX3_isCommand 53 = .ok (.ifCond .eq 19, 3) := dk_153 0 19 (dk_at dksX3_isCommand_2 5 rfl rfl)
theorem dX3_isCommand_56 : decode cX3_isCommand 56 = .ok (.lload_n 0, 1) := dk_30 (dk_at dksX3_isCommand_2 8 rfl rfl)
theorem dX3_isCommand_57 : decode cX3_isCommand 57 = .ok (.ldc2_w 248, 3) := dk_20 0 248 (dk_at dksX3_isCommand_2 9 rfl rfl)
theorem dX3_isCommand_60 : decode cX3_isCommand 60 = .ok (.lcmp, 1) := dk_148 (dk_at dksX3_isCommand_2 12 rfl rfl)
theorem dX3_isCommand_61 : decode cX3_isCommand 61 = .ok (.ifCond .eq 11, 3) := dk_153 0 11 (dk_at dksX3_isCommand_2 13 rfl rfl)
theorem dX3_isCommand_64 : decode cX3_isCommand 64 = .ok (.lload_n 0, 1) := dk_30 (dk_at dksX3_isCommand_2 16 rfl rfl)
theorem dX3_isCommand_65 : decode cX3_isCommand 65 = .ok (.ldc2_w 265, 3) := dk_20 1 9 (dk_at dksX3_isCommand_2 17 rfl rfl)
theorem dX3_isCommand_68 : decode cX3_isCommand 68 = .ok (.lcmp, 1) := dk_148 (dk_at dksX3_isCommand_2 20 rfl rfl)
theorem dX3_isCommand_69 : decode cX3_isCommand 69 = .ok (.ifCond .ne 7, 3) := dk_154 0 7 (dk_at dksX3_isCommand_2 21 rfl rfl)
theorem dX3_isCommand_72 : decode cX3_isCommand 72 = .ok (.iconst 1, 1) := dk_4 (dk_at dksX3_isCommand_3 0 rfl rfl)
theorem dX3_isCommand_73 : decode cX3_isCommand 73 = .ok (.goto 4, 3) := dk_167 0 4 (dk_at dksX3_isCommand_3 1 rfl rfl)
theorem dX3_isCommand_76 : decode cX3_isCommand 76 = .ok (.iconst 0, 1) := dk_3 (dk_at dksX3_isCommand_3 4 rfl rfl)
theorem dX3_isCommand_77 : decode cX3_isCommand 77 = .ok (.ireturn, 1) := dk_172 (dk_at dksX3_isCommand_3 5 rfl rfl)
abbrev cX3_readsNeeds : ByteArray := prog_33_method_57_code
def yX3_readsNeeds : MethodName := ⟨RX3, "readsNeeds", "(J)Z"⟩
def dkwX3_readsNeeds_8 : List UInt8 := [4, 62, 42, 29, 29, 182, 0, 250, 172]
abbrev dktX3_readsNeeds_8 : List UInt8 := dkwX3_readsNeeds_8 ++ []
def dkwX3_readsNeeds_7 : List UInt8 := [31, 20, 1, 1, 148, 154, 0, 7, 5, 167, 0, 16, 31, 20, 1, 3, 148, 154, 0, 7, 3, 167, 0, 4]
abbrev dktX3_readsNeeds_7 : List UInt8 := dkwX3_readsNeeds_7 ++ dktX3_readsNeeds_8
def dkwX3_readsNeeds_6 : List UInt8 := [153, 0, 7, 42, 182, 0, 227, 29, 172, 31, 20, 0, 255, 148, 154, 0, 10, 42, 4, 7, 182, 0, 250, 172]
abbrev dktX3_readsNeeds_6 : List UInt8 := dkwX3_readsNeeds_6 ++ dktX3_readsNeeds_7
def dkwX3_readsNeeds_5 : List UInt8 := [180, 0, 192, 20, 0, 253, 148, 154, 0, 7, 4, 167, 0, 4, 3, 181, 0, 238, 42, 180, 0, 238]
abbrev dktX3_readsNeeds_5 : List UInt8 := dkwX3_readsNeeds_5 ++ dktX3_readsNeeds_6
def dkwX3_readsNeeds_4 : List UInt8 := [21, 4, 172, 31, 20, 0, 248, 148, 154, 0, 47, 42, 6, 6, 182, 0, 250, 62, 42, 29, 153, 0, 18, 42]
abbrev dktX3_readsNeeds_4 : List UInt8 := dkwX3_readsNeeds_4 ++ dktX3_readsNeeds_5
def dkwX3_readsNeeds_3 : List UInt8 := [160, 0, 7, 4, 167, 0, 4, 3, 54, 4, 21, 4, 154, 0, 12, 42, 29, 181, 0, 196, 42, 182, 0, 227]
abbrev dktX3_readsNeeds_3 : List UInt8 := dkwX3_readsNeeds_3 ++ dktX3_readsNeeds_4
def dkwX3_readsNeeds_2 : List UInt8 := [20, 0, 241, 148, 153, 0, 22, 42, 180, 0, 46, 3, 46, 153, 0, 13, 42, 180, 0, 46, 3, 46, 5]
abbrev dktX3_readsNeeds_2 : List UInt8 := dkwX3_readsNeeds_2 ++ dktX3_readsNeeds_3
def dkwX3_readsNeeds_1 : List UInt8 := [180, 0, 196, 62, 42, 180, 0, 46, 3, 42, 182, 0, 245, 79, 42, 180, 0, 46, 3, 46, 155, 0, 34, 31]
abbrev dktX3_readsNeeds_1 : List UInt8 := dkwX3_readsNeeds_1 ++ dktX3_readsNeeds_2
def dkwX3_readsNeeds_0 : List UInt8 := [42, 3, 181, 0, 238, 31, 20, 0, 241, 148, 153, 0, 11, 31, 20, 0, 243, 148, 154, 0, 78, 42]
abbrev dktX3_readsNeeds_0 : List UInt8 := dkwX3_readsNeeds_0 ++ dktX3_readsNeeds_1
theorem dksX3_readsNeeds_0 : cX3_readsNeeds.data.toList.drop 0 = dktX3_readsNeeds_0 := by decide +kernel
theorem dksX3_readsNeeds_1 : cX3_readsNeeds.data.toList.drop 22 = dktX3_readsNeeds_1 := dk_seg dksX3_readsNeeds_0 22 rfl rfl
theorem dksX3_readsNeeds_2 : cX3_readsNeeds.data.toList.drop 46 = dktX3_readsNeeds_2 := dk_seg dksX3_readsNeeds_1 24 rfl rfl
theorem dksX3_readsNeeds_3 : cX3_readsNeeds.data.toList.drop 69 = dktX3_readsNeeds_3 := dk_seg dksX3_readsNeeds_2 23 rfl rfl
theorem dksX3_readsNeeds_4 : cX3_readsNeeds.data.toList.drop 93 = dktX3_readsNeeds_4 := dk_seg dksX3_readsNeeds_3 24 rfl rfl
theorem dksX3_readsNeeds_5 : cX3_readsNeeds.data.toList.drop 117 = dktX3_readsNeeds_5 := dk_seg dksX3_readsNeeds_4 24 rfl rfl
theorem dksX3_readsNeeds_6 : cX3_readsNeeds.data.toList.drop 139 = dktX3_readsNeeds_6 := dk_seg dksX3_readsNeeds_5 22 rfl rfl
theorem dksX3_readsNeeds_7 : cX3_readsNeeds.data.toList.drop 163 = dktX3_readsNeeds_7 := dk_seg dksX3_readsNeeds_6 24 rfl rfl
theorem dksX3_readsNeeds_8 : cX3_readsNeeds.data.toList.drop 187 = dktX3_readsNeeds_8 := dk_seg dksX3_readsNeeds_7 24 rfl rfl
theorem dX3_readsNeeds_0 : decode cX3_readsNeeds 0 = .ok (.aload_n 0, 1) := dk_42 (dk_at dksX3_readsNeeds_0 0 rfl rfl)
theorem dX3_readsNeeds_1 : decode cX3_readsNeeds 1 = .ok (.iconst 0, 1) := dk_3 (dk_at dksX3_readsNeeds_0 1 rfl rfl)
theorem dX3_readsNeeds_2 : decode cX3_readsNeeds 2 = .ok (.putfield 238, 3) := dk_181 0 238 (dk_at dksX3_readsNeeds_0 2 rfl rfl)
theorem dX3_readsNeeds_5 : decode cX3_readsNeeds 5 = .ok (.lload_n 1, 1) := dk_31 (dk_at dksX3_readsNeeds_0 5 rfl rfl)
theorem dX3_readsNeeds_6 : decode cX3_readsNeeds 6 = .ok (.ldc2_w 241, 3) := dk_20 0 241 (dk_at dksX3_readsNeeds_0 6 rfl rfl)
theorem dX3_readsNeeds_9 : decode cX3_readsNeeds 9 = .ok (.lcmp, 1) := dk_148 (dk_at dksX3_readsNeeds_0 9 rfl rfl)
theorem dX3_readsNeeds_10 : decode cX3_readsNeeds 10 = .ok (.ifCond .eq 11, 3) := dk_153 0 11 (dk_at dksX3_readsNeeds_0 10 rfl rfl)
theorem dX3_readsNeeds_13 : decode cX3_readsNeeds 13 = .ok (.lload_n 1, 1) := dk_31 (dk_at dksX3_readsNeeds_0 13 rfl rfl)
theorem dX3_readsNeeds_14 : decode cX3_readsNeeds 14 = .ok (.ldc2_w 243, 3) := dk_20 0 243 (dk_at dksX3_readsNeeds_0 14 rfl rfl)
theorem dX3_readsNeeds_17 : decode cX3_readsNeeds 17 = .ok (.lcmp, 1) := dk_148 (dk_at dksX3_readsNeeds_0 17 rfl rfl)
theorem dX3_readsNeeds_18 : decode cX3_readsNeeds 18 = .ok (.ifCond .ne 78, 3) := dk_154 0 78 (dk_at dksX3_readsNeeds_0 18 rfl rfl)
theorem dX3_readsNeeds_21 : decode cX3_readsNeeds 21 = .ok (.aload_n 0, 1) := dk_42 (dk_at dksX3_readsNeeds_0 21 rfl rfl)
theorem dX3_readsNeeds_22 : decode cX3_readsNeeds 22 = .ok (.getfield 196, 3) := dk_180 0 196 (dk_at dksX3_readsNeeds_1 0 rfl rfl)
theorem dX3_readsNeeds_25 : decode cX3_readsNeeds 25 = .ok (.istore_n 3, 1) := dk_62 (dk_at dksX3_readsNeeds_1 3 rfl rfl)
theorem dX3_readsNeeds_26 : decode cX3_readsNeeds 26 = .ok (.aload_n 0, 1) := dk_42 (dk_at dksX3_readsNeeds_1 4 rfl rfl)
theorem dX3_readsNeeds_27 : decode cX3_readsNeeds 27 = .ok (.getfield 46, 3) := dk_180 0 46 (dk_at dksX3_readsNeeds_1 5 rfl rfl)
theorem dX3_readsNeeds_30 : decode cX3_readsNeeds 30 = .ok (.iconst 0, 1) := dk_3 (dk_at dksX3_readsNeeds_1 8 rfl rfl)
theorem dX3_readsNeeds_31 : decode cX3_readsNeeds 31 = .ok (.aload_n 0, 1) := dk_42 (dk_at dksX3_readsNeeds_1 9 rfl rfl)
theorem dX3_readsNeeds_32 : decode cX3_readsNeeds 32 = .ok (.invokevirtual 245, 3) := dk_182 0 245 (dk_at dksX3_readsNeeds_1 10 rfl rfl)
theorem dX3_readsNeeds_35 : decode cX3_readsNeeds 35 = .ok (.iastore, 1) := dk_79 (dk_at dksX3_readsNeeds_1 13 rfl rfl)
theorem dX3_readsNeeds_36 : decode cX3_readsNeeds 36 = .ok (.aload_n 0, 1) := dk_42 (dk_at dksX3_readsNeeds_1 14 rfl rfl)
theorem dX3_readsNeeds_37 : decode cX3_readsNeeds 37 = .ok (.getfield 46, 3) := dk_180 0 46 (dk_at dksX3_readsNeeds_1 15 rfl rfl)
theorem dX3_readsNeeds_40 : decode cX3_readsNeeds 40 = .ok (.iconst 0, 1) := dk_3 (dk_at dksX3_readsNeeds_1 18 rfl rfl)
theorem dX3_readsNeeds_41 : decode cX3_readsNeeds 41 = .ok (.iaload, 1) := dk_46 (dk_at dksX3_readsNeeds_1 19 rfl rfl)
theorem dX3_readsNeeds_42 : decode cX3_readsNeeds 42 = .ok (.ifCond .lt 34, 3) := dk_155 0 34 (dk_at dksX3_readsNeeds_1 20 rfl rfl)
theorem dX3_readsNeeds_45 : decode cX3_readsNeeds 45 = .ok (.lload_n 1, 1) := dk_31 (dk_at dksX3_readsNeeds_1 23 rfl rfl)
theorem dX3_readsNeeds_46 : decode cX3_readsNeeds 46 = .ok (.ldc2_w 241, 3) := dk_20 0 241 (dk_at dksX3_readsNeeds_2 0 rfl rfl)
theorem dX3_readsNeeds_49 : decode cX3_readsNeeds 49 = .ok (.lcmp, 1) := dk_148 (dk_at dksX3_readsNeeds_2 3 rfl rfl)
theorem dX3_readsNeeds_50 : decode cX3_readsNeeds 50 = .ok (.ifCond .eq 22, 3) := dk_153 0 22 (dk_at dksX3_readsNeeds_2 4 rfl rfl)
theorem dX3_readsNeeds_53 : decode cX3_readsNeeds 53 = .ok (.aload_n 0, 1) := dk_42 (dk_at dksX3_readsNeeds_2 7 rfl rfl)
theorem dX3_readsNeeds_54 : decode cX3_readsNeeds 54 = .ok (.getfield 46, 3) := dk_180 0 46 (dk_at dksX3_readsNeeds_2 8 rfl rfl)
theorem dX3_readsNeeds_57 : decode cX3_readsNeeds 57 = .ok (.iconst 0, 1) := dk_3 (dk_at dksX3_readsNeeds_2 11 rfl rfl)
theorem dX3_readsNeeds_58 : decode cX3_readsNeeds 58 = .ok (.iaload, 1) := dk_46 (dk_at dksX3_readsNeeds_2 12 rfl rfl)
theorem dX3_readsNeeds_59 : decode cX3_readsNeeds 59 = .ok (.ifCond .eq 13, 3) := dk_153 0 13 (dk_at dksX3_readsNeeds_2 13 rfl rfl)
theorem dX3_readsNeeds_62 : decode cX3_readsNeeds 62 = .ok (.aload_n 0, 1) := dk_42 (dk_at dksX3_readsNeeds_2 16 rfl rfl)
theorem dX3_readsNeeds_63 : decode cX3_readsNeeds 63 = .ok (.getfield 46, 3) := dk_180 0 46 (dk_at dksX3_readsNeeds_2 17 rfl rfl)
theorem dX3_readsNeeds_66 : decode cX3_readsNeeds 66 = .ok (.iconst 0, 1) := dk_3 (dk_at dksX3_readsNeeds_2 20 rfl rfl)
theorem dX3_readsNeeds_67 : decode cX3_readsNeeds 67 = .ok (.iaload, 1) := dk_46 (dk_at dksX3_readsNeeds_2 21 rfl rfl)
theorem dX3_readsNeeds_68 : decode cX3_readsNeeds 68 = .ok (.iconst 2, 1) := dk_5 (dk_at dksX3_readsNeeds_2 22 rfl rfl)
theorem dX3_readsNeeds_69 : decode cX3_readsNeeds 69 = .ok (.if_icmp .ne 7, 3) := dk_160 0 7 (dk_at dksX3_readsNeeds_3 0 rfl rfl)
theorem dX3_readsNeeds_72 : decode cX3_readsNeeds 72 = .ok (.iconst 1, 1) := dk_4 (dk_at dksX3_readsNeeds_3 3 rfl rfl)
theorem dX3_readsNeeds_73 : decode cX3_readsNeeds 73 = .ok (.goto 4, 3) := dk_167 0 4 (dk_at dksX3_readsNeeds_3 4 rfl rfl)
theorem dX3_readsNeeds_76 : decode cX3_readsNeeds 76 = .ok (.iconst 0, 1) := dk_3 (dk_at dksX3_readsNeeds_3 7 rfl rfl)
theorem dX3_readsNeeds_77 : decode cX3_readsNeeds 77 = .ok (.istore 4, 2) := dk_54 4 (dk_at dksX3_readsNeeds_3 8 rfl rfl)
theorem dX3_readsNeeds_79 : decode cX3_readsNeeds 79 = .ok (.iload 4, 2) := dk_21 4 (dk_at dksX3_readsNeeds_3 10 rfl rfl)
theorem dX3_readsNeeds_81 : decode cX3_readsNeeds 81 = .ok (.ifCond .ne 12, 3) := dk_154 0 12 (dk_at dksX3_readsNeeds_3 12 rfl rfl)
theorem dX3_readsNeeds_84 : decode cX3_readsNeeds 84 = .ok (.aload_n 0, 1) := dk_42 (dk_at dksX3_readsNeeds_3 15 rfl rfl)
theorem dX3_readsNeeds_85 : decode cX3_readsNeeds 85 = .ok (.iload_n 3, 1) := dk_29 (dk_at dksX3_readsNeeds_3 16 rfl rfl)
theorem dX3_readsNeeds_86 : decode cX3_readsNeeds 86 = .ok (.putfield 196, 3) := dk_181 0 196 (dk_at dksX3_readsNeeds_3 17 rfl rfl)
theorem dX3_readsNeeds_89 : decode cX3_readsNeeds 89 = .ok (.aload_n 0, 1) := dk_42 (dk_at dksX3_readsNeeds_3 20 rfl rfl)
theorem dX3_readsNeeds_90 : decode cX3_readsNeeds 90 = .ok (.invokevirtual 227, 3) := dk_182 0 227 (dk_at dksX3_readsNeeds_3 21 rfl rfl)
theorem dX3_readsNeeds_93 : decode cX3_readsNeeds 93 = .ok (.iload 4, 2) := dk_21 4 (dk_at dksX3_readsNeeds_4 0 rfl rfl)
theorem dX3_readsNeeds_95 : decode cX3_readsNeeds 95 = .ok (.ireturn, 1) := dk_172 (dk_at dksX3_readsNeeds_4 2 rfl rfl)
theorem dX3_readsNeeds_96 : decode cX3_readsNeeds 96 = .ok (.lload_n 1, 1) := dk_31 (dk_at dksX3_readsNeeds_4 3 rfl rfl)
theorem dX3_readsNeeds_97 : decode cX3_readsNeeds 97 = .ok (.ldc2_w 248, 3) := dk_20 0 248 (dk_at dksX3_readsNeeds_4 4 rfl rfl)
theorem dX3_readsNeeds_100 : decode cX3_readsNeeds 100 = .ok (.lcmp, 1) := dk_148 (dk_at dksX3_readsNeeds_4 7 rfl rfl)
theorem dX3_readsNeeds_101 : decode cX3_readsNeeds 101 = .ok (.ifCond .ne 47, 3) := dk_154 0 47 (dk_at dksX3_readsNeeds_4 8 rfl rfl)
theorem dX3_readsNeeds_104 : decode cX3_readsNeeds 104 = .ok (.aload_n 0, 1) := dk_42 (dk_at dksX3_readsNeeds_4 11 rfl rfl)
theorem dX3_readsNeeds_105 : decode cX3_readsNeeds 105 = .ok (.iconst 3, 1) := dk_6 (dk_at dksX3_readsNeeds_4 12 rfl rfl)
theorem dX3_readsNeeds_106 : decode cX3_readsNeeds 106 = .ok (.iconst 3, 1) := dk_6 (dk_at dksX3_readsNeeds_4 13 rfl rfl)
theorem dX3_readsNeeds_107 : decode cX3_readsNeeds 107 = .ok (.invokevirtual 250, 3) := dk_182 0 250 (dk_at dksX3_readsNeeds_4 14 rfl rfl)
theorem dX3_readsNeeds_110 : decode cX3_readsNeeds 110 = .ok (.istore_n 3, 1) := dk_62 (dk_at dksX3_readsNeeds_4 17 rfl rfl)
theorem dX3_readsNeeds_111 : decode cX3_readsNeeds 111 = .ok (.aload_n 0, 1) := dk_42 (dk_at dksX3_readsNeeds_4 18 rfl rfl)
theorem dX3_readsNeeds_112 : decode cX3_readsNeeds 112 = .ok (.iload_n 3, 1) := dk_29 (dk_at dksX3_readsNeeds_4 19 rfl rfl)
theorem dX3_readsNeeds_113 : decode cX3_readsNeeds 113 = .ok (.ifCond .eq 18, 3) := dk_153 0 18 (dk_at dksX3_readsNeeds_4 20 rfl rfl)
theorem dX3_readsNeeds_116 : decode cX3_readsNeeds 116 = .ok (.aload_n 0, 1) := dk_42 (dk_at dksX3_readsNeeds_4 23 rfl rfl)
theorem dX3_readsNeeds_117 : decode cX3_readsNeeds 117 = .ok (.getfield 192, 3) := dk_180 0 192 (dk_at dksX3_readsNeeds_5 0 rfl rfl)
theorem dX3_readsNeeds_120 : decode cX3_readsNeeds 120 = .ok (.ldc2_w 253, 3) := dk_20 0 253 (dk_at dksX3_readsNeeds_5 3 rfl rfl)
theorem dX3_readsNeeds_123 : decode cX3_readsNeeds 123 = .ok (.lcmp, 1) := dk_148 (dk_at dksX3_readsNeeds_5 6 rfl rfl)
theorem dX3_readsNeeds_124 : decode cX3_readsNeeds 124 = .ok (.ifCond .ne 7, 3) := dk_154 0 7 (dk_at dksX3_readsNeeds_5 7 rfl rfl)
theorem dX3_readsNeeds_127 : decode cX3_readsNeeds 127 = .ok (.iconst 1, 1) := dk_4 (dk_at dksX3_readsNeeds_5 10 rfl rfl)
theorem dX3_readsNeeds_128 : decode cX3_readsNeeds 128 = .ok (.goto 4, 3) := dk_167 0 4 (dk_at dksX3_readsNeeds_5 11 rfl rfl)
theorem dX3_readsNeeds_131 : decode cX3_readsNeeds 131 = .ok (.iconst 0, 1) := dk_3 (dk_at dksX3_readsNeeds_5 14 rfl rfl)
theorem dX3_readsNeeds_132 : decode cX3_readsNeeds 132 = .ok (.putfield 238, 3) := dk_181 0 238 (dk_at dksX3_readsNeeds_5 15 rfl rfl)
theorem dX3_readsNeeds_135 : decode cX3_readsNeeds 135 = .ok (.aload_n 0, 1) := dk_42 (dk_at dksX3_readsNeeds_5 18 rfl rfl)
theorem dX3_readsNeeds_136 : decode cX3_readsNeeds 136 = .ok (.getfield 238, 3) := dk_180 0 238 (dk_at dksX3_readsNeeds_5 19 rfl rfl)
theorem dX3_readsNeeds_139 : decode cX3_readsNeeds 139 = .ok (.ifCond .eq 7, 3) := dk_153 0 7 (dk_at dksX3_readsNeeds_6 0 rfl rfl)
theorem dX3_readsNeeds_142 : decode cX3_readsNeeds 142 = .ok (.aload_n 0, 1) := dk_42 (dk_at dksX3_readsNeeds_6 3 rfl rfl)
theorem dX3_readsNeeds_143 : decode cX3_readsNeeds 143 = .ok (.invokevirtual 227, 3) := dk_182 0 227 (dk_at dksX3_readsNeeds_6 4 rfl rfl)
theorem dX3_readsNeeds_146 : decode cX3_readsNeeds 146 = .ok (.iload_n 3, 1) := dk_29 (dk_at dksX3_readsNeeds_6 7 rfl rfl)
theorem dX3_readsNeeds_147 : decode cX3_readsNeeds 147 = .ok (.ireturn, 1) := dk_172 (dk_at dksX3_readsNeeds_6 8 rfl rfl)
theorem dX3_readsNeeds_148 : decode cX3_readsNeeds 148 = .ok (.lload_n 1, 1) := dk_31 (dk_at dksX3_readsNeeds_6 9 rfl rfl)
theorem dX3_readsNeeds_149 : decode cX3_readsNeeds 149 = .ok (.ldc2_w 255, 3) := dk_20 0 255 (dk_at dksX3_readsNeeds_6 10 rfl rfl)
theorem dX3_readsNeeds_152 : decode cX3_readsNeeds 152 = .ok (.lcmp, 1) := dk_148 (dk_at dksX3_readsNeeds_6 13 rfl rfl)
theorem dX3_readsNeeds_153 : decode cX3_readsNeeds 153 = .ok (.ifCond .ne 10, 3) := dk_154 0 10 (dk_at dksX3_readsNeeds_6 14 rfl rfl)
theorem dX3_readsNeeds_156 : decode cX3_readsNeeds 156 = .ok (.aload_n 0, 1) := dk_42 (dk_at dksX3_readsNeeds_6 17 rfl rfl)
theorem dX3_readsNeeds_157 : decode cX3_readsNeeds 157 = .ok (.iconst 1, 1) := dk_4 (dk_at dksX3_readsNeeds_6 18 rfl rfl)
theorem dX3_readsNeeds_158 : decode cX3_readsNeeds 158 = .ok (.iconst 4, 1) := dk_7 (dk_at dksX3_readsNeeds_6 19 rfl rfl)
theorem dX3_readsNeeds_159 : decode cX3_readsNeeds 159 = .ok (.invokevirtual 250, 3) := dk_182 0 250 (dk_at dksX3_readsNeeds_6 20 rfl rfl)
theorem dX3_readsNeeds_162 : decode cX3_readsNeeds 162 = .ok (.ireturn, 1) := dk_172 (dk_at dksX3_readsNeeds_6 23 rfl rfl)
theorem dX3_readsNeeds_163 : decode cX3_readsNeeds 163 = .ok (.lload_n 1, 1) := dk_31 (dk_at dksX3_readsNeeds_7 0 rfl rfl)
theorem dX3_readsNeeds_164 : decode cX3_readsNeeds 164 = .ok (.ldc2_w 257, 3) := dk_20 1 1 (dk_at dksX3_readsNeeds_7 1 rfl rfl)
theorem dX3_readsNeeds_167 : decode cX3_readsNeeds 167 = .ok (.lcmp, 1) := dk_148 (dk_at dksX3_readsNeeds_7 4 rfl rfl)
theorem dX3_readsNeeds_168 : decode cX3_readsNeeds 168 = .ok (.ifCond .ne 7, 3) := dk_154 0 7 (dk_at dksX3_readsNeeds_7 5 rfl rfl)
theorem dX3_readsNeeds_171 : decode cX3_readsNeeds 171 = .ok (.iconst 2, 1) := dk_5 (dk_at dksX3_readsNeeds_7 8 rfl rfl)
theorem dX3_readsNeeds_172 : decode cX3_readsNeeds 172 = .ok (.goto 16, 3) := dk_167 0 16 (dk_at dksX3_readsNeeds_7 9 rfl rfl)
theorem dX3_readsNeeds_175 : decode cX3_readsNeeds 175 = .ok (.lload_n 1, 1) := dk_31 (dk_at dksX3_readsNeeds_7 12 rfl rfl)
theorem dX3_readsNeeds_176 : decode cX3_readsNeeds 176 = .ok (.ldc2_w 259, 3) := dk_20 1 3 (dk_at dksX3_readsNeeds_7 13 rfl rfl)
theorem dX3_readsNeeds_179 : decode cX3_readsNeeds 179 = .ok (.lcmp, 1) := dk_148 (dk_at dksX3_readsNeeds_7 16 rfl rfl)
theorem dX3_readsNeeds_180 : decode cX3_readsNeeds 180 = .ok (.ifCond .ne 7, 3) := dk_154 0 7 (dk_at dksX3_readsNeeds_7 17 rfl rfl)
theorem dX3_readsNeeds_183 : decode cX3_readsNeeds 183 = .ok (.iconst 0, 1) := dk_3 (dk_at dksX3_readsNeeds_7 20 rfl rfl)
theorem dX3_readsNeeds_184 : decode cX3_readsNeeds 184 = .ok (.goto 4, 3) := dk_167 0 4 (dk_at dksX3_readsNeeds_7 21 rfl rfl)
theorem dX3_readsNeeds_187 : decode cX3_readsNeeds 187 = .ok (.iconst 1, 1) := dk_4 (dk_at dksX3_readsNeeds_8 0 rfl rfl)
theorem dX3_readsNeeds_188 : decode cX3_readsNeeds 188 = .ok (.istore_n 3, 1) := dk_62 (dk_at dksX3_readsNeeds_8 1 rfl rfl)
theorem dX3_readsNeeds_189 : decode cX3_readsNeeds 189 = .ok (.aload_n 0, 1) := dk_42 (dk_at dksX3_readsNeeds_8 2 rfl rfl)
theorem dX3_readsNeeds_190 : decode cX3_readsNeeds 190 = .ok (.iload_n 3, 1) := dk_29 (dk_at dksX3_readsNeeds_8 3 rfl rfl)
theorem dX3_readsNeeds_191 : decode cX3_readsNeeds 191 = .ok (.iload_n 3, 1) := dk_29 (dk_at dksX3_readsNeeds_8 4 rfl rfl)
theorem dX3_readsNeeds_192 : decode cX3_readsNeeds 192 = .ok (.invokevirtual 250, 3) := dk_182 0 250 (dk_at dksX3_readsNeeds_8 5 rfl rfl)
theorem dX3_readsNeeds_195 : decode cX3_readsNeeds 195 = .ok (.ireturn, 1) := dk_172 (dk_at dksX3_readsNeeds_8 8 rfl rfl)
abbrev cX3_edgeWord : ByteArray := prog_33_method_56_code
def yX3_edgeWord : MethodName := ⟨RX3, "edgeWord", "()I"⟩
def dkwX3_edgeWord_3 : List UInt8 := [42, 182, 0, 227, 27, 172]
abbrev dktX3_edgeWord_3 : List UInt8 := dkwX3_edgeWord_3 ++ []
def dkwX3_edgeWord_2 : List UInt8 := [167, 0, 19, 42, 180, 0, 192, 20, 0, 236, 148, 154, 0, 7, 6, 167, 0, 4, 2, 60, 27, 155, 0, 7]
abbrev dktX3_edgeWord_2 : List UInt8 := dkwX3_edgeWord_2 ++ dktX3_edgeWord_3
def dkwX3_edgeWord_1 : List UInt8 := [20, 0, 232, 148, 154, 0, 7, 4, 167, 0, 34, 42, 180, 0, 192, 20, 0, 234, 148, 154, 0, 7, 5]
abbrev dktX3_edgeWord_1 : List UInt8 := dkwX3_edgeWord_1 ++ dktX3_edgeWord_2
def dkwX3_edgeWord_0 : List UInt8 := [42, 182, 0, 227, 42, 180, 0, 192, 20, 0, 230, 148, 154, 0, 7, 3, 167, 0, 49, 42, 180, 0, 192]
abbrev dktX3_edgeWord_0 : List UInt8 := dkwX3_edgeWord_0 ++ dktX3_edgeWord_1
theorem dksX3_edgeWord_0 : cX3_edgeWord.data.toList.drop 0 = dktX3_edgeWord_0 := by decide +kernel
theorem dksX3_edgeWord_1 : cX3_edgeWord.data.toList.drop 23 = dktX3_edgeWord_1 := dk_seg dksX3_edgeWord_0 23 rfl rfl
theorem dksX3_edgeWord_2 : cX3_edgeWord.data.toList.drop 46 = dktX3_edgeWord_2 := dk_seg dksX3_edgeWord_1 23 rfl rfl
theorem dksX3_edgeWord_3 : cX3_edgeWord.data.toList.drop 70 = dktX3_edgeWord_3 := dk_seg dksX3_edgeWord_2 24 rfl rfl
theorem dX3_edgeWord_0 : decode cX3_edgeWord 0 = .ok (.aload_n 0, 1) := dk_42 (dk_at dksX3_edgeWord_0 0 rfl rfl)
theorem dX3_edgeWord_1 : decode cX3_edgeWord 1 = .ok (.invokevirtual 227, 3) := dk_182 0 227 (dk_at dksX3_edgeWord_0 1 rfl rfl)
theorem dX3_edgeWord_4 : decode cX3_edgeWord 4 = .ok (.aload_n 0, 1) := dk_42 (dk_at dksX3_edgeWord_0 4 rfl rfl)
theorem dX3_edgeWord_5 : decode cX3_edgeWord 5 = .ok (.getfield 192, 3) := dk_180 0 192 (dk_at dksX3_edgeWord_0 5 rfl rfl)
theorem dX3_edgeWord_8 : decode cX3_edgeWord 8 = .ok (.ldc2_w 230, 3) := dk_20 0 230 (dk_at dksX3_edgeWord_0 8 rfl rfl)
theorem dX3_edgeWord_11 : decode cX3_edgeWord 11 = .ok (.lcmp, 1) := dk_148 (dk_at dksX3_edgeWord_0 11 rfl rfl)
theorem dX3_edgeWord_12 : decode cX3_edgeWord 12 = .ok (.ifCond .ne 7, 3) := dk_154 0 7 (dk_at dksX3_edgeWord_0 12 rfl rfl)
theorem dX3_edgeWord_15 : decode cX3_edgeWord 15 = .ok (.iconst 0, 1) := dk_3 (dk_at dksX3_edgeWord_0 15 rfl rfl)
theorem dX3_edgeWord_16 : decode cX3_edgeWord 16 = .ok (.goto 49, 3) := dk_167 0 49 (dk_at dksX3_edgeWord_0 16 rfl rfl)
theorem dX3_edgeWord_19 : decode cX3_edgeWord 19 = .ok (.aload_n 0, 1) := dk_42 (dk_at dksX3_edgeWord_0 19 rfl rfl)
theorem dX3_edgeWord_20 : decode cX3_edgeWord 20 = .ok (.getfield 192, 3) := dk_180 0 192 (dk_at dksX3_edgeWord_0 20 rfl rfl)
theorem dX3_edgeWord_23 : decode cX3_edgeWord 23 = .ok (.ldc2_w 232, 3) := dk_20 0 232 (dk_at dksX3_edgeWord_1 0 rfl rfl)
theorem dX3_edgeWord_26 : decode cX3_edgeWord 26 = .ok (.lcmp, 1) := dk_148 (dk_at dksX3_edgeWord_1 3 rfl rfl)
theorem dX3_edgeWord_27 : decode cX3_edgeWord 27 = .ok (.ifCond .ne 7, 3) := dk_154 0 7 (dk_at dksX3_edgeWord_1 4 rfl rfl)
theorem dX3_edgeWord_30 : decode cX3_edgeWord 30 = .ok (.iconst 1, 1) := dk_4 (dk_at dksX3_edgeWord_1 7 rfl rfl)
theorem dX3_edgeWord_31 : decode cX3_edgeWord 31 = .ok (.goto 34, 3) := dk_167 0 34 (dk_at dksX3_edgeWord_1 8 rfl rfl)
theorem dX3_edgeWord_34 : decode cX3_edgeWord 34 = .ok (.aload_n 0, 1) := dk_42 (dk_at dksX3_edgeWord_1 11 rfl rfl)
theorem dX3_edgeWord_35 : decode cX3_edgeWord 35 = .ok (.getfield 192, 3) := dk_180 0 192 (dk_at dksX3_edgeWord_1 12 rfl rfl)
theorem dX3_edgeWord_38 : decode cX3_edgeWord 38 = .ok (.ldc2_w 234, 3) := dk_20 0 234 (dk_at dksX3_edgeWord_1 15 rfl rfl)
theorem dX3_edgeWord_41 : decode cX3_edgeWord 41 = .ok (.lcmp, 1) := dk_148 (dk_at dksX3_edgeWord_1 18 rfl rfl)
theorem dX3_edgeWord_42 : decode cX3_edgeWord 42 = .ok (.ifCond .ne 7, 3) := dk_154 0 7 (dk_at dksX3_edgeWord_1 19 rfl rfl)
theorem dX3_edgeWord_45 : decode cX3_edgeWord 45 = .ok (.iconst 2, 1) := dk_5 (dk_at dksX3_edgeWord_1 22 rfl rfl)
theorem dX3_edgeWord_46 : decode cX3_edgeWord 46 = .ok (.goto 19, 3) := dk_167 0 19 (dk_at dksX3_edgeWord_2 0 rfl rfl)
theorem dX3_edgeWord_49 : decode cX3_edgeWord 49 = .ok (.aload_n 0, 1) := dk_42 (dk_at dksX3_edgeWord_2 3 rfl rfl)
theorem dX3_edgeWord_50 : decode cX3_edgeWord 50 = .ok (.getfield 192, 3) := dk_180 0 192 (dk_at dksX3_edgeWord_2 4 rfl rfl)
theorem dX3_edgeWord_53 : decode cX3_edgeWord 53 = .ok (.ldc2_w 236, 3) := dk_20 0 236 (dk_at dksX3_edgeWord_2 7 rfl rfl)
theorem dX3_edgeWord_56 : decode cX3_edgeWord 56 = .ok (.lcmp, 1) := dk_148 (dk_at dksX3_edgeWord_2 10 rfl rfl)
theorem dX3_edgeWord_57 : decode cX3_edgeWord 57 = .ok (.ifCond .ne 7, 3) := dk_154 0 7 (dk_at dksX3_edgeWord_2 11 rfl rfl)
theorem dX3_edgeWord_60 : decode cX3_edgeWord 60 = .ok (.iconst 3, 1) := dk_6 (dk_at dksX3_edgeWord_2 14 rfl rfl)
theorem dX3_edgeWord_61 : decode cX3_edgeWord 61 = .ok (.goto 4, 3) := dk_167 0 4 (dk_at dksX3_edgeWord_2 15 rfl rfl)
theorem dX3_edgeWord_64 : decode cX3_edgeWord 64 = .ok (.iconst (-1), 1) := dk_2 (dk_at dksX3_edgeWord_2 18 rfl rfl)
theorem dX3_edgeWord_65 : decode cX3_edgeWord 65 = .ok (.istore_n 1, 1) := dk_60 (dk_at dksX3_edgeWord_2 19 rfl rfl)
theorem dX3_edgeWord_66 : decode cX3_edgeWord 66 = .ok (.iload_n 1, 1) := dk_27 (dk_at dksX3_edgeWord_2 20 rfl rfl)
theorem dX3_edgeWord_67 : decode cX3_edgeWord 67 = .ok (.ifCond .lt 7, 3) := dk_155 0 7 (dk_at dksX3_edgeWord_2 21 rfl rfl)
theorem dX3_edgeWord_70 : decode cX3_edgeWord 70 = .ok (.aload_n 0, 1) := dk_42 (dk_at dksX3_edgeWord_3 0 rfl rfl)
theorem dX3_edgeWord_71 : decode cX3_edgeWord 71 = .ok (.invokevirtual 227, 3) := dk_182 0 227 (dk_at dksX3_edgeWord_3 1 rfl rfl)
theorem dX3_edgeWord_74 : decode cX3_edgeWord 74 = .ok (.iload_n 1, 1) := dk_27 (dk_at dksX3_edgeWord_3 4 rfl rfl)
theorem dX3_edgeWord_75 : decode cX3_edgeWord 75 = .ok (.ireturn, 1) := dk_172 (dk_at dksX3_edgeWord_3 5 rfl rfl)
abbrev cX3_numbers : ByteArray := prog_33_method_55_code
def yX3_numbers : MethodName := ⟨RX3, "numbers", "(II)Z"⟩
def dkwX3_numbers_2 : List UInt8 := [181, 0, 224, 42, 182, 0, 227, 167, 255, 213, 42, 180, 0, 224, 27, 161, 0, 7, 4, 167, 0, 4, 3, 172]
abbrev dktX3_numbers_2 : List UInt8 := dkwX3_numbers_2 ++ []
def dkwX3_numbers_1 : List UInt8 := [162, 0, 33, 42, 180, 0, 46, 42, 180, 0, 224, 42, 180, 0, 209, 79, 42, 89, 180, 0, 224, 4, 96]
abbrev dktX3_numbers_1 : List UInt8 := dkwX3_numbers_1 ++ dktX3_numbers_2
def dkwX3_numbers_0 : List UInt8 := [42, 3, 181, 0, 224, 42, 182, 0, 227, 42, 180, 0, 206, 5, 160, 0, 41, 42, 180, 0, 224, 28]
abbrev dktX3_numbers_0 : List UInt8 := dkwX3_numbers_0 ++ dktX3_numbers_1
theorem dksX3_numbers_0 : cX3_numbers.data.toList.drop 0 = dktX3_numbers_0 := by decide +kernel
theorem dksX3_numbers_1 : cX3_numbers.data.toList.drop 22 = dktX3_numbers_1 := dk_seg dksX3_numbers_0 22 rfl rfl
theorem dksX3_numbers_2 : cX3_numbers.data.toList.drop 45 = dktX3_numbers_2 := dk_seg dksX3_numbers_1 23 rfl rfl
theorem dX3_numbers_0 : decode cX3_numbers 0 = .ok (.aload_n 0, 1) := dk_42 (dk_at dksX3_numbers_0 0 rfl rfl)
theorem dX3_numbers_1 : decode cX3_numbers 1 = .ok (.iconst 0, 1) := dk_3 (dk_at dksX3_numbers_0 1 rfl rfl)
theorem dX3_numbers_2 : decode cX3_numbers 2 = .ok (.putfield 224, 3) := dk_181 0 224 (dk_at dksX3_numbers_0 2 rfl rfl)
theorem dX3_numbers_5 : decode cX3_numbers 5 = .ok (.aload_n 0, 1) := dk_42 (dk_at dksX3_numbers_0 5 rfl rfl)
theorem dX3_numbers_6 : decode cX3_numbers 6 = .ok (.invokevirtual 227, 3) := dk_182 0 227 (dk_at dksX3_numbers_0 6 rfl rfl)
theorem dX3_numbers_9 : decode cX3_numbers 9 = .ok (.aload_n 0, 1) := dk_42 (dk_at dksX3_numbers_0 9 rfl rfl)
theorem dX3_numbers_10 : decode cX3_numbers 10 = .ok (.getfield 206, 3) := dk_180 0 206 (dk_at dksX3_numbers_0 10 rfl rfl)
theorem dX3_numbers_13 : decode cX3_numbers 13 = .ok (.iconst 2, 1) := dk_5 (dk_at dksX3_numbers_0 13 rfl rfl)
theorem dX3_numbers_14 : decode cX3_numbers 14 = .ok (.if_icmp .ne 41, 3) := dk_160 0 41 (dk_at dksX3_numbers_0 14 rfl rfl)
theorem dX3_numbers_17 : decode cX3_numbers 17 = .ok (.aload_n 0, 1) := dk_42 (dk_at dksX3_numbers_0 17 rfl rfl)
theorem dX3_numbers_18 : decode cX3_numbers 18 = .ok (.getfield 224, 3) := dk_180 0 224 (dk_at dksX3_numbers_0 18 rfl rfl)
theorem dX3_numbers_21 : decode cX3_numbers 21 = .ok (.iload_n 2, 1) := dk_28 (dk_at dksX3_numbers_0 21 rfl rfl)
theorem dX3_numbers_22 : decode cX3_numbers 22 = .ok (.if_icmp .ge 33, 3) := dk_162 0 33 (dk_at dksX3_numbers_1 0 rfl rfl)
theorem dX3_numbers_25 : decode cX3_numbers 25 = .ok (.aload_n 0, 1) := dk_42 (dk_at dksX3_numbers_1 3 rfl rfl)
theorem dX3_numbers_26 : decode cX3_numbers 26 = .ok (.getfield 46, 3) := dk_180 0 46 (dk_at dksX3_numbers_1 4 rfl rfl)
theorem dX3_numbers_29 : decode cX3_numbers 29 = .ok (.aload_n 0, 1) := dk_42 (dk_at dksX3_numbers_1 7 rfl rfl)
theorem dX3_numbers_30 : decode cX3_numbers 30 = .ok (.getfield 224, 3) := dk_180 0 224 (dk_at dksX3_numbers_1 8 rfl rfl)
theorem dX3_numbers_33 : decode cX3_numbers 33 = .ok (.aload_n 0, 1) := dk_42 (dk_at dksX3_numbers_1 11 rfl rfl)
theorem dX3_numbers_34 : decode cX3_numbers 34 = .ok (.getfield 209, 3) := dk_180 0 209 (dk_at dksX3_numbers_1 12 rfl rfl)
theorem dX3_numbers_37 : decode cX3_numbers 37 = .ok (.iastore, 1) := dk_79 (dk_at dksX3_numbers_1 15 rfl rfl)
theorem dX3_numbers_38 : decode cX3_numbers 38 = .ok (.aload_n 0, 1) := dk_42 (dk_at dksX3_numbers_1 16 rfl rfl)
theorem dX3_numbers_39 : decode cX3_numbers 39 = .ok (.dup, 1) := dk_89 (dk_at dksX3_numbers_1 17 rfl rfl)
theorem dX3_numbers_40 : decode cX3_numbers 40 = .ok (.getfield 224, 3) := dk_180 0 224 (dk_at dksX3_numbers_1 18 rfl rfl)
theorem dX3_numbers_43 : decode cX3_numbers 43 = .ok (.iconst 1, 1) := dk_4 (dk_at dksX3_numbers_1 21 rfl rfl)
theorem dX3_numbers_44 : decode cX3_numbers 44 = .ok (.iadd, 1) := dk_96 (dk_at dksX3_numbers_1 22 rfl rfl)
theorem dX3_numbers_45 : decode cX3_numbers 45 = .ok (.putfield 224, 3) := dk_181 0 224 (dk_at dksX3_numbers_2 0 rfl rfl)
theorem dX3_numbers_48 : decode cX3_numbers 48 = .ok (.aload_n 0, 1) := dk_42 (dk_at dksX3_numbers_2 3 rfl rfl)
theorem dX3_numbers_49 : decode cX3_numbers 49 = .ok (.invokevirtual 227, 3) := dk_182 0 227 (dk_at dksX3_numbers_2 4 rfl rfl)
theorem dX3_numbers_52 : decode cX3_numbers 52 = .ok (.goto (-43), 3) := dk_167 255 213 (dk_at dksX3_numbers_2 7 rfl rfl)
theorem dX3_numbers_55 : decode cX3_numbers 55 = .ok (.aload_n 0, 1) := dk_42 (dk_at dksX3_numbers_2 10 rfl rfl)
theorem dX3_numbers_56 : decode cX3_numbers 56 = .ok (.getfield 224, 3) := dk_180 0 224 (dk_at dksX3_numbers_2 11 rfl rfl)
theorem dX3_numbers_59 : decode cX3_numbers 59 = .ok (.iload_n 1, 1) := dk_27 (dk_at dksX3_numbers_2 14 rfl rfl)
theorem dX3_numbers_60 : decode cX3_numbers 60 = .ok (.if_icmp .lt 7, 3) := dk_161 0 7 (dk_at dksX3_numbers_2 15 rfl rfl)
theorem dX3_numbers_63 : decode cX3_numbers 63 = .ok (.iconst 1, 1) := dk_4 (dk_at dksX3_numbers_2 18 rfl rfl)
theorem dX3_numbers_64 : decode cX3_numbers 64 = .ok (.goto 4, 3) := dk_167 0 4 (dk_at dksX3_numbers_2 19 rfl rfl)
theorem dX3_numbers_67 : decode cX3_numbers 67 = .ok (.iconst 0, 1) := dk_3 (dk_at dksX3_numbers_2 22 rfl rfl)
theorem dX3_numbers_68 : decode cX3_numbers 68 = .ok (.ireturn, 1) := dk_172 (dk_at dksX3_numbers_2 23 rfl rfl)
abbrev cX3_doCommand : ByteArray := prog_33_method_60_code
def yX3_doCommand : MethodName := ⟨RX3, "doCommand", "(J)I"⟩
def dkwX3_doCommand_8 : List UInt8 := [182, 1, 39, 172]
abbrev dktX3_doCommand_8 : List UInt8 := dkwX3_doCommand_8 ++ []
def dkwX3_doCommand_7 : List UInt8 := [180, 0, 238, 153, 0, 7, 4, 167, 0, 4, 3, 182, 1, 35, 167, 0, 13, 42, 42, 180, 0, 46, 3, 46]
abbrev dktX3_doCommand_7 : List UInt8 := dkwX3_doCommand_7 ++ dktX3_doCommand_8
def dkwX3_doCommand_6 : List UInt8 := [154, 0, 40, 42, 42, 180, 0, 46, 3, 46, 42, 180, 0, 46, 4, 46, 42, 180, 0, 46, 5, 46, 42]
abbrev dktX3_doCommand_6 : List UInt8 := dkwX3_doCommand_6 ++ dktX3_doCommand_7
def dkwX3_doCommand_5 : List UInt8 := [20, 1, 7, 148, 154, 0, 14, 42, 42, 180, 0, 46, 3, 46, 182, 1, 32, 172, 31, 20, 0, 248, 148]
abbrev dktX3_doCommand_5 : List UInt8 := dkwX3_doCommand_5 ++ dktX3_doCommand_6
def dkwX3_doCommand_4 : List UInt8 := [182, 1, 26, 172, 31, 20, 0, 241, 148, 154, 0, 14, 42, 42, 180, 0, 46, 3, 46, 182, 1, 29, 172, 31]
abbrev dktX3_doCommand_4 : List UInt8 := dkwX3_doCommand_4 ++ dktX3_doCommand_5
def dkwX3_doCommand_3 : List UInt8 := [167, 0, 4, 4, 182, 1, 23, 172, 31, 20, 1, 5, 148, 154, 0, 14, 42, 42, 180, 0, 46, 3, 46]
abbrev dktX3_doCommand_3 : List UInt8 := dkwX3_doCommand_3 ++ dktX3_doCommand_4
def dkwX3_doCommand_2 : List UInt8 := [182, 1, 20, 172, 31, 20, 0, 243, 148, 154, 0, 22, 42, 42, 180, 0, 46, 3, 46, 154, 0, 7, 3]
abbrev dktX3_doCommand_2 : List UInt8 := dkwX3_doCommand_2 ++ dktX3_doCommand_3
def dkwX3_doCommand_1 : List UInt8 := [172, 31, 20, 0, 255, 148, 154, 0, 8, 42, 182, 1, 17, 172, 31, 20, 1, 3, 148, 154, 0, 8, 42]
abbrev dktX3_doCommand_1 : List UInt8 := dkwX3_doCommand_1 ++ dktX3_doCommand_2
def dkwX3_doCommand_0 : List UInt8 := [31, 20, 1, 1, 148, 154, 0, 20, 42, 42, 180, 0, 46, 3, 46, 42, 180, 0, 46, 4, 46, 182, 1, 14]
abbrev dktX3_doCommand_0 : List UInt8 := dkwX3_doCommand_0 ++ dktX3_doCommand_1
theorem dksX3_doCommand_0 : cX3_doCommand.data.toList.drop 0 = dktX3_doCommand_0 := by decide +kernel
theorem dksX3_doCommand_1 : cX3_doCommand.data.toList.drop 24 = dktX3_doCommand_1 := dk_seg dksX3_doCommand_0 24 rfl rfl
theorem dksX3_doCommand_2 : cX3_doCommand.data.toList.drop 47 = dktX3_doCommand_2 := dk_seg dksX3_doCommand_1 23 rfl rfl
theorem dksX3_doCommand_3 : cX3_doCommand.data.toList.drop 70 = dktX3_doCommand_3 := dk_seg dksX3_doCommand_2 23 rfl rfl
theorem dksX3_doCommand_4 : cX3_doCommand.data.toList.drop 93 = dktX3_doCommand_4 := dk_seg dksX3_doCommand_3 23 rfl rfl
theorem dksX3_doCommand_5 : cX3_doCommand.data.toList.drop 117 = dktX3_doCommand_5 := dk_seg dksX3_doCommand_4 24 rfl rfl
theorem dksX3_doCommand_6 : cX3_doCommand.data.toList.drop 140 = dktX3_doCommand_6 := dk_seg dksX3_doCommand_5 23 rfl rfl
theorem dksX3_doCommand_7 : cX3_doCommand.data.toList.drop 163 = dktX3_doCommand_7 := dk_seg dksX3_doCommand_6 23 rfl rfl
theorem dksX3_doCommand_8 : cX3_doCommand.data.toList.drop 187 = dktX3_doCommand_8 := dk_seg dksX3_doCommand_7 24 rfl rfl
theorem dX3_doCommand_0 : decode cX3_doCommand 0 = .ok (.lload_n 1, 1) := dk_31 (dk_at dksX3_doCommand_0 0 rfl rfl)
theorem dX3_doCommand_1 : decode cX3_doCommand 1 = .ok (.ldc2_w 257, 3) := dk_20 1 1 (dk_at dksX3_doCommand_0 1 rfl rfl)
theorem dX3_doCommand_4 : decode cX3_doCommand 4 = .ok (.lcmp, 1) := dk_148 (dk_at dksX3_doCommand_0 4 rfl rfl)
theorem dX3_doCommand_5 : decode cX3_doCommand 5 = .ok (.ifCond .ne 20, 3) := dk_154 0 20 (dk_at dksX3_doCommand_0 5 rfl rfl)
theorem dX3_doCommand_8 : decode cX3_doCommand 8 = .ok (.aload_n 0, 1) := dk_42 (dk_at dksX3_doCommand_0 8 rfl rfl)
theorem dX3_doCommand_9 : decode cX3_doCommand 9 = .ok (.aload_n 0, 1) := dk_42 (dk_at dksX3_doCommand_0 9 rfl rfl)
theorem dX3_doCommand_10 : decode cX3_doCommand 10 = .ok (.getfield 46, 3) := dk_180 0 46 (dk_at dksX3_doCommand_0 10 rfl rfl)
theorem dX3_doCommand_13 : decode cX3_doCommand 13 = .ok (.iconst 0, 1) := dk_3 (dk_at dksX3_doCommand_0 13 rfl rfl)
theorem dX3_doCommand_14 : decode cX3_doCommand 14 = .ok (.iaload, 1) := dk_46 (dk_at dksX3_doCommand_0 14 rfl rfl)
theorem dX3_doCommand_15 : decode cX3_doCommand 15 = .ok (.aload_n 0, 1) := dk_42 (dk_at dksX3_doCommand_0 15 rfl rfl)
theorem dX3_doCommand_16 : decode cX3_doCommand 16 = .ok (.getfield 46, 3) := dk_180 0 46 (dk_at dksX3_doCommand_0 16 rfl rfl)
theorem dX3_doCommand_19 : decode cX3_doCommand 19 = .ok (.iconst 1, 1) := dk_4 (dk_at dksX3_doCommand_0 19 rfl rfl)
theorem dX3_doCommand_20 : decode cX3_doCommand 20 = .ok (.iaload, 1) := dk_46 (dk_at dksX3_doCommand_0 20 rfl rfl)
theorem dX3_doCommand_21 : decode cX3_doCommand 21 = .ok (.invokevirtual 270, 3) := dk_182 1 14 (dk_at dksX3_doCommand_0 21 rfl rfl)
theorem dX3_doCommand_24 : decode cX3_doCommand 24 = .ok (.ireturn, 1) := dk_172 (dk_at dksX3_doCommand_1 0 rfl rfl)
theorem dX3_doCommand_25 : decode cX3_doCommand 25 = .ok (.lload_n 1, 1) := dk_31 (dk_at dksX3_doCommand_1 1 rfl rfl)
theorem dX3_doCommand_26 : decode cX3_doCommand 26 = .ok (.ldc2_w 255, 3) := dk_20 0 255 (dk_at dksX3_doCommand_1 2 rfl rfl)
theorem dX3_doCommand_29 : decode cX3_doCommand 29 = .ok (.lcmp, 1) := dk_148 (dk_at dksX3_doCommand_1 5 rfl rfl)
theorem dX3_doCommand_30 : decode cX3_doCommand 30 = .ok (.ifCond .ne 8, 3) := dk_154 0 8 (dk_at dksX3_doCommand_1 6 rfl rfl)
theorem dX3_doCommand_33 : decode cX3_doCommand 33 = .ok (.aload_n 0, 1) := dk_42 (dk_at dksX3_doCommand_1 9 rfl rfl)
theorem dX3_doCommand_34 : decode cX3_doCommand 34 = .ok (.invokevirtual 273, 3) := dk_182 1 17 (dk_at dksX3_doCommand_1 10 rfl rfl)
theorem dX3_doCommand_37 : decode cX3_doCommand 37 = .ok (.ireturn, 1) := dk_172 (dk_at dksX3_doCommand_1 13 rfl rfl)
theorem dX3_doCommand_38 : decode cX3_doCommand 38 = .ok (.lload_n 1, 1) := dk_31 (dk_at dksX3_doCommand_1 14 rfl rfl)
theorem dX3_doCommand_39 : decode cX3_doCommand 39 = .ok (.ldc2_w 259, 3) := dk_20 1 3 (dk_at dksX3_doCommand_1 15 rfl rfl)
theorem dX3_doCommand_42 : decode cX3_doCommand 42 = .ok (.lcmp, 1) := dk_148 (dk_at dksX3_doCommand_1 18 rfl rfl)
theorem dX3_doCommand_43 : decode cX3_doCommand 43 = .ok (.ifCond .ne 8, 3) := dk_154 0 8 (dk_at dksX3_doCommand_1 19 rfl rfl)
theorem dX3_doCommand_46 : decode cX3_doCommand 46 = .ok (.aload_n 0, 1) := dk_42 (dk_at dksX3_doCommand_1 22 rfl rfl)
theorem dX3_doCommand_47 : decode cX3_doCommand 47 = .ok (.invokevirtual 276, 3) := dk_182 1 20 (dk_at dksX3_doCommand_2 0 rfl rfl)
theorem dX3_doCommand_50 : decode cX3_doCommand 50 = .ok (.ireturn, 1) := dk_172 (dk_at dksX3_doCommand_2 3 rfl rfl)
theorem dX3_doCommand_51 : decode cX3_doCommand 51 = .ok (.lload_n 1, 1) := dk_31 (dk_at dksX3_doCommand_2 4 rfl rfl)
theorem dX3_doCommand_52 : decode cX3_doCommand 52 = .ok (.ldc2_w 243, 3) := dk_20 0 243 (dk_at dksX3_doCommand_2 5 rfl rfl)
theorem dX3_doCommand_55 : decode cX3_doCommand 55 = .ok (.lcmp, 1) := dk_148 (dk_at dksX3_doCommand_2 8 rfl rfl)
theorem dX3_doCommand_56 : decode cX3_doCommand 56 = .ok (.ifCond .ne 22, 3) := dk_154 0 22 (dk_at dksX3_doCommand_2 9 rfl rfl)
theorem dX3_doCommand_59 : decode cX3_doCommand 59 = .ok (.aload_n 0, 1) := dk_42 (dk_at dksX3_doCommand_2 12 rfl rfl)
theorem dX3_doCommand_60 : decode cX3_doCommand 60 = .ok (.aload_n 0, 1) := dk_42 (dk_at dksX3_doCommand_2 13 rfl rfl)
theorem dX3_doCommand_61 : decode cX3_doCommand 61 = .ok (.getfield 46, 3) := dk_180 0 46 (dk_at dksX3_doCommand_2 14 rfl rfl)
theorem dX3_doCommand_64 : decode cX3_doCommand 64 = .ok (.iconst 0, 1) := dk_3 (dk_at dksX3_doCommand_2 17 rfl rfl)
theorem dX3_doCommand_65 : decode cX3_doCommand 65 = .ok (.iaload, 1) := dk_46 (dk_at dksX3_doCommand_2 18 rfl rfl)
theorem dX3_doCommand_66 : decode cX3_doCommand 66 = .ok (.ifCond .ne 7, 3) := dk_154 0 7 (dk_at dksX3_doCommand_2 19 rfl rfl)
theorem dX3_doCommand_69 : decode cX3_doCommand 69 = .ok (.iconst 0, 1) := dk_3 (dk_at dksX3_doCommand_2 22 rfl rfl)
theorem dX3_doCommand_70 : decode cX3_doCommand 70 = .ok (.goto 4, 3) := dk_167 0 4 (dk_at dksX3_doCommand_3 0 rfl rfl)
theorem dX3_doCommand_73 : decode cX3_doCommand 73 = .ok (.iconst 1, 1) := dk_4 (dk_at dksX3_doCommand_3 3 rfl rfl)
theorem dX3_doCommand_74 : decode cX3_doCommand 74 = .ok (.invokevirtual 279, 3) := dk_182 1 23 (dk_at dksX3_doCommand_3 4 rfl rfl)
theorem dX3_doCommand_77 : decode cX3_doCommand 77 = .ok (.ireturn, 1) := dk_172 (dk_at dksX3_doCommand_3 7 rfl rfl)
theorem dX3_doCommand_78 : decode cX3_doCommand 78 = .ok (.lload_n 1, 1) := dk_31 (dk_at dksX3_doCommand_3 8 rfl rfl)
theorem dX3_doCommand_79 : decode cX3_doCommand 79 = .ok (.ldc2_w 261, 3) := dk_20 1 5 (dk_at dksX3_doCommand_3 9 rfl rfl)
theorem dX3_doCommand_82 : decode cX3_doCommand 82 = .ok (.lcmp, 1) := dk_148 (dk_at dksX3_doCommand_3 12 rfl rfl)
theorem dX3_doCommand_83 : decode cX3_doCommand 83 = .ok (.ifCond .ne 14, 3) := dk_154 0 14 (dk_at dksX3_doCommand_3 13 rfl rfl)
theorem dX3_doCommand_86 : decode cX3_doCommand 86 = .ok (.aload_n 0, 1) := dk_42 (dk_at dksX3_doCommand_3 16 rfl rfl)
theorem dX3_doCommand_87 : decode cX3_doCommand 87 = .ok (.aload_n 0, 1) := dk_42 (dk_at dksX3_doCommand_3 17 rfl rfl)
theorem dX3_doCommand_88 : decode cX3_doCommand 88 = .ok (.getfield 46, 3) := dk_180 0 46 (dk_at dksX3_doCommand_3 18 rfl rfl)
theorem dX3_doCommand_91 : decode cX3_doCommand 91 = .ok (.iconst 0, 1) := dk_3 (dk_at dksX3_doCommand_3 21 rfl rfl)
theorem dX3_doCommand_92 : decode cX3_doCommand 92 = .ok (.iaload, 1) := dk_46 (dk_at dksX3_doCommand_3 22 rfl rfl)
theorem dX3_doCommand_93 : decode cX3_doCommand 93 = .ok (.invokevirtual 282, 3) := dk_182 1 26 (dk_at dksX3_doCommand_4 0 rfl rfl)
theorem dX3_doCommand_96 : decode cX3_doCommand 96 = .ok (.ireturn, 1) := dk_172 (dk_at dksX3_doCommand_4 3 rfl rfl)
theorem dX3_doCommand_97 : decode cX3_doCommand 97 = .ok (.lload_n 1, 1) := dk_31 (dk_at dksX3_doCommand_4 4 rfl rfl)
theorem dX3_doCommand_98 : decode cX3_doCommand 98 = .ok (.ldc2_w 241, 3) := dk_20 0 241 (dk_at dksX3_doCommand_4 5 rfl rfl)
theorem dX3_doCommand_101 : decode cX3_doCommand 101 = .ok (.lcmp, 1) := dk_148 (dk_at dksX3_doCommand_4 8 rfl rfl)
theorem dX3_doCommand_102 : decode cX3_doCommand 102 = .ok (.ifCond .ne 14, 3) := dk_154 0 14 (dk_at dksX3_doCommand_4 9 rfl rfl)
theorem dX3_doCommand_105 : decode cX3_doCommand 105 = .ok (.aload_n 0, 1) := dk_42 (dk_at dksX3_doCommand_4 12 rfl rfl)
theorem dX3_doCommand_106 : decode cX3_doCommand 106 = .ok (.aload_n 0, 1) := dk_42 (dk_at dksX3_doCommand_4 13 rfl rfl)
theorem dX3_doCommand_107 : decode cX3_doCommand 107 = .ok (.getfield 46, 3) := dk_180 0 46 (dk_at dksX3_doCommand_4 14 rfl rfl)
theorem dX3_doCommand_110 : decode cX3_doCommand 110 = .ok (.iconst 0, 1) := dk_3 (dk_at dksX3_doCommand_4 17 rfl rfl)
theorem dX3_doCommand_111 : decode cX3_doCommand 111 = .ok (.iaload, 1) := dk_46 (dk_at dksX3_doCommand_4 18 rfl rfl)
theorem dX3_doCommand_112 : decode cX3_doCommand 112 = .ok (.invokevirtual 285, 3) := dk_182 1 29 (dk_at dksX3_doCommand_4 19 rfl rfl)
theorem dX3_doCommand_115 : decode cX3_doCommand 115 = .ok (.ireturn, 1) := dk_172 (dk_at dksX3_doCommand_4 22 rfl rfl)
theorem dX3_doCommand_116 : decode cX3_doCommand 116 = .ok (.lload_n 1, 1) := dk_31 (dk_at dksX3_doCommand_4 23 rfl rfl)
theorem dX3_doCommand_117 : decode cX3_doCommand 117 = .ok (.ldc2_w 263, 3) := dk_20 1 7 (dk_at dksX3_doCommand_5 0 rfl rfl)
theorem dX3_doCommand_120 : decode cX3_doCommand 120 = .ok (.lcmp, 1) := dk_148 (dk_at dksX3_doCommand_5 3 rfl rfl)
theorem dX3_doCommand_121 : decode cX3_doCommand 121 = .ok (.ifCond .ne 14, 3) := dk_154 0 14 (dk_at dksX3_doCommand_5 4 rfl rfl)
theorem dX3_doCommand_124 : decode cX3_doCommand 124 = .ok (.aload_n 0, 1) := dk_42 (dk_at dksX3_doCommand_5 7 rfl rfl)
theorem dX3_doCommand_125 : decode cX3_doCommand 125 = .ok (.aload_n 0, 1) := dk_42 (dk_at dksX3_doCommand_5 8 rfl rfl)
theorem dX3_doCommand_126 : decode cX3_doCommand 126 = .ok (.getfield 46, 3) := dk_180 0 46 (dk_at dksX3_doCommand_5 9 rfl rfl)
theorem dX3_doCommand_129 : decode cX3_doCommand 129 = .ok (.iconst 0, 1) := dk_3 (dk_at dksX3_doCommand_5 12 rfl rfl)
theorem dX3_doCommand_130 : decode cX3_doCommand 130 = .ok (.iaload, 1) := dk_46 (dk_at dksX3_doCommand_5 13 rfl rfl)
theorem dX3_doCommand_131 : decode cX3_doCommand 131 = .ok (.invokevirtual 288, 3) := dk_182 1 32 (dk_at dksX3_doCommand_5 14 rfl rfl)
theorem dX3_doCommand_134 : decode cX3_doCommand 134 = .ok (.ireturn, 1) := dk_172 (dk_at dksX3_doCommand_5 17 rfl rfl)
theorem dX3_doCommand_135 : decode cX3_doCommand 135 = .ok (.lload_n 1, 1) := dk_31 (dk_at dksX3_doCommand_5 18 rfl rfl)
theorem dX3_doCommand_136 : decode cX3_doCommand 136 = .ok (.ldc2_w 248, 3) := dk_20 0 248 (dk_at dksX3_doCommand_5 19 rfl rfl)
theorem dX3_doCommand_139 : decode cX3_doCommand 139 = .ok (.lcmp, 1) := dk_148 (dk_at dksX3_doCommand_5 22 rfl rfl)
theorem dX3_doCommand_140 : decode cX3_doCommand 140 = .ok (.ifCond .ne 40, 3) := dk_154 0 40 (dk_at dksX3_doCommand_6 0 rfl rfl)
theorem dX3_doCommand_143 : decode cX3_doCommand 143 = .ok (.aload_n 0, 1) := dk_42 (dk_at dksX3_doCommand_6 3 rfl rfl)
theorem dX3_doCommand_144 : decode cX3_doCommand 144 = .ok (.aload_n 0, 1) := dk_42 (dk_at dksX3_doCommand_6 4 rfl rfl)
theorem dX3_doCommand_145 : decode cX3_doCommand 145 = .ok (.getfield 46, 3) := dk_180 0 46 (dk_at dksX3_doCommand_6 5 rfl rfl)
theorem dX3_doCommand_148 : decode cX3_doCommand 148 = .ok (.iconst 0, 1) := dk_3 (dk_at dksX3_doCommand_6 8 rfl rfl)
theorem dX3_doCommand_149 : decode cX3_doCommand 149 = .ok (.iaload, 1) := dk_46 (dk_at dksX3_doCommand_6 9 rfl rfl)
theorem dX3_doCommand_150 : decode cX3_doCommand 150 = .ok (.aload_n 0, 1) := dk_42 (dk_at dksX3_doCommand_6 10 rfl rfl)
theorem dX3_doCommand_151 : decode cX3_doCommand 151 = .ok (.getfield 46, 3) := dk_180 0 46 (dk_at dksX3_doCommand_6 11 rfl rfl)
theorem dX3_doCommand_154 : decode cX3_doCommand 154 = .ok (.iconst 1, 1) := dk_4 (dk_at dksX3_doCommand_6 14 rfl rfl)
theorem dX3_doCommand_155 : decode cX3_doCommand 155 = .ok (.iaload, 1) := dk_46 (dk_at dksX3_doCommand_6 15 rfl rfl)
theorem dX3_doCommand_156 : decode cX3_doCommand 156 = .ok (.aload_n 0, 1) := dk_42 (dk_at dksX3_doCommand_6 16 rfl rfl)
theorem dX3_doCommand_157 : decode cX3_doCommand 157 = .ok (.getfield 46, 3) := dk_180 0 46 (dk_at dksX3_doCommand_6 17 rfl rfl)
theorem dX3_doCommand_160 : decode cX3_doCommand 160 = .ok (.iconst 2, 1) := dk_5 (dk_at dksX3_doCommand_6 20 rfl rfl)
theorem dX3_doCommand_161 : decode cX3_doCommand 161 = .ok (.iaload, 1) := dk_46 (dk_at dksX3_doCommand_6 21 rfl rfl)
theorem dX3_doCommand_162 : decode cX3_doCommand 162 = .ok (.aload_n 0, 1) := dk_42 (dk_at dksX3_doCommand_6 22 rfl rfl)
theorem dX3_doCommand_163 : decode cX3_doCommand 163 = .ok (.getfield 238, 3) := dk_180 0 238 (dk_at dksX3_doCommand_7 0 rfl rfl)
theorem dX3_doCommand_166 : decode cX3_doCommand 166 = .ok (.ifCond .eq 7, 3) := dk_153 0 7 (dk_at dksX3_doCommand_7 3 rfl rfl)
theorem dX3_doCommand_169 : decode cX3_doCommand 169 = .ok (.iconst 1, 1) := dk_4 (dk_at dksX3_doCommand_7 6 rfl rfl)
theorem dX3_doCommand_170 : decode cX3_doCommand 170 = .ok (.goto 4, 3) := dk_167 0 4 (dk_at dksX3_doCommand_7 7 rfl rfl)
theorem dX3_doCommand_173 : decode cX3_doCommand 173 = .ok (.iconst 0, 1) := dk_3 (dk_at dksX3_doCommand_7 10 rfl rfl)
theorem dX3_doCommand_174 : decode cX3_doCommand 174 = .ok (.invokevirtual 291, 3) := dk_182 1 35 (dk_at dksX3_doCommand_7 11 rfl rfl)
theorem dX3_doCommand_177 : decode cX3_doCommand 177 = .ok (.goto 13, 3) := dk_167 0 13 (dk_at dksX3_doCommand_7 14 rfl rfl)
theorem dX3_doCommand_180 : decode cX3_doCommand 180 = .ok (.aload_n 0, 1) := dk_42 (dk_at dksX3_doCommand_7 17 rfl rfl)
theorem dX3_doCommand_181 : decode cX3_doCommand 181 = .ok (.aload_n 0, 1) := dk_42 (dk_at dksX3_doCommand_7 18 rfl rfl)
theorem dX3_doCommand_182 : decode cX3_doCommand 182 = .ok (.getfield 46, 3) := dk_180 0 46 (dk_at dksX3_doCommand_7 19 rfl rfl)
theorem dX3_doCommand_185 : decode cX3_doCommand 185 = .ok (.iconst 0, 1) := dk_3 (dk_at dksX3_doCommand_7 22 rfl rfl)
theorem dX3_doCommand_186 : decode cX3_doCommand 186 = .ok (.iaload, 1) := dk_46 (dk_at dksX3_doCommand_7 23 rfl rfl)
theorem dX3_doCommand_187 : decode cX3_doCommand 187 = .ok (.invokevirtual 295, 3) := dk_182 1 39 (dk_at dksX3_doCommand_8 0 rfl rfl)
theorem dX3_doCommand_190 : decode cX3_doCommand 190 = .ok (.ireturn, 1) := dk_172 (dk_at dksX3_doCommand_8 3 rfl rfl)
abbrev cX3_doFolds : ByteArray := prog_33_method_59_code
def yX3_doFolds : MethodName := ⟨RX3, "doFolds", "()I"⟩
def dkwX3_doFolds_1 : List UInt8 := [182, 1, 11, 60, 132, 2, 1, 167, 255, 230, 27, 172]
abbrev dktX3_doFolds_1 : List UInt8 := dkwX3_doFolds_1 ++ []
def dkwX3_doFolds_0 : List UInt8 := [3, 60, 3, 61, 28, 42, 180, 0, 224, 162, 0, 24, 27, 155, 0, 20, 42, 42, 180, 0, 46, 28, 46]
abbrev dktX3_doFolds_0 : List UInt8 := dkwX3_doFolds_0 ++ dktX3_doFolds_1
theorem dksX3_doFolds_0 : cX3_doFolds.data.toList.drop 0 = dktX3_doFolds_0 := by decide +kernel
theorem dksX3_doFolds_1 : cX3_doFolds.data.toList.drop 23 = dktX3_doFolds_1 := dk_seg dksX3_doFolds_0 23 rfl rfl
theorem dX3_doFolds_0 : decode cX3_doFolds 0 = .ok (.iconst 0, 1) := dk_3 (dk_at dksX3_doFolds_0 0 rfl rfl)
theorem dX3_doFolds_1 : decode cX3_doFolds 1 = .ok (.istore_n 1, 1) := dk_60 (dk_at dksX3_doFolds_0 1 rfl rfl)
theorem dX3_doFolds_2 : decode cX3_doFolds 2 = .ok (.iconst 0, 1) := dk_3 (dk_at dksX3_doFolds_0 2 rfl rfl)
theorem dX3_doFolds_3 : decode cX3_doFolds 3 = .ok (.istore_n 2, 1) := dk_61 (dk_at dksX3_doFolds_0 3 rfl rfl)
theorem dX3_doFolds_4 : decode cX3_doFolds 4 = .ok (.iload_n 2, 1) := dk_28 (dk_at dksX3_doFolds_0 4 rfl rfl)
theorem dX3_doFolds_5 : decode cX3_doFolds 5 = .ok (.aload_n 0, 1) := dk_42 (dk_at dksX3_doFolds_0 5 rfl rfl)
theorem dX3_doFolds_6 : decode cX3_doFolds 6 = .ok (.getfield 224, 3) := dk_180 0 224 (dk_at dksX3_doFolds_0 6 rfl rfl)
theorem dX3_doFolds_9 : decode cX3_doFolds 9 = .ok (.if_icmp .ge 24, 3) := dk_162 0 24 (dk_at dksX3_doFolds_0 9 rfl rfl)
theorem dX3_doFolds_12 : decode cX3_doFolds 12 = .ok (.iload_n 1, 1) := dk_27 (dk_at dksX3_doFolds_0 12 rfl rfl)
theorem dX3_doFolds_13 : decode cX3_doFolds 13 = .ok (.ifCond .lt 20, 3) := dk_155 0 20 (dk_at dksX3_doFolds_0 13 rfl rfl)
theorem dX3_doFolds_16 : decode cX3_doFolds 16 = .ok (.aload_n 0, 1) := dk_42 (dk_at dksX3_doFolds_0 16 rfl rfl)
theorem dX3_doFolds_17 : decode cX3_doFolds 17 = .ok (.aload_n 0, 1) := dk_42 (dk_at dksX3_doFolds_0 17 rfl rfl)
theorem dX3_doFolds_18 : decode cX3_doFolds 18 = .ok (.getfield 46, 3) := dk_180 0 46 (dk_at dksX3_doFolds_0 18 rfl rfl)
theorem dX3_doFolds_21 : decode cX3_doFolds 21 = .ok (.iload_n 2, 1) := dk_28 (dk_at dksX3_doFolds_0 21 rfl rfl)
theorem dX3_doFolds_22 : decode cX3_doFolds 22 = .ok (.iaload, 1) := dk_46 (dk_at dksX3_doFolds_0 22 rfl rfl)
theorem dX3_doFolds_23 : decode cX3_doFolds 23 = .ok (.invokevirtual 267, 3) := dk_182 1 11 (dk_at dksX3_doFolds_1 0 rfl rfl)
theorem dX3_doFolds_26 : decode cX3_doFolds 26 = .ok (.istore_n 1, 1) := dk_60 (dk_at dksX3_doFolds_1 3 rfl rfl)
theorem dX3_doFolds_27 : decode cX3_doFolds 27 = .ok (.iinc 2 1, 3) := dk_132 2 1 (dk_at dksX3_doFolds_1 4 rfl rfl)
theorem dX3_doFolds_30 : decode cX3_doFolds 30 = .ok (.goto (-26), 3) := dk_167 255 230 (dk_at dksX3_doFolds_1 7 rfl rfl)
theorem dX3_doFolds_33 : decode cX3_doFolds 33 = .ok (.iload_n 1, 1) := dk_27 (dk_at dksX3_doFolds_1 10 rfl rfl)
theorem dX3_doFolds_34 : decode cX3_doFolds 34 = .ok (.ireturn, 1) := dk_172 (dk_at dksX3_doFolds_1 11 rfl rfl)
abbrev cX3_count : ByteArray := prog_33_method_64_code
def yX3_count : MethodName := ⟨RX3, "count", "(I)I"⟩
def dkwX3_count_7 : List UInt8 := [42, 180, 0, 7, 16, 10, 46, 172, 42, 180, 0, 7, 16, 7, 46, 172, 2, 172]
abbrev dktX3_count_7 : List UInt8 := dkwX3_count_7 ++ []
def dkwX3_count_6 : List UInt8 := [17, 0, 155, 46, 96, 172, 42, 180, 0, 61, 172, 42, 180, 0, 181, 172, 42, 180, 0, 7, 16, 11, 46, 172]
abbrev dktX3_count_6 : List UInt8 := dkwX3_count_6 ++ dktX3_count_7
def dkwX3_count_5 : List UInt8 := [16, 12, 46, 172, 42, 180, 0, 7, 16, 37, 46, 172, 42, 180, 0, 7, 17, 0, 154, 46, 42, 180, 0, 7]
abbrev dktX3_count_5 : List UInt8 := dkwX3_count_5 ++ dktX3_count_6
def dkwX3_count_4 : List UInt8 := [172, 42, 180, 0, 7, 16, 8, 46, 172, 42, 180, 0, 7, 16, 9, 46, 184, 0, 170, 172, 42, 180, 0, 7]
abbrev dktX3_count_4 : List UInt8 := dkwX3_count_4 ++ dktX3_count_5
def dkwX3_count_3 : List UInt8 := [180, 0, 7, 5, 46, 120, 172, 42, 182, 1, 59, 172, 42, 182, 0, 162, 153, 0, 7, 4, 167, 0, 4, 3]
abbrev dktX3_count_3 : List UInt8 := dkwX3_count_3 ++ dktX3_count_4
def dkwX3_count_2 : List UInt8 := [42, 180, 0, 7, 3, 46, 172, 42, 180, 0, 7, 4, 46, 172, 42, 180, 0, 7, 5, 46, 172, 4, 42]
abbrev dktX3_count_2 : List UInt8 := dkwX3_count_2 ++ dktX3_count_3
def dkwX3_count_1 : List UInt8 := [170, 0, 0, 0, 0, 0, 214, 0, 0, 0, 0, 0, 0, 0, 15, 0, 0, 0, 79, 0, 0, 0, 86, 0, 0, 0, 93, 0, 0, 0, 100, 0, 0, 0, 109, 0, 0, 0, 114, 0, 0, 0, 127, 0, 0, 0, 135, 0, 0, 0, 146, 0, 0, 0, 154, 0, 0, 0, 162, 0, 0, 0, 180, 0, 0, 0, 185, 0, 0, 0, 190, 0, 0, 0, 198, 0, 0, 0, 206]
abbrev dktX3_count_1 : List UInt8 := dkwX3_count_1 ++ dktX3_count_2
def dkwX3_count_0 : List UInt8 := [27]
abbrev dktX3_count_0 : List UInt8 := dkwX3_count_0 ++ dktX3_count_1
theorem dksX3_count_0 : cX3_count.data.toList.drop 0 = dktX3_count_0 := by decide +kernel
theorem dksX3_count_1 : cX3_count.data.toList.drop 1 = dktX3_count_1 := dk_seg dksX3_count_0 1 rfl rfl
theorem dksX3_count_2 : cX3_count.data.toList.drop 80 = dktX3_count_2 := dk_seg dksX3_count_1 79 rfl rfl
theorem dksX3_count_3 : cX3_count.data.toList.drop 103 = dktX3_count_3 := dk_seg dksX3_count_2 23 rfl rfl
theorem dksX3_count_4 : cX3_count.data.toList.drop 127 = dktX3_count_4 := dk_seg dksX3_count_3 24 rfl rfl
theorem dksX3_count_5 : cX3_count.data.toList.drop 151 = dktX3_count_5 := dk_seg dksX3_count_4 24 rfl rfl
theorem dksX3_count_6 : cX3_count.data.toList.drop 175 = dktX3_count_6 := dk_seg dksX3_count_5 24 rfl rfl
theorem dksX3_count_7 : cX3_count.data.toList.drop 199 = dktX3_count_7 := dk_seg dksX3_count_6 24 rfl rfl
theorem dX3_count_0 : decode cX3_count 0 = .ok (.iload_n 1, 1) := dk_27 (dk_at dksX3_count_0 0 rfl rfl)
theorem dX3_count_1 : decode cX3_count 1 = .ok (.tableswitch 214 0 15 #[79, 86, 93, 100, 109, 114, 127, 135, 146, 154, 162, 180, 185, 190, 198, 206], 79) := by decide +kernel
theorem dX3_count_80 : decode cX3_count 80 = .ok (.aload_n 0, 1) := dk_42 (dk_at dksX3_count_2 0 rfl rfl)
theorem dX3_count_81 : decode cX3_count 81 = .ok (.getfield 7, 3) := dk_180 0 7 (dk_at dksX3_count_2 1 rfl rfl)
theorem dX3_count_84 : decode cX3_count 84 = .ok (.iconst 0, 1) := dk_3 (dk_at dksX3_count_2 4 rfl rfl)
theorem dX3_count_85 : decode cX3_count 85 = .ok (.iaload, 1) := dk_46 (dk_at dksX3_count_2 5 rfl rfl)
theorem dX3_count_86 : decode cX3_count 86 = .ok (.ireturn, 1) := dk_172 (dk_at dksX3_count_2 6 rfl rfl)
theorem dX3_count_87 : decode cX3_count 87 = .ok (.aload_n 0, 1) := dk_42 (dk_at dksX3_count_2 7 rfl rfl)
theorem dX3_count_88 : decode cX3_count 88 = .ok (.getfield 7, 3) := dk_180 0 7 (dk_at dksX3_count_2 8 rfl rfl)
theorem dX3_count_91 : decode cX3_count 91 = .ok (.iconst 1, 1) := dk_4 (dk_at dksX3_count_2 11 rfl rfl)
theorem dX3_count_92 : decode cX3_count 92 = .ok (.iaload, 1) := dk_46 (dk_at dksX3_count_2 12 rfl rfl)
theorem dX3_count_93 : decode cX3_count 93 = .ok (.ireturn, 1) := dk_172 (dk_at dksX3_count_2 13 rfl rfl)
theorem dX3_count_94 : decode cX3_count 94 = .ok (.aload_n 0, 1) := dk_42 (dk_at dksX3_count_2 14 rfl rfl)
theorem dX3_count_95 : decode cX3_count 95 = .ok (.getfield 7, 3) := dk_180 0 7 (dk_at dksX3_count_2 15 rfl rfl)
theorem dX3_count_98 : decode cX3_count 98 = .ok (.iconst 2, 1) := dk_5 (dk_at dksX3_count_2 18 rfl rfl)
theorem dX3_count_99 : decode cX3_count 99 = .ok (.iaload, 1) := dk_46 (dk_at dksX3_count_2 19 rfl rfl)
theorem dX3_count_100 : decode cX3_count 100 = .ok (.ireturn, 1) := dk_172 (dk_at dksX3_count_2 20 rfl rfl)
theorem dX3_count_101 : decode cX3_count 101 = .ok (.iconst 1, 1) := dk_4 (dk_at dksX3_count_2 21 rfl rfl)
theorem dX3_count_102 : decode cX3_count 102 = .ok (.aload_n 0, 1) := dk_42 (dk_at dksX3_count_2 22 rfl rfl)
theorem dX3_count_103 : decode cX3_count 103 = .ok (.getfield 7, 3) := dk_180 0 7 (dk_at dksX3_count_3 0 rfl rfl)
theorem dX3_count_106 : decode cX3_count 106 = .ok (.iconst 2, 1) := dk_5 (dk_at dksX3_count_3 3 rfl rfl)
theorem dX3_count_107 : decode cX3_count 107 = .ok (.iaload, 1) := dk_46 (dk_at dksX3_count_3 4 rfl rfl)
theorem dX3_count_108 : decode cX3_count 108 = .ok (.ishl, 1) := dk_120 (dk_at dksX3_count_3 5 rfl rfl)
theorem dX3_count_109 : decode cX3_count 109 = .ok (.ireturn, 1) := dk_172 (dk_at dksX3_count_3 6 rfl rfl)
theorem dX3_count_110 : decode cX3_count 110 = .ok (.aload_n 0, 1) := dk_42 (dk_at dksX3_count_3 7 rfl rfl)
theorem dX3_count_111 : decode cX3_count 111 = .ok (.invokevirtual 315, 3) := dk_182 1 59 (dk_at dksX3_count_3 8 rfl rfl)
theorem dX3_count_114 : decode cX3_count 114 = .ok (.ireturn, 1) := dk_172 (dk_at dksX3_count_3 11 rfl rfl)
theorem dX3_count_115 : decode cX3_count 115 = .ok (.aload_n 0, 1) := dk_42 (dk_at dksX3_count_3 12 rfl rfl)
theorem dX3_count_116 : decode cX3_count 116 = .ok (.invokevirtual 162, 3) := dk_182 0 162 (dk_at dksX3_count_3 13 rfl rfl)
theorem dX3_count_119 : decode cX3_count 119 = .ok (.ifCond .eq 7, 3) := dk_153 0 7 (dk_at dksX3_count_3 16 rfl rfl)
theorem dX3_count_122 : decode cX3_count 122 = .ok (.iconst 1, 1) := dk_4 (dk_at dksX3_count_3 19 rfl rfl)
theorem dX3_count_123 : decode cX3_count 123 = .ok (.goto 4, 3) := dk_167 0 4 (dk_at dksX3_count_3 20 rfl rfl)
theorem dX3_count_126 : decode cX3_count 126 = .ok (.iconst 0, 1) := dk_3 (dk_at dksX3_count_3 23 rfl rfl)
theorem dX3_count_127 : decode cX3_count 127 = .ok (.ireturn, 1) := dk_172 (dk_at dksX3_count_4 0 rfl rfl)
theorem dX3_count_128 : decode cX3_count 128 = .ok (.aload_n 0, 1) := dk_42 (dk_at dksX3_count_4 1 rfl rfl)
theorem dX3_count_129 : decode cX3_count 129 = .ok (.getfield 7, 3) := dk_180 0 7 (dk_at dksX3_count_4 2 rfl rfl)
theorem dX3_count_132 : decode cX3_count 132 = .ok (.bipush 8, 2) := dk_16 8 (dk_at dksX3_count_4 5 rfl rfl)
theorem dX3_count_134 : decode cX3_count 134 = .ok (.iaload, 1) := dk_46 (dk_at dksX3_count_4 7 rfl rfl)
theorem dX3_count_135 : decode cX3_count 135 = .ok (.ireturn, 1) := dk_172 (dk_at dksX3_count_4 8 rfl rfl)
theorem dX3_count_136 : decode cX3_count 136 = .ok (.aload_n 0, 1) := dk_42 (dk_at dksX3_count_4 9 rfl rfl)
theorem dX3_count_137 : decode cX3_count 137 = .ok (.getfield 7, 3) := dk_180 0 7 (dk_at dksX3_count_4 10 rfl rfl)
theorem dX3_count_140 : decode cX3_count 140 = .ok (.bipush 9, 2) := dk_16 9 (dk_at dksX3_count_4 13 rfl rfl)
theorem dX3_count_142 : decode cX3_count 142 = .ok (.iaload, 1) := dk_46 (dk_at dksX3_count_4 15 rfl rfl)
theorem dX3_count_143 : decode cX3_count 143 = .ok (.invokestatic 170, 3) := dk_184 0 170 (dk_at dksX3_count_4 16 rfl rfl)
theorem dX3_count_146 : decode cX3_count 146 = .ok (.ireturn, 1) := dk_172 (dk_at dksX3_count_4 19 rfl rfl)
theorem dX3_count_147 : decode cX3_count 147 = .ok (.aload_n 0, 1) := dk_42 (dk_at dksX3_count_4 20 rfl rfl)
theorem dX3_count_148 : decode cX3_count 148 = .ok (.getfield 7, 3) := dk_180 0 7 (dk_at dksX3_count_4 21 rfl rfl)
theorem dX3_count_151 : decode cX3_count 151 = .ok (.bipush 12, 2) := dk_16 12 (dk_at dksX3_count_5 0 rfl rfl)
theorem dX3_count_153 : decode cX3_count 153 = .ok (.iaload, 1) := dk_46 (dk_at dksX3_count_5 2 rfl rfl)
theorem dX3_count_154 : decode cX3_count 154 = .ok (.ireturn, 1) := dk_172 (dk_at dksX3_count_5 3 rfl rfl)
theorem dX3_count_155 : decode cX3_count 155 = .ok (.aload_n 0, 1) := dk_42 (dk_at dksX3_count_5 4 rfl rfl)
theorem dX3_count_156 : decode cX3_count 156 = .ok (.getfield 7, 3) := dk_180 0 7 (dk_at dksX3_count_5 5 rfl rfl)
theorem dX3_count_159 : decode cX3_count 159 = .ok (.bipush 37, 2) := dk_16 37 (dk_at dksX3_count_5 8 rfl rfl)
theorem dX3_count_161 : decode cX3_count 161 = .ok (.iaload, 1) := dk_46 (dk_at dksX3_count_5 10 rfl rfl)
theorem dX3_count_162 : decode cX3_count 162 = .ok (.ireturn, 1) := dk_172 (dk_at dksX3_count_5 11 rfl rfl)
theorem dX3_count_163 : decode cX3_count 163 = .ok (.aload_n 0, 1) := dk_42 (dk_at dksX3_count_5 12 rfl rfl)
theorem dX3_count_164 : decode cX3_count 164 = .ok (.getfield 7, 3) := dk_180 0 7 (dk_at dksX3_count_5 13 rfl rfl)
theorem dX3_count_167 : decode cX3_count 167 = .ok (.sipush 154, 3) := dk_17 0 154 (dk_at dksX3_count_5 16 rfl rfl)
theorem dX3_count_170 : decode cX3_count 170 = .ok (.iaload, 1) := dk_46 (dk_at dksX3_count_5 19 rfl rfl)
theorem dX3_count_171 : decode cX3_count 171 = .ok (.aload_n 0, 1) := dk_42 (dk_at dksX3_count_5 20 rfl rfl)
theorem dX3_count_172 : decode cX3_count 172 = .ok (.getfield 7, 3) := dk_180 0 7 (dk_at dksX3_count_5 21 rfl rfl)
theorem dX3_count_175 : decode cX3_count 175 = .ok (.sipush 155, 3) := dk_17 0 155 (dk_at dksX3_count_6 0 rfl rfl)
theorem dX3_count_178 : decode cX3_count 178 = .ok (.iaload, 1) := dk_46 (dk_at dksX3_count_6 3 rfl rfl)
theorem dX3_count_179 : decode cX3_count 179 = .ok (.iadd, 1) := dk_96 (dk_at dksX3_count_6 4 rfl rfl)
theorem dX3_count_180 : decode cX3_count 180 = .ok (.ireturn, 1) := dk_172 (dk_at dksX3_count_6 5 rfl rfl)
theorem dX3_count_181 : decode cX3_count 181 = .ok (.aload_n 0, 1) := dk_42 (dk_at dksX3_count_6 6 rfl rfl)
theorem dX3_count_182 : decode cX3_count 182 = .ok (.getfield 61, 3) := dk_180 0 61 (dk_at dksX3_count_6 7 rfl rfl)
theorem dX3_count_185 : decode cX3_count 185 = .ok (.ireturn, 1) := dk_172 (dk_at dksX3_count_6 10 rfl rfl)
theorem dX3_count_186 : decode cX3_count 186 = .ok (.aload_n 0, 1) := dk_42 (dk_at dksX3_count_6 11 rfl rfl)
theorem dX3_count_187 : decode cX3_count 187 = .ok (.getfield 181, 3) := dk_180 0 181 (dk_at dksX3_count_6 12 rfl rfl)
theorem dX3_count_190 : decode cX3_count 190 = .ok (.ireturn, 1) := dk_172 (dk_at dksX3_count_6 15 rfl rfl)
theorem dX3_count_191 : decode cX3_count 191 = .ok (.aload_n 0, 1) := dk_42 (dk_at dksX3_count_6 16 rfl rfl)
theorem dX3_count_192 : decode cX3_count 192 = .ok (.getfield 7, 3) := dk_180 0 7 (dk_at dksX3_count_6 17 rfl rfl)
theorem dX3_count_195 : decode cX3_count 195 = .ok (.bipush 11, 2) := dk_16 11 (dk_at dksX3_count_6 20 rfl rfl)
theorem dX3_count_197 : decode cX3_count 197 = .ok (.iaload, 1) := dk_46 (dk_at dksX3_count_6 22 rfl rfl)
theorem dX3_count_198 : decode cX3_count 198 = .ok (.ireturn, 1) := dk_172 (dk_at dksX3_count_6 23 rfl rfl)
theorem dX3_count_199 : decode cX3_count 199 = .ok (.aload_n 0, 1) := dk_42 (dk_at dksX3_count_7 0 rfl rfl)
theorem dX3_count_200 : decode cX3_count 200 = .ok (.getfield 7, 3) := dk_180 0 7 (dk_at dksX3_count_7 1 rfl rfl)
theorem dX3_count_203 : decode cX3_count 203 = .ok (.bipush 10, 2) := dk_16 10 (dk_at dksX3_count_7 4 rfl rfl)
theorem dX3_count_205 : decode cX3_count 205 = .ok (.iaload, 1) := dk_46 (dk_at dksX3_count_7 6 rfl rfl)
theorem dX3_count_206 : decode cX3_count 206 = .ok (.ireturn, 1) := dk_172 (dk_at dksX3_count_7 7 rfl rfl)
theorem dX3_count_207 : decode cX3_count 207 = .ok (.aload_n 0, 1) := dk_42 (dk_at dksX3_count_7 8 rfl rfl)
theorem dX3_count_208 : decode cX3_count 208 = .ok (.getfield 7, 3) := dk_180 0 7 (dk_at dksX3_count_7 9 rfl rfl)
theorem dX3_count_211 : decode cX3_count 211 = .ok (.bipush 7, 2) := dk_16 7 (dk_at dksX3_count_7 12 rfl rfl)
theorem dX3_count_213 : decode cX3_count 213 = .ok (.iaload, 1) := dk_46 (dk_at dksX3_count_7 14 rfl rfl)
theorem dX3_count_214 : decode cX3_count 214 = .ok (.ireturn, 1) := dk_172 (dk_at dksX3_count_7 15 rfl rfl)
theorem dX3_count_215 : decode cX3_count 215 = .ok (.iconst (-1), 1) := dk_2 (dk_at dksX3_count_7 16 rfl rfl)
theorem dX3_count_216 : decode cX3_count 216 = .ok (.ireturn, 1) := dk_172 (dk_at dksX3_count_7 17 rfl rfl)
abbrev cX3_foldsNow : ByteArray := prog_33_method_63_code
def yX3_foldsNow : MethodName := ⟨RX3, "foldsNow", "()I"⟩
def dkwX3_foldsNow_1 : List UInt8 := [96, 46, 96, 60, 132, 2, 1, 167, 255, 229, 27, 172]
abbrev dktX3_foldsNow_1 : List UInt8 := dkwX3_foldsNow_1 ++ []
def dkwX3_foldsNow_0 : List UInt8 := [3, 60, 3, 61, 28, 42, 180, 0, 7, 5, 46, 162, 0, 23, 16, 10, 27, 104, 42, 180, 0, 7, 6, 28]
abbrev dktX3_foldsNow_0 : List UInt8 := dkwX3_foldsNow_0 ++ dktX3_foldsNow_1
theorem dksX3_foldsNow_0 : cX3_foldsNow.data.toList.drop 0 = dktX3_foldsNow_0 := by decide +kernel
theorem dksX3_foldsNow_1 : cX3_foldsNow.data.toList.drop 24 = dktX3_foldsNow_1 := dk_seg dksX3_foldsNow_0 24 rfl rfl
theorem dX3_foldsNow_0 : decode cX3_foldsNow 0 = .ok (.iconst 0, 1) := dk_3 (dk_at dksX3_foldsNow_0 0 rfl rfl)
theorem dX3_foldsNow_1 : decode cX3_foldsNow 1 = .ok (.istore_n 1, 1) := dk_60 (dk_at dksX3_foldsNow_0 1 rfl rfl)
theorem dX3_foldsNow_2 : decode cX3_foldsNow 2 = .ok (.iconst 0, 1) := dk_3 (dk_at dksX3_foldsNow_0 2 rfl rfl)
theorem dX3_foldsNow_3 : decode cX3_foldsNow 3 = .ok (.istore_n 2, 1) := dk_61 (dk_at dksX3_foldsNow_0 3 rfl rfl)
theorem dX3_foldsNow_4 : decode cX3_foldsNow 4 = .ok (.iload_n 2, 1) := dk_28 (dk_at dksX3_foldsNow_0 4 rfl rfl)
theorem dX3_foldsNow_5 : decode cX3_foldsNow 5 = .ok (.aload_n 0, 1) := dk_42 (dk_at dksX3_foldsNow_0 5 rfl rfl)
theorem dX3_foldsNow_6 : decode cX3_foldsNow 6 = .ok (.getfield 7, 3) := dk_180 0 7 (dk_at dksX3_foldsNow_0 6 rfl rfl)
theorem dX3_foldsNow_9 : decode cX3_foldsNow 9 = .ok (.iconst 2, 1) := dk_5 (dk_at dksX3_foldsNow_0 9 rfl rfl)
theorem dX3_foldsNow_10 : decode cX3_foldsNow 10 = .ok (.iaload, 1) := dk_46 (dk_at dksX3_foldsNow_0 10 rfl rfl)
theorem dX3_foldsNow_11 : decode cX3_foldsNow 11 = .ok (.if_icmp .ge 23, 3) := dk_162 0 23 (dk_at dksX3_foldsNow_0 11 rfl rfl)
theorem dX3_foldsNow_14 : decode cX3_foldsNow 14 = .ok (.bipush 10, 2) := dk_16 10 (dk_at dksX3_foldsNow_0 14 rfl rfl)
theorem dX3_foldsNow_16 : decode cX3_foldsNow 16 = .ok (.iload_n 1, 1) := dk_27 (dk_at dksX3_foldsNow_0 16 rfl rfl)
theorem dX3_foldsNow_17 : decode cX3_foldsNow 17 = .ok (.imul, 1) := dk_104 (dk_at dksX3_foldsNow_0 17 rfl rfl)
theorem dX3_foldsNow_18 : decode cX3_foldsNow 18 = .ok (.aload_n 0, 1) := dk_42 (dk_at dksX3_foldsNow_0 18 rfl rfl)
theorem dX3_foldsNow_19 : decode cX3_foldsNow 19 = .ok (.getfield 7, 3) := dk_180 0 7 (dk_at dksX3_foldsNow_0 19 rfl rfl)
theorem dX3_foldsNow_22 : decode cX3_foldsNow 22 = .ok (.iconst 3, 1) := dk_6 (dk_at dksX3_foldsNow_0 22 rfl rfl)
theorem dX3_foldsNow_23 : decode cX3_foldsNow 23 = .ok (.iload_n 2, 1) := dk_28 (dk_at dksX3_foldsNow_0 23 rfl rfl)
theorem dX3_foldsNow_24 : decode cX3_foldsNow 24 = .ok (.iadd, 1) := dk_96 (dk_at dksX3_foldsNow_1 0 rfl rfl)
theorem dX3_foldsNow_25 : decode cX3_foldsNow 25 = .ok (.iaload, 1) := dk_46 (dk_at dksX3_foldsNow_1 1 rfl rfl)
theorem dX3_foldsNow_26 : decode cX3_foldsNow 26 = .ok (.iadd, 1) := dk_96 (dk_at dksX3_foldsNow_1 2 rfl rfl)
theorem dX3_foldsNow_27 : decode cX3_foldsNow 27 = .ok (.istore_n 1, 1) := dk_60 (dk_at dksX3_foldsNow_1 3 rfl rfl)
theorem dX3_foldsNow_28 : decode cX3_foldsNow 28 = .ok (.iinc 2 1, 3) := dk_132 2 1 (dk_at dksX3_foldsNow_1 4 rfl rfl)
theorem dX3_foldsNow_31 : decode cX3_foldsNow 31 = .ok (.goto (-27), 3) := dk_167 255 229 (dk_at dksX3_foldsNow_1 7 rfl rfl)
theorem dX3_foldsNow_34 : decode cX3_foldsNow 34 = .ok (.iload_n 1, 1) := dk_27 (dk_at dksX3_foldsNow_1 10 rfl rfl)
theorem dX3_foldsNow_35 : decode cX3_foldsNow 35 = .ok (.ireturn, 1) := dk_172 (dk_at dksX3_foldsNow_1 11 rfl rfl)
abbrev cX3_side : ByteArray := prog_33_method_65_code
def yX3_side : MethodName := ⟨RX3, "side", "(IIII)I"⟩
def dkwX3_side_4 : List UInt8 := [172]
abbrev dktX3_side_4 : List UInt8 := dkwX3_side_4 ++ []
def dkwX3_side_3 : List UInt8 := [16, 90, 21, 5, 96, 46, 156, 0, 8, 16, 247, 167, 0, 13, 42, 180, 0, 7, 16, 90, 21, 5, 96, 46]
abbrev dktX3_side_3 : List UInt8 := dkwX3_side_3 ++ dktX3_side_4
def dkwX3_side_2 : List UInt8 := [21, 4, 4, 160, 0, 16, 42, 180, 0, 7, 16, 122, 21, 5, 96, 46, 167, 0, 31, 42, 180, 0, 7]
abbrev dktX3_side_2 : List UInt8 := dkwX3_side_2 ++ dktX3_side_3
def dkwX3_side_1 : List UInt8 := [184, 0, 101, 154, 0, 5, 2, 172, 5, 42, 180, 0, 7, 4, 46, 27, 104, 28, 96, 104, 29, 96, 54, 5]
abbrev dktX3_side_1 : List UInt8 := dkwX3_side_1 ++ dktX3_side_2
def dkwX3_side_0 : List UInt8 := [42, 27, 28, 182, 0, 146, 153, 0, 24, 29, 133, 9, 10, 184, 0, 101, 153, 0, 14, 21, 4, 133, 9, 10]
abbrev dktX3_side_0 : List UInt8 := dkwX3_side_0 ++ dktX3_side_1
theorem dksX3_side_0 : cX3_side.data.toList.drop 0 = dktX3_side_0 := by decide +kernel
theorem dksX3_side_1 : cX3_side.data.toList.drop 24 = dktX3_side_1 := dk_seg dksX3_side_0 24 rfl rfl
theorem dksX3_side_2 : cX3_side.data.toList.drop 48 = dktX3_side_2 := dk_seg dksX3_side_1 24 rfl rfl
theorem dksX3_side_3 : cX3_side.data.toList.drop 71 = dktX3_side_3 := dk_seg dksX3_side_2 23 rfl rfl
theorem dksX3_side_4 : cX3_side.data.toList.drop 95 = dktX3_side_4 := dk_seg dksX3_side_3 24 rfl rfl
theorem dX3_side_0 : decode cX3_side 0 = .ok (.aload_n 0, 1) := dk_42 (dk_at dksX3_side_0 0 rfl rfl)
theorem dX3_side_1 : decode cX3_side 1 = .ok (.iload_n 1, 1) := dk_27 (dk_at dksX3_side_0 1 rfl rfl)
theorem dX3_side_2 : decode cX3_side 2 = .ok (.iload_n 2, 1) := dk_28 (dk_at dksX3_side_0 2 rfl rfl)
theorem dX3_side_3 : decode cX3_side 3 = .ok (.invokevirtual 146, 3) := dk_182 0 146 (dk_at dksX3_side_0 3 rfl rfl)
theorem dX3_side_6 : decode cX3_side 6 = .ok (.ifCond .eq 24, 3) := dk_153 0 24 (dk_at dksX3_side_0 6 rfl rfl)
theorem dX3_side_9 : decode cX3_side 9 = .ok (.iload_n 3, 1) := dk_29 (dk_at dksX3_side_0 9 rfl rfl)
theorem dX3_side_10 : decode cX3_side 10 = .ok (.i2l, 1) := dk_133 (dk_at dksX3_side_0 10 rfl rfl)
theorem dX3_side_11 : decode cX3_side 11 = .ok (.lconst 0, 1) := dk_9 (dk_at dksX3_side_0 11 rfl rfl)
theorem dX3_side_12 : decode cX3_side 12 = .ok (.lconst 1, 1) := dk_10 (dk_at dksX3_side_0 12 rfl rfl)
theorem dX3_side_13 : decode cX3_side 13 = .ok (.invokestatic 101, 3) := dk_184 0 101 (dk_at dksX3_side_0 13 rfl rfl)
theorem dX3_side_16 : decode cX3_side 16 = .ok (.ifCond .eq 14, 3) := dk_153 0 14 (dk_at dksX3_side_0 16 rfl rfl)
theorem dX3_side_19 : decode cX3_side 19 = .ok (.iload 4, 2) := dk_21 4 (dk_at dksX3_side_0 19 rfl rfl)
theorem dX3_side_21 : decode cX3_side 21 = .ok (.i2l, 1) := dk_133 (dk_at dksX3_side_0 21 rfl rfl)
theorem dX3_side_22 : decode cX3_side 22 = .ok (.lconst 0, 1) := dk_9 (dk_at dksX3_side_0 22 rfl rfl)
theorem dX3_side_23 : decode cX3_side 23 = .ok (.lconst 1, 1) := dk_10 (dk_at dksX3_side_0 23 rfl rfl)
theorem dX3_side_24 : decode cX3_side 24 = .ok (.invokestatic 101, 3) := dk_184 0 101 (dk_at dksX3_side_1 0 rfl rfl)
theorem dX3_side_27 : decode cX3_side 27 = .ok (.ifCond .ne 5, 3) := dk_154 0 5 (dk_at dksX3_side_1 3 rfl rfl)
theorem dX3_side_30 : decode cX3_side 30 = .ok (.iconst (-1), 1) := dk_2 (dk_at dksX3_side_1 6 rfl rfl)
theorem dX3_side_31 : decode cX3_side 31 = .ok (.ireturn, 1) := dk_172 (dk_at dksX3_side_1 7 rfl rfl)
theorem dX3_side_32 : decode cX3_side 32 = .ok (.iconst 2, 1) := dk_5 (dk_at dksX3_side_1 8 rfl rfl)
theorem dX3_side_33 : decode cX3_side 33 = .ok (.aload_n 0, 1) := dk_42 (dk_at dksX3_side_1 9 rfl rfl)
theorem dX3_side_34 : decode cX3_side 34 = .ok (.getfield 7, 3) := dk_180 0 7 (dk_at dksX3_side_1 10 rfl rfl)
theorem dX3_side_37 : decode cX3_side 37 = .ok (.iconst 1, 1) := dk_4 (dk_at dksX3_side_1 13 rfl rfl)
theorem dX3_side_38 : decode cX3_side 38 = .ok (.iaload, 1) := dk_46 (dk_at dksX3_side_1 14 rfl rfl)
theorem dX3_side_39 : decode cX3_side 39 = .ok (.iload_n 1, 1) := dk_27 (dk_at dksX3_side_1 15 rfl rfl)
theorem dX3_side_40 : decode cX3_side 40 = .ok (.imul, 1) := dk_104 (dk_at dksX3_side_1 16 rfl rfl)
theorem dX3_side_41 : decode cX3_side 41 = .ok (.iload_n 2, 1) := dk_28 (dk_at dksX3_side_1 17 rfl rfl)
theorem dX3_side_42 : decode cX3_side 42 = .ok (.iadd, 1) := dk_96 (dk_at dksX3_side_1 18 rfl rfl)
theorem dX3_side_43 : decode cX3_side 43 = .ok (.imul, 1) := dk_104 (dk_at dksX3_side_1 19 rfl rfl)
theorem dX3_side_44 : decode cX3_side 44 = .ok (.iload_n 3, 1) := dk_29 (dk_at dksX3_side_1 20 rfl rfl)
theorem dX3_side_45 : decode cX3_side 45 = .ok (.iadd, 1) := dk_96 (dk_at dksX3_side_1 21 rfl rfl)
theorem dX3_side_46 : decode cX3_side 46 = .ok (.istore 5, 2) := dk_54 5 (dk_at dksX3_side_1 22 rfl rfl)
theorem dX3_side_48 : decode cX3_side 48 = .ok (.iload 4, 2) := dk_21 4 (dk_at dksX3_side_2 0 rfl rfl)
theorem dX3_side_50 : decode cX3_side 50 = .ok (.iconst 1, 1) := dk_4 (dk_at dksX3_side_2 2 rfl rfl)
theorem dX3_side_51 : decode cX3_side 51 = .ok (.if_icmp .ne 16, 3) := dk_160 0 16 (dk_at dksX3_side_2 3 rfl rfl)
theorem dX3_side_54 : decode cX3_side 54 = .ok (.aload_n 0, 1) := dk_42 (dk_at dksX3_side_2 6 rfl rfl)
theorem dX3_side_55 : decode cX3_side 55 = .ok (.getfield 7, 3) := dk_180 0 7 (dk_at dksX3_side_2 7 rfl rfl)
theorem dX3_side_58 : decode cX3_side 58 = .ok (.bipush 122, 2) := dk_16 122 (dk_at dksX3_side_2 10 rfl rfl)
theorem dX3_side_60 : decode cX3_side 60 = .ok (.iload 5, 2) := dk_21 5 (dk_at dksX3_side_2 12 rfl rfl)
theorem dX3_side_62 : decode cX3_side 62 = .ok (.iadd, 1) := dk_96 (dk_at dksX3_side_2 14 rfl rfl)
theorem dX3_side_63 : decode cX3_side 63 = .ok (.iaload, 1) := dk_46 (dk_at dksX3_side_2 15 rfl rfl)
theorem dX3_side_64 : decode cX3_side 64 = .ok (.goto 31, 3) := dk_167 0 31 (dk_at dksX3_side_2 16 rfl rfl)
theorem dX3_side_67 : decode cX3_side 67 = .ok (.aload_n 0, 1) := dk_42 (dk_at dksX3_side_2 19 rfl rfl)
theorem dX3_side_68 : decode cX3_side 68 = .ok (.getfield 7, 3) := dk_180 0 7 (dk_at dksX3_side_2 20 rfl rfl)
theorem dX3_side_71 : decode cX3_side 71 = .ok (.bipush 90, 2) := dk_16 90 (dk_at dksX3_side_3 0 rfl rfl)
theorem dX3_side_73 : decode cX3_side 73 = .ok (.iload 5, 2) := dk_21 5 (dk_at dksX3_side_3 2 rfl rfl)
theorem dX3_side_75 : decode cX3_side 75 = .ok (.iadd, 1) := dk_96 (dk_at dksX3_side_3 4 rfl rfl)
theorem dX3_side_76 : decode cX3_side 76 = .ok (.iaload, 1) := dk_46 (dk_at dksX3_side_3 5 rfl rfl)
theorem dX3_side_77 : decode cX3_side 77 = .ok (.ifCond .ge 8, 3) := dk_156 0 8 (dk_at dksX3_side_3 6 rfl rfl)
theorem dX3_side_80 : decode cX3_side 80 = .ok (.bipush (-9), 2) := dk_16 247 (dk_at dksX3_side_3 9 rfl rfl)
theorem dX3_side_82 : decode cX3_side 82 = .ok (.goto 13, 3) := dk_167 0 13 (dk_at dksX3_side_3 11 rfl rfl)
theorem dX3_side_85 : decode cX3_side 85 = .ok (.aload_n 0, 1) := dk_42 (dk_at dksX3_side_3 14 rfl rfl)
theorem dX3_side_86 : decode cX3_side 86 = .ok (.getfield 7, 3) := dk_180 0 7 (dk_at dksX3_side_3 15 rfl rfl)
theorem dX3_side_89 : decode cX3_side 89 = .ok (.bipush 90, 2) := dk_16 90 (dk_at dksX3_side_3 18 rfl rfl)
theorem dX3_side_91 : decode cX3_side 91 = .ok (.iload 5, 2) := dk_21 5 (dk_at dksX3_side_3 20 rfl rfl)
theorem dX3_side_93 : decode cX3_side 93 = .ok (.iadd, 1) := dk_96 (dk_at dksX3_side_3 22 rfl rfl)
theorem dX3_side_94 : decode cX3_side 94 = .ok (.iaload, 1) := dk_46 (dk_at dksX3_side_3 23 rfl rfl)
theorem dX3_side_95 : decode cX3_side 95 = .ok (.ireturn, 1) := dk_172 (dk_at dksX3_side_4 0 rfl rfl)
abbrev cX3_layer : ByteArray := prog_33_method_66_code
def yX3_layer : MethodName := ⟨RX3, "layer", "(III)I"⟩
def dkwX3_layer_6 : List UInt8 := [42, 180, 0, 28, 21, 4, 46, 172]
abbrev dktX3_layer_6 : List UInt8 := dkwX3_layer_6 ++ []
def dkwX3_layer_5 : List UInt8 := [180, 0, 25, 21, 4, 46, 167, 0, 25, 29, 6, 160, 0, 13, 42, 180, 0, 31, 21, 4, 46, 167, 0, 10]
abbrev dktX3_layer_5 : List UInt8 := dkwX3_layer_5 ++ dktX3_layer_6
def dkwX3_layer_4 : List UInt8 := [29, 4, 160, 0, 15, 21, 5, 42, 180, 0, 7, 4, 46, 112, 167, 0, 40, 29, 5, 160, 0, 13, 42]
abbrev dktX3_layer_4 : List UInt8 := dkwX3_layer_4 ++ dktX3_layer_5
def dkwX3_layer_3 : List UInt8 := [180, 0, 22, 21, 4, 46, 54, 5, 29, 154, 0, 15, 21, 5, 42, 180, 0, 7, 4, 46, 108, 167, 0, 57]
abbrev dktX3_layer_3 : List UInt8 := dkwX3_layer_3 ++ dktX3_layer_4
def dkwX3_layer_2 : List UInt8 := [20, 0, 99, 184, 0, 101, 154, 0, 5, 2, 172, 42, 180, 0, 78, 27, 104, 28, 96, 54, 4, 42]
abbrev dktX3_layer_2 : List UInt8 := dkwX3_layer_2 ++ dktX3_layer_3
def dkwX3_layer_1 : List UInt8 := [153, 0, 31, 28, 133, 9, 42, 180, 0, 78, 4, 100, 133, 184, 0, 101, 153, 0, 15, 29, 133, 9]
abbrev dktX3_layer_1 : List UInt8 := dkwX3_layer_1 ++ dktX3_layer_2
def dkwX3_layer_0 : List UInt8 := [42, 182, 0, 92, 27, 133, 9, 42, 180, 0, 72, 42, 180, 0, 75, 104, 4, 100, 133, 184, 0, 101]
abbrev dktX3_layer_0 : List UInt8 := dkwX3_layer_0 ++ dktX3_layer_1
theorem dksX3_layer_0 : cX3_layer.data.toList.drop 0 = dktX3_layer_0 := by decide +kernel
theorem dksX3_layer_1 : cX3_layer.data.toList.drop 22 = dktX3_layer_1 := dk_seg dksX3_layer_0 22 rfl rfl
theorem dksX3_layer_2 : cX3_layer.data.toList.drop 44 = dktX3_layer_2 := dk_seg dksX3_layer_1 22 rfl rfl
theorem dksX3_layer_3 : cX3_layer.data.toList.drop 66 = dktX3_layer_3 := dk_seg dksX3_layer_2 22 rfl rfl
theorem dksX3_layer_4 : cX3_layer.data.toList.drop 90 = dktX3_layer_4 := dk_seg dksX3_layer_3 24 rfl rfl
theorem dksX3_layer_5 : cX3_layer.data.toList.drop 113 = dktX3_layer_5 := dk_seg dksX3_layer_4 23 rfl rfl
theorem dksX3_layer_6 : cX3_layer.data.toList.drop 137 = dktX3_layer_6 := dk_seg dksX3_layer_5 24 rfl rfl
theorem dX3_layer_0 : decode cX3_layer 0 = .ok (.aload_n 0, 1) := dk_42 (dk_at dksX3_layer_0 0 rfl rfl)
theorem dX3_layer_1 : decode cX3_layer 1 = .ok (.invokevirtual 92, 3) := dk_182 0 92 (dk_at dksX3_layer_0 1 rfl rfl)
theorem dX3_layer_4 : decode cX3_layer 4 = .ok (.iload_n 1, 1) := dk_27 (dk_at dksX3_layer_0 4 rfl rfl)
theorem dX3_layer_5 : decode cX3_layer 5 = .ok (.i2l, 1) := dk_133 (dk_at dksX3_layer_0 5 rfl rfl)
theorem dX3_layer_6 : decode cX3_layer 6 = .ok (.lconst 0, 1) := dk_9 (dk_at dksX3_layer_0 6 rfl rfl)
theorem dX3_layer_7 : decode cX3_layer 7 = .ok (.aload_n 0, 1) := dk_42 (dk_at dksX3_layer_0 7 rfl rfl)
theorem dX3_layer_8 : decode cX3_layer 8 = .ok (.getfield 72, 3) := dk_180 0 72 (dk_at dksX3_layer_0 8 rfl rfl)
theorem dX3_layer_11 : decode cX3_layer 11 = .ok (.aload_n 0, 1) := dk_42 (dk_at dksX3_layer_0 11 rfl rfl)
theorem dX3_layer_12 : decode cX3_layer 12 = .ok (.getfield 75, 3) := dk_180 0 75 (dk_at dksX3_layer_0 12 rfl rfl)
theorem dX3_layer_15 : decode cX3_layer 15 = .ok (.imul, 1) := dk_104 (dk_at dksX3_layer_0 15 rfl rfl)
theorem dX3_layer_16 : decode cX3_layer 16 = .ok (.iconst 1, 1) := dk_4 (dk_at dksX3_layer_0 16 rfl rfl)
theorem dX3_layer_17 : decode cX3_layer 17 = .ok (.isub, 1) := dk_100 (dk_at dksX3_layer_0 17 rfl rfl)
theorem dX3_layer_18 : decode cX3_layer 18 = .ok (.i2l, 1) := dk_133 (dk_at dksX3_layer_0 18 rfl rfl)
theorem dX3_layer_19 : decode cX3_layer 19 = .ok (.invokestatic 101, 3) := dk_184 0 101 (dk_at dksX3_layer_0 19 rfl rfl)
theorem dX3_layer_22 : decode cX3_layer 22 = .ok (.ifCond .eq 31, 3) := dk_153 0 31 (dk_at dksX3_layer_1 0 rfl rfl)
theorem dX3_layer_25 : decode cX3_layer 25 = .ok (.iload_n 2, 1) := dk_28 (dk_at dksX3_layer_1 3 rfl rfl)
theorem dX3_layer_26 : decode cX3_layer 26 = .ok (.i2l, 1) := dk_133 (dk_at dksX3_layer_1 4 rfl rfl)
theorem dX3_layer_27 : decode cX3_layer 27 = .ok (.lconst 0, 1) := dk_9 (dk_at dksX3_layer_1 5 rfl rfl)
theorem dX3_layer_28 : decode cX3_layer 28 = .ok (.aload_n 0, 1) := dk_42 (dk_at dksX3_layer_1 6 rfl rfl)
theorem dX3_layer_29 : decode cX3_layer 29 = .ok (.getfield 78, 3) := dk_180 0 78 (dk_at dksX3_layer_1 7 rfl rfl)
theorem dX3_layer_32 : decode cX3_layer 32 = .ok (.iconst 1, 1) := dk_4 (dk_at dksX3_layer_1 10 rfl rfl)
theorem dX3_layer_33 : decode cX3_layer 33 = .ok (.isub, 1) := dk_100 (dk_at dksX3_layer_1 11 rfl rfl)
theorem dX3_layer_34 : decode cX3_layer 34 = .ok (.i2l, 1) := dk_133 (dk_at dksX3_layer_1 12 rfl rfl)
theorem dX3_layer_35 : decode cX3_layer 35 = .ok (.invokestatic 101, 3) := dk_184 0 101 (dk_at dksX3_layer_1 13 rfl rfl)
theorem dX3_layer_38 : decode cX3_layer 38 = .ok (.ifCond .eq 15, 3) := dk_153 0 15 (dk_at dksX3_layer_1 16 rfl rfl)
theorem dX3_layer_41 : decode cX3_layer 41 = .ok (.iload_n 3, 1) := dk_29 (dk_at dksX3_layer_1 19 rfl rfl)
theorem dX3_layer_42 : decode cX3_layer 42 = .ok (.i2l, 1) := dk_133 (dk_at dksX3_layer_1 20 rfl rfl)
theorem dX3_layer_43 : decode cX3_layer 43 = .ok (.lconst 0, 1) := dk_9 (dk_at dksX3_layer_1 21 rfl rfl)
theorem dX3_layer_44 : decode cX3_layer 44 = .ok (.ldc2_w 99, 3) := dk_20 0 99 (dk_at dksX3_layer_2 0 rfl rfl)
theorem dX3_layer_47 : decode cX3_layer 47 = .ok (.invokestatic 101, 3) := dk_184 0 101 (dk_at dksX3_layer_2 3 rfl rfl)
theorem dX3_layer_50 : decode cX3_layer 50 = .ok (.ifCond .ne 5, 3) := dk_154 0 5 (dk_at dksX3_layer_2 6 rfl rfl)
theorem dX3_layer_53 : decode cX3_layer 53 = .ok (.iconst (-1), 1) := dk_2 (dk_at dksX3_layer_2 9 rfl rfl)
theorem dX3_layer_54 : decode cX3_layer 54 = .ok (.ireturn, 1) := dk_172 (dk_at dksX3_layer_2 10 rfl rfl)
theorem dX3_layer_55 : decode cX3_layer 55 = .ok (.aload_n 0, 1) := dk_42 (dk_at dksX3_layer_2 11 rfl rfl)
theorem dX3_layer_56 : decode cX3_layer 56 = .ok (.getfield 78, 3) := dk_180 0 78 (dk_at dksX3_layer_2 12 rfl rfl)
theorem dX3_layer_59 : decode cX3_layer 59 = .ok (.iload_n 1, 1) := dk_27 (dk_at dksX3_layer_2 15 rfl rfl)
theorem dX3_layer_60 : decode cX3_layer 60 = .ok (.imul, 1) := dk_104 (dk_at dksX3_layer_2 16 rfl rfl)
theorem dX3_layer_61 : decode cX3_layer 61 = .ok (.iload_n 2, 1) := dk_28 (dk_at dksX3_layer_2 17 rfl rfl)
theorem dX3_layer_62 : decode cX3_layer 62 = .ok (.iadd, 1) := dk_96 (dk_at dksX3_layer_2 18 rfl rfl)
theorem dX3_layer_63 : decode cX3_layer 63 = .ok (.istore 4, 2) := dk_54 4 (dk_at dksX3_layer_2 19 rfl rfl)
theorem dX3_layer_65 : decode cX3_layer 65 = .ok (.aload_n 0, 1) := dk_42 (dk_at dksX3_layer_2 21 rfl rfl)
theorem dX3_layer_66 : decode cX3_layer 66 = .ok (.getfield 22, 3) := dk_180 0 22 (dk_at dksX3_layer_3 0 rfl rfl)
theorem dX3_layer_69 : decode cX3_layer 69 = .ok (.iload 4, 2) := dk_21 4 (dk_at dksX3_layer_3 3 rfl rfl)
theorem dX3_layer_71 : decode cX3_layer 71 = .ok (.iaload, 1) := dk_46 (dk_at dksX3_layer_3 5 rfl rfl)
theorem dX3_layer_72 : decode cX3_layer 72 = .ok (.istore 5, 2) := dk_54 5 (dk_at dksX3_layer_3 6 rfl rfl)
theorem dX3_layer_74 : decode cX3_layer 74 = .ok (.iload_n 3, 1) := dk_29 (dk_at dksX3_layer_3 8 rfl rfl)
theorem dX3_layer_75 : decode cX3_layer 75 = .ok (.ifCond .ne 15, 3) := dk_154 0 15 (dk_at dksX3_layer_3 9 rfl rfl)
theorem dX3_layer_78 : decode cX3_layer 78 = .ok (.iload 5, 2) := dk_21 5 (dk_at dksX3_layer_3 12 rfl rfl)
theorem dX3_layer_80 : decode cX3_layer 80 = .ok (.aload_n 0, 1) := dk_42 (dk_at dksX3_layer_3 14 rfl rfl)
theorem dX3_layer_81 : decode cX3_layer 81 = .ok (.getfield 7, 3) := dk_180 0 7 (dk_at dksX3_layer_3 15 rfl rfl)
theorem dX3_layer_84 : decode cX3_layer 84 = .ok (.iconst 1, 1) := dk_4 (dk_at dksX3_layer_3 18 rfl rfl)
theorem dX3_layer_85 : decode cX3_layer 85 = .ok (.iaload, 1) := dk_46 (dk_at dksX3_layer_3 19 rfl rfl)
theorem dX3_layer_86 : decode cX3_layer 86 = .ok (.idiv, 1) := dk_108 (dk_at dksX3_layer_3 20 rfl rfl)
theorem dX3_layer_87 : decode cX3_layer 87 = .ok (.goto 57, 3) := dk_167 0 57 (dk_at dksX3_layer_3 21 rfl rfl)
theorem dX3_layer_90 : decode cX3_layer 90 = .ok (.iload_n 3, 1) := dk_29 (dk_at dksX3_layer_4 0 rfl rfl)
theorem dX3_layer_91 : decode cX3_layer 91 = .ok (.iconst 1, 1) := dk_4 (dk_at dksX3_layer_4 1 rfl rfl)
theorem dX3_layer_92 : decode cX3_layer 92 = .ok (.if_icmp .ne 15, 3) := dk_160 0 15 (dk_at dksX3_layer_4 2 rfl rfl)
theorem dX3_layer_95 : decode cX3_layer 95 = .ok (.iload 5, 2) := dk_21 5 (dk_at dksX3_layer_4 5 rfl rfl)
theorem dX3_layer_97 : decode cX3_layer 97 = .ok (.aload_n 0, 1) := dk_42 (dk_at dksX3_layer_4 7 rfl rfl)
theorem dX3_layer_98 : decode cX3_layer 98 = .ok (.getfield 7, 3) := dk_180 0 7 (dk_at dksX3_layer_4 8 rfl rfl)
theorem dX3_layer_101 : decode cX3_layer 101 = .ok (.iconst 1, 1) := dk_4 (dk_at dksX3_layer_4 11 rfl rfl)
theorem dX3_layer_102 : decode cX3_layer 102 = .ok (.iaload, 1) := dk_46 (dk_at dksX3_layer_4 12 rfl rfl)
theorem dX3_layer_103 : decode cX3_layer 103 = .ok (.irem, 1) := dk_112 (dk_at dksX3_layer_4 13 rfl rfl)
theorem dX3_layer_104 : decode cX3_layer 104 = .ok (.goto 40, 3) := dk_167 0 40 (dk_at dksX3_layer_4 14 rfl rfl)
theorem dX3_layer_107 : decode cX3_layer 107 = .ok (.iload_n 3, 1) := dk_29 (dk_at dksX3_layer_4 17 rfl rfl)
theorem dX3_layer_108 : decode cX3_layer 108 = .ok (.iconst 2, 1) := dk_5 (dk_at dksX3_layer_4 18 rfl rfl)
theorem dX3_layer_109 : decode cX3_layer 109 = .ok (.if_icmp .ne 13, 3) := dk_160 0 13 (dk_at dksX3_layer_4 19 rfl rfl)
theorem dX3_layer_112 : decode cX3_layer 112 = .ok (.aload_n 0, 1) := dk_42 (dk_at dksX3_layer_4 22 rfl rfl)
theorem dX3_layer_113 : decode cX3_layer 113 = .ok (.getfield 25, 3) := dk_180 0 25 (dk_at dksX3_layer_5 0 rfl rfl)
theorem dX3_layer_116 : decode cX3_layer 116 = .ok (.iload 4, 2) := dk_21 4 (dk_at dksX3_layer_5 3 rfl rfl)
theorem dX3_layer_118 : decode cX3_layer 118 = .ok (.iaload, 1) := dk_46 (dk_at dksX3_layer_5 5 rfl rfl)
theorem dX3_layer_119 : decode cX3_layer 119 = .ok (.goto 25, 3) := dk_167 0 25 (dk_at dksX3_layer_5 6 rfl rfl)
theorem dX3_layer_122 : decode cX3_layer 122 = .ok (.iload_n 3, 1) := dk_29 (dk_at dksX3_layer_5 9 rfl rfl)
theorem dX3_layer_123 : decode cX3_layer 123 = .ok (.iconst 3, 1) := dk_6 (dk_at dksX3_layer_5 10 rfl rfl)
theorem dX3_layer_124 : decode cX3_layer 124 = .ok (.if_icmp .ne 13, 3) := dk_160 0 13 (dk_at dksX3_layer_5 11 rfl rfl)
theorem dX3_layer_127 : decode cX3_layer 127 = .ok (.aload_n 0, 1) := dk_42 (dk_at dksX3_layer_5 14 rfl rfl)
theorem dX3_layer_128 : decode cX3_layer 128 = .ok (.getfield 31, 3) := dk_180 0 31 (dk_at dksX3_layer_5 15 rfl rfl)
theorem dX3_layer_131 : decode cX3_layer 131 = .ok (.iload 4, 2) := dk_21 4 (dk_at dksX3_layer_5 18 rfl rfl)
theorem dX3_layer_133 : decode cX3_layer 133 = .ok (.iaload, 1) := dk_46 (dk_at dksX3_layer_5 20 rfl rfl)
theorem dX3_layer_134 : decode cX3_layer 134 = .ok (.goto 10, 3) := dk_167 0 10 (dk_at dksX3_layer_5 21 rfl rfl)
theorem dX3_layer_137 : decode cX3_layer 137 = .ok (.aload_n 0, 1) := dk_42 (dk_at dksX3_layer_6 0 rfl rfl)
theorem dX3_layer_138 : decode cX3_layer 138 = .ok (.getfield 28, 3) := dk_180 0 28 (dk_at dksX3_layer_6 1 rfl rfl)
theorem dX3_layer_141 : decode cX3_layer 141 = .ok (.iload 4, 2) := dk_21 4 (dk_at dksX3_layer_6 4 rfl rfl)
theorem dX3_layer_143 : decode cX3_layer 143 = .ok (.iaload, 1) := dk_46 (dk_at dksX3_layer_6 6 rfl rfl)
theorem dX3_layer_144 : decode cX3_layer 144 = .ok (.ireturn, 1) := dk_172 (dk_at dksX3_layer_6 7 rfl rfl)
abbrev cX3_page : ByteArray := prog_33_method_67_code
def yX3_page : MethodName := ⟨RX3, "page", "(II)I"⟩
def dkwX3_page_8 : List UInt8 := [182, 1, 67, 153, 0, 7, 4, 167, 0, 4, 3, 172, 42, 27, 182, 1, 70, 172]
abbrev dktX3_page_8 : List UInt8 := dkwX3_page_8 ++ []
def dkwX3_page_7 : List UInt8 := [182, 1, 64, 153, 0, 7, 4, 167, 0, 4, 3, 172, 42, 27, 182, 1, 64, 154, 0, 15, 42, 27]
abbrev dktX3_page_7 : List UInt8 := dkwX3_page_7 ++ dktX3_page_8
def dkwX3_page_6 : List UInt8 := [153, 0, 8, 16, 247, 167, 0, 16, 42, 27, 182, 0, 133, 153, 0, 7, 4, 167, 0, 4, 3, 172, 42, 27]
abbrev dktX3_page_6 : List UInt8 := dkwX3_page_6 ++ dktX3_page_7
def dkwX3_page_5 : List UInt8 := [112, 172, 21, 4, 153, 0, 8, 16, 247, 167, 0, 12, 42, 180, 0, 7, 16, 90, 29, 96, 46, 172, 21, 4]
abbrev dktX3_page_5 : List UInt8 := dkwX3_page_5 ++ dktX3_page_6
def dkwX3_page_4 : List UInt8 := [29, 5, 108, 42, 180, 0, 7, 4, 46, 108, 172, 29, 5, 108, 42, 180, 0, 7, 4, 46, 112, 172, 29, 5]
abbrev dktX3_page_4 : List UInt8 := dkwX3_page_4 ++ dktX3_page_5
def dkwX3_page_3 : List UInt8 := [170, 0, 0, 0, 0, 0, 0, 150, 0, 0, 0, 0, 0, 0, 0, 6, 0, 0, 0, 44, 0, 0, 0, 55, 0, 0, 0, 66, 0, 0, 0, 70, 0, 0, 0, 90, 0, 0, 0, 114, 0, 0, 0, 128]
abbrev dktX3_page_3 : List UInt8 := dkwX3_page_3 ++ dktX3_page_4
def dkwX3_page_2 : List UInt8 := [182, 0, 113, 62, 42, 180, 0, 7, 16, 90, 29, 96, 46, 156, 0, 7, 4, 167, 0, 4, 3, 54, 4, 28]
abbrev dktX3_page_2 : List UInt8 := dkwX3_page_2 ++ dktX3_page_3
def dkwX3_page_1 : List UInt8 := [184, 0, 101, 153, 0, 15, 28, 133, 9, 20, 1, 62, 184, 0, 101, 154, 0, 5, 2, 172, 42, 27]
abbrev dktX3_page_1 : List UInt8 := dkwX3_page_1 ++ dktX3_page_2
def dkwX3_page_0 : List UInt8 := [42, 182, 0, 162, 154, 0, 6, 16, 254, 172, 27, 133, 9, 5, 42, 180, 0, 78, 104, 4, 100, 133]
abbrev dktX3_page_0 : List UInt8 := dkwX3_page_0 ++ dktX3_page_1
theorem dksX3_page_0 : cX3_page.data.toList.drop 0 = dktX3_page_0 := by decide +kernel
theorem dksX3_page_1 : cX3_page.data.toList.drop 22 = dktX3_page_1 := dk_seg dksX3_page_0 22 rfl rfl
theorem dksX3_page_2 : cX3_page.data.toList.drop 44 = dktX3_page_2 := dk_seg dksX3_page_1 22 rfl rfl
theorem dksX3_page_3 : cX3_page.data.toList.drop 68 = dktX3_page_3 := dk_seg dksX3_page_2 24 rfl rfl
theorem dksX3_page_4 : cX3_page.data.toList.drop 112 = dktX3_page_4 := dk_seg dksX3_page_3 44 rfl rfl
theorem dksX3_page_5 : cX3_page.data.toList.drop 136 = dktX3_page_5 := dk_seg dksX3_page_4 24 rfl rfl
theorem dksX3_page_6 : cX3_page.data.toList.drop 160 = dktX3_page_6 := dk_seg dksX3_page_5 24 rfl rfl
theorem dksX3_page_7 : cX3_page.data.toList.drop 184 = dktX3_page_7 := dk_seg dksX3_page_6 24 rfl rfl
theorem dksX3_page_8 : cX3_page.data.toList.drop 206 = dktX3_page_8 := dk_seg dksX3_page_7 22 rfl rfl
theorem dX3_page_0 : decode cX3_page 0 = .ok (.aload_n 0, 1) := dk_42 (dk_at dksX3_page_0 0 rfl rfl)
theorem dX3_page_1 : decode cX3_page 1 = .ok (.invokevirtual 162, 3) := dk_182 0 162 (dk_at dksX3_page_0 1 rfl rfl)
theorem dX3_page_4 : decode cX3_page 4 = .ok (.ifCond .ne 6, 3) := dk_154 0 6 (dk_at dksX3_page_0 4 rfl rfl)
theorem dX3_page_7 : decode cX3_page 7 = .ok (.bipush (-2), 2) := dk_16 254 (dk_at dksX3_page_0 7 rfl rfl)
theorem dX3_page_9 : decode cX3_page 9 = .ok (.ireturn, 1) := dk_172 (dk_at dksX3_page_0 9 rfl rfl)
theorem dX3_page_10 : decode cX3_page 10 = .ok (.iload_n 1, 1) := dk_27 (dk_at dksX3_page_0 10 rfl rfl)
theorem dX3_page_11 : decode cX3_page 11 = .ok (.i2l, 1) := dk_133 (dk_at dksX3_page_0 11 rfl rfl)
theorem dX3_page_12 : decode cX3_page 12 = .ok (.lconst 0, 1) := dk_9 (dk_at dksX3_page_0 12 rfl rfl)
theorem dX3_page_13 : decode cX3_page 13 = .ok (.iconst 2, 1) := dk_5 (dk_at dksX3_page_0 13 rfl rfl)
theorem dX3_page_14 : decode cX3_page 14 = .ok (.aload_n 0, 1) := dk_42 (dk_at dksX3_page_0 14 rfl rfl)
theorem dX3_page_15 : decode cX3_page 15 = .ok (.getfield 78, 3) := dk_180 0 78 (dk_at dksX3_page_0 15 rfl rfl)
theorem dX3_page_18 : decode cX3_page 18 = .ok (.imul, 1) := dk_104 (dk_at dksX3_page_0 18 rfl rfl)
theorem dX3_page_19 : decode cX3_page 19 = .ok (.iconst 1, 1) := dk_4 (dk_at dksX3_page_0 19 rfl rfl)
theorem dX3_page_20 : decode cX3_page 20 = .ok (.isub, 1) := dk_100 (dk_at dksX3_page_0 20 rfl rfl)
theorem dX3_page_21 : decode cX3_page 21 = .ok (.i2l, 1) := dk_133 (dk_at dksX3_page_0 21 rfl rfl)
theorem dX3_page_22 : decode cX3_page 22 = .ok (.invokestatic 101, 3) := dk_184 0 101 (dk_at dksX3_page_1 0 rfl rfl)
theorem dX3_page_25 : decode cX3_page 25 = .ok (.ifCond .eq 15, 3) := dk_153 0 15 (dk_at dksX3_page_1 3 rfl rfl)
theorem dX3_page_28 : decode cX3_page 28 = .ok (.iload_n 2, 1) := dk_28 (dk_at dksX3_page_1 6 rfl rfl)
theorem dX3_page_29 : decode cX3_page 29 = .ok (.i2l, 1) := dk_133 (dk_at dksX3_page_1 7 rfl rfl)
theorem dX3_page_30 : decode cX3_page 30 = .ok (.lconst 0, 1) := dk_9 (dk_at dksX3_page_1 8 rfl rfl)
theorem dX3_page_31 : decode cX3_page 31 = .ok (.ldc2_w 318, 3) := dk_20 1 62 (dk_at dksX3_page_1 9 rfl rfl)
theorem dX3_page_34 : decode cX3_page 34 = .ok (.invokestatic 101, 3) := dk_184 0 101 (dk_at dksX3_page_1 12 rfl rfl)
theorem dX3_page_37 : decode cX3_page 37 = .ok (.ifCond .ne 5, 3) := dk_154 0 5 (dk_at dksX3_page_1 15 rfl rfl)
theorem dX3_page_40 : decode cX3_page 40 = .ok (.iconst (-1), 1) := dk_2 (dk_at dksX3_page_1 18 rfl rfl)
theorem dX3_page_41 : decode cX3_page 41 = .ok (.ireturn, 1) := dk_172 (dk_at dksX3_page_1 19 rfl rfl)
theorem dX3_page_42 : decode cX3_page 42 = .ok (.aload_n 0, 1) := dk_42 (dk_at dksX3_page_1 20 rfl rfl)
theorem dX3_page_43 : decode cX3_page 43 = .ok (.iload_n 1, 1) := dk_27 (dk_at dksX3_page_1 21 rfl rfl)
theorem dX3_page_44 : decode cX3_page 44 = .ok (.invokevirtual 113, 3) := dk_182 0 113 (dk_at dksX3_page_2 0 rfl rfl)
theorem dX3_page_47 : decode cX3_page 47 = .ok (.istore_n 3, 1) := dk_62 (dk_at dksX3_page_2 3 rfl rfl)
theorem dX3_page_48 : decode cX3_page 48 = .ok (.aload_n 0, 1) := dk_42 (dk_at dksX3_page_2 4 rfl rfl)
theorem dX3_page_49 : decode cX3_page 49 = .ok (.getfield 7, 3) := dk_180 0 7 (dk_at dksX3_page_2 5 rfl rfl)
theorem dX3_page_52 : decode cX3_page 52 = .ok (.bipush 90, 2) := dk_16 90 (dk_at dksX3_page_2 8 rfl rfl)
theorem dX3_page_54 : decode cX3_page 54 = .ok (.iload_n 3, 1) := dk_29 (dk_at dksX3_page_2 10 rfl rfl)
theorem dX3_page_55 : decode cX3_page 55 = .ok (.iadd, 1) := dk_96 (dk_at dksX3_page_2 11 rfl rfl)
theorem dX3_page_56 : decode cX3_page 56 = .ok (.iaload, 1) := dk_46 (dk_at dksX3_page_2 12 rfl rfl)
theorem dX3_page_57 : decode cX3_page 57 = .ok (.ifCond .ge 7, 3) := dk_156 0 7 (dk_at dksX3_page_2 13 rfl rfl)
theorem dX3_page_60 : decode cX3_page 60 = .ok (.iconst 1, 1) := dk_4 (dk_at dksX3_page_2 16 rfl rfl)
theorem dX3_page_61 : decode cX3_page 61 = .ok (.goto 4, 3) := dk_167 0 4 (dk_at dksX3_page_2 17 rfl rfl)
theorem dX3_page_64 : decode cX3_page 64 = .ok (.iconst 0, 1) := dk_3 (dk_at dksX3_page_2 20 rfl rfl)
theorem dX3_page_65 : decode cX3_page 65 = .ok (.istore 4, 2) := dk_54 4 (dk_at dksX3_page_2 21 rfl rfl)
theorem dX3_page_67 : decode cX3_page 67 = .ok (.iload_n 2, 1) := dk_28 (dk_at dksX3_page_2 23 rfl rfl)
theorem dX3_page_68 : decode cX3_page 68 = .ok (.tableswitch 150 0 6 #[44, 55, 66, 70, 90, 114, 128], 44) := by decide +kernel
theorem dX3_page_112 : decode cX3_page 112 = .ok (.iload_n 3, 1) := dk_29 (dk_at dksX3_page_4 0 rfl rfl)
theorem dX3_page_113 : decode cX3_page 113 = .ok (.iconst 2, 1) := dk_5 (dk_at dksX3_page_4 1 rfl rfl)
theorem dX3_page_114 : decode cX3_page 114 = .ok (.idiv, 1) := dk_108 (dk_at dksX3_page_4 2 rfl rfl)
theorem dX3_page_115 : decode cX3_page 115 = .ok (.aload_n 0, 1) := dk_42 (dk_at dksX3_page_4 3 rfl rfl)
theorem dX3_page_116 : decode cX3_page 116 = .ok (.getfield 7, 3) := dk_180 0 7 (dk_at dksX3_page_4 4 rfl rfl)
theorem dX3_page_119 : decode cX3_page 119 = .ok (.iconst 1, 1) := dk_4 (dk_at dksX3_page_4 7 rfl rfl)
theorem dX3_page_120 : decode cX3_page 120 = .ok (.iaload, 1) := dk_46 (dk_at dksX3_page_4 8 rfl rfl)
theorem dX3_page_121 : decode cX3_page 121 = .ok (.idiv, 1) := dk_108 (dk_at dksX3_page_4 9 rfl rfl)
theorem dX3_page_122 : decode cX3_page 122 = .ok (.ireturn, 1) := dk_172 (dk_at dksX3_page_4 10 rfl rfl)
theorem dX3_page_123 : decode cX3_page 123 = .ok (.iload_n 3, 1) := dk_29 (dk_at dksX3_page_4 11 rfl rfl)
theorem dX3_page_124 : decode cX3_page 124 = .ok (.iconst 2, 1) := dk_5 (dk_at dksX3_page_4 12 rfl rfl)
theorem dX3_page_125 : decode cX3_page 125 = .ok (.idiv, 1) := dk_108 (dk_at dksX3_page_4 13 rfl rfl)
theorem dX3_page_126 : decode cX3_page 126 = .ok (.aload_n 0, 1) := dk_42 (dk_at dksX3_page_4 14 rfl rfl)
theorem dX3_page_127 : decode cX3_page 127 = .ok (.getfield 7, 3) := dk_180 0 7 (dk_at dksX3_page_4 15 rfl rfl)
theorem dX3_page_130 : decode cX3_page 130 = .ok (.iconst 1, 1) := dk_4 (dk_at dksX3_page_4 18 rfl rfl)
theorem dX3_page_131 : decode cX3_page 131 = .ok (.iaload, 1) := dk_46 (dk_at dksX3_page_4 19 rfl rfl)
theorem dX3_page_132 : decode cX3_page 132 = .ok (.irem, 1) := dk_112 (dk_at dksX3_page_4 20 rfl rfl)
theorem dX3_page_133 : decode cX3_page 133 = .ok (.ireturn, 1) := dk_172 (dk_at dksX3_page_4 21 rfl rfl)
theorem dX3_page_134 : decode cX3_page 134 = .ok (.iload_n 3, 1) := dk_29 (dk_at dksX3_page_4 22 rfl rfl)
theorem dX3_page_135 : decode cX3_page 135 = .ok (.iconst 2, 1) := dk_5 (dk_at dksX3_page_4 23 rfl rfl)
theorem dX3_page_136 : decode cX3_page 136 = .ok (.irem, 1) := dk_112 (dk_at dksX3_page_5 0 rfl rfl)
theorem dX3_page_137 : decode cX3_page 137 = .ok (.ireturn, 1) := dk_172 (dk_at dksX3_page_5 1 rfl rfl)
theorem dX3_page_138 : decode cX3_page 138 = .ok (.iload 4, 2) := dk_21 4 (dk_at dksX3_page_5 2 rfl rfl)
theorem dX3_page_140 : decode cX3_page 140 = .ok (.ifCond .eq 8, 3) := dk_153 0 8 (dk_at dksX3_page_5 4 rfl rfl)
theorem dX3_page_143 : decode cX3_page 143 = .ok (.bipush (-9), 2) := dk_16 247 (dk_at dksX3_page_5 7 rfl rfl)
theorem dX3_page_145 : decode cX3_page 145 = .ok (.goto 12, 3) := dk_167 0 12 (dk_at dksX3_page_5 9 rfl rfl)
theorem dX3_page_148 : decode cX3_page 148 = .ok (.aload_n 0, 1) := dk_42 (dk_at dksX3_page_5 12 rfl rfl)
theorem dX3_page_149 : decode cX3_page 149 = .ok (.getfield 7, 3) := dk_180 0 7 (dk_at dksX3_page_5 13 rfl rfl)
theorem dX3_page_152 : decode cX3_page 152 = .ok (.bipush 90, 2) := dk_16 90 (dk_at dksX3_page_5 16 rfl rfl)
theorem dX3_page_154 : decode cX3_page 154 = .ok (.iload_n 3, 1) := dk_29 (dk_at dksX3_page_5 18 rfl rfl)
theorem dX3_page_155 : decode cX3_page 155 = .ok (.iadd, 1) := dk_96 (dk_at dksX3_page_5 19 rfl rfl)
theorem dX3_page_156 : decode cX3_page 156 = .ok (.iaload, 1) := dk_46 (dk_at dksX3_page_5 20 rfl rfl)
theorem dX3_page_157 : decode cX3_page 157 = .ok (.ireturn, 1) := dk_172 (dk_at dksX3_page_5 21 rfl rfl)
theorem dX3_page_158 : decode cX3_page 158 = .ok (.iload 4, 2) := dk_21 4 (dk_at dksX3_page_5 22 rfl rfl)
theorem dX3_page_160 : decode cX3_page 160 = .ok (.ifCond .eq 8, 3) := dk_153 0 8 (dk_at dksX3_page_6 0 rfl rfl)
theorem dX3_page_163 : decode cX3_page 163 = .ok (.bipush (-9), 2) := dk_16 247 (dk_at dksX3_page_6 3 rfl rfl)
theorem dX3_page_165 : decode cX3_page 165 = .ok (.goto 16, 3) := dk_167 0 16 (dk_at dksX3_page_6 5 rfl rfl)
theorem dX3_page_168 : decode cX3_page 168 = .ok (.aload_n 0, 1) := dk_42 (dk_at dksX3_page_6 8 rfl rfl)
theorem dX3_page_169 : decode cX3_page 169 = .ok (.iload_n 1, 1) := dk_27 (dk_at dksX3_page_6 9 rfl rfl)
theorem dX3_page_170 : decode cX3_page 170 = .ok (.invokevirtual 133, 3) := dk_182 0 133 (dk_at dksX3_page_6 10 rfl rfl)
theorem dX3_page_173 : decode cX3_page 173 = .ok (.ifCond .eq 7, 3) := dk_153 0 7 (dk_at dksX3_page_6 13 rfl rfl)
theorem dX3_page_176 : decode cX3_page 176 = .ok (.iconst 1, 1) := dk_4 (dk_at dksX3_page_6 16 rfl rfl)
theorem dX3_page_177 : decode cX3_page 177 = .ok (.goto 4, 3) := dk_167 0 4 (dk_at dksX3_page_6 17 rfl rfl)
theorem dX3_page_180 : decode cX3_page 180 = .ok (.iconst 0, 1) := dk_3 (dk_at dksX3_page_6 20 rfl rfl)
theorem dX3_page_181 : decode cX3_page 181 = .ok (.ireturn, 1) := dk_172 (dk_at dksX3_page_6 21 rfl rfl)
theorem dX3_page_182 : decode cX3_page 182 = .ok (.aload_n 0, 1) := dk_42 (dk_at dksX3_page_6 22 rfl rfl)
theorem dX3_page_183 : decode cX3_page 183 = .ok (.iload_n 1, 1) := dk_27 (dk_at dksX3_page_6 23 rfl rfl)
theorem dX3_page_184 : decode cX3_page 184 = .ok (.invokevirtual 320, 3) := dk_182 1 64 (dk_at dksX3_page_7 0 rfl rfl)
theorem dX3_page_187 : decode cX3_page 187 = .ok (.ifCond .eq 7, 3) := dk_153 0 7 (dk_at dksX3_page_7 3 rfl rfl)
theorem dX3_page_190 : decode cX3_page 190 = .ok (.iconst 1, 1) := dk_4 (dk_at dksX3_page_7 6 rfl rfl)
theorem dX3_page_191 : decode cX3_page 191 = .ok (.goto 4, 3) := dk_167 0 4 (dk_at dksX3_page_7 7 rfl rfl)
theorem dX3_page_194 : decode cX3_page 194 = .ok (.iconst 0, 1) := dk_3 (dk_at dksX3_page_7 10 rfl rfl)
theorem dX3_page_195 : decode cX3_page 195 = .ok (.ireturn, 1) := dk_172 (dk_at dksX3_page_7 11 rfl rfl)
theorem dX3_page_196 : decode cX3_page 196 = .ok (.aload_n 0, 1) := dk_42 (dk_at dksX3_page_7 12 rfl rfl)
theorem dX3_page_197 : decode cX3_page 197 = .ok (.iload_n 1, 1) := dk_27 (dk_at dksX3_page_7 13 rfl rfl)
theorem dX3_page_198 : decode cX3_page 198 = .ok (.invokevirtual 320, 3) := dk_182 1 64 (dk_at dksX3_page_7 14 rfl rfl)
theorem dX3_page_201 : decode cX3_page 201 = .ok (.ifCond .ne 15, 3) := dk_154 0 15 (dk_at dksX3_page_7 17 rfl rfl)
theorem dX3_page_204 : decode cX3_page 204 = .ok (.aload_n 0, 1) := dk_42 (dk_at dksX3_page_7 20 rfl rfl)
theorem dX3_page_205 : decode cX3_page 205 = .ok (.iload_n 1, 1) := dk_27 (dk_at dksX3_page_7 21 rfl rfl)
theorem dX3_page_206 : decode cX3_page 206 = .ok (.invokevirtual 323, 3) := dk_182 1 67 (dk_at dksX3_page_8 0 rfl rfl)
theorem dX3_page_209 : decode cX3_page 209 = .ok (.ifCond .eq 7, 3) := dk_153 0 7 (dk_at dksX3_page_8 3 rfl rfl)
theorem dX3_page_212 : decode cX3_page 212 = .ok (.iconst 1, 1) := dk_4 (dk_at dksX3_page_8 6 rfl rfl)
theorem dX3_page_213 : decode cX3_page 213 = .ok (.goto 4, 3) := dk_167 0 4 (dk_at dksX3_page_8 7 rfl rfl)
theorem dX3_page_216 : decode cX3_page 216 = .ok (.iconst 0, 1) := dk_3 (dk_at dksX3_page_8 10 rfl rfl)
theorem dX3_page_217 : decode cX3_page 217 = .ok (.ireturn, 1) := dk_172 (dk_at dksX3_page_8 11 rfl rfl)
theorem dX3_page_218 : decode cX3_page 218 = .ok (.aload_n 0, 1) := dk_42 (dk_at dksX3_page_8 12 rfl rfl)
theorem dX3_page_219 : decode cX3_page 219 = .ok (.iload_n 1, 1) := dk_27 (dk_at dksX3_page_8 13 rfl rfl)
theorem dX3_page_220 : decode cX3_page 220 = .ok (.invokevirtual 326, 3) := dk_182 1 70 (dk_at dksX3_page_8 14 rfl rfl)
theorem dX3_page_223 : decode cX3_page 223 = .ok (.ireturn, 1) := dk_172 (dk_at dksX3_page_8 17 rfl rfl)
abbrev cX3_isUpright : ByteArray := prog_33_method_19_code
def yX3_isUpright : MethodName := ⟨RX3, "isUpright", "(I)Z"⟩
def dkwX3_isUpright_1 : List UInt8 := [167, 0, 4, 3, 172]
abbrev dktX3_isUpright_1 : List UInt8 := dkwX3_isUpright_1 ++ []
def dkwX3_isUpright_0 : List UInt8 := [42, 27, 182, 0, 109, 42, 180, 0, 7, 16, 122, 42, 27, 182, 0, 113, 96, 46, 160, 0, 7, 4]
abbrev dktX3_isUpright_0 : List UInt8 := dkwX3_isUpright_0 ++ dktX3_isUpright_1
theorem dksX3_isUpright_0 : cX3_isUpright.data.toList.drop 0 = dktX3_isUpright_0 := by decide +kernel
theorem dksX3_isUpright_1 : cX3_isUpright.data.toList.drop 22 = dktX3_isUpright_1 := dk_seg dksX3_isUpright_0 22 rfl rfl
theorem dX3_isUpright_0 : decode cX3_isUpright 0 = .ok (.aload_n 0, 1) := dk_42 (dk_at dksX3_isUpright_0 0 rfl rfl)
theorem dX3_isUpright_1 : decode cX3_isUpright 1 = .ok (.iload_n 1, 1) := dk_27 (dk_at dksX3_isUpright_0 1 rfl rfl)
theorem dX3_isUpright_2 : decode cX3_isUpright 2 = .ok (.invokevirtual 109, 3) := dk_182 0 109 (dk_at dksX3_isUpright_0 2 rfl rfl)
theorem dX3_isUpright_5 : decode cX3_isUpright 5 = .ok (.aload_n 0, 1) := dk_42 (dk_at dksX3_isUpright_0 5 rfl rfl)
theorem dX3_isUpright_6 : decode cX3_isUpright 6 = .ok (.getfield 7, 3) := dk_180 0 7 (dk_at dksX3_isUpright_0 6 rfl rfl)
theorem dX3_isUpright_9 : decode cX3_isUpright 9 = .ok (.bipush 122, 2) := dk_16 122 (dk_at dksX3_isUpright_0 9 rfl rfl)
theorem dX3_isUpright_11 : decode cX3_isUpright 11 = .ok (.aload_n 0, 1) := dk_42 (dk_at dksX3_isUpright_0 11 rfl rfl)
theorem dX3_isUpright_12 : decode cX3_isUpright 12 = .ok (.iload_n 1, 1) := dk_27 (dk_at dksX3_isUpright_0 12 rfl rfl)
theorem dX3_isUpright_13 : decode cX3_isUpright 13 = .ok (.invokevirtual 113, 3) := dk_182 0 113 (dk_at dksX3_isUpright_0 13 rfl rfl)
theorem dX3_isUpright_16 : decode cX3_isUpright 16 = .ok (.iadd, 1) := dk_96 (dk_at dksX3_isUpright_0 16 rfl rfl)
theorem dX3_isUpright_17 : decode cX3_isUpright 17 = .ok (.iaload, 1) := dk_46 (dk_at dksX3_isUpright_0 17 rfl rfl)
theorem dX3_isUpright_18 : decode cX3_isUpright 18 = .ok (.if_icmp .ne 7, 3) := dk_160 0 7 (dk_at dksX3_isUpright_0 18 rfl rfl)
theorem dX3_isUpright_21 : decode cX3_isUpright 21 = .ok (.iconst 1, 1) := dk_4 (dk_at dksX3_isUpright_0 21 rfl rfl)
theorem dX3_isUpright_22 : decode cX3_isUpright 22 = .ok (.goto 4, 3) := dk_167 0 4 (dk_at dksX3_isUpright_1 0 rfl rfl)
theorem dX3_isUpright_25 : decode cX3_isUpright 25 = .ok (.iconst 0, 1) := dk_3 (dk_at dksX3_isUpright_1 3 rfl rfl)
theorem dX3_isUpright_26 : decode cX3_isUpright 26 = .ok (.ireturn, 1) := dk_172 (dk_at dksX3_isUpright_1 4 rfl rfl)
abbrev cX3_isHidden : ByteArray := prog_33_method_24_code
def yX3_isHidden : MethodName := ⟨RX3, "isHidden", "(I)Z"⟩
def dkwX3_isHidden_1 : List UInt8 := [172]
abbrev dktX3_isHidden_1 : List UInt8 := dkwX3_isHidden_1 ++ []
def dkwX3_isHidden_0 : List UInt8 := [42, 27, 4, 96, 5, 108, 42, 180, 0, 7, 16, 8, 46, 182, 0, 127, 153, 0, 7, 4, 167, 0, 4, 3]
abbrev dktX3_isHidden_0 : List UInt8 := dkwX3_isHidden_0 ++ dktX3_isHidden_1
theorem dksX3_isHidden_0 : cX3_isHidden.data.toList.drop 0 = dktX3_isHidden_0 := by decide +kernel
theorem dksX3_isHidden_1 : cX3_isHidden.data.toList.drop 24 = dktX3_isHidden_1 := dk_seg dksX3_isHidden_0 24 rfl rfl
theorem dX3_isHidden_0 : decode cX3_isHidden 0 = .ok (.aload_n 0, 1) := dk_42 (dk_at dksX3_isHidden_0 0 rfl rfl)
theorem dX3_isHidden_1 : decode cX3_isHidden 1 = .ok (.iload_n 1, 1) := dk_27 (dk_at dksX3_isHidden_0 1 rfl rfl)
theorem dX3_isHidden_2 : decode cX3_isHidden 2 = .ok (.iconst 1, 1) := dk_4 (dk_at dksX3_isHidden_0 2 rfl rfl)
theorem dX3_isHidden_3 : decode cX3_isHidden 3 = .ok (.iadd, 1) := dk_96 (dk_at dksX3_isHidden_0 3 rfl rfl)
theorem dX3_isHidden_4 : decode cX3_isHidden 4 = .ok (.iconst 2, 1) := dk_5 (dk_at dksX3_isHidden_0 4 rfl rfl)
theorem dX3_isHidden_5 : decode cX3_isHidden 5 = .ok (.idiv, 1) := dk_108 (dk_at dksX3_isHidden_0 5 rfl rfl)
theorem dX3_isHidden_6 : decode cX3_isHidden 6 = .ok (.aload_n 0, 1) := dk_42 (dk_at dksX3_isHidden_0 6 rfl rfl)
theorem dX3_isHidden_7 : decode cX3_isHidden 7 = .ok (.getfield 7, 3) := dk_180 0 7 (dk_at dksX3_isHidden_0 7 rfl rfl)
theorem dX3_isHidden_10 : decode cX3_isHidden 10 = .ok (.bipush 8, 2) := dk_16 8 (dk_at dksX3_isHidden_0 10 rfl rfl)
theorem dX3_isHidden_12 : decode cX3_isHidden 12 = .ok (.iaload, 1) := dk_46 (dk_at dksX3_isHidden_0 12 rfl rfl)
theorem dX3_isHidden_13 : decode cX3_isHidden 13 = .ok (.invokevirtual 127, 3) := dk_182 0 127 (dk_at dksX3_isHidden_0 13 rfl rfl)
theorem dX3_isHidden_16 : decode cX3_isHidden 16 = .ok (.ifCond .eq 7, 3) := dk_153 0 7 (dk_at dksX3_isHidden_0 16 rfl rfl)
theorem dX3_isHidden_19 : decode cX3_isHidden 19 = .ok (.iconst 1, 1) := dk_4 (dk_at dksX3_isHidden_0 19 rfl rfl)
theorem dX3_isHidden_20 : decode cX3_isHidden 20 = .ok (.goto 4, 3) := dk_167 0 4 (dk_at dksX3_isHidden_0 20 rfl rfl)
theorem dX3_isHidden_23 : decode cX3_isHidden 23 = .ok (.iconst 0, 1) := dk_3 (dk_at dksX3_isHidden_0 23 rfl rfl)
theorem dX3_isHidden_24 : decode cX3_isHidden 24 = .ok (.ireturn, 1) := dk_172 (dk_at dksX3_isHidden_1 0 rfl rfl)
abbrev cX3_shutBy : ByteArray := prog_33_method_23_code
def yX3_shutBy : MethodName := ⟨RX3, "shutBy", "(II)I"⟩
def dkwX3_shutBy_3 : List UInt8 := [167, 255, 200, 132, 4, 1, 167, 255, 185, 29, 172]
abbrev dktX3_shutBy_3 : List UInt8 := dkwX3_shutBy_3 ++ []
def dkwX3_shutBy_2 : List UInt8 := [21, 6, 42, 182, 0, 124, 159, 0, 10, 4, 21, 6, 120, 167, 0, 4, 3, 128, 62, 132, 5, 1]
abbrev dktX3_shutBy_2 : List UInt8 := dkwX3_shutBy_2 ++ dktX3_shutBy_3
def dkwX3_shutBy_1 : List UInt8 := [21, 4, 21, 5, 182, 0, 116, 54, 6, 29, 21, 6, 155, 0, 28, 28, 21, 6, 184, 0, 120, 154, 0, 19]
abbrev dktX3_shutBy_1 : List UInt8 := dkwX3_shutBy_1 ++ dktX3_shutBy_2
def dkwX3_shutBy_0 : List UInt8 := [3, 62, 3, 54, 4, 21, 4, 27, 162, 0, 71, 27, 54, 5, 21, 5, 42, 180, 0, 78, 162, 0, 53, 42]
abbrev dktX3_shutBy_0 : List UInt8 := dkwX3_shutBy_0 ++ dktX3_shutBy_1
theorem dksX3_shutBy_0 : cX3_shutBy.data.toList.drop 0 = dktX3_shutBy_0 := by decide +kernel
theorem dksX3_shutBy_1 : cX3_shutBy.data.toList.drop 24 = dktX3_shutBy_1 := dk_seg dksX3_shutBy_0 24 rfl rfl
theorem dksX3_shutBy_2 : cX3_shutBy.data.toList.drop 48 = dktX3_shutBy_2 := dk_seg dksX3_shutBy_1 24 rfl rfl
theorem dksX3_shutBy_3 : cX3_shutBy.data.toList.drop 70 = dktX3_shutBy_3 := dk_seg dksX3_shutBy_2 22 rfl rfl
theorem dX3_shutBy_0 : decode cX3_shutBy 0 = .ok (.iconst 0, 1) := dk_3 (dk_at dksX3_shutBy_0 0 rfl rfl)
theorem dX3_shutBy_1 : decode cX3_shutBy 1 = .ok (.istore_n 3, 1) := dk_62 (dk_at dksX3_shutBy_0 1 rfl rfl)
theorem dX3_shutBy_2 : decode cX3_shutBy 2 = .ok (.iconst 0, 1) := dk_3 (dk_at dksX3_shutBy_0 2 rfl rfl)
theorem dX3_shutBy_3 : decode cX3_shutBy 3 = .ok (.istore 4, 2) := dk_54 4 (dk_at dksX3_shutBy_0 3 rfl rfl)
theorem dX3_shutBy_5 : decode cX3_shutBy 5 = .ok (.iload 4, 2) := dk_21 4 (dk_at dksX3_shutBy_0 5 rfl rfl)
theorem dX3_shutBy_7 : decode cX3_shutBy 7 = .ok (.iload_n 1, 1) := dk_27 (dk_at dksX3_shutBy_0 7 rfl rfl)
theorem dX3_shutBy_8 : decode cX3_shutBy 8 = .ok (.if_icmp .ge 71, 3) := dk_162 0 71 (dk_at dksX3_shutBy_0 8 rfl rfl)
theorem dX3_shutBy_11 : decode cX3_shutBy 11 = .ok (.iload_n 1, 1) := dk_27 (dk_at dksX3_shutBy_0 11 rfl rfl)
theorem dX3_shutBy_12 : decode cX3_shutBy 12 = .ok (.istore 5, 2) := dk_54 5 (dk_at dksX3_shutBy_0 12 rfl rfl)
theorem dX3_shutBy_14 : decode cX3_shutBy 14 = .ok (.iload 5, 2) := dk_21 5 (dk_at dksX3_shutBy_0 14 rfl rfl)
theorem dX3_shutBy_16 : decode cX3_shutBy 16 = .ok (.aload_n 0, 1) := dk_42 (dk_at dksX3_shutBy_0 16 rfl rfl)
theorem dX3_shutBy_17 : decode cX3_shutBy 17 = .ok (.getfield 78, 3) := dk_180 0 78 (dk_at dksX3_shutBy_0 17 rfl rfl)
theorem dX3_shutBy_20 : decode cX3_shutBy 20 = .ok (.if_icmp .ge 53, 3) := dk_162 0 53 (dk_at dksX3_shutBy_0 20 rfl rfl)
theorem dX3_shutBy_23 : decode cX3_shutBy 23 = .ok (.aload_n 0, 1) := dk_42 (dk_at dksX3_shutBy_0 23 rfl rfl)
theorem dX3_shutBy_24 : decode cX3_shutBy 24 = .ok (.iload 4, 2) := dk_21 4 (dk_at dksX3_shutBy_1 0 rfl rfl)
theorem dX3_shutBy_26 : decode cX3_shutBy 26 = .ok (.iload 5, 2) := dk_21 5 (dk_at dksX3_shutBy_1 2 rfl rfl)
theorem dX3_shutBy_28 : decode cX3_shutBy 28 = .ok (.invokevirtual 116, 3) := dk_182 0 116 (dk_at dksX3_shutBy_1 4 rfl rfl)
theorem dX3_shutBy_31 : decode cX3_shutBy 31 = .ok (.istore 6, 2) := dk_54 6 (dk_at dksX3_shutBy_1 7 rfl rfl)
theorem dX3_shutBy_33 : decode cX3_shutBy 33 = .ok (.iload_n 3, 1) := dk_29 (dk_at dksX3_shutBy_1 9 rfl rfl)
theorem dX3_shutBy_34 : decode cX3_shutBy 34 = .ok (.iload 6, 2) := dk_21 6 (dk_at dksX3_shutBy_1 10 rfl rfl)
theorem dX3_shutBy_36 : decode cX3_shutBy 36 = .ok (.ifCond .lt 28, 3) := dk_155 0 28 (dk_at dksX3_shutBy_1 12 rfl rfl)
theorem dX3_shutBy_39 : decode cX3_shutBy 39 = .ok (.iload_n 2, 1) := dk_28 (dk_at dksX3_shutBy_1 15 rfl rfl)
theorem dX3_shutBy_40 : decode cX3_shutBy 40 = .ok (.iload 6, 2) := dk_21 6 (dk_at dksX3_shutBy_1 16 rfl rfl)
theorem dX3_shutBy_42 : decode cX3_shutBy 42 = .ok (.invokestatic 120, 3) := dk_184 0 120 (dk_at dksX3_shutBy_1 18 rfl rfl)
theorem dX3_shutBy_45 : decode cX3_shutBy 45 = .ok (.ifCond .ne 19, 3) := dk_154 0 19 (dk_at dksX3_shutBy_1 21 rfl rfl)
theorem dX3_shutBy_48 : decode cX3_shutBy 48 = .ok (.iload 6, 2) := dk_21 6 (dk_at dksX3_shutBy_2 0 rfl rfl)
theorem dX3_shutBy_50 : decode cX3_shutBy 50 = .ok (.aload_n 0, 1) := dk_42 (dk_at dksX3_shutBy_2 2 rfl rfl)
theorem dX3_shutBy_51 : decode cX3_shutBy 51 = .ok (.invokevirtual 124, 3) := dk_182 0 124 (dk_at dksX3_shutBy_2 3 rfl rfl)
theorem dX3_shutBy_54 : decode cX3_shutBy 54 = .ok (.if_icmp .eq 10, 3) := dk_159 0 10 (dk_at dksX3_shutBy_2 6 rfl rfl)
theorem dX3_shutBy_57 : decode cX3_shutBy 57 = .ok (.iconst 1, 1) := dk_4 (dk_at dksX3_shutBy_2 9 rfl rfl)
theorem dX3_shutBy_58 : decode cX3_shutBy 58 = .ok (.iload 6, 2) := dk_21 6 (dk_at dksX3_shutBy_2 10 rfl rfl)
theorem dX3_shutBy_60 : decode cX3_shutBy 60 = .ok (.ishl, 1) := dk_120 (dk_at dksX3_shutBy_2 12 rfl rfl)
theorem dX3_shutBy_61 : decode cX3_shutBy 61 = .ok (.goto 4, 3) := dk_167 0 4 (dk_at dksX3_shutBy_2 13 rfl rfl)
theorem dX3_shutBy_64 : decode cX3_shutBy 64 = .ok (.iconst 0, 1) := dk_3 (dk_at dksX3_shutBy_2 16 rfl rfl)
theorem dX3_shutBy_65 : decode cX3_shutBy 65 = .ok (.ior, 1) := dk_128 (dk_at dksX3_shutBy_2 17 rfl rfl)
theorem dX3_shutBy_66 : decode cX3_shutBy 66 = .ok (.istore_n 3, 1) := dk_62 (dk_at dksX3_shutBy_2 18 rfl rfl)
theorem dX3_shutBy_67 : decode cX3_shutBy 67 = .ok (.iinc 5 1, 3) := dk_132 5 1 (dk_at dksX3_shutBy_2 19 rfl rfl)
theorem dX3_shutBy_70 : decode cX3_shutBy 70 = .ok (.goto (-56), 3) := dk_167 255 200 (dk_at dksX3_shutBy_3 0 rfl rfl)
theorem dX3_shutBy_73 : decode cX3_shutBy 73 = .ok (.iinc 4 1, 3) := dk_132 4 1 (dk_at dksX3_shutBy_3 3 rfl rfl)
theorem dX3_shutBy_76 : decode cX3_shutBy 76 = .ok (.goto (-71), 3) := dk_167 255 185 (dk_at dksX3_shutBy_3 6 rfl rfl)
theorem dX3_shutBy_79 : decode cX3_shutBy 79 = .ok (.iload_n 3, 1) := dk_29 (dk_at dksX3_shutBy_3 9 rfl rfl)
theorem dX3_shutBy_80 : decode cX3_shutBy 80 = .ok (.ireturn, 1) := dk_172 (dk_at dksX3_shutBy_3 10 rfl rfl)
abbrev cX3_spineEdge : ByteArray := prog_33_method_21_code
def yX3_spineEdge : MethodName := ⟨RX3, "spineEdge", "()I"⟩
def dkwX3_spineEdge_0 : List UInt8 := [42, 180, 0, 7, 16, 7, 46, 154, 0, 7, 3, 167, 0, 4, 5, 172]
abbrev dktX3_spineEdge_0 : List UInt8 := dkwX3_spineEdge_0 ++ []
theorem dksX3_spineEdge_0 : cX3_spineEdge.data.toList.drop 0 = dktX3_spineEdge_0 := by decide +kernel
theorem dX3_spineEdge_0 : decode cX3_spineEdge 0 = .ok (.aload_n 0, 1) := dk_42 (dk_at dksX3_spineEdge_0 0 rfl rfl)
theorem dX3_spineEdge_1 : decode cX3_spineEdge 1 = .ok (.getfield 7, 3) := dk_180 0 7 (dk_at dksX3_spineEdge_0 1 rfl rfl)
theorem dX3_spineEdge_4 : decode cX3_spineEdge 4 = .ok (.bipush 7, 2) := dk_16 7 (dk_at dksX3_spineEdge_0 4 rfl rfl)
theorem dX3_spineEdge_6 : decode cX3_spineEdge 6 = .ok (.iaload, 1) := dk_46 (dk_at dksX3_spineEdge_0 6 rfl rfl)
theorem dX3_spineEdge_7 : decode cX3_spineEdge 7 = .ok (.ifCond .ne 7, 3) := dk_154 0 7 (dk_at dksX3_spineEdge_0 7 rfl rfl)
theorem dX3_spineEdge_10 : decode cX3_spineEdge 10 = .ok (.iconst 0, 1) := dk_3 (dk_at dksX3_spineEdge_0 10 rfl rfl)
theorem dX3_spineEdge_11 : decode cX3_spineEdge 11 = .ok (.goto 4, 3) := dk_167 0 4 (dk_at dksX3_spineEdge_0 11 rfl rfl)
theorem dX3_spineEdge_14 : decode cX3_spineEdge 14 = .ok (.iconst 2, 1) := dk_5 (dk_at dksX3_spineEdge_0 14 rfl rfl)
theorem dX3_spineEdge_15 : decode cX3_spineEdge 15 = .ok (.ireturn, 1) := dk_172 (dk_at dksX3_spineEdge_0 15 rfl rfl)
abbrev cX3_isItsOwn : ByteArray := prog_33_method_25_code
def yX3_isItsOwn : MethodName := ⟨RX3, "isItsOwn", "(I)Z"⟩
def dkwX3_isItsOwn_0 : List UInt8 := [42, 27, 182, 0, 130, 27, 160, 0, 15, 42, 27, 182, 0, 133, 153, 0, 7, 4, 167, 0, 4, 3, 172]
abbrev dktX3_isItsOwn_0 : List UInt8 := dkwX3_isItsOwn_0 ++ []
theorem dksX3_isItsOwn_0 : cX3_isItsOwn.data.toList.drop 0 = dktX3_isItsOwn_0 := by decide +kernel
theorem dX3_isItsOwn_0 : decode cX3_isItsOwn 0 = .ok (.aload_n 0, 1) := dk_42 (dk_at dksX3_isItsOwn_0 0 rfl rfl)
theorem dX3_isItsOwn_1 : decode cX3_isItsOwn 1 = .ok (.iload_n 1, 1) := dk_27 (dk_at dksX3_isItsOwn_0 1 rfl rfl)
theorem dX3_isItsOwn_2 : decode cX3_isItsOwn 2 = .ok (.invokevirtual 130, 3) := dk_182 0 130 (dk_at dksX3_isItsOwn_0 2 rfl rfl)
theorem dX3_isItsOwn_5 : decode cX3_isItsOwn 5 = .ok (.iload_n 1, 1) := dk_27 (dk_at dksX3_isItsOwn_0 5 rfl rfl)
theorem dX3_isItsOwn_6 : decode cX3_isItsOwn 6 = .ok (.if_icmp .ne 15, 3) := dk_160 0 15 (dk_at dksX3_isItsOwn_0 6 rfl rfl)
theorem dX3_isItsOwn_9 : decode cX3_isItsOwn 9 = .ok (.aload_n 0, 1) := dk_42 (dk_at dksX3_isItsOwn_0 9 rfl rfl)
theorem dX3_isItsOwn_10 : decode cX3_isItsOwn 10 = .ok (.iload_n 1, 1) := dk_27 (dk_at dksX3_isItsOwn_0 10 rfl rfl)
theorem dX3_isItsOwn_11 : decode cX3_isItsOwn 11 = .ok (.invokevirtual 133, 3) := dk_182 0 133 (dk_at dksX3_isItsOwn_0 11 rfl rfl)
theorem dX3_isItsOwn_14 : decode cX3_isItsOwn 14 = .ok (.ifCond .eq 7, 3) := dk_153 0 7 (dk_at dksX3_isItsOwn_0 14 rfl rfl)
theorem dX3_isItsOwn_17 : decode cX3_isItsOwn 17 = .ok (.iconst 1, 1) := dk_4 (dk_at dksX3_isItsOwn_0 17 rfl rfl)
theorem dX3_isItsOwn_18 : decode cX3_isItsOwn 18 = .ok (.goto 4, 3) := dk_167 0 4 (dk_at dksX3_isItsOwn_0 18 rfl rfl)
theorem dX3_isItsOwn_21 : decode cX3_isItsOwn 21 = .ok (.iconst 0, 1) := dk_3 (dk_at dksX3_isItsOwn_0 21 rfl rfl)
theorem dX3_isItsOwn_22 : decode cX3_isItsOwn 22 = .ok (.ireturn, 1) := dk_172 (dk_at dksX3_isItsOwn_0 22 rfl rfl)
abbrev cX3_printedOn : ByteArray := prog_33_method_20_code
def yX3_printedOn : MethodName := ⟨RX3, "printedOn", "(I)I"⟩
def dkwX3_printedOn_0 : List UInt8 := [42, 180, 0, 7, 16, 90, 42, 27, 182, 0, 113, 96, 46, 172]
abbrev dktX3_printedOn_0 : List UInt8 := dkwX3_printedOn_0 ++ []
theorem dksX3_printedOn_0 : cX3_printedOn.data.toList.drop 0 = dktX3_printedOn_0 := by decide +kernel
theorem dX3_printedOn_0 : decode cX3_printedOn 0 = .ok (.aload_n 0, 1) := dk_42 (dk_at dksX3_printedOn_0 0 rfl rfl)
theorem dX3_printedOn_1 : decode cX3_printedOn 1 = .ok (.getfield 7, 3) := dk_180 0 7 (dk_at dksX3_printedOn_0 1 rfl rfl)
theorem dX3_printedOn_4 : decode cX3_printedOn 4 = .ok (.bipush 90, 2) := dk_16 90 (dk_at dksX3_printedOn_0 4 rfl rfl)
theorem dX3_printedOn_6 : decode cX3_printedOn 6 = .ok (.aload_n 0, 1) := dk_42 (dk_at dksX3_printedOn_0 6 rfl rfl)
theorem dX3_printedOn_7 : decode cX3_printedOn 7 = .ok (.iload_n 1, 1) := dk_27 (dk_at dksX3_printedOn_0 7 rfl rfl)
theorem dX3_printedOn_8 : decode cX3_printedOn 8 = .ok (.invokevirtual 113, 3) := dk_182 0 113 (dk_at dksX3_printedOn_0 8 rfl rfl)
theorem dX3_printedOn_11 : decode cX3_printedOn 11 = .ok (.iadd, 1) := dk_96 (dk_at dksX3_printedOn_0 11 rfl rfl)
theorem dX3_printedOn_12 : decode cX3_printedOn 12 = .ok (.iaload, 1) := dk_46 (dk_at dksX3_printedOn_0 12 rfl rfl)
theorem dX3_printedOn_13 : decode cX3_printedOn 13 = .ok (.ireturn, 1) := dk_172 (dk_at dksX3_printedOn_0 13 rfl rfl)
abbrev cX3_linesOn : ByteArray := prog_33_method_79_code
def yX3_linesOn : MethodName := ⟨RX3, "linesOn", "(I)I"⟩
def dkwX3_linesOn_6 : List UInt8 := [132, 3, 1, 167, 255, 119, 28, 172]
abbrev dktX3_linesOn_6 : List UInt8 := dkwX3_linesOn_6 ++ []
def dkwX3_linesOn_5 : List UInt8 := [180, 0, 52, 29, 42, 180, 0, 7, 16, 11, 46, 108, 46, 27, 160, 0, 7, 4, 167, 0, 4, 3, 96, 61]
abbrev dktX3_linesOn_5 : List UInt8 := dkwX3_linesOn_5 ++ dktX3_linesOn_6
def dkwX3_linesOn_4 : List UInt8 := [153, 0, 7, 4, 167, 0, 4, 3, 54, 4, 132, 5, 1, 167, 255, 178, 28, 21, 4, 153, 0, 25, 42]
abbrev dktX3_linesOn_4 : List UInt8 := dkwX3_linesOn_4 ++ dktX3_linesOn_5
def dkwX3_linesOn_3 : List UInt8 := [21, 5, 46, 42, 180, 0, 7, 16, 38, 7, 21, 5, 104, 96, 5, 96, 46, 96, 4, 100, 133, 184, 0, 101]
abbrev dktX3_linesOn_3 : List UInt8 := dkwX3_linesOn_3 ++ dktX3_linesOn_4
def dkwX3_linesOn_2 : List UInt8 := [180, 0, 55, 21, 5, 46, 155, 0, 48, 29, 133, 42, 180, 0, 55, 21, 5, 46, 133, 42, 180, 0, 55]
abbrev dktX3_linesOn_2 : List UInt8 := dkwX3_linesOn_2 ++ dktX3_linesOn_3
def dkwX3_linesOn_1 : List UInt8 := [3, 54, 4, 3, 54, 5, 21, 5, 42, 180, 0, 7, 16, 37, 46, 162, 0, 72, 21, 4, 154, 0, 54, 42]
abbrev dktX3_linesOn_1 : List UInt8 := dkwX3_linesOn_1 ++ dktX3_linesOn_2
def dkwX3_linesOn_0 : List UInt8 := [42, 182, 1, 91, 3, 61, 3, 62, 29, 42, 180, 1, 79, 42, 180, 0, 7, 16, 11, 46, 104, 162, 0, 127]
abbrev dktX3_linesOn_0 : List UInt8 := dkwX3_linesOn_0 ++ dktX3_linesOn_1
theorem dksX3_linesOn_0 : cX3_linesOn.data.toList.drop 0 = dktX3_linesOn_0 := by decide +kernel
theorem dksX3_linesOn_1 : cX3_linesOn.data.toList.drop 24 = dktX3_linesOn_1 := dk_seg dksX3_linesOn_0 24 rfl rfl
theorem dksX3_linesOn_2 : cX3_linesOn.data.toList.drop 48 = dktX3_linesOn_2 := dk_seg dksX3_linesOn_1 24 rfl rfl
theorem dksX3_linesOn_3 : cX3_linesOn.data.toList.drop 71 = dktX3_linesOn_3 := dk_seg dksX3_linesOn_2 23 rfl rfl
theorem dksX3_linesOn_4 : cX3_linesOn.data.toList.drop 95 = dktX3_linesOn_4 := dk_seg dksX3_linesOn_3 24 rfl rfl
theorem dksX3_linesOn_5 : cX3_linesOn.data.toList.drop 118 = dktX3_linesOn_5 := dk_seg dksX3_linesOn_4 23 rfl rfl
theorem dksX3_linesOn_6 : cX3_linesOn.data.toList.drop 142 = dktX3_linesOn_6 := dk_seg dksX3_linesOn_5 24 rfl rfl
theorem dX3_linesOn_0 : decode cX3_linesOn 0 = .ok (.aload_n 0, 1) := dk_42 (dk_at dksX3_linesOn_0 0 rfl rfl)
theorem dX3_linesOn_1 : decode cX3_linesOn 1 = .ok (.invokevirtual 347, 3) := dk_182 1 91 (dk_at dksX3_linesOn_0 1 rfl rfl)
theorem dX3_linesOn_4 : decode cX3_linesOn 4 = .ok (.iconst 0, 1) := dk_3 (dk_at dksX3_linesOn_0 4 rfl rfl)
theorem dX3_linesOn_5 : decode cX3_linesOn 5 = .ok (.istore_n 2, 1) := dk_61 (dk_at dksX3_linesOn_0 5 rfl rfl)
theorem dX3_linesOn_6 : decode cX3_linesOn 6 = .ok (.iconst 0, 1) := dk_3 (dk_at dksX3_linesOn_0 6 rfl rfl)
theorem dX3_linesOn_7 : decode cX3_linesOn 7 = .ok (.istore_n 3, 1) := dk_62 (dk_at dksX3_linesOn_0 7 rfl rfl)
theorem dX3_linesOn_8 : decode cX3_linesOn 8 = .ok (.iload_n 3, 1) := dk_29 (dk_at dksX3_linesOn_0 8 rfl rfl)
theorem dX3_linesOn_9 : decode cX3_linesOn 9 = .ok (.aload_n 0, 1) := dk_42 (dk_at dksX3_linesOn_0 9 rfl rfl)
theorem dX3_linesOn_10 : decode cX3_linesOn 10 = .ok (.getfield 335, 3) := dk_180 1 79 (dk_at dksX3_linesOn_0 10 rfl rfl)
theorem dX3_linesOn_13 : decode cX3_linesOn 13 = .ok (.aload_n 0, 1) := dk_42 (dk_at dksX3_linesOn_0 13 rfl rfl)
theorem dX3_linesOn_14 : decode cX3_linesOn 14 = .ok (.getfield 7, 3) := dk_180 0 7 (dk_at dksX3_linesOn_0 14 rfl rfl)
theorem dX3_linesOn_17 : decode cX3_linesOn 17 = .ok (.bipush 11, 2) := dk_16 11 (dk_at dksX3_linesOn_0 17 rfl rfl)
theorem dX3_linesOn_19 : decode cX3_linesOn 19 = .ok (.iaload, 1) := dk_46 (dk_at dksX3_linesOn_0 19 rfl rfl)
theorem dX3_linesOn_20 : decode cX3_linesOn 20 = .ok (.imul, 1) := dk_104 (dk_at dksX3_linesOn_0 20 rfl rfl)
theorem dX3_linesOn_21 : decode cX3_linesOn 21 = .ok (.if_icmp .ge 127, 3) := dk_162 0 127 (dk_at dksX3_linesOn_0 21 rfl rfl)
theorem dX3_linesOn_24 : decode cX3_linesOn 24 = .ok (.iconst 0, 1) := dk_3 (dk_at dksX3_linesOn_1 0 rfl rfl)
theorem dX3_linesOn_25 : decode cX3_linesOn 25 = .ok (.istore 4, 2) := dk_54 4 (dk_at dksX3_linesOn_1 1 rfl rfl)
theorem dX3_linesOn_27 : decode cX3_linesOn 27 = .ok (.iconst 0, 1) := dk_3 (dk_at dksX3_linesOn_1 3 rfl rfl)
theorem dX3_linesOn_28 : decode cX3_linesOn 28 = .ok (.istore 5, 2) := dk_54 5 (dk_at dksX3_linesOn_1 4 rfl rfl)
theorem dX3_linesOn_30 : decode cX3_linesOn 30 = .ok (.iload 5, 2) := dk_21 5 (dk_at dksX3_linesOn_1 6 rfl rfl)
theorem dX3_linesOn_32 : decode cX3_linesOn 32 = .ok (.aload_n 0, 1) := dk_42 (dk_at dksX3_linesOn_1 8 rfl rfl)
theorem dX3_linesOn_33 : decode cX3_linesOn 33 = .ok (.getfield 7, 3) := dk_180 0 7 (dk_at dksX3_linesOn_1 9 rfl rfl)
theorem dX3_linesOn_36 : decode cX3_linesOn 36 = .ok (.bipush 37, 2) := dk_16 37 (dk_at dksX3_linesOn_1 12 rfl rfl)
theorem dX3_linesOn_38 : decode cX3_linesOn 38 = .ok (.iaload, 1) := dk_46 (dk_at dksX3_linesOn_1 14 rfl rfl)
theorem dX3_linesOn_39 : decode cX3_linesOn 39 = .ok (.if_icmp .ge 72, 3) := dk_162 0 72 (dk_at dksX3_linesOn_1 15 rfl rfl)
theorem dX3_linesOn_42 : decode cX3_linesOn 42 = .ok (.iload 4, 2) := dk_21 4 (dk_at dksX3_linesOn_1 18 rfl rfl)
theorem dX3_linesOn_44 : decode cX3_linesOn 44 = .ok (.ifCond .ne 54, 3) := dk_154 0 54 (dk_at dksX3_linesOn_1 20 rfl rfl)
theorem dX3_linesOn_47 : decode cX3_linesOn 47 = .ok (.aload_n 0, 1) := dk_42 (dk_at dksX3_linesOn_1 23 rfl rfl)
theorem dX3_linesOn_48 : decode cX3_linesOn 48 = .ok (.getfield 55, 3) := dk_180 0 55 (dk_at dksX3_linesOn_2 0 rfl rfl)
theorem dX3_linesOn_51 : decode cX3_linesOn 51 = .ok (.iload 5, 2) := dk_21 5 (dk_at dksX3_linesOn_2 3 rfl rfl)
theorem dX3_linesOn_53 : decode cX3_linesOn 53 = .ok (.iaload, 1) := dk_46 (dk_at dksX3_linesOn_2 5 rfl rfl)
theorem dX3_linesOn_54 : decode cX3_linesOn 54 = .ok (.ifCond .lt 48, 3) := dk_155 0 48 (dk_at dksX3_linesOn_2 6 rfl rfl)
theorem dX3_linesOn_57 : decode cX3_linesOn 57 = .ok (.iload_n 3, 1) := dk_29 (dk_at dksX3_linesOn_2 9 rfl rfl)
theorem dX3_linesOn_58 : decode cX3_linesOn 58 = .ok (.i2l, 1) := dk_133 (dk_at dksX3_linesOn_2 10 rfl rfl)
theorem dX3_linesOn_59 : decode cX3_linesOn 59 = .ok (.aload_n 0, 1) := dk_42 (dk_at dksX3_linesOn_2 11 rfl rfl)
theorem dX3_linesOn_60 : decode cX3_linesOn 60 = .ok (.getfield 55, 3) := dk_180 0 55 (dk_at dksX3_linesOn_2 12 rfl rfl)
theorem dX3_linesOn_63 : decode cX3_linesOn 63 = .ok (.iload 5, 2) := dk_21 5 (dk_at dksX3_linesOn_2 15 rfl rfl)
theorem dX3_linesOn_65 : decode cX3_linesOn 65 = .ok (.iaload, 1) := dk_46 (dk_at dksX3_linesOn_2 17 rfl rfl)
theorem dX3_linesOn_66 : decode cX3_linesOn 66 = .ok (.i2l, 1) := dk_133 (dk_at dksX3_linesOn_2 18 rfl rfl)
theorem dX3_linesOn_67 : decode cX3_linesOn 67 = .ok (.aload_n 0, 1) := dk_42 (dk_at dksX3_linesOn_2 19 rfl rfl)
theorem dX3_linesOn_68 : decode cX3_linesOn 68 = .ok (.getfield 55, 3) := dk_180 0 55 (dk_at dksX3_linesOn_2 20 rfl rfl)
theorem dX3_linesOn_71 : decode cX3_linesOn 71 = .ok (.iload 5, 2) := dk_21 5 (dk_at dksX3_linesOn_3 0 rfl rfl)
theorem dX3_linesOn_73 : decode cX3_linesOn 73 = .ok (.iaload, 1) := dk_46 (dk_at dksX3_linesOn_3 2 rfl rfl)
theorem dX3_linesOn_74 : decode cX3_linesOn 74 = .ok (.aload_n 0, 1) := dk_42 (dk_at dksX3_linesOn_3 3 rfl rfl)
theorem dX3_linesOn_75 : decode cX3_linesOn 75 = .ok (.getfield 7, 3) := dk_180 0 7 (dk_at dksX3_linesOn_3 4 rfl rfl)
theorem dX3_linesOn_78 : decode cX3_linesOn 78 = .ok (.bipush 38, 2) := dk_16 38 (dk_at dksX3_linesOn_3 7 rfl rfl)
theorem dX3_linesOn_80 : decode cX3_linesOn 80 = .ok (.iconst 4, 1) := dk_7 (dk_at dksX3_linesOn_3 9 rfl rfl)
theorem dX3_linesOn_81 : decode cX3_linesOn 81 = .ok (.iload 5, 2) := dk_21 5 (dk_at dksX3_linesOn_3 10 rfl rfl)
theorem dX3_linesOn_83 : decode cX3_linesOn 83 = .ok (.imul, 1) := dk_104 (dk_at dksX3_linesOn_3 12 rfl rfl)
theorem dX3_linesOn_84 : decode cX3_linesOn 84 = .ok (.iadd, 1) := dk_96 (dk_at dksX3_linesOn_3 13 rfl rfl)
theorem dX3_linesOn_85 : decode cX3_linesOn 85 = .ok (.iconst 2, 1) := dk_5 (dk_at dksX3_linesOn_3 14 rfl rfl)
theorem dX3_linesOn_86 : decode cX3_linesOn 86 = .ok (.iadd, 1) := dk_96 (dk_at dksX3_linesOn_3 15 rfl rfl)
theorem dX3_linesOn_87 : decode cX3_linesOn 87 = .ok (.iaload, 1) := dk_46 (dk_at dksX3_linesOn_3 16 rfl rfl)
theorem dX3_linesOn_88 : decode cX3_linesOn 88 = .ok (.iadd, 1) := dk_96 (dk_at dksX3_linesOn_3 17 rfl rfl)
theorem dX3_linesOn_89 : decode cX3_linesOn 89 = .ok (.iconst 1, 1) := dk_4 (dk_at dksX3_linesOn_3 18 rfl rfl)
theorem dX3_linesOn_90 : decode cX3_linesOn 90 = .ok (.isub, 1) := dk_100 (dk_at dksX3_linesOn_3 19 rfl rfl)
theorem dX3_linesOn_91 : decode cX3_linesOn 91 = .ok (.i2l, 1) := dk_133 (dk_at dksX3_linesOn_3 20 rfl rfl)
theorem dX3_linesOn_92 : decode cX3_linesOn 92 = .ok (.invokestatic 101, 3) := dk_184 0 101 (dk_at dksX3_linesOn_3 21 rfl rfl)
theorem dX3_linesOn_95 : decode cX3_linesOn 95 = .ok (.ifCond .eq 7, 3) := dk_153 0 7 (dk_at dksX3_linesOn_4 0 rfl rfl)
theorem dX3_linesOn_98 : decode cX3_linesOn 98 = .ok (.iconst 1, 1) := dk_4 (dk_at dksX3_linesOn_4 3 rfl rfl)
theorem dX3_linesOn_99 : decode cX3_linesOn 99 = .ok (.goto 4, 3) := dk_167 0 4 (dk_at dksX3_linesOn_4 4 rfl rfl)
theorem dX3_linesOn_102 : decode cX3_linesOn 102 = .ok (.iconst 0, 1) := dk_3 (dk_at dksX3_linesOn_4 7 rfl rfl)
theorem dX3_linesOn_103 : decode cX3_linesOn 103 = .ok (.istore 4, 2) := dk_54 4 (dk_at dksX3_linesOn_4 8 rfl rfl)
theorem dX3_linesOn_105 : decode cX3_linesOn 105 = .ok (.iinc 5 1, 3) := dk_132 5 1 (dk_at dksX3_linesOn_4 10 rfl rfl)
theorem dX3_linesOn_108 : decode cX3_linesOn 108 = .ok (.goto (-78), 3) := dk_167 255 178 (dk_at dksX3_linesOn_4 13 rfl rfl)
theorem dX3_linesOn_111 : decode cX3_linesOn 111 = .ok (.iload_n 2, 1) := dk_28 (dk_at dksX3_linesOn_4 16 rfl rfl)
theorem dX3_linesOn_112 : decode cX3_linesOn 112 = .ok (.iload 4, 2) := dk_21 4 (dk_at dksX3_linesOn_4 17 rfl rfl)
theorem dX3_linesOn_114 : decode cX3_linesOn 114 = .ok (.ifCond .eq 25, 3) := dk_153 0 25 (dk_at dksX3_linesOn_4 19 rfl rfl)
theorem dX3_linesOn_117 : decode cX3_linesOn 117 = .ok (.aload_n 0, 1) := dk_42 (dk_at dksX3_linesOn_4 22 rfl rfl)
theorem dX3_linesOn_118 : decode cX3_linesOn 118 = .ok (.getfield 52, 3) := dk_180 0 52 (dk_at dksX3_linesOn_5 0 rfl rfl)
theorem dX3_linesOn_121 : decode cX3_linesOn 121 = .ok (.iload_n 3, 1) := dk_29 (dk_at dksX3_linesOn_5 3 rfl rfl)
theorem dX3_linesOn_122 : decode cX3_linesOn 122 = .ok (.aload_n 0, 1) := dk_42 (dk_at dksX3_linesOn_5 4 rfl rfl)
theorem dX3_linesOn_123 : decode cX3_linesOn 123 = .ok (.getfield 7, 3) := dk_180 0 7 (dk_at dksX3_linesOn_5 5 rfl rfl)
theorem dX3_linesOn_126 : decode cX3_linesOn 126 = .ok (.bipush 11, 2) := dk_16 11 (dk_at dksX3_linesOn_5 8 rfl rfl)
theorem dX3_linesOn_128 : decode cX3_linesOn 128 = .ok (.iaload, 1) := dk_46 (dk_at dksX3_linesOn_5 10 rfl rfl)
theorem dX3_linesOn_129 : decode cX3_linesOn 129 = .ok (.idiv, 1) := dk_108 (dk_at dksX3_linesOn_5 11 rfl rfl)
theorem dX3_linesOn_130 : decode cX3_linesOn 130 = .ok (.iaload, 1) := dk_46 (dk_at dksX3_linesOn_5 12 rfl rfl)
theorem dX3_linesOn_131 : decode cX3_linesOn 131 = .ok (.iload_n 1, 1) := dk_27 (dk_at dksX3_linesOn_5 13 rfl rfl)
theorem dX3_linesOn_132 : decode cX3_linesOn 132 = .ok (.if_icmp .ne 7, 3) := dk_160 0 7 (dk_at dksX3_linesOn_5 14 rfl rfl)
theorem dX3_linesOn_135 : decode cX3_linesOn 135 = .ok (.iconst 1, 1) := dk_4 (dk_at dksX3_linesOn_5 17 rfl rfl)
theorem dX3_linesOn_136 : decode cX3_linesOn 136 = .ok (.goto 4, 3) := dk_167 0 4 (dk_at dksX3_linesOn_5 18 rfl rfl)
theorem dX3_linesOn_139 : decode cX3_linesOn 139 = .ok (.iconst 0, 1) := dk_3 (dk_at dksX3_linesOn_5 21 rfl rfl)
theorem dX3_linesOn_140 : decode cX3_linesOn 140 = .ok (.iadd, 1) := dk_96 (dk_at dksX3_linesOn_5 22 rfl rfl)
theorem dX3_linesOn_141 : decode cX3_linesOn 141 = .ok (.istore_n 2, 1) := dk_61 (dk_at dksX3_linesOn_5 23 rfl rfl)
theorem dX3_linesOn_142 : decode cX3_linesOn 142 = .ok (.iinc 3 1, 3) := dk_132 3 1 (dk_at dksX3_linesOn_6 0 rfl rfl)
theorem dX3_linesOn_145 : decode cX3_linesOn 145 = .ok (.goto (-137), 3) := dk_167 255 119 (dk_at dksX3_linesOn_6 3 rfl rfl)
theorem dX3_linesOn_148 : decode cX3_linesOn 148 = .ok (.iload_n 2, 1) := dk_28 (dk_at dksX3_linesOn_6 6 rfl rfl)
theorem dX3_linesOn_149 : decode cX3_linesOn 149 = .ok (.ireturn, 1) := dk_172 (dk_at dksX3_linesOn_6 7 rfl rfl)
abbrev cX3_layNotes : ByteArray := prog_33_method_78_code
def yX3_layNotes : MethodName := ⟨RX3, "layNotes", "()V"⟩
def dkwX3_layNotes_10 : List UInt8 := [180, 0, 55, 21, 4, 46, 21, 5, 96, 61, 132, 3, 1, 167, 255, 65, 177]
abbrev dktX3_layNotes_10 : List UInt8 := dkwX3_layNotes_10 ++ []
def dkwX3_layNotes_9 : List UInt8 := [153, 0, 7, 28, 167, 0, 4, 2, 79, 42, 180, 0, 55, 21, 4, 46, 156, 0, 7, 28, 167, 0, 13, 42]
abbrev dktX3_layNotes_9 : List UInt8 := dkwX3_layNotes_9 ++ dktX3_layNotes_10
def dkwX3_layNotes_8 : List UInt8 := [21, 4, 104, 96, 6, 96, 46, 4, 160, 0, 13, 42, 28, 21, 5, 182, 1, 88, 167, 0, 13, 21, 6]
abbrev dktX3_layNotes_8 : List UInt8 := dkwX3_layNotes_8 ++ dktX3_layNotes_9
def dkwX3_layNotes_7 : List UInt8 := [104, 163, 0, 7, 4, 167, 0, 4, 3, 54, 6, 42, 180, 0, 55, 21, 4, 42, 180, 0, 7, 16, 38, 7]
abbrev dktX3_layNotes_7 : List UInt8 := dkwX3_layNotes_7 ++ dktX3_layNotes_8
def dkwX3_layNotes_6 : List UInt8 := [21, 4, 104, 96, 5, 96, 46, 54, 5, 28, 21, 5, 96, 42, 180, 1, 79, 42, 180, 0, 7, 16, 11, 46]
abbrev dktX3_layNotes_6 : List UInt8 := dkwX3_layNotes_6 ++ dktX3_layNotes_7
def dkwX3_layNotes_5 : List UInt8 := [21, 4, 54, 4, 132, 5, 1, 167, 255, 207, 27, 4, 21, 4, 120, 128, 60, 42, 180, 0, 7, 16, 38, 7]
abbrev dktX3_layNotes_5 : List UInt8 := dkwX3_layNotes_5 ++ dktX3_layNotes_6
def dkwX3_layNotes_4 : List UInt8 := [154, 0, 24, 21, 4, 155, 0, 14, 42, 21, 5, 21, 4, 182, 1, 85, 153, 0, 8, 21, 5, 167, 0, 5]
abbrev dktX3_layNotes_4 : List UInt8 := dkwX3_layNotes_4 ++ dktX3_layNotes_5
def dkwX3_layNotes_3 : List UInt8 := [54, 4, 3, 54, 5, 21, 5, 42, 180, 0, 7, 16, 37, 46, 162, 0, 43, 27, 21, 5, 184, 0, 120]
abbrev dktX3_layNotes_3 : List UInt8 := dkwX3_layNotes_3 ++ dktX3_layNotes_4
def dkwX3_layNotes_2 : List UInt8 := [132, 1, 1, 167, 255, 215, 3, 60, 3, 61, 3, 62, 29, 42, 180, 0, 7, 16, 37, 46, 162, 0, 186, 2]
abbrev dktX3_layNotes_2 : List UInt8 := dkwX3_layNotes_2 ++ dktX3_layNotes_3
def dkwX3_layNotes_1 : List UInt8 := [154, 0, 23, 42, 180, 0, 52, 42, 180, 1, 79, 27, 79, 42, 89, 180, 1, 79, 4, 96, 181, 1, 79]
abbrev dktX3_layNotes_1 : List UInt8 := dkwX3_layNotes_1 ++ dktX3_layNotes_2
def dkwX3_layNotes_0 : List UInt8 := [42, 3, 181, 1, 79, 3, 60, 27, 5, 42, 180, 0, 78, 104, 162, 0, 37, 42, 27, 182, 1, 64]
abbrev dktX3_layNotes_0 : List UInt8 := dkwX3_layNotes_0 ++ dktX3_layNotes_1
theorem dksX3_layNotes_0 : cX3_layNotes.data.toList.drop 0 = dktX3_layNotes_0 := by decide +kernel
theorem dksX3_layNotes_1 : cX3_layNotes.data.toList.drop 22 = dktX3_layNotes_1 := dk_seg dksX3_layNotes_0 22 rfl rfl
theorem dksX3_layNotes_2 : cX3_layNotes.data.toList.drop 45 = dktX3_layNotes_2 := dk_seg dksX3_layNotes_1 23 rfl rfl
theorem dksX3_layNotes_3 : cX3_layNotes.data.toList.drop 69 = dktX3_layNotes_3 := dk_seg dksX3_layNotes_2 24 rfl rfl
theorem dksX3_layNotes_4 : cX3_layNotes.data.toList.drop 92 = dktX3_layNotes_4 := dk_seg dksX3_layNotes_3 23 rfl rfl
theorem dksX3_layNotes_5 : cX3_layNotes.data.toList.drop 116 = dktX3_layNotes_5 := dk_seg dksX3_layNotes_4 24 rfl rfl
theorem dksX3_layNotes_6 : cX3_layNotes.data.toList.drop 140 = dktX3_layNotes_6 := dk_seg dksX3_layNotes_5 24 rfl rfl
theorem dksX3_layNotes_7 : cX3_layNotes.data.toList.drop 164 = dktX3_layNotes_7 := dk_seg dksX3_layNotes_6 24 rfl rfl
theorem dksX3_layNotes_8 : cX3_layNotes.data.toList.drop 188 = dktX3_layNotes_8 := dk_seg dksX3_layNotes_7 24 rfl rfl
theorem dksX3_layNotes_9 : cX3_layNotes.data.toList.drop 211 = dktX3_layNotes_9 := dk_seg dksX3_layNotes_8 23 rfl rfl
theorem dksX3_layNotes_10 : cX3_layNotes.data.toList.drop 235 = dktX3_layNotes_10 := dk_seg dksX3_layNotes_9 24 rfl rfl
theorem dX3_layNotes_0 : decode cX3_layNotes 0 = .ok (.aload_n 0, 1) := dk_42 (dk_at dksX3_layNotes_0 0 rfl rfl)
theorem dX3_layNotes_1 : decode cX3_layNotes 1 = .ok (.iconst 0, 1) := dk_3 (dk_at dksX3_layNotes_0 1 rfl rfl)
theorem dX3_layNotes_2 : decode cX3_layNotes 2 = .ok (.putfield 335, 3) := dk_181 1 79 (dk_at dksX3_layNotes_0 2 rfl rfl)
theorem dX3_layNotes_5 : decode cX3_layNotes 5 = .ok (.iconst 0, 1) := dk_3 (dk_at dksX3_layNotes_0 5 rfl rfl)
theorem dX3_layNotes_6 : decode cX3_layNotes 6 = .ok (.istore_n 1, 1) := dk_60 (dk_at dksX3_layNotes_0 6 rfl rfl)
theorem dX3_layNotes_7 : decode cX3_layNotes 7 = .ok (.iload_n 1, 1) := dk_27 (dk_at dksX3_layNotes_0 7 rfl rfl)
theorem dX3_layNotes_8 : decode cX3_layNotes 8 = .ok (.iconst 2, 1) := dk_5 (dk_at dksX3_layNotes_0 8 rfl rfl)
theorem dX3_layNotes_9 : decode cX3_layNotes 9 = .ok (.aload_n 0, 1) := dk_42 (dk_at dksX3_layNotes_0 9 rfl rfl)
theorem dX3_layNotes_10 : decode cX3_layNotes 10 = .ok (.getfield 78, 3) := dk_180 0 78 (dk_at dksX3_layNotes_0 10 rfl rfl)
theorem dX3_layNotes_13 : decode cX3_layNotes 13 = .ok (.imul, 1) := dk_104 (dk_at dksX3_layNotes_0 13 rfl rfl)
theorem dX3_layNotes_14 : decode cX3_layNotes 14 = .ok (.if_icmp .ge 37, 3) := dk_162 0 37 (dk_at dksX3_layNotes_0 14 rfl rfl)
theorem dX3_layNotes_17 : decode cX3_layNotes 17 = .ok (.aload_n 0, 1) := dk_42 (dk_at dksX3_layNotes_0 17 rfl rfl)
theorem dX3_layNotes_18 : decode cX3_layNotes 18 = .ok (.iload_n 1, 1) := dk_27 (dk_at dksX3_layNotes_0 18 rfl rfl)
theorem dX3_layNotes_19 : decode cX3_layNotes 19 = .ok (.invokevirtual 320, 3) := dk_182 1 64 (dk_at dksX3_layNotes_0 19 rfl rfl)
theorem dX3_layNotes_22 : decode cX3_layNotes 22 = .ok (.ifCond .ne 23, 3) := dk_154 0 23 (dk_at dksX3_layNotes_1 0 rfl rfl)
theorem dX3_layNotes_25 : decode cX3_layNotes 25 = .ok (.aload_n 0, 1) := dk_42 (dk_at dksX3_layNotes_1 3 rfl rfl)
theorem dX3_layNotes_26 : decode cX3_layNotes 26 = .ok (.getfield 52, 3) := dk_180 0 52 (dk_at dksX3_layNotes_1 4 rfl rfl)
theorem dX3_layNotes_29 : decode cX3_layNotes 29 = .ok (.aload_n 0, 1) := dk_42 (dk_at dksX3_layNotes_1 7 rfl rfl)
theorem dX3_layNotes_30 : decode cX3_layNotes 30 = .ok (.getfield 335, 3) := dk_180 1 79 (dk_at dksX3_layNotes_1 8 rfl rfl)
theorem dX3_layNotes_33 : decode cX3_layNotes 33 = .ok (.iload_n 1, 1) := dk_27 (dk_at dksX3_layNotes_1 11 rfl rfl)
theorem dX3_layNotes_34 : decode cX3_layNotes 34 = .ok (.iastore, 1) := dk_79 (dk_at dksX3_layNotes_1 12 rfl rfl)
theorem dX3_layNotes_35 : decode cX3_layNotes 35 = .ok (.aload_n 0, 1) := dk_42 (dk_at dksX3_layNotes_1 13 rfl rfl)
theorem dX3_layNotes_36 : decode cX3_layNotes 36 = .ok (.dup, 1) := dk_89 (dk_at dksX3_layNotes_1 14 rfl rfl)
theorem dX3_layNotes_37 : decode cX3_layNotes 37 = .ok (.getfield 335, 3) := dk_180 1 79 (dk_at dksX3_layNotes_1 15 rfl rfl)
theorem dX3_layNotes_40 : decode cX3_layNotes 40 = .ok (.iconst 1, 1) := dk_4 (dk_at dksX3_layNotes_1 18 rfl rfl)
theorem dX3_layNotes_41 : decode cX3_layNotes 41 = .ok (.iadd, 1) := dk_96 (dk_at dksX3_layNotes_1 19 rfl rfl)
theorem dX3_layNotes_42 : decode cX3_layNotes 42 = .ok (.putfield 335, 3) := dk_181 1 79 (dk_at dksX3_layNotes_1 20 rfl rfl)
theorem dX3_layNotes_45 : decode cX3_layNotes 45 = .ok (.iinc 1 1, 3) := dk_132 1 1 (dk_at dksX3_layNotes_2 0 rfl rfl)
theorem dX3_layNotes_48 : decode cX3_layNotes 48 = .ok (.goto (-41), 3) := dk_167 255 215 (dk_at dksX3_layNotes_2 3 rfl rfl)
theorem dX3_layNotes_51 : decode cX3_layNotes 51 = .ok (.iconst 0, 1) := dk_3 (dk_at dksX3_layNotes_2 6 rfl rfl)
theorem dX3_layNotes_52 : decode cX3_layNotes 52 = .ok (.istore_n 1, 1) := dk_60 (dk_at dksX3_layNotes_2 7 rfl rfl)
theorem dX3_layNotes_53 : decode cX3_layNotes 53 = .ok (.iconst 0, 1) := dk_3 (dk_at dksX3_layNotes_2 8 rfl rfl)
theorem dX3_layNotes_54 : decode cX3_layNotes 54 = .ok (.istore_n 2, 1) := dk_61 (dk_at dksX3_layNotes_2 9 rfl rfl)
theorem dX3_layNotes_55 : decode cX3_layNotes 55 = .ok (.iconst 0, 1) := dk_3 (dk_at dksX3_layNotes_2 10 rfl rfl)
theorem dX3_layNotes_56 : decode cX3_layNotes 56 = .ok (.istore_n 3, 1) := dk_62 (dk_at dksX3_layNotes_2 11 rfl rfl)
theorem dX3_layNotes_57 : decode cX3_layNotes 57 = .ok (.iload_n 3, 1) := dk_29 (dk_at dksX3_layNotes_2 12 rfl rfl)
theorem dX3_layNotes_58 : decode cX3_layNotes 58 = .ok (.aload_n 0, 1) := dk_42 (dk_at dksX3_layNotes_2 13 rfl rfl)
theorem dX3_layNotes_59 : decode cX3_layNotes 59 = .ok (.getfield 7, 3) := dk_180 0 7 (dk_at dksX3_layNotes_2 14 rfl rfl)
theorem dX3_layNotes_62 : decode cX3_layNotes 62 = .ok (.bipush 37, 2) := dk_16 37 (dk_at dksX3_layNotes_2 17 rfl rfl)
theorem dX3_layNotes_64 : decode cX3_layNotes 64 = .ok (.iaload, 1) := dk_46 (dk_at dksX3_layNotes_2 19 rfl rfl)
theorem dX3_layNotes_65 : decode cX3_layNotes 65 = .ok (.if_icmp .ge 186, 3) := dk_162 0 186 (dk_at dksX3_layNotes_2 20 rfl rfl)
theorem dX3_layNotes_68 : decode cX3_layNotes 68 = .ok (.iconst (-1), 1) := dk_2 (dk_at dksX3_layNotes_2 23 rfl rfl)
theorem dX3_layNotes_69 : decode cX3_layNotes 69 = .ok (.istore 4, 2) := dk_54 4 (dk_at dksX3_layNotes_3 0 rfl rfl)
theorem dX3_layNotes_71 : decode cX3_layNotes 71 = .ok (.iconst 0, 1) := dk_3 (dk_at dksX3_layNotes_3 2 rfl rfl)
theorem dX3_layNotes_72 : decode cX3_layNotes 72 = .ok (.istore 5, 2) := dk_54 5 (dk_at dksX3_layNotes_3 3 rfl rfl)
theorem dX3_layNotes_74 : decode cX3_layNotes 74 = .ok (.iload 5, 2) := dk_21 5 (dk_at dksX3_layNotes_3 5 rfl rfl)
theorem dX3_layNotes_76 : decode cX3_layNotes 76 = .ok (.aload_n 0, 1) := dk_42 (dk_at dksX3_layNotes_3 7 rfl rfl)
theorem dX3_layNotes_77 : decode cX3_layNotes 77 = .ok (.getfield 7, 3) := dk_180 0 7 (dk_at dksX3_layNotes_3 8 rfl rfl)
theorem dX3_layNotes_80 : decode cX3_layNotes 80 = .ok (.bipush 37, 2) := dk_16 37 (dk_at dksX3_layNotes_3 11 rfl rfl)
theorem dX3_layNotes_82 : decode cX3_layNotes 82 = .ok (.iaload, 1) := dk_46 (dk_at dksX3_layNotes_3 13 rfl rfl)
theorem dX3_layNotes_83 : decode cX3_layNotes 83 = .ok (.if_icmp .ge 43, 3) := dk_162 0 43 (dk_at dksX3_layNotes_3 14 rfl rfl)
theorem dX3_layNotes_86 : decode cX3_layNotes 86 = .ok (.iload_n 1, 1) := dk_27 (dk_at dksX3_layNotes_3 17 rfl rfl)
theorem dX3_layNotes_87 : decode cX3_layNotes 87 = .ok (.iload 5, 2) := dk_21 5 (dk_at dksX3_layNotes_3 18 rfl rfl)
theorem dX3_layNotes_89 : decode cX3_layNotes 89 = .ok (.invokestatic 120, 3) := dk_184 0 120 (dk_at dksX3_layNotes_3 20 rfl rfl)
theorem dX3_layNotes_92 : decode cX3_layNotes 92 = .ok (.ifCond .ne 24, 3) := dk_154 0 24 (dk_at dksX3_layNotes_4 0 rfl rfl)
theorem dX3_layNotes_95 : decode cX3_layNotes 95 = .ok (.iload 4, 2) := dk_21 4 (dk_at dksX3_layNotes_4 3 rfl rfl)
theorem dX3_layNotes_97 : decode cX3_layNotes 97 = .ok (.ifCond .lt 14, 3) := dk_155 0 14 (dk_at dksX3_layNotes_4 5 rfl rfl)
theorem dX3_layNotes_100 : decode cX3_layNotes 100 = .ok (.aload_n 0, 1) := dk_42 (dk_at dksX3_layNotes_4 8 rfl rfl)
theorem dX3_layNotes_101 : decode cX3_layNotes 101 = .ok (.iload 5, 2) := dk_21 5 (dk_at dksX3_layNotes_4 9 rfl rfl)
theorem dX3_layNotes_103 : decode cX3_layNotes 103 = .ok (.iload 4, 2) := dk_21 4 (dk_at dksX3_layNotes_4 11 rfl rfl)
theorem dX3_layNotes_105 : decode cX3_layNotes 105 = .ok (.invokevirtual 341, 3) := dk_182 1 85 (dk_at dksX3_layNotes_4 13 rfl rfl)
theorem dX3_layNotes_108 : decode cX3_layNotes 108 = .ok (.ifCond .eq 8, 3) := dk_153 0 8 (dk_at dksX3_layNotes_4 16 rfl rfl)
theorem dX3_layNotes_111 : decode cX3_layNotes 111 = .ok (.iload 5, 2) := dk_21 5 (dk_at dksX3_layNotes_4 19 rfl rfl)
theorem dX3_layNotes_113 : decode cX3_layNotes 113 = .ok (.goto 5, 3) := dk_167 0 5 (dk_at dksX3_layNotes_4 21 rfl rfl)
theorem dX3_layNotes_116 : decode cX3_layNotes 116 = .ok (.iload 4, 2) := dk_21 4 (dk_at dksX3_layNotes_5 0 rfl rfl)
theorem dX3_layNotes_118 : decode cX3_layNotes 118 = .ok (.istore 4, 2) := dk_54 4 (dk_at dksX3_layNotes_5 2 rfl rfl)
theorem dX3_layNotes_120 : decode cX3_layNotes 120 = .ok (.iinc 5 1, 3) := dk_132 5 1 (dk_at dksX3_layNotes_5 4 rfl rfl)
theorem dX3_layNotes_123 : decode cX3_layNotes 123 = .ok (.goto (-49), 3) := dk_167 255 207 (dk_at dksX3_layNotes_5 7 rfl rfl)
theorem dX3_layNotes_126 : decode cX3_layNotes 126 = .ok (.iload_n 1, 1) := dk_27 (dk_at dksX3_layNotes_5 10 rfl rfl)
theorem dX3_layNotes_127 : decode cX3_layNotes 127 = .ok (.iconst 1, 1) := dk_4 (dk_at dksX3_layNotes_5 11 rfl rfl)
theorem dX3_layNotes_128 : decode cX3_layNotes 128 = .ok (.iload 4, 2) := dk_21 4 (dk_at dksX3_layNotes_5 12 rfl rfl)
theorem dX3_layNotes_130 : decode cX3_layNotes 130 = .ok (.ishl, 1) := dk_120 (dk_at dksX3_layNotes_5 14 rfl rfl)
theorem dX3_layNotes_131 : decode cX3_layNotes 131 = .ok (.ior, 1) := dk_128 (dk_at dksX3_layNotes_5 15 rfl rfl)
theorem dX3_layNotes_132 : decode cX3_layNotes 132 = .ok (.istore_n 1, 1) := dk_60 (dk_at dksX3_layNotes_5 16 rfl rfl)
theorem dX3_layNotes_133 : decode cX3_layNotes 133 = .ok (.aload_n 0, 1) := dk_42 (dk_at dksX3_layNotes_5 17 rfl rfl)
theorem dX3_layNotes_134 : decode cX3_layNotes 134 = .ok (.getfield 7, 3) := dk_180 0 7 (dk_at dksX3_layNotes_5 18 rfl rfl)
theorem dX3_layNotes_137 : decode cX3_layNotes 137 = .ok (.bipush 38, 2) := dk_16 38 (dk_at dksX3_layNotes_5 21 rfl rfl)
theorem dX3_layNotes_139 : decode cX3_layNotes 139 = .ok (.iconst 4, 1) := dk_7 (dk_at dksX3_layNotes_5 23 rfl rfl)
theorem dX3_layNotes_140 : decode cX3_layNotes 140 = .ok (.iload 4, 2) := dk_21 4 (dk_at dksX3_layNotes_6 0 rfl rfl)
theorem dX3_layNotes_142 : decode cX3_layNotes 142 = .ok (.imul, 1) := dk_104 (dk_at dksX3_layNotes_6 2 rfl rfl)
theorem dX3_layNotes_143 : decode cX3_layNotes 143 = .ok (.iadd, 1) := dk_96 (dk_at dksX3_layNotes_6 3 rfl rfl)
theorem dX3_layNotes_144 : decode cX3_layNotes 144 = .ok (.iconst 2, 1) := dk_5 (dk_at dksX3_layNotes_6 4 rfl rfl)
theorem dX3_layNotes_145 : decode cX3_layNotes 145 = .ok (.iadd, 1) := dk_96 (dk_at dksX3_layNotes_6 5 rfl rfl)
theorem dX3_layNotes_146 : decode cX3_layNotes 146 = .ok (.iaload, 1) := dk_46 (dk_at dksX3_layNotes_6 6 rfl rfl)
theorem dX3_layNotes_147 : decode cX3_layNotes 147 = .ok (.istore 5, 2) := dk_54 5 (dk_at dksX3_layNotes_6 7 rfl rfl)
theorem dX3_layNotes_149 : decode cX3_layNotes 149 = .ok (.iload_n 2, 1) := dk_28 (dk_at dksX3_layNotes_6 9 rfl rfl)
theorem dX3_layNotes_150 : decode cX3_layNotes 150 = .ok (.iload 5, 2) := dk_21 5 (dk_at dksX3_layNotes_6 10 rfl rfl)
theorem dX3_layNotes_152 : decode cX3_layNotes 152 = .ok (.iadd, 1) := dk_96 (dk_at dksX3_layNotes_6 12 rfl rfl)
theorem dX3_layNotes_153 : decode cX3_layNotes 153 = .ok (.aload_n 0, 1) := dk_42 (dk_at dksX3_layNotes_6 13 rfl rfl)
theorem dX3_layNotes_154 : decode cX3_layNotes 154 = .ok (.getfield 335, 3) := dk_180 1 79 (dk_at dksX3_layNotes_6 14 rfl rfl)
theorem dX3_layNotes_157 : decode cX3_layNotes 157 = .ok (.aload_n 0, 1) := dk_42 (dk_at dksX3_layNotes_6 17 rfl rfl)
theorem dX3_layNotes_158 : decode cX3_layNotes 158 = .ok (.getfield 7, 3) := dk_180 0 7 (dk_at dksX3_layNotes_6 18 rfl rfl)
theorem dX3_layNotes_161 : decode cX3_layNotes 161 = .ok (.bipush 11, 2) := dk_16 11 (dk_at dksX3_layNotes_6 21 rfl rfl)
theorem dX3_layNotes_163 : decode cX3_layNotes 163 = .ok (.iaload, 1) := dk_46 (dk_at dksX3_layNotes_6 23 rfl rfl)
theorem dX3_layNotes_164 : decode cX3_layNotes 164 = .ok (.imul, 1) := dk_104 (dk_at dksX3_layNotes_7 0 rfl rfl)
theorem dX3_layNotes_165 : decode cX3_layNotes 165 = .ok (.if_icmp .gt 7, 3) := dk_163 0 7 (dk_at dksX3_layNotes_7 1 rfl rfl)
theorem dX3_layNotes_168 : decode cX3_layNotes 168 = .ok (.iconst 1, 1) := dk_4 (dk_at dksX3_layNotes_7 4 rfl rfl)
theorem dX3_layNotes_169 : decode cX3_layNotes 169 = .ok (.goto 4, 3) := dk_167 0 4 (dk_at dksX3_layNotes_7 5 rfl rfl)
theorem dX3_layNotes_172 : decode cX3_layNotes 172 = .ok (.iconst 0, 1) := dk_3 (dk_at dksX3_layNotes_7 8 rfl rfl)
theorem dX3_layNotes_173 : decode cX3_layNotes 173 = .ok (.istore 6, 2) := dk_54 6 (dk_at dksX3_layNotes_7 9 rfl rfl)
theorem dX3_layNotes_175 : decode cX3_layNotes 175 = .ok (.aload_n 0, 1) := dk_42 (dk_at dksX3_layNotes_7 11 rfl rfl)
theorem dX3_layNotes_176 : decode cX3_layNotes 176 = .ok (.getfield 55, 3) := dk_180 0 55 (dk_at dksX3_layNotes_7 12 rfl rfl)
theorem dX3_layNotes_179 : decode cX3_layNotes 179 = .ok (.iload 4, 2) := dk_21 4 (dk_at dksX3_layNotes_7 15 rfl rfl)
theorem dX3_layNotes_181 : decode cX3_layNotes 181 = .ok (.aload_n 0, 1) := dk_42 (dk_at dksX3_layNotes_7 17 rfl rfl)
theorem dX3_layNotes_182 : decode cX3_layNotes 182 = .ok (.getfield 7, 3) := dk_180 0 7 (dk_at dksX3_layNotes_7 18 rfl rfl)
theorem dX3_layNotes_185 : decode cX3_layNotes 185 = .ok (.bipush 38, 2) := dk_16 38 (dk_at dksX3_layNotes_7 21 rfl rfl)
theorem dX3_layNotes_187 : decode cX3_layNotes 187 = .ok (.iconst 4, 1) := dk_7 (dk_at dksX3_layNotes_7 23 rfl rfl)
theorem dX3_layNotes_188 : decode cX3_layNotes 188 = .ok (.iload 4, 2) := dk_21 4 (dk_at dksX3_layNotes_8 0 rfl rfl)
theorem dX3_layNotes_190 : decode cX3_layNotes 190 = .ok (.imul, 1) := dk_104 (dk_at dksX3_layNotes_8 2 rfl rfl)
theorem dX3_layNotes_191 : decode cX3_layNotes 191 = .ok (.iadd, 1) := dk_96 (dk_at dksX3_layNotes_8 3 rfl rfl)
theorem dX3_layNotes_192 : decode cX3_layNotes 192 = .ok (.iconst 3, 1) := dk_6 (dk_at dksX3_layNotes_8 4 rfl rfl)
theorem dX3_layNotes_193 : decode cX3_layNotes 193 = .ok (.iadd, 1) := dk_96 (dk_at dksX3_layNotes_8 5 rfl rfl)
theorem dX3_layNotes_194 : decode cX3_layNotes 194 = .ok (.iaload, 1) := dk_46 (dk_at dksX3_layNotes_8 6 rfl rfl)
theorem dX3_layNotes_195 : decode cX3_layNotes 195 = .ok (.iconst 1, 1) := dk_4 (dk_at dksX3_layNotes_8 7 rfl rfl)
theorem dX3_layNotes_196 : decode cX3_layNotes 196 = .ok (.if_icmp .ne 13, 3) := dk_160 0 13 (dk_at dksX3_layNotes_8 8 rfl rfl)
theorem dX3_layNotes_199 : decode cX3_layNotes 199 = .ok (.aload_n 0, 1) := dk_42 (dk_at dksX3_layNotes_8 11 rfl rfl)
theorem dX3_layNotes_200 : decode cX3_layNotes 200 = .ok (.iload_n 2, 1) := dk_28 (dk_at dksX3_layNotes_8 12 rfl rfl)
theorem dX3_layNotes_201 : decode cX3_layNotes 201 = .ok (.iload 5, 2) := dk_21 5 (dk_at dksX3_layNotes_8 13 rfl rfl)
theorem dX3_layNotes_203 : decode cX3_layNotes 203 = .ok (.invokevirtual 344, 3) := dk_182 1 88 (dk_at dksX3_layNotes_8 15 rfl rfl)
theorem dX3_layNotes_206 : decode cX3_layNotes 206 = .ok (.goto 13, 3) := dk_167 0 13 (dk_at dksX3_layNotes_8 18 rfl rfl)
theorem dX3_layNotes_209 : decode cX3_layNotes 209 = .ok (.iload 6, 2) := dk_21 6 (dk_at dksX3_layNotes_8 21 rfl rfl)
theorem dX3_layNotes_211 : decode cX3_layNotes 211 = .ok (.ifCond .eq 7, 3) := dk_153 0 7 (dk_at dksX3_layNotes_9 0 rfl rfl)
theorem dX3_layNotes_214 : decode cX3_layNotes 214 = .ok (.iload_n 2, 1) := dk_28 (dk_at dksX3_layNotes_9 3 rfl rfl)
theorem dX3_layNotes_215 : decode cX3_layNotes 215 = .ok (.goto 4, 3) := dk_167 0 4 (dk_at dksX3_layNotes_9 4 rfl rfl)
theorem dX3_layNotes_218 : decode cX3_layNotes 218 = .ok (.iconst (-1), 1) := dk_2 (dk_at dksX3_layNotes_9 7 rfl rfl)
theorem dX3_layNotes_219 : decode cX3_layNotes 219 = .ok (.iastore, 1) := dk_79 (dk_at dksX3_layNotes_9 8 rfl rfl)
theorem dX3_layNotes_220 : decode cX3_layNotes 220 = .ok (.aload_n 0, 1) := dk_42 (dk_at dksX3_layNotes_9 9 rfl rfl)
theorem dX3_layNotes_221 : decode cX3_layNotes 221 = .ok (.getfield 55, 3) := dk_180 0 55 (dk_at dksX3_layNotes_9 10 rfl rfl)
theorem dX3_layNotes_224 : decode cX3_layNotes 224 = .ok (.iload 4, 2) := dk_21 4 (dk_at dksX3_layNotes_9 13 rfl rfl)
theorem dX3_layNotes_226 : decode cX3_layNotes 226 = .ok (.iaload, 1) := dk_46 (dk_at dksX3_layNotes_9 15 rfl rfl)
theorem dX3_layNotes_227 : decode cX3_layNotes 227 = .ok (.ifCond .ge 7, 3) := dk_156 0 7 (dk_at dksX3_layNotes_9 16 rfl rfl)
theorem dX3_layNotes_230 : decode cX3_layNotes 230 = .ok (.iload_n 2, 1) := dk_28 (dk_at dksX3_layNotes_9 19 rfl rfl)
theorem dX3_layNotes_231 : decode cX3_layNotes 231 = .ok (.goto 13, 3) := dk_167 0 13 (dk_at dksX3_layNotes_9 20 rfl rfl)
theorem dX3_layNotes_234 : decode cX3_layNotes 234 = .ok (.aload_n 0, 1) := dk_42 (dk_at dksX3_layNotes_9 23 rfl rfl)
theorem dX3_layNotes_235 : decode cX3_layNotes 235 = .ok (.getfield 55, 3) := dk_180 0 55 (dk_at dksX3_layNotes_10 0 rfl rfl)
theorem dX3_layNotes_238 : decode cX3_layNotes 238 = .ok (.iload 4, 2) := dk_21 4 (dk_at dksX3_layNotes_10 3 rfl rfl)
theorem dX3_layNotes_240 : decode cX3_layNotes 240 = .ok (.iaload, 1) := dk_46 (dk_at dksX3_layNotes_10 5 rfl rfl)
theorem dX3_layNotes_241 : decode cX3_layNotes 241 = .ok (.iload 5, 2) := dk_21 5 (dk_at dksX3_layNotes_10 6 rfl rfl)
theorem dX3_layNotes_243 : decode cX3_layNotes 243 = .ok (.iadd, 1) := dk_96 (dk_at dksX3_layNotes_10 8 rfl rfl)
theorem dX3_layNotes_244 : decode cX3_layNotes 244 = .ok (.istore_n 2, 1) := dk_61 (dk_at dksX3_layNotes_10 9 rfl rfl)
theorem dX3_layNotes_245 : decode cX3_layNotes 245 = .ok (.iinc 3 1, 3) := dk_132 3 1 (dk_at dksX3_layNotes_10 10 rfl rfl)
theorem dX3_layNotes_248 : decode cX3_layNotes 248 = .ok (.goto (-191), 3) := dk_167 255 65 (dk_at dksX3_layNotes_10 13 rfl rfl)
theorem dX3_layNotes_251 : decode cX3_layNotes 251 = .ok (.return_, 1) := dk_177 (dk_at dksX3_layNotes_10 16 rfl rfl)
abbrev cX3_comesAhead : ByteArray := prog_33_method_76_code
def yX3_comesAhead : MethodName := ⟨RX3, "comesAhead", "(II)Z"⟩
def dkwX3_comesAhead_4 : List UInt8 := [162, 0, 7, 4, 167, 0, 17, 3, 167, 0, 13, 27, 28, 162, 0, 7, 4, 167, 0, 4, 3, 172]
abbrev dktX3_comesAhead_4 : List UInt8 := dkwX3_comesAhead_4 ++ []
def dkwX3_comesAhead_3 : List UInt8 := [180, 0, 7, 21, 4, 46, 159, 0, 27, 42, 180, 0, 7, 29, 46, 42, 180, 0, 7, 21, 4, 46]
abbrev dktX3_comesAhead_3 : List UInt8 := dkwX3_comesAhead_3 ++ dktX3_comesAhead_4
def dkwX3_comesAhead_2 : List UInt8 := [21, 4, 4, 96, 46, 164, 0, 7, 4, 167, 0, 57, 3, 167, 0, 53, 42, 180, 0, 7, 29, 46, 42]
abbrev dktX3_comesAhead_2 : List UInt8 := dkwX3_comesAhead_2 ++ dktX3_comesAhead_3
def dkwX3_comesAhead_1 : List UInt8 := [180, 0, 7, 21, 4, 4, 96, 46, 159, 0, 31, 42, 180, 0, 7, 29, 4, 96, 46, 42, 180, 0, 7]
abbrev dktX3_comesAhead_1 : List UInt8 := dkwX3_comesAhead_1 ++ dktX3_comesAhead_2
def dkwX3_comesAhead_0 : List UInt8 := [16, 38, 7, 27, 104, 96, 62, 16, 38, 7, 28, 104, 96, 54, 4, 42, 180, 0, 7, 29, 4, 96, 46, 42]
abbrev dktX3_comesAhead_0 : List UInt8 := dkwX3_comesAhead_0 ++ dktX3_comesAhead_1
theorem dksX3_comesAhead_0 : cX3_comesAhead.data.toList.drop 0 = dktX3_comesAhead_0 := by decide +kernel
theorem dksX3_comesAhead_1 : cX3_comesAhead.data.toList.drop 24 = dktX3_comesAhead_1 := dk_seg dksX3_comesAhead_0 24 rfl rfl
theorem dksX3_comesAhead_2 : cX3_comesAhead.data.toList.drop 47 = dktX3_comesAhead_2 := dk_seg dksX3_comesAhead_1 23 rfl rfl
theorem dksX3_comesAhead_3 : cX3_comesAhead.data.toList.drop 70 = dktX3_comesAhead_3 := dk_seg dksX3_comesAhead_2 23 rfl rfl
theorem dksX3_comesAhead_4 : cX3_comesAhead.data.toList.drop 92 = dktX3_comesAhead_4 := dk_seg dksX3_comesAhead_3 22 rfl rfl
theorem dX3_comesAhead_0 : decode cX3_comesAhead 0 = .ok (.bipush 38, 2) := dk_16 38 (dk_at dksX3_comesAhead_0 0 rfl rfl)
theorem dX3_comesAhead_2 : decode cX3_comesAhead 2 = .ok (.iconst 4, 1) := dk_7 (dk_at dksX3_comesAhead_0 2 rfl rfl)
theorem dX3_comesAhead_3 : decode cX3_comesAhead 3 = .ok (.iload_n 1, 1) := dk_27 (dk_at dksX3_comesAhead_0 3 rfl rfl)
theorem dX3_comesAhead_4 : decode cX3_comesAhead 4 = .ok (.imul, 1) := dk_104 (dk_at dksX3_comesAhead_0 4 rfl rfl)
theorem dX3_comesAhead_5 : decode cX3_comesAhead 5 = .ok (.iadd, 1) := dk_96 (dk_at dksX3_comesAhead_0 5 rfl rfl)
theorem dX3_comesAhead_6 : decode cX3_comesAhead 6 = .ok (.istore_n 3, 1) := dk_62 (dk_at dksX3_comesAhead_0 6 rfl rfl)
theorem dX3_comesAhead_7 : decode cX3_comesAhead 7 = .ok (.bipush 38, 2) := dk_16 38 (dk_at dksX3_comesAhead_0 7 rfl rfl)
theorem dX3_comesAhead_9 : decode cX3_comesAhead 9 = .ok (.iconst 4, 1) := dk_7 (dk_at dksX3_comesAhead_0 9 rfl rfl)
theorem dX3_comesAhead_10 : decode cX3_comesAhead 10 = .ok (.iload_n 2, 1) := dk_28 (dk_at dksX3_comesAhead_0 10 rfl rfl)
theorem dX3_comesAhead_11 : decode cX3_comesAhead 11 = .ok (.imul, 1) := dk_104 (dk_at dksX3_comesAhead_0 11 rfl rfl)
theorem dX3_comesAhead_12 : decode cX3_comesAhead 12 = .ok (.iadd, 1) := dk_96 (dk_at dksX3_comesAhead_0 12 rfl rfl)
theorem dX3_comesAhead_13 : decode cX3_comesAhead 13 = .ok (.istore 4, 2) := dk_54 4 (dk_at dksX3_comesAhead_0 13 rfl rfl)
theorem dX3_comesAhead_15 : decode cX3_comesAhead 15 = .ok (.aload_n 0, 1) := dk_42 (dk_at dksX3_comesAhead_0 15 rfl rfl)
theorem dX3_comesAhead_16 : decode cX3_comesAhead 16 = .ok (.getfield 7, 3) := dk_180 0 7 (dk_at dksX3_comesAhead_0 16 rfl rfl)
theorem dX3_comesAhead_19 : decode cX3_comesAhead 19 = .ok (.iload_n 3, 1) := dk_29 (dk_at dksX3_comesAhead_0 19 rfl rfl)
theorem dX3_comesAhead_20 : decode cX3_comesAhead 20 = .ok (.iconst 1, 1) := dk_4 (dk_at dksX3_comesAhead_0 20 rfl rfl)
theorem dX3_comesAhead_21 : decode cX3_comesAhead 21 = .ok (.iadd, 1) := dk_96 (dk_at dksX3_comesAhead_0 21 rfl rfl)
theorem dX3_comesAhead_22 : decode cX3_comesAhead 22 = .ok (.iaload, 1) := dk_46 (dk_at dksX3_comesAhead_0 22 rfl rfl)
theorem dX3_comesAhead_23 : decode cX3_comesAhead 23 = .ok (.aload_n 0, 1) := dk_42 (dk_at dksX3_comesAhead_0 23 rfl rfl)
theorem dX3_comesAhead_24 : decode cX3_comesAhead 24 = .ok (.getfield 7, 3) := dk_180 0 7 (dk_at dksX3_comesAhead_1 0 rfl rfl)
theorem dX3_comesAhead_27 : decode cX3_comesAhead 27 = .ok (.iload 4, 2) := dk_21 4 (dk_at dksX3_comesAhead_1 3 rfl rfl)
theorem dX3_comesAhead_29 : decode cX3_comesAhead 29 = .ok (.iconst 1, 1) := dk_4 (dk_at dksX3_comesAhead_1 5 rfl rfl)
theorem dX3_comesAhead_30 : decode cX3_comesAhead 30 = .ok (.iadd, 1) := dk_96 (dk_at dksX3_comesAhead_1 6 rfl rfl)
theorem dX3_comesAhead_31 : decode cX3_comesAhead 31 = .ok (.iaload, 1) := dk_46 (dk_at dksX3_comesAhead_1 7 rfl rfl)
theorem dX3_comesAhead_32 : decode cX3_comesAhead 32 = .ok (.if_icmp .eq 31, 3) := dk_159 0 31 (dk_at dksX3_comesAhead_1 8 rfl rfl)
theorem dX3_comesAhead_35 : decode cX3_comesAhead 35 = .ok (.aload_n 0, 1) := dk_42 (dk_at dksX3_comesAhead_1 11 rfl rfl)
theorem dX3_comesAhead_36 : decode cX3_comesAhead 36 = .ok (.getfield 7, 3) := dk_180 0 7 (dk_at dksX3_comesAhead_1 12 rfl rfl)
theorem dX3_comesAhead_39 : decode cX3_comesAhead 39 = .ok (.iload_n 3, 1) := dk_29 (dk_at dksX3_comesAhead_1 15 rfl rfl)
theorem dX3_comesAhead_40 : decode cX3_comesAhead 40 = .ok (.iconst 1, 1) := dk_4 (dk_at dksX3_comesAhead_1 16 rfl rfl)
theorem dX3_comesAhead_41 : decode cX3_comesAhead 41 = .ok (.iadd, 1) := dk_96 (dk_at dksX3_comesAhead_1 17 rfl rfl)
theorem dX3_comesAhead_42 : decode cX3_comesAhead 42 = .ok (.iaload, 1) := dk_46 (dk_at dksX3_comesAhead_1 18 rfl rfl)
theorem dX3_comesAhead_43 : decode cX3_comesAhead 43 = .ok (.aload_n 0, 1) := dk_42 (dk_at dksX3_comesAhead_1 19 rfl rfl)
theorem dX3_comesAhead_44 : decode cX3_comesAhead 44 = .ok (.getfield 7, 3) := dk_180 0 7 (dk_at dksX3_comesAhead_1 20 rfl rfl)
theorem dX3_comesAhead_47 : decode cX3_comesAhead 47 = .ok (.iload 4, 2) := dk_21 4 (dk_at dksX3_comesAhead_2 0 rfl rfl)
theorem dX3_comesAhead_49 : decode cX3_comesAhead 49 = .ok (.iconst 1, 1) := dk_4 (dk_at dksX3_comesAhead_2 2 rfl rfl)
theorem dX3_comesAhead_50 : decode cX3_comesAhead 50 = .ok (.iadd, 1) := dk_96 (dk_at dksX3_comesAhead_2 3 rfl rfl)
theorem dX3_comesAhead_51 : decode cX3_comesAhead 51 = .ok (.iaload, 1) := dk_46 (dk_at dksX3_comesAhead_2 4 rfl rfl)
theorem dX3_comesAhead_52 : decode cX3_comesAhead 52 = .ok (.if_icmp .le 7, 3) := dk_164 0 7 (dk_at dksX3_comesAhead_2 5 rfl rfl)
theorem dX3_comesAhead_55 : decode cX3_comesAhead 55 = .ok (.iconst 1, 1) := dk_4 (dk_at dksX3_comesAhead_2 8 rfl rfl)
theorem dX3_comesAhead_56 : decode cX3_comesAhead 56 = .ok (.goto 57, 3) := dk_167 0 57 (dk_at dksX3_comesAhead_2 9 rfl rfl)
theorem dX3_comesAhead_59 : decode cX3_comesAhead 59 = .ok (.iconst 0, 1) := dk_3 (dk_at dksX3_comesAhead_2 12 rfl rfl)
theorem dX3_comesAhead_60 : decode cX3_comesAhead 60 = .ok (.goto 53, 3) := dk_167 0 53 (dk_at dksX3_comesAhead_2 13 rfl rfl)
theorem dX3_comesAhead_63 : decode cX3_comesAhead 63 = .ok (.aload_n 0, 1) := dk_42 (dk_at dksX3_comesAhead_2 16 rfl rfl)
theorem dX3_comesAhead_64 : decode cX3_comesAhead 64 = .ok (.getfield 7, 3) := dk_180 0 7 (dk_at dksX3_comesAhead_2 17 rfl rfl)
theorem dX3_comesAhead_67 : decode cX3_comesAhead 67 = .ok (.iload_n 3, 1) := dk_29 (dk_at dksX3_comesAhead_2 20 rfl rfl)
theorem dX3_comesAhead_68 : decode cX3_comesAhead 68 = .ok (.iaload, 1) := dk_46 (dk_at dksX3_comesAhead_2 21 rfl rfl)
theorem dX3_comesAhead_69 : decode cX3_comesAhead 69 = .ok (.aload_n 0, 1) := dk_42 (dk_at dksX3_comesAhead_2 22 rfl rfl)
theorem dX3_comesAhead_70 : decode cX3_comesAhead 70 = .ok (.getfield 7, 3) := dk_180 0 7 (dk_at dksX3_comesAhead_3 0 rfl rfl)
theorem dX3_comesAhead_73 : decode cX3_comesAhead 73 = .ok (.iload 4, 2) := dk_21 4 (dk_at dksX3_comesAhead_3 3 rfl rfl)
theorem dX3_comesAhead_75 : decode cX3_comesAhead 75 = .ok (.iaload, 1) := dk_46 (dk_at dksX3_comesAhead_3 5 rfl rfl)
theorem dX3_comesAhead_76 : decode cX3_comesAhead 76 = .ok (.if_icmp .eq 27, 3) := dk_159 0 27 (dk_at dksX3_comesAhead_3 6 rfl rfl)
theorem dX3_comesAhead_79 : decode cX3_comesAhead 79 = .ok (.aload_n 0, 1) := dk_42 (dk_at dksX3_comesAhead_3 9 rfl rfl)
theorem dX3_comesAhead_80 : decode cX3_comesAhead 80 = .ok (.getfield 7, 3) := dk_180 0 7 (dk_at dksX3_comesAhead_3 10 rfl rfl)
theorem dX3_comesAhead_83 : decode cX3_comesAhead 83 = .ok (.iload_n 3, 1) := dk_29 (dk_at dksX3_comesAhead_3 13 rfl rfl)
theorem dX3_comesAhead_84 : decode cX3_comesAhead 84 = .ok (.iaload, 1) := dk_46 (dk_at dksX3_comesAhead_3 14 rfl rfl)
theorem dX3_comesAhead_85 : decode cX3_comesAhead 85 = .ok (.aload_n 0, 1) := dk_42 (dk_at dksX3_comesAhead_3 15 rfl rfl)
theorem dX3_comesAhead_86 : decode cX3_comesAhead 86 = .ok (.getfield 7, 3) := dk_180 0 7 (dk_at dksX3_comesAhead_3 16 rfl rfl)
theorem dX3_comesAhead_89 : decode cX3_comesAhead 89 = .ok (.iload 4, 2) := dk_21 4 (dk_at dksX3_comesAhead_3 19 rfl rfl)
theorem dX3_comesAhead_91 : decode cX3_comesAhead 91 = .ok (.iaload, 1) := dk_46 (dk_at dksX3_comesAhead_3 21 rfl rfl)
theorem dX3_comesAhead_92 : decode cX3_comesAhead 92 = .ok (.if_icmp .ge 7, 3) := dk_162 0 7 (dk_at dksX3_comesAhead_4 0 rfl rfl)
theorem dX3_comesAhead_95 : decode cX3_comesAhead 95 = .ok (.iconst 1, 1) := dk_4 (dk_at dksX3_comesAhead_4 3 rfl rfl)
theorem dX3_comesAhead_96 : decode cX3_comesAhead 96 = .ok (.goto 17, 3) := dk_167 0 17 (dk_at dksX3_comesAhead_4 4 rfl rfl)
theorem dX3_comesAhead_99 : decode cX3_comesAhead 99 = .ok (.iconst 0, 1) := dk_3 (dk_at dksX3_comesAhead_4 7 rfl rfl)
theorem dX3_comesAhead_100 : decode cX3_comesAhead 100 = .ok (.goto 13, 3) := dk_167 0 13 (dk_at dksX3_comesAhead_4 8 rfl rfl)
theorem dX3_comesAhead_103 : decode cX3_comesAhead 103 = .ok (.iload_n 1, 1) := dk_27 (dk_at dksX3_comesAhead_4 11 rfl rfl)
theorem dX3_comesAhead_104 : decode cX3_comesAhead 104 = .ok (.iload_n 2, 1) := dk_28 (dk_at dksX3_comesAhead_4 12 rfl rfl)
theorem dX3_comesAhead_105 : decode cX3_comesAhead 105 = .ok (.if_icmp .ge 7, 3) := dk_162 0 7 (dk_at dksX3_comesAhead_4 13 rfl rfl)
theorem dX3_comesAhead_108 : decode cX3_comesAhead 108 = .ok (.iconst 1, 1) := dk_4 (dk_at dksX3_comesAhead_4 16 rfl rfl)
theorem dX3_comesAhead_109 : decode cX3_comesAhead 109 = .ok (.goto 4, 3) := dk_167 0 4 (dk_at dksX3_comesAhead_4 17 rfl rfl)
theorem dX3_comesAhead_112 : decode cX3_comesAhead 112 = .ok (.iconst 0, 1) := dk_3 (dk_at dksX3_comesAhead_4 20 rfl rfl)
theorem dX3_comesAhead_113 : decode cX3_comesAhead 113 = .ok (.ireturn, 1) := dk_172 (dk_at dksX3_comesAhead_4 21 rfl rfl)
abbrev cX3_wholeFrom : ByteArray := prog_33_method_77_code
def yX3_wholeFrom : MethodName := ⟨RX3, "wholeFrom", "(II)I"⟩
def dkwX3_wholeFrom_5 : List UInt8 := [167, 255, 182, 2, 172]
abbrev dktX3_wholeFrom_5 : List UInt8 := dkwX3_wholeFrom_5 ++ []
def dkwX3_wholeFrom_4 : List UInt8 := [21, 4, 182, 1, 82, 42, 21, 4, 28, 96, 4, 100, 182, 1, 82, 160, 0, 6, 21, 4, 172, 132, 4, 1]
abbrev dktX3_wholeFrom_4 : List UInt8 := dkwX3_wholeFrom_4 ++ dktX3_wholeFrom_5
def dkwX3_wholeFrom_3 : List UInt8 := [159, 0, 7, 4, 167, 0, 4, 3, 54, 5, 21, 5, 153, 0, 33, 21, 4, 28, 96, 29, 163, 0, 25, 42]
abbrev dktX3_wholeFrom_3 : List UInt8 := dkwX3_wholeFrom_3 ++ dktX3_wholeFrom_4
def dkwX3_wholeFrom_2 : List UInt8 := [162, 0, 74, 21, 4, 27, 164, 0, 24, 42, 21, 4, 182, 1, 82, 42, 21, 4, 4, 100, 182, 1, 82]
abbrev dktX3_wholeFrom_2 : List UInt8 := dkwX3_wholeFrom_2 ++ dktX3_wholeFrom_3
def dkwX3_wholeFrom_1 : List UInt8 := [182, 1, 82, 42, 27, 28, 96, 4, 100, 182, 1, 82, 160, 0, 5, 27, 172, 27, 54, 4, 21, 4, 29]
abbrev dktX3_wholeFrom_1 : List UInt8 := dkwX3_wholeFrom_1 ++ dktX3_wholeFrom_2
def dkwX3_wholeFrom_0 : List UInt8 := [42, 180, 1, 79, 42, 180, 0, 7, 16, 11, 46, 104, 62, 27, 28, 96, 29, 163, 0, 22, 42, 27]
abbrev dktX3_wholeFrom_0 : List UInt8 := dkwX3_wholeFrom_0 ++ dktX3_wholeFrom_1
theorem dksX3_wholeFrom_0 : cX3_wholeFrom.data.toList.drop 0 = dktX3_wholeFrom_0 := by decide +kernel
theorem dksX3_wholeFrom_1 : cX3_wholeFrom.data.toList.drop 22 = dktX3_wholeFrom_1 := dk_seg dksX3_wholeFrom_0 22 rfl rfl
theorem dksX3_wholeFrom_2 : cX3_wholeFrom.data.toList.drop 45 = dktX3_wholeFrom_2 := dk_seg dksX3_wholeFrom_1 23 rfl rfl
theorem dksX3_wholeFrom_3 : cX3_wholeFrom.data.toList.drop 68 = dktX3_wholeFrom_3 := dk_seg dksX3_wholeFrom_2 23 rfl rfl
theorem dksX3_wholeFrom_4 : cX3_wholeFrom.data.toList.drop 92 = dktX3_wholeFrom_4 := dk_seg dksX3_wholeFrom_3 24 rfl rfl
theorem dksX3_wholeFrom_5 : cX3_wholeFrom.data.toList.drop 116 = dktX3_wholeFrom_5 := dk_seg dksX3_wholeFrom_4 24 rfl rfl
theorem dX3_wholeFrom_0 : decode cX3_wholeFrom 0 = .ok (.aload_n 0, 1) := dk_42 (dk_at dksX3_wholeFrom_0 0 rfl rfl)
theorem dX3_wholeFrom_1 : decode cX3_wholeFrom 1 = .ok (.getfield 335, 3) := dk_180 1 79 (dk_at dksX3_wholeFrom_0 1 rfl rfl)
theorem dX3_wholeFrom_4 : decode cX3_wholeFrom 4 = .ok (.aload_n 0, 1) := dk_42 (dk_at dksX3_wholeFrom_0 4 rfl rfl)
theorem dX3_wholeFrom_5 : decode cX3_wholeFrom 5 = .ok (.getfield 7, 3) := dk_180 0 7 (dk_at dksX3_wholeFrom_0 5 rfl rfl)
theorem dX3_wholeFrom_8 : decode cX3_wholeFrom 8 = .ok (.bipush 11, 2) := dk_16 11 (dk_at dksX3_wholeFrom_0 8 rfl rfl)
theorem dX3_wholeFrom_10 : decode cX3_wholeFrom 10 = .ok (.iaload, 1) := dk_46 (dk_at dksX3_wholeFrom_0 10 rfl rfl)
theorem dX3_wholeFrom_11 : decode cX3_wholeFrom 11 = .ok (.imul, 1) := dk_104 (dk_at dksX3_wholeFrom_0 11 rfl rfl)
theorem dX3_wholeFrom_12 : decode cX3_wholeFrom 12 = .ok (.istore_n 3, 1) := dk_62 (dk_at dksX3_wholeFrom_0 12 rfl rfl)
theorem dX3_wholeFrom_13 : decode cX3_wholeFrom 13 = .ok (.iload_n 1, 1) := dk_27 (dk_at dksX3_wholeFrom_0 13 rfl rfl)
theorem dX3_wholeFrom_14 : decode cX3_wholeFrom 14 = .ok (.iload_n 2, 1) := dk_28 (dk_at dksX3_wholeFrom_0 14 rfl rfl)
theorem dX3_wholeFrom_15 : decode cX3_wholeFrom 15 = .ok (.iadd, 1) := dk_96 (dk_at dksX3_wholeFrom_0 15 rfl rfl)
theorem dX3_wholeFrom_16 : decode cX3_wholeFrom 16 = .ok (.iload_n 3, 1) := dk_29 (dk_at dksX3_wholeFrom_0 16 rfl rfl)
theorem dX3_wholeFrom_17 : decode cX3_wholeFrom 17 = .ok (.if_icmp .gt 22, 3) := dk_163 0 22 (dk_at dksX3_wholeFrom_0 17 rfl rfl)
theorem dX3_wholeFrom_20 : decode cX3_wholeFrom 20 = .ok (.aload_n 0, 1) := dk_42 (dk_at dksX3_wholeFrom_0 20 rfl rfl)
theorem dX3_wholeFrom_21 : decode cX3_wholeFrom 21 = .ok (.iload_n 1, 1) := dk_27 (dk_at dksX3_wholeFrom_0 21 rfl rfl)
theorem dX3_wholeFrom_22 : decode cX3_wholeFrom 22 = .ok (.invokevirtual 338, 3) := dk_182 1 82 (dk_at dksX3_wholeFrom_1 0 rfl rfl)
theorem dX3_wholeFrom_25 : decode cX3_wholeFrom 25 = .ok (.aload_n 0, 1) := dk_42 (dk_at dksX3_wholeFrom_1 3 rfl rfl)
theorem dX3_wholeFrom_26 : decode cX3_wholeFrom 26 = .ok (.iload_n 1, 1) := dk_27 (dk_at dksX3_wholeFrom_1 4 rfl rfl)
theorem dX3_wholeFrom_27 : decode cX3_wholeFrom 27 = .ok (.iload_n 2, 1) := dk_28 (dk_at dksX3_wholeFrom_1 5 rfl rfl)
theorem dX3_wholeFrom_28 : decode cX3_wholeFrom 28 = .ok (.iadd, 1) := dk_96 (dk_at dksX3_wholeFrom_1 6 rfl rfl)
theorem dX3_wholeFrom_29 : decode cX3_wholeFrom 29 = .ok (.iconst 1, 1) := dk_4 (dk_at dksX3_wholeFrom_1 7 rfl rfl)
theorem dX3_wholeFrom_30 : decode cX3_wholeFrom 30 = .ok (.isub, 1) := dk_100 (dk_at dksX3_wholeFrom_1 8 rfl rfl)
theorem dX3_wholeFrom_31 : decode cX3_wholeFrom 31 = .ok (.invokevirtual 338, 3) := dk_182 1 82 (dk_at dksX3_wholeFrom_1 9 rfl rfl)
theorem dX3_wholeFrom_34 : decode cX3_wholeFrom 34 = .ok (.if_icmp .ne 5, 3) := dk_160 0 5 (dk_at dksX3_wholeFrom_1 12 rfl rfl)
theorem dX3_wholeFrom_37 : decode cX3_wholeFrom 37 = .ok (.iload_n 1, 1) := dk_27 (dk_at dksX3_wholeFrom_1 15 rfl rfl)
theorem dX3_wholeFrom_38 : decode cX3_wholeFrom 38 = .ok (.ireturn, 1) := dk_172 (dk_at dksX3_wholeFrom_1 16 rfl rfl)
theorem dX3_wholeFrom_39 : decode cX3_wholeFrom 39 = .ok (.iload_n 1, 1) := dk_27 (dk_at dksX3_wholeFrom_1 17 rfl rfl)
theorem dX3_wholeFrom_40 : decode cX3_wholeFrom 40 = .ok (.istore 4, 2) := dk_54 4 (dk_at dksX3_wholeFrom_1 18 rfl rfl)
theorem dX3_wholeFrom_42 : decode cX3_wholeFrom 42 = .ok (.iload 4, 2) := dk_21 4 (dk_at dksX3_wholeFrom_1 20 rfl rfl)
theorem dX3_wholeFrom_44 : decode cX3_wholeFrom 44 = .ok (.iload_n 3, 1) := dk_29 (dk_at dksX3_wholeFrom_1 22 rfl rfl)
theorem dX3_wholeFrom_45 : decode cX3_wholeFrom 45 = .ok (.if_icmp .ge 74, 3) := dk_162 0 74 (dk_at dksX3_wholeFrom_2 0 rfl rfl)
theorem dX3_wholeFrom_48 : decode cX3_wholeFrom 48 = .ok (.iload 4, 2) := dk_21 4 (dk_at dksX3_wholeFrom_2 3 rfl rfl)
theorem dX3_wholeFrom_50 : decode cX3_wholeFrom 50 = .ok (.iload_n 1, 1) := dk_27 (dk_at dksX3_wholeFrom_2 5 rfl rfl)
theorem dX3_wholeFrom_51 : decode cX3_wholeFrom 51 = .ok (.if_icmp .le 24, 3) := dk_164 0 24 (dk_at dksX3_wholeFrom_2 6 rfl rfl)
theorem dX3_wholeFrom_54 : decode cX3_wholeFrom 54 = .ok (.aload_n 0, 1) := dk_42 (dk_at dksX3_wholeFrom_2 9 rfl rfl)
theorem dX3_wholeFrom_55 : decode cX3_wholeFrom 55 = .ok (.iload 4, 2) := dk_21 4 (dk_at dksX3_wholeFrom_2 10 rfl rfl)
theorem dX3_wholeFrom_57 : decode cX3_wholeFrom 57 = .ok (.invokevirtual 338, 3) := dk_182 1 82 (dk_at dksX3_wholeFrom_2 12 rfl rfl)
theorem dX3_wholeFrom_60 : decode cX3_wholeFrom 60 = .ok (.aload_n 0, 1) := dk_42 (dk_at dksX3_wholeFrom_2 15 rfl rfl)
theorem dX3_wholeFrom_61 : decode cX3_wholeFrom 61 = .ok (.iload 4, 2) := dk_21 4 (dk_at dksX3_wholeFrom_2 16 rfl rfl)
theorem dX3_wholeFrom_63 : decode cX3_wholeFrom 63 = .ok (.iconst 1, 1) := dk_4 (dk_at dksX3_wholeFrom_2 18 rfl rfl)
theorem dX3_wholeFrom_64 : decode cX3_wholeFrom 64 = .ok (.isub, 1) := dk_100 (dk_at dksX3_wholeFrom_2 19 rfl rfl)
theorem dX3_wholeFrom_65 : decode cX3_wholeFrom 65 = .ok (.invokevirtual 338, 3) := dk_182 1 82 (dk_at dksX3_wholeFrom_2 20 rfl rfl)
theorem dX3_wholeFrom_68 : decode cX3_wholeFrom 68 = .ok (.if_icmp .eq 7, 3) := dk_159 0 7 (dk_at dksX3_wholeFrom_3 0 rfl rfl)
theorem dX3_wholeFrom_71 : decode cX3_wholeFrom 71 = .ok (.iconst 1, 1) := dk_4 (dk_at dksX3_wholeFrom_3 3 rfl rfl)
theorem dX3_wholeFrom_72 : decode cX3_wholeFrom 72 = .ok (.goto 4, 3) := dk_167 0 4 (dk_at dksX3_wholeFrom_3 4 rfl rfl)
theorem dX3_wholeFrom_75 : decode cX3_wholeFrom 75 = .ok (.iconst 0, 1) := dk_3 (dk_at dksX3_wholeFrom_3 7 rfl rfl)
theorem dX3_wholeFrom_76 : decode cX3_wholeFrom 76 = .ok (.istore 5, 2) := dk_54 5 (dk_at dksX3_wholeFrom_3 8 rfl rfl)
theorem dX3_wholeFrom_78 : decode cX3_wholeFrom 78 = .ok (.iload 5, 2) := dk_21 5 (dk_at dksX3_wholeFrom_3 10 rfl rfl)
theorem dX3_wholeFrom_80 : decode cX3_wholeFrom 80 = .ok (.ifCond .eq 33, 3) := dk_153 0 33 (dk_at dksX3_wholeFrom_3 12 rfl rfl)
theorem dX3_wholeFrom_83 : decode cX3_wholeFrom 83 = .ok (.iload 4, 2) := dk_21 4 (dk_at dksX3_wholeFrom_3 15 rfl rfl)
theorem dX3_wholeFrom_85 : decode cX3_wholeFrom 85 = .ok (.iload_n 2, 1) := dk_28 (dk_at dksX3_wholeFrom_3 17 rfl rfl)
theorem dX3_wholeFrom_86 : decode cX3_wholeFrom 86 = .ok (.iadd, 1) := dk_96 (dk_at dksX3_wholeFrom_3 18 rfl rfl)
theorem dX3_wholeFrom_87 : decode cX3_wholeFrom 87 = .ok (.iload_n 3, 1) := dk_29 (dk_at dksX3_wholeFrom_3 19 rfl rfl)
theorem dX3_wholeFrom_88 : decode cX3_wholeFrom 88 = .ok (.if_icmp .gt 25, 3) := dk_163 0 25 (dk_at dksX3_wholeFrom_3 20 rfl rfl)
theorem dX3_wholeFrom_91 : decode cX3_wholeFrom 91 = .ok (.aload_n 0, 1) := dk_42 (dk_at dksX3_wholeFrom_3 23 rfl rfl)
theorem dX3_wholeFrom_92 : decode cX3_wholeFrom 92 = .ok (.iload 4, 2) := dk_21 4 (dk_at dksX3_wholeFrom_4 0 rfl rfl)
theorem dX3_wholeFrom_94 : decode cX3_wholeFrom 94 = .ok (.invokevirtual 338, 3) := dk_182 1 82 (dk_at dksX3_wholeFrom_4 2 rfl rfl)
theorem dX3_wholeFrom_97 : decode cX3_wholeFrom 97 = .ok (.aload_n 0, 1) := dk_42 (dk_at dksX3_wholeFrom_4 5 rfl rfl)
theorem dX3_wholeFrom_98 : decode cX3_wholeFrom 98 = .ok (.iload 4, 2) := dk_21 4 (dk_at dksX3_wholeFrom_4 6 rfl rfl)
theorem dX3_wholeFrom_100 : decode cX3_wholeFrom 100 = .ok (.iload_n 2, 1) := dk_28 (dk_at dksX3_wholeFrom_4 8 rfl rfl)
theorem dX3_wholeFrom_101 : decode cX3_wholeFrom 101 = .ok (.iadd, 1) := dk_96 (dk_at dksX3_wholeFrom_4 9 rfl rfl)
theorem dX3_wholeFrom_102 : decode cX3_wholeFrom 102 = .ok (.iconst 1, 1) := dk_4 (dk_at dksX3_wholeFrom_4 10 rfl rfl)
theorem dX3_wholeFrom_103 : decode cX3_wholeFrom 103 = .ok (.isub, 1) := dk_100 (dk_at dksX3_wholeFrom_4 11 rfl rfl)
theorem dX3_wholeFrom_104 : decode cX3_wholeFrom 104 = .ok (.invokevirtual 338, 3) := dk_182 1 82 (dk_at dksX3_wholeFrom_4 12 rfl rfl)
theorem dX3_wholeFrom_107 : decode cX3_wholeFrom 107 = .ok (.if_icmp .ne 6, 3) := dk_160 0 6 (dk_at dksX3_wholeFrom_4 15 rfl rfl)
theorem dX3_wholeFrom_110 : decode cX3_wholeFrom 110 = .ok (.iload 4, 2) := dk_21 4 (dk_at dksX3_wholeFrom_4 18 rfl rfl)
theorem dX3_wholeFrom_112 : decode cX3_wholeFrom 112 = .ok (.ireturn, 1) := dk_172 (dk_at dksX3_wholeFrom_4 20 rfl rfl)
theorem dX3_wholeFrom_113 : decode cX3_wholeFrom 113 = .ok (.iinc 4 1, 3) := dk_132 4 1 (dk_at dksX3_wholeFrom_4 21 rfl rfl)
theorem dX3_wholeFrom_116 : decode cX3_wholeFrom 116 = .ok (.goto (-74), 3) := dk_167 255 182 (dk_at dksX3_wholeFrom_5 0 rfl rfl)
theorem dX3_wholeFrom_119 : decode cX3_wholeFrom 119 = .ok (.iconst (-1), 1) := dk_2 (dk_at dksX3_wholeFrom_5 3 rfl rfl)
theorem dX3_wholeFrom_120 : decode cX3_wholeFrom 120 = .ok (.ireturn, 1) := dk_172 (dk_at dksX3_wholeFrom_5 4 rfl rfl)
abbrev cX3_openingOf : ByteArray := prog_33_method_75_code
def yX3_openingOf : MethodName := ⟨RX3, "openingOf", "(I)I"⟩
def dkwX3_openingOf_0 : List UInt8 := [42, 180, 0, 52, 27, 42, 180, 0, 7, 16, 11, 46, 108, 46, 4, 96, 5, 108, 172]
abbrev dktX3_openingOf_0 : List UInt8 := dkwX3_openingOf_0 ++ []
theorem dksX3_openingOf_0 : cX3_openingOf.data.toList.drop 0 = dktX3_openingOf_0 := by decide +kernel
theorem dX3_openingOf_0 : decode cX3_openingOf 0 = .ok (.aload_n 0, 1) := dk_42 (dk_at dksX3_openingOf_0 0 rfl rfl)
theorem dX3_openingOf_1 : decode cX3_openingOf 1 = .ok (.getfield 52, 3) := dk_180 0 52 (dk_at dksX3_openingOf_0 1 rfl rfl)
theorem dX3_openingOf_4 : decode cX3_openingOf 4 = .ok (.iload_n 1, 1) := dk_27 (dk_at dksX3_openingOf_0 4 rfl rfl)
theorem dX3_openingOf_5 : decode cX3_openingOf 5 = .ok (.aload_n 0, 1) := dk_42 (dk_at dksX3_openingOf_0 5 rfl rfl)
theorem dX3_openingOf_6 : decode cX3_openingOf 6 = .ok (.getfield 7, 3) := dk_180 0 7 (dk_at dksX3_openingOf_0 6 rfl rfl)
theorem dX3_openingOf_9 : decode cX3_openingOf 9 = .ok (.bipush 11, 2) := dk_16 11 (dk_at dksX3_openingOf_0 9 rfl rfl)
theorem dX3_openingOf_11 : decode cX3_openingOf 11 = .ok (.iaload, 1) := dk_46 (dk_at dksX3_openingOf_0 11 rfl rfl)
theorem dX3_openingOf_12 : decode cX3_openingOf 12 = .ok (.idiv, 1) := dk_108 (dk_at dksX3_openingOf_0 12 rfl rfl)
theorem dX3_openingOf_13 : decode cX3_openingOf 13 = .ok (.iaload, 1) := dk_46 (dk_at dksX3_openingOf_0 13 rfl rfl)
theorem dX3_openingOf_14 : decode cX3_openingOf 14 = .ok (.iconst 1, 1) := dk_4 (dk_at dksX3_openingOf_0 14 rfl rfl)
theorem dX3_openingOf_15 : decode cX3_openingOf 15 = .ok (.iadd, 1) := dk_96 (dk_at dksX3_openingOf_0 15 rfl rfl)
theorem dX3_openingOf_16 : decode cX3_openingOf 16 = .ok (.iconst 2, 1) := dk_5 (dk_at dksX3_openingOf_0 16 rfl rfl)
theorem dX3_openingOf_17 : decode cX3_openingOf 17 = .ok (.idiv, 1) := dk_108 (dk_at dksX3_openingOf_0 17 rfl rfl)
theorem dX3_openingOf_18 : decode cX3_openingOf 18 = .ok (.ireturn, 1) := dk_172 (dk_at dksX3_openingOf_0 18 rfl rfl)
abbrev cX3_opening : ByteArray := prog_33_method_68_code
def yX3_opening : MethodName := ⟨RX3, "opening", "(II)I"⟩
def dkwX3_opening_4 : List UInt8 := [29, 154, 0, 16, 21, 4, 42, 180, 0, 7, 16, 11, 46, 104, 167, 0, 4, 3, 172]
abbrev dktX3_opening_4 : List UInt8 := dkwX3_opening_4 ++ []
def dkwX3_opening_3 : List UInt8 := [154, 0, 15, 29, 154, 0, 7, 3, 167, 0, 34, 4, 167, 0, 30, 28, 4, 160, 0, 7, 29, 167, 0, 21]
abbrev dktX3_opening_3 : List UInt8 := dkwX3_opening_3 ++ dktX3_opening_4
def dkwX3_opening_2 : List UInt8 := [182, 0, 127, 62, 27, 153, 0, 11, 27, 42, 180, 0, 78, 160, 0, 7, 4, 167, 0, 4, 5, 54, 4, 28]
abbrev dktX3_opening_2 : List UInt8 := dkwX3_opening_2 ++ dktX3_opening_3
def dkwX3_opening_1 : List UInt8 := [28, 133, 9, 20, 1, 73, 184, 0, 101, 154, 0, 5, 2, 172, 42, 27, 42, 180, 0, 7, 16, 8, 46]
abbrev dktX3_opening_1 : List UInt8 := dkwX3_opening_1 ++ dktX3_opening_2
def dkwX3_opening_0 : List UInt8 := [42, 182, 0, 162, 154, 0, 6, 16, 254, 172, 27, 133, 9, 42, 180, 0, 78, 133, 184, 0, 101, 153, 0, 15]
abbrev dktX3_opening_0 : List UInt8 := dkwX3_opening_0 ++ dktX3_opening_1
theorem dksX3_opening_0 : cX3_opening.data.toList.drop 0 = dktX3_opening_0 := by decide +kernel
theorem dksX3_opening_1 : cX3_opening.data.toList.drop 24 = dktX3_opening_1 := dk_seg dksX3_opening_0 24 rfl rfl
theorem dksX3_opening_2 : cX3_opening.data.toList.drop 47 = dktX3_opening_2 := dk_seg dksX3_opening_1 23 rfl rfl
theorem dksX3_opening_3 : cX3_opening.data.toList.drop 71 = dktX3_opening_3 := dk_seg dksX3_opening_2 24 rfl rfl
theorem dksX3_opening_4 : cX3_opening.data.toList.drop 95 = dktX3_opening_4 := dk_seg dksX3_opening_3 24 rfl rfl
theorem dX3_opening_0 : decode cX3_opening 0 = .ok (.aload_n 0, 1) := dk_42 (dk_at dksX3_opening_0 0 rfl rfl)
theorem dX3_opening_1 : decode cX3_opening 1 = .ok (.invokevirtual 162, 3) := dk_182 0 162 (dk_at dksX3_opening_0 1 rfl rfl)
theorem dX3_opening_4 : decode cX3_opening 4 = .ok (.ifCond .ne 6, 3) := dk_154 0 6 (dk_at dksX3_opening_0 4 rfl rfl)
theorem dX3_opening_7 : decode cX3_opening 7 = .ok (.bipush (-2), 2) := dk_16 254 (dk_at dksX3_opening_0 7 rfl rfl)
theorem dX3_opening_9 : decode cX3_opening 9 = .ok (.ireturn, 1) := dk_172 (dk_at dksX3_opening_0 9 rfl rfl)
theorem dX3_opening_10 : decode cX3_opening 10 = .ok (.iload_n 1, 1) := dk_27 (dk_at dksX3_opening_0 10 rfl rfl)
theorem dX3_opening_11 : decode cX3_opening 11 = .ok (.i2l, 1) := dk_133 (dk_at dksX3_opening_0 11 rfl rfl)
theorem dX3_opening_12 : decode cX3_opening 12 = .ok (.lconst 0, 1) := dk_9 (dk_at dksX3_opening_0 12 rfl rfl)
theorem dX3_opening_13 : decode cX3_opening 13 = .ok (.aload_n 0, 1) := dk_42 (dk_at dksX3_opening_0 13 rfl rfl)
theorem dX3_opening_14 : decode cX3_opening 14 = .ok (.getfield 78, 3) := dk_180 0 78 (dk_at dksX3_opening_0 14 rfl rfl)
theorem dX3_opening_17 : decode cX3_opening 17 = .ok (.i2l, 1) := dk_133 (dk_at dksX3_opening_0 17 rfl rfl)
theorem dX3_opening_18 : decode cX3_opening 18 = .ok (.invokestatic 101, 3) := dk_184 0 101 (dk_at dksX3_opening_0 18 rfl rfl)
theorem dX3_opening_21 : decode cX3_opening 21 = .ok (.ifCond .eq 15, 3) := dk_153 0 15 (dk_at dksX3_opening_0 21 rfl rfl)
theorem dX3_opening_24 : decode cX3_opening 24 = .ok (.iload_n 2, 1) := dk_28 (dk_at dksX3_opening_1 0 rfl rfl)
theorem dX3_opening_25 : decode cX3_opening 25 = .ok (.i2l, 1) := dk_133 (dk_at dksX3_opening_1 1 rfl rfl)
theorem dX3_opening_26 : decode cX3_opening 26 = .ok (.lconst 0, 1) := dk_9 (dk_at dksX3_opening_1 2 rfl rfl)
theorem dX3_opening_27 : decode cX3_opening 27 = .ok (.ldc2_w 329, 3) := dk_20 1 73 (dk_at dksX3_opening_1 3 rfl rfl)
theorem dX3_opening_30 : decode cX3_opening 30 = .ok (.invokestatic 101, 3) := dk_184 0 101 (dk_at dksX3_opening_1 6 rfl rfl)
theorem dX3_opening_33 : decode cX3_opening 33 = .ok (.ifCond .ne 5, 3) := dk_154 0 5 (dk_at dksX3_opening_1 9 rfl rfl)
theorem dX3_opening_36 : decode cX3_opening 36 = .ok (.iconst (-1), 1) := dk_2 (dk_at dksX3_opening_1 12 rfl rfl)
theorem dX3_opening_37 : decode cX3_opening 37 = .ok (.ireturn, 1) := dk_172 (dk_at dksX3_opening_1 13 rfl rfl)
theorem dX3_opening_38 : decode cX3_opening 38 = .ok (.aload_n 0, 1) := dk_42 (dk_at dksX3_opening_1 14 rfl rfl)
theorem dX3_opening_39 : decode cX3_opening 39 = .ok (.iload_n 1, 1) := dk_27 (dk_at dksX3_opening_1 15 rfl rfl)
theorem dX3_opening_40 : decode cX3_opening 40 = .ok (.aload_n 0, 1) := dk_42 (dk_at dksX3_opening_1 16 rfl rfl)
theorem dX3_opening_41 : decode cX3_opening 41 = .ok (.getfield 7, 3) := dk_180 0 7 (dk_at dksX3_opening_1 17 rfl rfl)
theorem dX3_opening_44 : decode cX3_opening 44 = .ok (.bipush 8, 2) := dk_16 8 (dk_at dksX3_opening_1 20 rfl rfl)
theorem dX3_opening_46 : decode cX3_opening 46 = .ok (.iaload, 1) := dk_46 (dk_at dksX3_opening_1 22 rfl rfl)
theorem dX3_opening_47 : decode cX3_opening 47 = .ok (.invokevirtual 127, 3) := dk_182 0 127 (dk_at dksX3_opening_2 0 rfl rfl)
theorem dX3_opening_50 : decode cX3_opening 50 = .ok (.istore_n 3, 1) := dk_62 (dk_at dksX3_opening_2 3 rfl rfl)
theorem dX3_opening_51 : decode cX3_opening 51 = .ok (.iload_n 1, 1) := dk_27 (dk_at dksX3_opening_2 4 rfl rfl)
theorem dX3_opening_52 : decode cX3_opening 52 = .ok (.ifCond .eq 11, 3) := dk_153 0 11 (dk_at dksX3_opening_2 5 rfl rfl)
theorem dX3_opening_55 : decode cX3_opening 55 = .ok (.iload_n 1, 1) := dk_27 (dk_at dksX3_opening_2 8 rfl rfl)
theorem dX3_opening_56 : decode cX3_opening 56 = .ok (.aload_n 0, 1) := dk_42 (dk_at dksX3_opening_2 9 rfl rfl)
theorem dX3_opening_57 : decode cX3_opening 57 = .ok (.getfield 78, 3) := dk_180 0 78 (dk_at dksX3_opening_2 10 rfl rfl)
theorem dX3_opening_60 : decode cX3_opening 60 = .ok (.if_icmp .ne 7, 3) := dk_160 0 7 (dk_at dksX3_opening_2 13 rfl rfl)
theorem dX3_opening_63 : decode cX3_opening 63 = .ok (.iconst 1, 1) := dk_4 (dk_at dksX3_opening_2 16 rfl rfl)
theorem dX3_opening_64 : decode cX3_opening 64 = .ok (.goto 4, 3) := dk_167 0 4 (dk_at dksX3_opening_2 17 rfl rfl)
theorem dX3_opening_67 : decode cX3_opening 67 = .ok (.iconst 2, 1) := dk_5 (dk_at dksX3_opening_2 20 rfl rfl)
theorem dX3_opening_68 : decode cX3_opening 68 = .ok (.istore 4, 2) := dk_54 4 (dk_at dksX3_opening_2 21 rfl rfl)
theorem dX3_opening_70 : decode cX3_opening 70 = .ok (.iload_n 2, 1) := dk_28 (dk_at dksX3_opening_2 23 rfl rfl)
theorem dX3_opening_71 : decode cX3_opening 71 = .ok (.ifCond .ne 15, 3) := dk_154 0 15 (dk_at dksX3_opening_3 0 rfl rfl)
theorem dX3_opening_74 : decode cX3_opening 74 = .ok (.iload_n 3, 1) := dk_29 (dk_at dksX3_opening_3 3 rfl rfl)
theorem dX3_opening_75 : decode cX3_opening 75 = .ok (.ifCond .ne 7, 3) := dk_154 0 7 (dk_at dksX3_opening_3 4 rfl rfl)
theorem dX3_opening_78 : decode cX3_opening 78 = .ok (.iconst 0, 1) := dk_3 (dk_at dksX3_opening_3 7 rfl rfl)
theorem dX3_opening_79 : decode cX3_opening 79 = .ok (.goto 34, 3) := dk_167 0 34 (dk_at dksX3_opening_3 8 rfl rfl)
theorem dX3_opening_82 : decode cX3_opening 82 = .ok (.iconst 1, 1) := dk_4 (dk_at dksX3_opening_3 11 rfl rfl)
theorem dX3_opening_83 : decode cX3_opening 83 = .ok (.goto 30, 3) := dk_167 0 30 (dk_at dksX3_opening_3 12 rfl rfl)
theorem dX3_opening_86 : decode cX3_opening 86 = .ok (.iload_n 2, 1) := dk_28 (dk_at dksX3_opening_3 15 rfl rfl)
theorem dX3_opening_87 : decode cX3_opening 87 = .ok (.iconst 1, 1) := dk_4 (dk_at dksX3_opening_3 16 rfl rfl)
theorem dX3_opening_88 : decode cX3_opening 88 = .ok (.if_icmp .ne 7, 3) := dk_160 0 7 (dk_at dksX3_opening_3 17 rfl rfl)
theorem dX3_opening_91 : decode cX3_opening 91 = .ok (.iload_n 3, 1) := dk_29 (dk_at dksX3_opening_3 20 rfl rfl)
theorem dX3_opening_92 : decode cX3_opening 92 = .ok (.goto 21, 3) := dk_167 0 21 (dk_at dksX3_opening_3 21 rfl rfl)
theorem dX3_opening_95 : decode cX3_opening 95 = .ok (.iload_n 3, 1) := dk_29 (dk_at dksX3_opening_4 0 rfl rfl)
theorem dX3_opening_96 : decode cX3_opening 96 = .ok (.ifCond .ne 16, 3) := dk_154 0 16 (dk_at dksX3_opening_4 1 rfl rfl)
theorem dX3_opening_99 : decode cX3_opening 99 = .ok (.iload 4, 2) := dk_21 4 (dk_at dksX3_opening_4 4 rfl rfl)
theorem dX3_opening_101 : decode cX3_opening 101 = .ok (.aload_n 0, 1) := dk_42 (dk_at dksX3_opening_4 6 rfl rfl)
theorem dX3_opening_102 : decode cX3_opening 102 = .ok (.getfield 7, 3) := dk_180 0 7 (dk_at dksX3_opening_4 7 rfl rfl)
theorem dX3_opening_105 : decode cX3_opening 105 = .ok (.bipush 11, 2) := dk_16 11 (dk_at dksX3_opening_4 10 rfl rfl)
theorem dX3_opening_107 : decode cX3_opening 107 = .ok (.iaload, 1) := dk_46 (dk_at dksX3_opening_4 12 rfl rfl)
theorem dX3_opening_108 : decode cX3_opening 108 = .ok (.imul, 1) := dk_104 (dk_at dksX3_opening_4 13 rfl rfl)
theorem dX3_opening_109 : decode cX3_opening 109 = .ok (.goto 4, 3) := dk_167 0 4 (dk_at dksX3_opening_4 14 rfl rfl)
theorem dX3_opening_112 : decode cX3_opening 112 = .ok (.iconst 0, 1) := dk_3 (dk_at dksX3_opening_4 17 rfl rfl)
theorem dX3_opening_113 : decode cX3_opening 113 = .ok (.ireturn, 1) := dk_172 (dk_at dksX3_opening_4 18 rfl rfl)
abbrev cX3_hanging : ByteArray := prog_33_method_69_code
def yX3_hanging : MethodName := ⟨RX3, "hanging", "(I)I"⟩
def dkwX3_hanging_2 : List UInt8 := [182, 0, 165, 172]
abbrev dktX3_hanging_2 : List UInt8 := dkwX3_hanging_2 ++ []
def dkwX3_hanging_1 : List UInt8 := [167, 0, 26, 42, 180, 0, 7, 16, 8, 46, 27, 184, 0, 120, 153, 0, 7, 3, 167, 0, 8, 42, 27]
abbrev dktX3_hanging_1 : List UInt8 := dkwX3_hanging_1 ++ dktX3_hanging_2
def dkwX3_hanging_0 : List UInt8 := [42, 182, 0, 162, 154, 0, 6, 16, 254, 172, 27, 133, 9, 20, 0, 160, 184, 0, 101, 154, 0, 7, 2]
abbrev dktX3_hanging_0 : List UInt8 := dkwX3_hanging_0 ++ dktX3_hanging_1
theorem dksX3_hanging_0 : cX3_hanging.data.toList.drop 0 = dktX3_hanging_0 := by decide +kernel
theorem dksX3_hanging_1 : cX3_hanging.data.toList.drop 23 = dktX3_hanging_1 := dk_seg dksX3_hanging_0 23 rfl rfl
theorem dksX3_hanging_2 : cX3_hanging.data.toList.drop 46 = dktX3_hanging_2 := dk_seg dksX3_hanging_1 23 rfl rfl
theorem dX3_hanging_0 : decode cX3_hanging 0 = .ok (.aload_n 0, 1) := dk_42 (dk_at dksX3_hanging_0 0 rfl rfl)
theorem dX3_hanging_1 : decode cX3_hanging 1 = .ok (.invokevirtual 162, 3) := dk_182 0 162 (dk_at dksX3_hanging_0 1 rfl rfl)
theorem dX3_hanging_4 : decode cX3_hanging 4 = .ok (.ifCond .ne 6, 3) := dk_154 0 6 (dk_at dksX3_hanging_0 4 rfl rfl)
theorem dX3_hanging_7 : decode cX3_hanging 7 = .ok (.bipush (-2), 2) := dk_16 254 (dk_at dksX3_hanging_0 7 rfl rfl)
theorem dX3_hanging_9 : decode cX3_hanging 9 = .ok (.ireturn, 1) := dk_172 (dk_at dksX3_hanging_0 9 rfl rfl)
theorem dX3_hanging_10 : decode cX3_hanging 10 = .ok (.iload_n 1, 1) := dk_27 (dk_at dksX3_hanging_0 10 rfl rfl)
theorem dX3_hanging_11 : decode cX3_hanging 11 = .ok (.i2l, 1) := dk_133 (dk_at dksX3_hanging_0 11 rfl rfl)
theorem dX3_hanging_12 : decode cX3_hanging 12 = .ok (.lconst 0, 1) := dk_9 (dk_at dksX3_hanging_0 12 rfl rfl)
theorem dX3_hanging_13 : decode cX3_hanging 13 = .ok (.ldc2_w 160, 3) := dk_20 0 160 (dk_at dksX3_hanging_0 13 rfl rfl)
theorem dX3_hanging_16 : decode cX3_hanging 16 = .ok (.invokestatic 101, 3) := dk_184 0 101 (dk_at dksX3_hanging_0 16 rfl rfl)
theorem dX3_hanging_19 : decode cX3_hanging 19 = .ok (.ifCond .ne 7, 3) := dk_154 0 7 (dk_at dksX3_hanging_0 19 rfl rfl)
theorem dX3_hanging_22 : decode cX3_hanging 22 = .ok (.iconst (-1), 1) := dk_2 (dk_at dksX3_hanging_0 22 rfl rfl)
theorem dX3_hanging_23 : decode cX3_hanging 23 = .ok (.goto 26, 3) := dk_167 0 26 (dk_at dksX3_hanging_1 0 rfl rfl)
theorem dX3_hanging_26 : decode cX3_hanging 26 = .ok (.aload_n 0, 1) := dk_42 (dk_at dksX3_hanging_1 3 rfl rfl)
theorem dX3_hanging_27 : decode cX3_hanging 27 = .ok (.getfield 7, 3) := dk_180 0 7 (dk_at dksX3_hanging_1 4 rfl rfl)
theorem dX3_hanging_30 : decode cX3_hanging 30 = .ok (.bipush 8, 2) := dk_16 8 (dk_at dksX3_hanging_1 7 rfl rfl)
theorem dX3_hanging_32 : decode cX3_hanging 32 = .ok (.iaload, 1) := dk_46 (dk_at dksX3_hanging_1 9 rfl rfl)
theorem dX3_hanging_33 : decode cX3_hanging 33 = .ok (.iload_n 1, 1) := dk_27 (dk_at dksX3_hanging_1 10 rfl rfl)
theorem dX3_hanging_34 : decode cX3_hanging 34 = .ok (.invokestatic 120, 3) := dk_184 0 120 (dk_at dksX3_hanging_1 11 rfl rfl)
theorem dX3_hanging_37 : decode cX3_hanging 37 = .ok (.ifCond .eq 7, 3) := dk_153 0 7 (dk_at dksX3_hanging_1 14 rfl rfl)
theorem dX3_hanging_40 : decode cX3_hanging 40 = .ok (.iconst 0, 1) := dk_3 (dk_at dksX3_hanging_1 17 rfl rfl)
theorem dX3_hanging_41 : decode cX3_hanging 41 = .ok (.goto 8, 3) := dk_167 0 8 (dk_at dksX3_hanging_1 18 rfl rfl)
theorem dX3_hanging_44 : decode cX3_hanging 44 = .ok (.aload_n 0, 1) := dk_42 (dk_at dksX3_hanging_1 21 rfl rfl)
theorem dX3_hanging_45 : decode cX3_hanging 45 = .ok (.iload_n 1, 1) := dk_27 (dk_at dksX3_hanging_1 22 rfl rfl)
theorem dX3_hanging_46 : decode cX3_hanging 46 = .ok (.invokevirtual 165, 3) := dk_182 0 165 (dk_at dksX3_hanging_2 0 rfl rfl)
theorem dX3_hanging_49 : decode cX3_hanging 49 = .ok (.ireturn, 1) := dk_172 (dk_at dksX3_hanging_2 3 rfl rfl)
abbrev cX3_together : ByteArray := prog_33_method_70_code
def yX3_together : MethodName := ⟨RX3, "together", "(II)I"⟩
def dkwX3_together_3 : List UInt8 := [153, 0, 7, 3, 167, 0, 6, 4, 29, 120, 172]
abbrev dktX3_together_3 : List UInt8 := dkwX3_together_3 ++ []
def dkwX3_together_2 : List UInt8 := [2, 172, 42, 27, 28, 182, 0, 116, 62, 29, 155, 0, 17, 42, 180, 0, 7, 16, 8, 46, 29, 184, 0, 120]
abbrev dktX3_together_2 : List UInt8 := dkwX3_together_2 ++ dktX3_together_3
def dkwX3_together_1 : List UInt8 := [153, 0, 24, 28, 133, 9, 42, 180, 0, 78, 4, 100, 133, 184, 0, 101, 153, 0, 8, 27, 28, 160, 0, 5]
abbrev dktX3_together_1 : List UInt8 := dkwX3_together_1 ++ dktX3_together_2
def dkwX3_together_0 : List UInt8 := [42, 182, 0, 162, 154, 0, 6, 16, 254, 172, 27, 133, 9, 42, 180, 0, 78, 4, 100, 133, 184, 0, 101]
abbrev dktX3_together_0 : List UInt8 := dkwX3_together_0 ++ dktX3_together_1
theorem dksX3_together_0 : cX3_together.data.toList.drop 0 = dktX3_together_0 := by decide +kernel
theorem dksX3_together_1 : cX3_together.data.toList.drop 23 = dktX3_together_1 := dk_seg dksX3_together_0 23 rfl rfl
theorem dksX3_together_2 : cX3_together.data.toList.drop 47 = dktX3_together_2 := dk_seg dksX3_together_1 24 rfl rfl
theorem dksX3_together_3 : cX3_together.data.toList.drop 71 = dktX3_together_3 := dk_seg dksX3_together_2 24 rfl rfl
theorem dX3_together_0 : decode cX3_together 0 = .ok (.aload_n 0, 1) := dk_42 (dk_at dksX3_together_0 0 rfl rfl)
theorem dX3_together_1 : decode cX3_together 1 = .ok (.invokevirtual 162, 3) := dk_182 0 162 (dk_at dksX3_together_0 1 rfl rfl)
theorem dX3_together_4 : decode cX3_together 4 = .ok (.ifCond .ne 6, 3) := dk_154 0 6 (dk_at dksX3_together_0 4 rfl rfl)
theorem dX3_together_7 : decode cX3_together 7 = .ok (.bipush (-2), 2) := dk_16 254 (dk_at dksX3_together_0 7 rfl rfl)
theorem dX3_together_9 : decode cX3_together 9 = .ok (.ireturn, 1) := dk_172 (dk_at dksX3_together_0 9 rfl rfl)
theorem dX3_together_10 : decode cX3_together 10 = .ok (.iload_n 1, 1) := dk_27 (dk_at dksX3_together_0 10 rfl rfl)
theorem dX3_together_11 : decode cX3_together 11 = .ok (.i2l, 1) := dk_133 (dk_at dksX3_together_0 11 rfl rfl)
theorem dX3_together_12 : decode cX3_together 12 = .ok (.lconst 0, 1) := dk_9 (dk_at dksX3_together_0 12 rfl rfl)
theorem dX3_together_13 : decode cX3_together 13 = .ok (.aload_n 0, 1) := dk_42 (dk_at dksX3_together_0 13 rfl rfl)
theorem dX3_together_14 : decode cX3_together 14 = .ok (.getfield 78, 3) := dk_180 0 78 (dk_at dksX3_together_0 14 rfl rfl)
theorem dX3_together_17 : decode cX3_together 17 = .ok (.iconst 1, 1) := dk_4 (dk_at dksX3_together_0 17 rfl rfl)
theorem dX3_together_18 : decode cX3_together 18 = .ok (.isub, 1) := dk_100 (dk_at dksX3_together_0 18 rfl rfl)
theorem dX3_together_19 : decode cX3_together 19 = .ok (.i2l, 1) := dk_133 (dk_at dksX3_together_0 19 rfl rfl)
theorem dX3_together_20 : decode cX3_together 20 = .ok (.invokestatic 101, 3) := dk_184 0 101 (dk_at dksX3_together_0 20 rfl rfl)
theorem dX3_together_23 : decode cX3_together 23 = .ok (.ifCond .eq 24, 3) := dk_153 0 24 (dk_at dksX3_together_1 0 rfl rfl)
theorem dX3_together_26 : decode cX3_together 26 = .ok (.iload_n 2, 1) := dk_28 (dk_at dksX3_together_1 3 rfl rfl)
theorem dX3_together_27 : decode cX3_together 27 = .ok (.i2l, 1) := dk_133 (dk_at dksX3_together_1 4 rfl rfl)
theorem dX3_together_28 : decode cX3_together 28 = .ok (.lconst 0, 1) := dk_9 (dk_at dksX3_together_1 5 rfl rfl)
theorem dX3_together_29 : decode cX3_together 29 = .ok (.aload_n 0, 1) := dk_42 (dk_at dksX3_together_1 6 rfl rfl)
theorem dX3_together_30 : decode cX3_together 30 = .ok (.getfield 78, 3) := dk_180 0 78 (dk_at dksX3_together_1 7 rfl rfl)
theorem dX3_together_33 : decode cX3_together 33 = .ok (.iconst 1, 1) := dk_4 (dk_at dksX3_together_1 10 rfl rfl)
theorem dX3_together_34 : decode cX3_together 34 = .ok (.isub, 1) := dk_100 (dk_at dksX3_together_1 11 rfl rfl)
theorem dX3_together_35 : decode cX3_together 35 = .ok (.i2l, 1) := dk_133 (dk_at dksX3_together_1 12 rfl rfl)
theorem dX3_together_36 : decode cX3_together 36 = .ok (.invokestatic 101, 3) := dk_184 0 101 (dk_at dksX3_together_1 13 rfl rfl)
theorem dX3_together_39 : decode cX3_together 39 = .ok (.ifCond .eq 8, 3) := dk_153 0 8 (dk_at dksX3_together_1 16 rfl rfl)
theorem dX3_together_42 : decode cX3_together 42 = .ok (.iload_n 1, 1) := dk_27 (dk_at dksX3_together_1 19 rfl rfl)
theorem dX3_together_43 : decode cX3_together 43 = .ok (.iload_n 2, 1) := dk_28 (dk_at dksX3_together_1 20 rfl rfl)
theorem dX3_together_44 : decode cX3_together 44 = .ok (.if_icmp .ne 5, 3) := dk_160 0 5 (dk_at dksX3_together_1 21 rfl rfl)
theorem dX3_together_47 : decode cX3_together 47 = .ok (.iconst (-1), 1) := dk_2 (dk_at dksX3_together_2 0 rfl rfl)
theorem dX3_together_48 : decode cX3_together 48 = .ok (.ireturn, 1) := dk_172 (dk_at dksX3_together_2 1 rfl rfl)
theorem dX3_together_49 : decode cX3_together 49 = .ok (.aload_n 0, 1) := dk_42 (dk_at dksX3_together_2 2 rfl rfl)
theorem dX3_together_50 : decode cX3_together 50 = .ok (.iload_n 1, 1) := dk_27 (dk_at dksX3_together_2 3 rfl rfl)
theorem dX3_together_51 : decode cX3_together 51 = .ok (.iload_n 2, 1) := dk_28 (dk_at dksX3_together_2 4 rfl rfl)
theorem dX3_together_52 : decode cX3_together 52 = .ok (.invokevirtual 116, 3) := dk_182 0 116 (dk_at dksX3_together_2 5 rfl rfl)
theorem dX3_together_55 : decode cX3_together 55 = .ok (.istore_n 3, 1) := dk_62 (dk_at dksX3_together_2 8 rfl rfl)
theorem dX3_together_56 : decode cX3_together 56 = .ok (.iload_n 3, 1) := dk_29 (dk_at dksX3_together_2 9 rfl rfl)
theorem dX3_together_57 : decode cX3_together 57 = .ok (.ifCond .lt 17, 3) := dk_155 0 17 (dk_at dksX3_together_2 10 rfl rfl)
theorem dX3_together_60 : decode cX3_together 60 = .ok (.aload_n 0, 1) := dk_42 (dk_at dksX3_together_2 13 rfl rfl)
theorem dX3_together_61 : decode cX3_together 61 = .ok (.getfield 7, 3) := dk_180 0 7 (dk_at dksX3_together_2 14 rfl rfl)
theorem dX3_together_64 : decode cX3_together 64 = .ok (.bipush 8, 2) := dk_16 8 (dk_at dksX3_together_2 17 rfl rfl)
theorem dX3_together_66 : decode cX3_together 66 = .ok (.iaload, 1) := dk_46 (dk_at dksX3_together_2 19 rfl rfl)
theorem dX3_together_67 : decode cX3_together 67 = .ok (.iload_n 3, 1) := dk_29 (dk_at dksX3_together_2 20 rfl rfl)
theorem dX3_together_68 : decode cX3_together 68 = .ok (.invokestatic 120, 3) := dk_184 0 120 (dk_at dksX3_together_2 21 rfl rfl)
theorem dX3_together_71 : decode cX3_together 71 = .ok (.ifCond .eq 7, 3) := dk_153 0 7 (dk_at dksX3_together_3 0 rfl rfl)
theorem dX3_together_74 : decode cX3_together 74 = .ok (.iconst 0, 1) := dk_3 (dk_at dksX3_together_3 3 rfl rfl)
theorem dX3_together_75 : decode cX3_together 75 = .ok (.goto 6, 3) := dk_167 0 6 (dk_at dksX3_together_3 4 rfl rfl)
theorem dX3_together_78 : decode cX3_together 78 = .ok (.iconst 1, 1) := dk_4 (dk_at dksX3_together_3 7 rfl rfl)
theorem dX3_together_79 : decode cX3_together 79 = .ok (.iload_n 3, 1) := dk_29 (dk_at dksX3_together_3 8 rfl rfl)
theorem dX3_together_80 : decode cX3_together 80 = .ok (.ishl, 1) := dk_120 (dk_at dksX3_together_3 9 rfl rfl)
theorem dX3_together_81 : decode cX3_together 81 = .ok (.ireturn, 1) := dk_172 (dk_at dksX3_together_3 10 rfl rfl)
abbrev cX3_pieces : ByteArray := prog_33_method_71_code
def yX3_pieces : MethodName := ⟨RX3, "pieces", "()I"⟩
def dkwX3_pieces_7 : List UInt8 := [4, 42, 180, 0, 49, 21, 4, 46, 120, 128, 62, 132, 4, 1, 167, 255, 232, 28, 29, 184, 0, 170, 96, 172]
abbrev dktX3_pieces_7 : List UInt8 := dkwX3_pieces_7 ++ []
def dkwX3_pieces_6 : List UInt8 := [167, 255, 198, 132, 3, 1, 167, 255, 179, 3, 62, 3, 54, 4, 21, 4, 42, 180, 0, 78, 162, 0, 21, 29]
abbrev dktX3_pieces_6 : List UInt8 := dkwX3_pieces_6 ++ dktX3_pieces_7
def dkwX3_pieces_5 : List UInt8 := [154, 0, 20, 42, 42, 180, 0, 49, 29, 46, 42, 180, 0, 49, 21, 4, 46, 182, 1, 75, 132, 4, 1]
abbrev dktX3_pieces_5 : List UInt8 := dkwX3_pieces_5 ++ dktX3_pieces_6
def dkwX3_pieces_4 : List UInt8 := [182, 0, 116, 54, 5, 21, 5, 155, 0, 35, 42, 180, 0, 7, 16, 8, 46, 21, 5, 184, 0, 120]
abbrev dktX3_pieces_4 : List UInt8 := dkwX3_pieces_4 ++ dktX3_pieces_5
def dkwX3_pieces_3 : List UInt8 := [180, 0, 78, 162, 0, 75, 29, 4, 96, 54, 4, 21, 4, 42, 180, 0, 78, 162, 0, 55, 42, 29, 21, 4]
abbrev dktX3_pieces_3 : List UInt8 := dkwX3_pieces_3 ++ dktX3_pieces_4
def dkwX3_pieces_2 : List UInt8 := [27, 162, 0, 7, 3, 167, 0, 4, 28, 79, 132, 2, 1, 167, 255, 229, 3, 61, 3, 62, 29, 42]
abbrev dktX3_pieces_2 : List UInt8 := dkwX3_pieces_2 ++ dktX3_pieces_3
def dkwX3_pieces_1 : List UInt8 := [42, 180, 0, 7, 16, 10, 46, 60, 3, 61, 28, 42, 180, 0, 78, 162, 0, 25, 42, 180, 0, 49, 28, 28]
abbrev dktX3_pieces_1 : List UInt8 := dkwX3_pieces_1 ++ dktX3_pieces_2
def dkwX3_pieces_0 : List UInt8 := [42, 182, 0, 162, 154, 0, 6, 16, 254, 172, 42, 180, 0, 7, 16, 9, 46, 154, 0, 7, 4, 167, 0, 10]
abbrev dktX3_pieces_0 : List UInt8 := dkwX3_pieces_0 ++ dktX3_pieces_1
theorem dksX3_pieces_0 : cX3_pieces.data.toList.drop 0 = dktX3_pieces_0 := by decide +kernel
theorem dksX3_pieces_1 : cX3_pieces.data.toList.drop 24 = dktX3_pieces_1 := dk_seg dksX3_pieces_0 24 rfl rfl
theorem dksX3_pieces_2 : cX3_pieces.data.toList.drop 48 = dktX3_pieces_2 := dk_seg dksX3_pieces_1 24 rfl rfl
theorem dksX3_pieces_3 : cX3_pieces.data.toList.drop 70 = dktX3_pieces_3 := dk_seg dksX3_pieces_2 22 rfl rfl
theorem dksX3_pieces_4 : cX3_pieces.data.toList.drop 94 = dktX3_pieces_4 := dk_seg dksX3_pieces_3 24 rfl rfl
theorem dksX3_pieces_5 : cX3_pieces.data.toList.drop 116 = dktX3_pieces_5 := dk_seg dksX3_pieces_4 22 rfl rfl
theorem dksX3_pieces_6 : cX3_pieces.data.toList.drop 139 = dktX3_pieces_6 := dk_seg dksX3_pieces_5 23 rfl rfl
theorem dksX3_pieces_7 : cX3_pieces.data.toList.drop 163 = dktX3_pieces_7 := dk_seg dksX3_pieces_6 24 rfl rfl
theorem dX3_pieces_0 : decode cX3_pieces 0 = .ok (.aload_n 0, 1) := dk_42 (dk_at dksX3_pieces_0 0 rfl rfl)
theorem dX3_pieces_1 : decode cX3_pieces 1 = .ok (.invokevirtual 162, 3) := dk_182 0 162 (dk_at dksX3_pieces_0 1 rfl rfl)
theorem dX3_pieces_4 : decode cX3_pieces 4 = .ok (.ifCond .ne 6, 3) := dk_154 0 6 (dk_at dksX3_pieces_0 4 rfl rfl)
theorem dX3_pieces_7 : decode cX3_pieces 7 = .ok (.bipush (-2), 2) := dk_16 254 (dk_at dksX3_pieces_0 7 rfl rfl)
theorem dX3_pieces_9 : decode cX3_pieces 9 = .ok (.ireturn, 1) := dk_172 (dk_at dksX3_pieces_0 9 rfl rfl)
theorem dX3_pieces_10 : decode cX3_pieces 10 = .ok (.aload_n 0, 1) := dk_42 (dk_at dksX3_pieces_0 10 rfl rfl)
theorem dX3_pieces_11 : decode cX3_pieces 11 = .ok (.getfield 7, 3) := dk_180 0 7 (dk_at dksX3_pieces_0 11 rfl rfl)
theorem dX3_pieces_14 : decode cX3_pieces 14 = .ok (.bipush 9, 2) := dk_16 9 (dk_at dksX3_pieces_0 14 rfl rfl)
theorem dX3_pieces_16 : decode cX3_pieces 16 = .ok (.iaload, 1) := dk_46 (dk_at dksX3_pieces_0 16 rfl rfl)
theorem dX3_pieces_17 : decode cX3_pieces 17 = .ok (.ifCond .ne 7, 3) := dk_154 0 7 (dk_at dksX3_pieces_0 17 rfl rfl)
theorem dX3_pieces_20 : decode cX3_pieces 20 = .ok (.iconst 1, 1) := dk_4 (dk_at dksX3_pieces_0 20 rfl rfl)
theorem dX3_pieces_21 : decode cX3_pieces 21 = .ok (.goto 10, 3) := dk_167 0 10 (dk_at dksX3_pieces_0 21 rfl rfl)
theorem dX3_pieces_24 : decode cX3_pieces 24 = .ok (.aload_n 0, 1) := dk_42 (dk_at dksX3_pieces_1 0 rfl rfl)
theorem dX3_pieces_25 : decode cX3_pieces 25 = .ok (.getfield 7, 3) := dk_180 0 7 (dk_at dksX3_pieces_1 1 rfl rfl)
theorem dX3_pieces_28 : decode cX3_pieces 28 = .ok (.bipush 10, 2) := dk_16 10 (dk_at dksX3_pieces_1 4 rfl rfl)
theorem dX3_pieces_30 : decode cX3_pieces 30 = .ok (.iaload, 1) := dk_46 (dk_at dksX3_pieces_1 6 rfl rfl)
theorem dX3_pieces_31 : decode cX3_pieces 31 = .ok (.istore_n 1, 1) := dk_60 (dk_at dksX3_pieces_1 7 rfl rfl)
theorem dX3_pieces_32 : decode cX3_pieces 32 = .ok (.iconst 0, 1) := dk_3 (dk_at dksX3_pieces_1 8 rfl rfl)
theorem dX3_pieces_33 : decode cX3_pieces 33 = .ok (.istore_n 2, 1) := dk_61 (dk_at dksX3_pieces_1 9 rfl rfl)
theorem dX3_pieces_34 : decode cX3_pieces 34 = .ok (.iload_n 2, 1) := dk_28 (dk_at dksX3_pieces_1 10 rfl rfl)
theorem dX3_pieces_35 : decode cX3_pieces 35 = .ok (.aload_n 0, 1) := dk_42 (dk_at dksX3_pieces_1 11 rfl rfl)
theorem dX3_pieces_36 : decode cX3_pieces 36 = .ok (.getfield 78, 3) := dk_180 0 78 (dk_at dksX3_pieces_1 12 rfl rfl)
theorem dX3_pieces_39 : decode cX3_pieces 39 = .ok (.if_icmp .ge 25, 3) := dk_162 0 25 (dk_at dksX3_pieces_1 15 rfl rfl)
theorem dX3_pieces_42 : decode cX3_pieces 42 = .ok (.aload_n 0, 1) := dk_42 (dk_at dksX3_pieces_1 18 rfl rfl)
theorem dX3_pieces_43 : decode cX3_pieces 43 = .ok (.getfield 49, 3) := dk_180 0 49 (dk_at dksX3_pieces_1 19 rfl rfl)
theorem dX3_pieces_46 : decode cX3_pieces 46 = .ok (.iload_n 2, 1) := dk_28 (dk_at dksX3_pieces_1 22 rfl rfl)
theorem dX3_pieces_47 : decode cX3_pieces 47 = .ok (.iload_n 2, 1) := dk_28 (dk_at dksX3_pieces_1 23 rfl rfl)
theorem dX3_pieces_48 : decode cX3_pieces 48 = .ok (.iload_n 1, 1) := dk_27 (dk_at dksX3_pieces_2 0 rfl rfl)
theorem dX3_pieces_49 : decode cX3_pieces 49 = .ok (.if_icmp .ge 7, 3) := dk_162 0 7 (dk_at dksX3_pieces_2 1 rfl rfl)
theorem dX3_pieces_52 : decode cX3_pieces 52 = .ok (.iconst 0, 1) := dk_3 (dk_at dksX3_pieces_2 4 rfl rfl)
theorem dX3_pieces_53 : decode cX3_pieces 53 = .ok (.goto 4, 3) := dk_167 0 4 (dk_at dksX3_pieces_2 5 rfl rfl)
theorem dX3_pieces_56 : decode cX3_pieces 56 = .ok (.iload_n 2, 1) := dk_28 (dk_at dksX3_pieces_2 8 rfl rfl)
theorem dX3_pieces_57 : decode cX3_pieces 57 = .ok (.iastore, 1) := dk_79 (dk_at dksX3_pieces_2 9 rfl rfl)
theorem dX3_pieces_58 : decode cX3_pieces 58 = .ok (.iinc 2 1, 3) := dk_132 2 1 (dk_at dksX3_pieces_2 10 rfl rfl)
theorem dX3_pieces_61 : decode cX3_pieces 61 = .ok (.goto (-27), 3) := dk_167 255 229 (dk_at dksX3_pieces_2 13 rfl rfl)
theorem dX3_pieces_64 : decode cX3_pieces 64 = .ok (.iconst 0, 1) := dk_3 (dk_at dksX3_pieces_2 16 rfl rfl)
theorem dX3_pieces_65 : decode cX3_pieces 65 = .ok (.istore_n 2, 1) := dk_61 (dk_at dksX3_pieces_2 17 rfl rfl)
theorem dX3_pieces_66 : decode cX3_pieces 66 = .ok (.iconst 0, 1) := dk_3 (dk_at dksX3_pieces_2 18 rfl rfl)
theorem dX3_pieces_67 : decode cX3_pieces 67 = .ok (.istore_n 3, 1) := dk_62 (dk_at dksX3_pieces_2 19 rfl rfl)
theorem dX3_pieces_68 : decode cX3_pieces 68 = .ok (.iload_n 3, 1) := dk_29 (dk_at dksX3_pieces_2 20 rfl rfl)
theorem dX3_pieces_69 : decode cX3_pieces 69 = .ok (.aload_n 0, 1) := dk_42 (dk_at dksX3_pieces_2 21 rfl rfl)
theorem dX3_pieces_70 : decode cX3_pieces 70 = .ok (.getfield 78, 3) := dk_180 0 78 (dk_at dksX3_pieces_3 0 rfl rfl)
theorem dX3_pieces_73 : decode cX3_pieces 73 = .ok (.if_icmp .ge 75, 3) := dk_162 0 75 (dk_at dksX3_pieces_3 3 rfl rfl)
theorem dX3_pieces_76 : decode cX3_pieces 76 = .ok (.iload_n 3, 1) := dk_29 (dk_at dksX3_pieces_3 6 rfl rfl)
theorem dX3_pieces_77 : decode cX3_pieces 77 = .ok (.iconst 1, 1) := dk_4 (dk_at dksX3_pieces_3 7 rfl rfl)
theorem dX3_pieces_78 : decode cX3_pieces 78 = .ok (.iadd, 1) := dk_96 (dk_at dksX3_pieces_3 8 rfl rfl)
theorem dX3_pieces_79 : decode cX3_pieces 79 = .ok (.istore 4, 2) := dk_54 4 (dk_at dksX3_pieces_3 9 rfl rfl)
theorem dX3_pieces_81 : decode cX3_pieces 81 = .ok (.iload 4, 2) := dk_21 4 (dk_at dksX3_pieces_3 11 rfl rfl)
theorem dX3_pieces_83 : decode cX3_pieces 83 = .ok (.aload_n 0, 1) := dk_42 (dk_at dksX3_pieces_3 13 rfl rfl)
theorem dX3_pieces_84 : decode cX3_pieces 84 = .ok (.getfield 78, 3) := dk_180 0 78 (dk_at dksX3_pieces_3 14 rfl rfl)
theorem dX3_pieces_87 : decode cX3_pieces 87 = .ok (.if_icmp .ge 55, 3) := dk_162 0 55 (dk_at dksX3_pieces_3 17 rfl rfl)
theorem dX3_pieces_90 : decode cX3_pieces 90 = .ok (.aload_n 0, 1) := dk_42 (dk_at dksX3_pieces_3 20 rfl rfl)
theorem dX3_pieces_91 : decode cX3_pieces 91 = .ok (.iload_n 3, 1) := dk_29 (dk_at dksX3_pieces_3 21 rfl rfl)
theorem dX3_pieces_92 : decode cX3_pieces 92 = .ok (.iload 4, 2) := dk_21 4 (dk_at dksX3_pieces_3 22 rfl rfl)
theorem dX3_pieces_94 : decode cX3_pieces 94 = .ok (.invokevirtual 116, 3) := dk_182 0 116 (dk_at dksX3_pieces_4 0 rfl rfl)
theorem dX3_pieces_97 : decode cX3_pieces 97 = .ok (.istore 5, 2) := dk_54 5 (dk_at dksX3_pieces_4 3 rfl rfl)
theorem dX3_pieces_99 : decode cX3_pieces 99 = .ok (.iload 5, 2) := dk_21 5 (dk_at dksX3_pieces_4 5 rfl rfl)
theorem dX3_pieces_101 : decode cX3_pieces 101 = .ok (.ifCond .lt 35, 3) := dk_155 0 35 (dk_at dksX3_pieces_4 7 rfl rfl)
theorem dX3_pieces_104 : decode cX3_pieces 104 = .ok (.aload_n 0, 1) := dk_42 (dk_at dksX3_pieces_4 10 rfl rfl)
theorem dX3_pieces_105 : decode cX3_pieces 105 = .ok (.getfield 7, 3) := dk_180 0 7 (dk_at dksX3_pieces_4 11 rfl rfl)
theorem dX3_pieces_108 : decode cX3_pieces 108 = .ok (.bipush 8, 2) := dk_16 8 (dk_at dksX3_pieces_4 14 rfl rfl)
theorem dX3_pieces_110 : decode cX3_pieces 110 = .ok (.iaload, 1) := dk_46 (dk_at dksX3_pieces_4 16 rfl rfl)
theorem dX3_pieces_111 : decode cX3_pieces 111 = .ok (.iload 5, 2) := dk_21 5 (dk_at dksX3_pieces_4 17 rfl rfl)
theorem dX3_pieces_113 : decode cX3_pieces 113 = .ok (.invokestatic 120, 3) := dk_184 0 120 (dk_at dksX3_pieces_4 19 rfl rfl)
theorem dX3_pieces_116 : decode cX3_pieces 116 = .ok (.ifCond .ne 20, 3) := dk_154 0 20 (dk_at dksX3_pieces_5 0 rfl rfl)
theorem dX3_pieces_119 : decode cX3_pieces 119 = .ok (.aload_n 0, 1) := dk_42 (dk_at dksX3_pieces_5 3 rfl rfl)
theorem dX3_pieces_120 : decode cX3_pieces 120 = .ok (.aload_n 0, 1) := dk_42 (dk_at dksX3_pieces_5 4 rfl rfl)
theorem dX3_pieces_121 : decode cX3_pieces 121 = .ok (.getfield 49, 3) := dk_180 0 49 (dk_at dksX3_pieces_5 5 rfl rfl)
theorem dX3_pieces_124 : decode cX3_pieces 124 = .ok (.iload_n 3, 1) := dk_29 (dk_at dksX3_pieces_5 8 rfl rfl)
theorem dX3_pieces_125 : decode cX3_pieces 125 = .ok (.iaload, 1) := dk_46 (dk_at dksX3_pieces_5 9 rfl rfl)
theorem dX3_pieces_126 : decode cX3_pieces 126 = .ok (.aload_n 0, 1) := dk_42 (dk_at dksX3_pieces_5 10 rfl rfl)
theorem dX3_pieces_127 : decode cX3_pieces 127 = .ok (.getfield 49, 3) := dk_180 0 49 (dk_at dksX3_pieces_5 11 rfl rfl)
theorem dX3_pieces_130 : decode cX3_pieces 130 = .ok (.iload 4, 2) := dk_21 4 (dk_at dksX3_pieces_5 14 rfl rfl)
theorem dX3_pieces_132 : decode cX3_pieces 132 = .ok (.iaload, 1) := dk_46 (dk_at dksX3_pieces_5 16 rfl rfl)
theorem dX3_pieces_133 : decode cX3_pieces 133 = .ok (.invokevirtual 331, 3) := dk_182 1 75 (dk_at dksX3_pieces_5 17 rfl rfl)
theorem dX3_pieces_136 : decode cX3_pieces 136 = .ok (.iinc 4 1, 3) := dk_132 4 1 (dk_at dksX3_pieces_5 20 rfl rfl)
theorem dX3_pieces_139 : decode cX3_pieces 139 = .ok (.goto (-58), 3) := dk_167 255 198 (dk_at dksX3_pieces_6 0 rfl rfl)
theorem dX3_pieces_142 : decode cX3_pieces 142 = .ok (.iinc 3 1, 3) := dk_132 3 1 (dk_at dksX3_pieces_6 3 rfl rfl)
theorem dX3_pieces_145 : decode cX3_pieces 145 = .ok (.goto (-77), 3) := dk_167 255 179 (dk_at dksX3_pieces_6 6 rfl rfl)
theorem dX3_pieces_148 : decode cX3_pieces 148 = .ok (.iconst 0, 1) := dk_3 (dk_at dksX3_pieces_6 9 rfl rfl)
theorem dX3_pieces_149 : decode cX3_pieces 149 = .ok (.istore_n 3, 1) := dk_62 (dk_at dksX3_pieces_6 10 rfl rfl)
theorem dX3_pieces_150 : decode cX3_pieces 150 = .ok (.iconst 0, 1) := dk_3 (dk_at dksX3_pieces_6 11 rfl rfl)
theorem dX3_pieces_151 : decode cX3_pieces 151 = .ok (.istore 4, 2) := dk_54 4 (dk_at dksX3_pieces_6 12 rfl rfl)
theorem dX3_pieces_153 : decode cX3_pieces 153 = .ok (.iload 4, 2) := dk_21 4 (dk_at dksX3_pieces_6 14 rfl rfl)
theorem dX3_pieces_155 : decode cX3_pieces 155 = .ok (.aload_n 0, 1) := dk_42 (dk_at dksX3_pieces_6 16 rfl rfl)
theorem dX3_pieces_156 : decode cX3_pieces 156 = .ok (.getfield 78, 3) := dk_180 0 78 (dk_at dksX3_pieces_6 17 rfl rfl)
theorem dX3_pieces_159 : decode cX3_pieces 159 = .ok (.if_icmp .ge 21, 3) := dk_162 0 21 (dk_at dksX3_pieces_6 20 rfl rfl)
theorem dX3_pieces_162 : decode cX3_pieces 162 = .ok (.iload_n 3, 1) := dk_29 (dk_at dksX3_pieces_6 23 rfl rfl)
theorem dX3_pieces_163 : decode cX3_pieces 163 = .ok (.iconst 1, 1) := dk_4 (dk_at dksX3_pieces_7 0 rfl rfl)
theorem dX3_pieces_164 : decode cX3_pieces 164 = .ok (.aload_n 0, 1) := dk_42 (dk_at dksX3_pieces_7 1 rfl rfl)
theorem dX3_pieces_165 : decode cX3_pieces 165 = .ok (.getfield 49, 3) := dk_180 0 49 (dk_at dksX3_pieces_7 2 rfl rfl)
theorem dX3_pieces_168 : decode cX3_pieces 168 = .ok (.iload 4, 2) := dk_21 4 (dk_at dksX3_pieces_7 5 rfl rfl)
theorem dX3_pieces_170 : decode cX3_pieces 170 = .ok (.iaload, 1) := dk_46 (dk_at dksX3_pieces_7 7 rfl rfl)
theorem dX3_pieces_171 : decode cX3_pieces 171 = .ok (.ishl, 1) := dk_120 (dk_at dksX3_pieces_7 8 rfl rfl)
theorem dX3_pieces_172 : decode cX3_pieces 172 = .ok (.ior, 1) := dk_128 (dk_at dksX3_pieces_7 9 rfl rfl)
theorem dX3_pieces_173 : decode cX3_pieces 173 = .ok (.istore_n 3, 1) := dk_62 (dk_at dksX3_pieces_7 10 rfl rfl)
theorem dX3_pieces_174 : decode cX3_pieces 174 = .ok (.iinc 4 1, 3) := dk_132 4 1 (dk_at dksX3_pieces_7 11 rfl rfl)
theorem dX3_pieces_177 : decode cX3_pieces 177 = .ok (.goto (-24), 3) := dk_167 255 232 (dk_at dksX3_pieces_7 14 rfl rfl)
theorem dX3_pieces_180 : decode cX3_pieces 180 = .ok (.iload_n 2, 1) := dk_28 (dk_at dksX3_pieces_7 17 rfl rfl)
theorem dX3_pieces_181 : decode cX3_pieces 181 = .ok (.iload_n 3, 1) := dk_29 (dk_at dksX3_pieces_7 18 rfl rfl)
theorem dX3_pieces_182 : decode cX3_pieces 182 = .ok (.invokestatic 170, 3) := dk_184 0 170 (dk_at dksX3_pieces_7 19 rfl rfl)
theorem dX3_pieces_185 : decode cX3_pieces 185 = .ok (.iadd, 1) := dk_96 (dk_at dksX3_pieces_7 22 rfl rfl)
theorem dX3_pieces_186 : decode cX3_pieces 186 = .ok (.ireturn, 1) := dk_172 (dk_at dksX3_pieces_7 23 rfl rfl)
abbrev cX3_joins : ByteArray := prog_33_method_72_code
def yX3_joins : MethodName := ⟨RX3, "joins", "(II)V"⟩
def dkwX3_joins_1 : List UInt8 := [160, 0, 7, 27, 167, 0, 9, 42, 180, 0, 49, 29, 46, 79, 132, 3, 1, 167, 255, 219, 177]
abbrev dktX3_joins_1 : List UInt8 := dkwX3_joins_1 ++ []
def dkwX3_joins_0 : List UInt8 := [3, 62, 29, 42, 180, 0, 78, 162, 0, 35, 42, 180, 0, 49, 29, 42, 180, 0, 49, 29, 46, 28]
abbrev dktX3_joins_0 : List UInt8 := dkwX3_joins_0 ++ dktX3_joins_1
theorem dksX3_joins_0 : cX3_joins.data.toList.drop 0 = dktX3_joins_0 := by decide +kernel
theorem dksX3_joins_1 : cX3_joins.data.toList.drop 22 = dktX3_joins_1 := dk_seg dksX3_joins_0 22 rfl rfl
theorem dX3_joins_0 : decode cX3_joins 0 = .ok (.iconst 0, 1) := dk_3 (dk_at dksX3_joins_0 0 rfl rfl)
theorem dX3_joins_1 : decode cX3_joins 1 = .ok (.istore_n 3, 1) := dk_62 (dk_at dksX3_joins_0 1 rfl rfl)
theorem dX3_joins_2 : decode cX3_joins 2 = .ok (.iload_n 3, 1) := dk_29 (dk_at dksX3_joins_0 2 rfl rfl)
theorem dX3_joins_3 : decode cX3_joins 3 = .ok (.aload_n 0, 1) := dk_42 (dk_at dksX3_joins_0 3 rfl rfl)
theorem dX3_joins_4 : decode cX3_joins 4 = .ok (.getfield 78, 3) := dk_180 0 78 (dk_at dksX3_joins_0 4 rfl rfl)
theorem dX3_joins_7 : decode cX3_joins 7 = .ok (.if_icmp .ge 35, 3) := dk_162 0 35 (dk_at dksX3_joins_0 7 rfl rfl)
theorem dX3_joins_10 : decode cX3_joins 10 = .ok (.aload_n 0, 1) := dk_42 (dk_at dksX3_joins_0 10 rfl rfl)
theorem dX3_joins_11 : decode cX3_joins 11 = .ok (.getfield 49, 3) := dk_180 0 49 (dk_at dksX3_joins_0 11 rfl rfl)
theorem dX3_joins_14 : decode cX3_joins 14 = .ok (.iload_n 3, 1) := dk_29 (dk_at dksX3_joins_0 14 rfl rfl)
theorem dX3_joins_15 : decode cX3_joins 15 = .ok (.aload_n 0, 1) := dk_42 (dk_at dksX3_joins_0 15 rfl rfl)
theorem dX3_joins_16 : decode cX3_joins 16 = .ok (.getfield 49, 3) := dk_180 0 49 (dk_at dksX3_joins_0 16 rfl rfl)
theorem dX3_joins_19 : decode cX3_joins 19 = .ok (.iload_n 3, 1) := dk_29 (dk_at dksX3_joins_0 19 rfl rfl)
theorem dX3_joins_20 : decode cX3_joins 20 = .ok (.iaload, 1) := dk_46 (dk_at dksX3_joins_0 20 rfl rfl)
theorem dX3_joins_21 : decode cX3_joins 21 = .ok (.iload_n 2, 1) := dk_28 (dk_at dksX3_joins_0 21 rfl rfl)
theorem dX3_joins_22 : decode cX3_joins 22 = .ok (.if_icmp .ne 7, 3) := dk_160 0 7 (dk_at dksX3_joins_1 0 rfl rfl)
theorem dX3_joins_25 : decode cX3_joins 25 = .ok (.iload_n 1, 1) := dk_27 (dk_at dksX3_joins_1 3 rfl rfl)
theorem dX3_joins_26 : decode cX3_joins 26 = .ok (.goto 9, 3) := dk_167 0 9 (dk_at dksX3_joins_1 4 rfl rfl)
theorem dX3_joins_29 : decode cX3_joins 29 = .ok (.aload_n 0, 1) := dk_42 (dk_at dksX3_joins_1 7 rfl rfl)
theorem dX3_joins_30 : decode cX3_joins 30 = .ok (.getfield 49, 3) := dk_180 0 49 (dk_at dksX3_joins_1 8 rfl rfl)
theorem dX3_joins_33 : decode cX3_joins 33 = .ok (.iload_n 3, 1) := dk_29 (dk_at dksX3_joins_1 11 rfl rfl)
theorem dX3_joins_34 : decode cX3_joins 34 = .ok (.iaload, 1) := dk_46 (dk_at dksX3_joins_1 12 rfl rfl)
theorem dX3_joins_35 : decode cX3_joins 35 = .ok (.iastore, 1) := dk_79 (dk_at dksX3_joins_1 13 rfl rfl)
theorem dX3_joins_36 : decode cX3_joins 36 = .ok (.iinc 3 1, 3) := dk_132 3 1 (dk_at dksX3_joins_1 14 rfl rfl)
theorem dX3_joins_39 : decode cX3_joins 39 = .ok (.goto (-37), 3) := dk_167 255 219 (dk_at dksX3_joins_1 17 rfl rfl)
theorem dX3_joins_42 : decode cX3_joins 42 = .ok (.return_, 1) := dk_177 (dk_at dksX3_joins_1 20 rfl rfl)
abbrev cX3_reading : ByteArray := prog_33_method_73_code
def yX3_reading : MethodName := ⟨RX3, "reading", "(I)I"⟩
def dkwX3_reading_5 : List UInt8 := [159, 0, 7, 6, 167, 0, 4, 7, 172]
abbrev dktX3_reading_5 : List UInt8 := dkwX3_reading_5 ++ []
def dkwX3_reading_4 : List UInt8 := [4, 167, 0, 29, 42, 28, 182, 0, 130, 156, 0, 7, 5, 167, 0, 17, 42, 28, 182, 0, 130, 28]
abbrev dktX3_reading_4 : List UInt8 := dkwX3_reading_4 ++ dktX3_reading_5
def dkwX3_reading_3 : List UInt8 := [104, 160, 0, 6, 16, 247, 172, 27, 4, 160, 0, 7, 28, 167, 0, 41, 42, 28, 182, 1, 64, 153, 0, 7]
abbrev dktX3_reading_3 : List UInt8 := dkwX3_reading_3 ++ dktX3_reading_4
def dkwX3_reading_2 : List UInt8 := [182, 1, 67, 153, 0, 9, 132, 2, 1, 167, 255, 227, 27, 154, 0, 5, 28, 172, 28, 5, 42, 180, 0, 78]
abbrev dktX3_reading_2 : List UInt8 := dkwX3_reading_2 ++ dktX3_reading_3
def dkwX3_reading_1 : List UInt8 := [3, 61, 28, 5, 42, 180, 0, 78, 104, 162, 0, 25, 42, 28, 182, 1, 64, 154, 0, 17, 42, 28]
abbrev dktX3_reading_1 : List UInt8 := dkwX3_reading_1 ++ dktX3_reading_2
def dkwX3_reading_0 : List UInt8 := [42, 182, 0, 162, 154, 0, 6, 16, 254, 172, 27, 133, 9, 20, 1, 73, 184, 0, 101, 154, 0, 5, 2, 172]
abbrev dktX3_reading_0 : List UInt8 := dkwX3_reading_0 ++ dktX3_reading_1
theorem dksX3_reading_0 : cX3_reading.data.toList.drop 0 = dktX3_reading_0 := by decide +kernel
theorem dksX3_reading_1 : cX3_reading.data.toList.drop 24 = dktX3_reading_1 := dk_seg dksX3_reading_0 24 rfl rfl
theorem dksX3_reading_2 : cX3_reading.data.toList.drop 46 = dktX3_reading_2 := dk_seg dksX3_reading_1 22 rfl rfl
theorem dksX3_reading_3 : cX3_reading.data.toList.drop 70 = dktX3_reading_3 := dk_seg dksX3_reading_2 24 rfl rfl
theorem dksX3_reading_4 : cX3_reading.data.toList.drop 94 = dktX3_reading_4 := dk_seg dksX3_reading_3 24 rfl rfl
theorem dksX3_reading_5 : cX3_reading.data.toList.drop 116 = dktX3_reading_5 := dk_seg dksX3_reading_4 22 rfl rfl
theorem dX3_reading_0 : decode cX3_reading 0 = .ok (.aload_n 0, 1) := dk_42 (dk_at dksX3_reading_0 0 rfl rfl)
theorem dX3_reading_1 : decode cX3_reading 1 = .ok (.invokevirtual 162, 3) := dk_182 0 162 (dk_at dksX3_reading_0 1 rfl rfl)
theorem dX3_reading_4 : decode cX3_reading 4 = .ok (.ifCond .ne 6, 3) := dk_154 0 6 (dk_at dksX3_reading_0 4 rfl rfl)
theorem dX3_reading_7 : decode cX3_reading 7 = .ok (.bipush (-2), 2) := dk_16 254 (dk_at dksX3_reading_0 7 rfl rfl)
theorem dX3_reading_9 : decode cX3_reading 9 = .ok (.ireturn, 1) := dk_172 (dk_at dksX3_reading_0 9 rfl rfl)
theorem dX3_reading_10 : decode cX3_reading 10 = .ok (.iload_n 1, 1) := dk_27 (dk_at dksX3_reading_0 10 rfl rfl)
theorem dX3_reading_11 : decode cX3_reading 11 = .ok (.i2l, 1) := dk_133 (dk_at dksX3_reading_0 11 rfl rfl)
theorem dX3_reading_12 : decode cX3_reading 12 = .ok (.lconst 0, 1) := dk_9 (dk_at dksX3_reading_0 12 rfl rfl)
theorem dX3_reading_13 : decode cX3_reading 13 = .ok (.ldc2_w 329, 3) := dk_20 1 73 (dk_at dksX3_reading_0 13 rfl rfl)
theorem dX3_reading_16 : decode cX3_reading 16 = .ok (.invokestatic 101, 3) := dk_184 0 101 (dk_at dksX3_reading_0 16 rfl rfl)
theorem dX3_reading_19 : decode cX3_reading 19 = .ok (.ifCond .ne 5, 3) := dk_154 0 5 (dk_at dksX3_reading_0 19 rfl rfl)
theorem dX3_reading_22 : decode cX3_reading 22 = .ok (.iconst (-1), 1) := dk_2 (dk_at dksX3_reading_0 22 rfl rfl)
theorem dX3_reading_23 : decode cX3_reading 23 = .ok (.ireturn, 1) := dk_172 (dk_at dksX3_reading_0 23 rfl rfl)
theorem dX3_reading_24 : decode cX3_reading 24 = .ok (.iconst 0, 1) := dk_3 (dk_at dksX3_reading_1 0 rfl rfl)
theorem dX3_reading_25 : decode cX3_reading 25 = .ok (.istore_n 2, 1) := dk_61 (dk_at dksX3_reading_1 1 rfl rfl)
theorem dX3_reading_26 : decode cX3_reading 26 = .ok (.iload_n 2, 1) := dk_28 (dk_at dksX3_reading_1 2 rfl rfl)
theorem dX3_reading_27 : decode cX3_reading 27 = .ok (.iconst 2, 1) := dk_5 (dk_at dksX3_reading_1 3 rfl rfl)
theorem dX3_reading_28 : decode cX3_reading 28 = .ok (.aload_n 0, 1) := dk_42 (dk_at dksX3_reading_1 4 rfl rfl)
theorem dX3_reading_29 : decode cX3_reading 29 = .ok (.getfield 78, 3) := dk_180 0 78 (dk_at dksX3_reading_1 5 rfl rfl)
theorem dX3_reading_32 : decode cX3_reading 32 = .ok (.imul, 1) := dk_104 (dk_at dksX3_reading_1 8 rfl rfl)
theorem dX3_reading_33 : decode cX3_reading 33 = .ok (.if_icmp .ge 25, 3) := dk_162 0 25 (dk_at dksX3_reading_1 9 rfl rfl)
theorem dX3_reading_36 : decode cX3_reading 36 = .ok (.aload_n 0, 1) := dk_42 (dk_at dksX3_reading_1 12 rfl rfl)
theorem dX3_reading_37 : decode cX3_reading 37 = .ok (.iload_n 2, 1) := dk_28 (dk_at dksX3_reading_1 13 rfl rfl)
theorem dX3_reading_38 : decode cX3_reading 38 = .ok (.invokevirtual 320, 3) := dk_182 1 64 (dk_at dksX3_reading_1 14 rfl rfl)
theorem dX3_reading_41 : decode cX3_reading 41 = .ok (.ifCond .ne 17, 3) := dk_154 0 17 (dk_at dksX3_reading_1 17 rfl rfl)
theorem dX3_reading_44 : decode cX3_reading 44 = .ok (.aload_n 0, 1) := dk_42 (dk_at dksX3_reading_1 20 rfl rfl)
theorem dX3_reading_45 : decode cX3_reading 45 = .ok (.iload_n 2, 1) := dk_28 (dk_at dksX3_reading_1 21 rfl rfl)
theorem dX3_reading_46 : decode cX3_reading 46 = .ok (.invokevirtual 323, 3) := dk_182 1 67 (dk_at dksX3_reading_2 0 rfl rfl)
theorem dX3_reading_49 : decode cX3_reading 49 = .ok (.ifCond .eq 9, 3) := dk_153 0 9 (dk_at dksX3_reading_2 3 rfl rfl)
theorem dX3_reading_52 : decode cX3_reading 52 = .ok (.iinc 2 1, 3) := dk_132 2 1 (dk_at dksX3_reading_2 6 rfl rfl)
theorem dX3_reading_55 : decode cX3_reading 55 = .ok (.goto (-29), 3) := dk_167 255 227 (dk_at dksX3_reading_2 9 rfl rfl)
theorem dX3_reading_58 : decode cX3_reading 58 = .ok (.iload_n 1, 1) := dk_27 (dk_at dksX3_reading_2 12 rfl rfl)
theorem dX3_reading_59 : decode cX3_reading 59 = .ok (.ifCond .ne 5, 3) := dk_154 0 5 (dk_at dksX3_reading_2 13 rfl rfl)
theorem dX3_reading_62 : decode cX3_reading 62 = .ok (.iload_n 2, 1) := dk_28 (dk_at dksX3_reading_2 16 rfl rfl)
theorem dX3_reading_63 : decode cX3_reading 63 = .ok (.ireturn, 1) := dk_172 (dk_at dksX3_reading_2 17 rfl rfl)
theorem dX3_reading_64 : decode cX3_reading 64 = .ok (.iload_n 2, 1) := dk_28 (dk_at dksX3_reading_2 18 rfl rfl)
theorem dX3_reading_65 : decode cX3_reading 65 = .ok (.iconst 2, 1) := dk_5 (dk_at dksX3_reading_2 19 rfl rfl)
theorem dX3_reading_66 : decode cX3_reading 66 = .ok (.aload_n 0, 1) := dk_42 (dk_at dksX3_reading_2 20 rfl rfl)
theorem dX3_reading_67 : decode cX3_reading 67 = .ok (.getfield 78, 3) := dk_180 0 78 (dk_at dksX3_reading_2 21 rfl rfl)
theorem dX3_reading_70 : decode cX3_reading 70 = .ok (.imul, 1) := dk_104 (dk_at dksX3_reading_3 0 rfl rfl)
theorem dX3_reading_71 : decode cX3_reading 71 = .ok (.if_icmp .ne 6, 3) := dk_160 0 6 (dk_at dksX3_reading_3 1 rfl rfl)
theorem dX3_reading_74 : decode cX3_reading 74 = .ok (.bipush (-9), 2) := dk_16 247 (dk_at dksX3_reading_3 4 rfl rfl)
theorem dX3_reading_76 : decode cX3_reading 76 = .ok (.ireturn, 1) := dk_172 (dk_at dksX3_reading_3 6 rfl rfl)
theorem dX3_reading_77 : decode cX3_reading 77 = .ok (.iload_n 1, 1) := dk_27 (dk_at dksX3_reading_3 7 rfl rfl)
theorem dX3_reading_78 : decode cX3_reading 78 = .ok (.iconst 1, 1) := dk_4 (dk_at dksX3_reading_3 8 rfl rfl)
theorem dX3_reading_79 : decode cX3_reading 79 = .ok (.if_icmp .ne 7, 3) := dk_160 0 7 (dk_at dksX3_reading_3 9 rfl rfl)
theorem dX3_reading_82 : decode cX3_reading 82 = .ok (.iload_n 2, 1) := dk_28 (dk_at dksX3_reading_3 12 rfl rfl)
theorem dX3_reading_83 : decode cX3_reading 83 = .ok (.goto 41, 3) := dk_167 0 41 (dk_at dksX3_reading_3 13 rfl rfl)
theorem dX3_reading_86 : decode cX3_reading 86 = .ok (.aload_n 0, 1) := dk_42 (dk_at dksX3_reading_3 16 rfl rfl)
theorem dX3_reading_87 : decode cX3_reading 87 = .ok (.iload_n 2, 1) := dk_28 (dk_at dksX3_reading_3 17 rfl rfl)
theorem dX3_reading_88 : decode cX3_reading 88 = .ok (.invokevirtual 320, 3) := dk_182 1 64 (dk_at dksX3_reading_3 18 rfl rfl)
theorem dX3_reading_91 : decode cX3_reading 91 = .ok (.ifCond .eq 7, 3) := dk_153 0 7 (dk_at dksX3_reading_3 21 rfl rfl)
theorem dX3_reading_94 : decode cX3_reading 94 = .ok (.iconst 1, 1) := dk_4 (dk_at dksX3_reading_4 0 rfl rfl)
theorem dX3_reading_95 : decode cX3_reading 95 = .ok (.goto 29, 3) := dk_167 0 29 (dk_at dksX3_reading_4 1 rfl rfl)
theorem dX3_reading_98 : decode cX3_reading 98 = .ok (.aload_n 0, 1) := dk_42 (dk_at dksX3_reading_4 4 rfl rfl)
theorem dX3_reading_99 : decode cX3_reading 99 = .ok (.iload_n 2, 1) := dk_28 (dk_at dksX3_reading_4 5 rfl rfl)
theorem dX3_reading_100 : decode cX3_reading 100 = .ok (.invokevirtual 130, 3) := dk_182 0 130 (dk_at dksX3_reading_4 6 rfl rfl)
theorem dX3_reading_103 : decode cX3_reading 103 = .ok (.ifCond .ge 7, 3) := dk_156 0 7 (dk_at dksX3_reading_4 9 rfl rfl)
theorem dX3_reading_106 : decode cX3_reading 106 = .ok (.iconst 2, 1) := dk_5 (dk_at dksX3_reading_4 12 rfl rfl)
theorem dX3_reading_107 : decode cX3_reading 107 = .ok (.goto 17, 3) := dk_167 0 17 (dk_at dksX3_reading_4 13 rfl rfl)
theorem dX3_reading_110 : decode cX3_reading 110 = .ok (.aload_n 0, 1) := dk_42 (dk_at dksX3_reading_4 16 rfl rfl)
theorem dX3_reading_111 : decode cX3_reading 111 = .ok (.iload_n 2, 1) := dk_28 (dk_at dksX3_reading_4 17 rfl rfl)
theorem dX3_reading_112 : decode cX3_reading 112 = .ok (.invokevirtual 130, 3) := dk_182 0 130 (dk_at dksX3_reading_4 18 rfl rfl)
theorem dX3_reading_115 : decode cX3_reading 115 = .ok (.iload_n 2, 1) := dk_28 (dk_at dksX3_reading_4 21 rfl rfl)
theorem dX3_reading_116 : decode cX3_reading 116 = .ok (.if_icmp .eq 7, 3) := dk_159 0 7 (dk_at dksX3_reading_5 0 rfl rfl)
theorem dX3_reading_119 : decode cX3_reading 119 = .ok (.iconst 3, 1) := dk_6 (dk_at dksX3_reading_5 3 rfl rfl)
theorem dX3_reading_120 : decode cX3_reading 120 = .ok (.goto 4, 3) := dk_167 0 4 (dk_at dksX3_reading_5 4 rfl rfl)
theorem dX3_reading_123 : decode cX3_reading 123 = .ok (.iconst 4, 1) := dk_7 (dk_at dksX3_reading_5 7 rfl rfl)
theorem dX3_reading_124 : decode cX3_reading 124 = .ok (.ireturn, 1) := dk_172 (dk_at dksX3_reading_5 8 rfl rfl)
abbrev cX3_pageOf : ByteArray := prog_33_method_74_code
def yX3_pageOf : MethodName := ⟨RX3, "pageOf", "(I)I"⟩
def dkwX3_pageOf_2 : List UInt8 := [132, 2, 1, 167, 255, 232, 16, 247, 172]
abbrev dktX3_pageOf_2 : List UInt8 := dkwX3_pageOf_2 ++ []
def dkwX3_pageOf_1 : List UInt8 := [3, 61, 28, 5, 42, 180, 0, 78, 104, 162, 0, 20, 42, 28, 182, 0, 130, 27, 160, 0, 5, 28, 172]
abbrev dktX3_pageOf_1 : List UInt8 := dkwX3_pageOf_1 ++ dktX3_pageOf_2
def dkwX3_pageOf_0 : List UInt8 := [42, 182, 0, 162, 154, 0, 6, 16, 254, 172, 27, 133, 9, 20, 0, 151, 184, 0, 101, 154, 0, 5, 2, 172]
abbrev dktX3_pageOf_0 : List UInt8 := dkwX3_pageOf_0 ++ dktX3_pageOf_1
theorem dksX3_pageOf_0 : cX3_pageOf.data.toList.drop 0 = dktX3_pageOf_0 := by decide +kernel
theorem dksX3_pageOf_1 : cX3_pageOf.data.toList.drop 24 = dktX3_pageOf_1 := dk_seg dksX3_pageOf_0 24 rfl rfl
theorem dksX3_pageOf_2 : cX3_pageOf.data.toList.drop 47 = dktX3_pageOf_2 := dk_seg dksX3_pageOf_1 23 rfl rfl
theorem dX3_pageOf_0 : decode cX3_pageOf 0 = .ok (.aload_n 0, 1) := dk_42 (dk_at dksX3_pageOf_0 0 rfl rfl)
theorem dX3_pageOf_1 : decode cX3_pageOf 1 = .ok (.invokevirtual 162, 3) := dk_182 0 162 (dk_at dksX3_pageOf_0 1 rfl rfl)
theorem dX3_pageOf_4 : decode cX3_pageOf 4 = .ok (.ifCond .ne 6, 3) := dk_154 0 6 (dk_at dksX3_pageOf_0 4 rfl rfl)
theorem dX3_pageOf_7 : decode cX3_pageOf 7 = .ok (.bipush (-2), 2) := dk_16 254 (dk_at dksX3_pageOf_0 7 rfl rfl)
theorem dX3_pageOf_9 : decode cX3_pageOf 9 = .ok (.ireturn, 1) := dk_172 (dk_at dksX3_pageOf_0 9 rfl rfl)
theorem dX3_pageOf_10 : decode cX3_pageOf 10 = .ok (.iload_n 1, 1) := dk_27 (dk_at dksX3_pageOf_0 10 rfl rfl)
theorem dX3_pageOf_11 : decode cX3_pageOf 11 = .ok (.i2l, 1) := dk_133 (dk_at dksX3_pageOf_0 11 rfl rfl)
theorem dX3_pageOf_12 : decode cX3_pageOf 12 = .ok (.lconst 0, 1) := dk_9 (dk_at dksX3_pageOf_0 12 rfl rfl)
theorem dX3_pageOf_13 : decode cX3_pageOf 13 = .ok (.ldc2_w 151, 3) := dk_20 0 151 (dk_at dksX3_pageOf_0 13 rfl rfl)
theorem dX3_pageOf_16 : decode cX3_pageOf 16 = .ok (.invokestatic 101, 3) := dk_184 0 101 (dk_at dksX3_pageOf_0 16 rfl rfl)
theorem dX3_pageOf_19 : decode cX3_pageOf 19 = .ok (.ifCond .ne 5, 3) := dk_154 0 5 (dk_at dksX3_pageOf_0 19 rfl rfl)
theorem dX3_pageOf_22 : decode cX3_pageOf 22 = .ok (.iconst (-1), 1) := dk_2 (dk_at dksX3_pageOf_0 22 rfl rfl)
theorem dX3_pageOf_23 : decode cX3_pageOf 23 = .ok (.ireturn, 1) := dk_172 (dk_at dksX3_pageOf_0 23 rfl rfl)
theorem dX3_pageOf_24 : decode cX3_pageOf 24 = .ok (.iconst 0, 1) := dk_3 (dk_at dksX3_pageOf_1 0 rfl rfl)
theorem dX3_pageOf_25 : decode cX3_pageOf 25 = .ok (.istore_n 2, 1) := dk_61 (dk_at dksX3_pageOf_1 1 rfl rfl)
theorem dX3_pageOf_26 : decode cX3_pageOf 26 = .ok (.iload_n 2, 1) := dk_28 (dk_at dksX3_pageOf_1 2 rfl rfl)
theorem dX3_pageOf_27 : decode cX3_pageOf 27 = .ok (.iconst 2, 1) := dk_5 (dk_at dksX3_pageOf_1 3 rfl rfl)
theorem dX3_pageOf_28 : decode cX3_pageOf 28 = .ok (.aload_n 0, 1) := dk_42 (dk_at dksX3_pageOf_1 4 rfl rfl)
theorem dX3_pageOf_29 : decode cX3_pageOf 29 = .ok (.getfield 78, 3) := dk_180 0 78 (dk_at dksX3_pageOf_1 5 rfl rfl)
theorem dX3_pageOf_32 : decode cX3_pageOf 32 = .ok (.imul, 1) := dk_104 (dk_at dksX3_pageOf_1 8 rfl rfl)
theorem dX3_pageOf_33 : decode cX3_pageOf 33 = .ok (.if_icmp .ge 20, 3) := dk_162 0 20 (dk_at dksX3_pageOf_1 9 rfl rfl)
theorem dX3_pageOf_36 : decode cX3_pageOf 36 = .ok (.aload_n 0, 1) := dk_42 (dk_at dksX3_pageOf_1 12 rfl rfl)
theorem dX3_pageOf_37 : decode cX3_pageOf 37 = .ok (.iload_n 2, 1) := dk_28 (dk_at dksX3_pageOf_1 13 rfl rfl)
theorem dX3_pageOf_38 : decode cX3_pageOf 38 = .ok (.invokevirtual 130, 3) := dk_182 0 130 (dk_at dksX3_pageOf_1 14 rfl rfl)
theorem dX3_pageOf_41 : decode cX3_pageOf 41 = .ok (.iload_n 1, 1) := dk_27 (dk_at dksX3_pageOf_1 17 rfl rfl)
theorem dX3_pageOf_42 : decode cX3_pageOf 42 = .ok (.if_icmp .ne 5, 3) := dk_160 0 5 (dk_at dksX3_pageOf_1 18 rfl rfl)
theorem dX3_pageOf_45 : decode cX3_pageOf 45 = .ok (.iload_n 2, 1) := dk_28 (dk_at dksX3_pageOf_1 21 rfl rfl)
theorem dX3_pageOf_46 : decode cX3_pageOf 46 = .ok (.ireturn, 1) := dk_172 (dk_at dksX3_pageOf_1 22 rfl rfl)
theorem dX3_pageOf_47 : decode cX3_pageOf 47 = .ok (.iinc 2 1, 3) := dk_132 2 1 (dk_at dksX3_pageOf_2 0 rfl rfl)
theorem dX3_pageOf_50 : decode cX3_pageOf 50 = .ok (.goto (-24), 3) := dk_167 255 232 (dk_at dksX3_pageOf_2 3 rfl rfl)
theorem dX3_pageOf_53 : decode cX3_pageOf 53 = .ok (.bipush (-9), 2) := dk_16 247 (dk_at dksX3_pageOf_2 6 rfl rfl)
theorem dX3_pageOf_55 : decode cX3_pageOf 55 = .ok (.ireturn, 1) := dk_172 (dk_at dksX3_pageOf_2 8 rfl rfl)
abbrev cX3_note : ByteArray := prog_33_method_80_code
def yX3_note : MethodName := ⟨RX3, "note", "(II)I"⟩
def dkwX3_note_6 : List UInt8 := [96, 4, 100, 42, 180, 0, 7, 16, 11, 46, 108, 46, 172]
abbrev dktX3_note_6 : List UInt8 := dkwX3_note_6 ++ []
def dkwX3_note_5 : List UInt8 := [180, 0, 7, 16, 11, 46, 112, 167, 0, 29, 42, 180, 0, 52, 21, 4, 42, 180, 0, 7, 29, 5, 96, 46]
abbrev dktX3_note_5 : List UInt8 := dkwX3_note_5 ++ dktX3_note_6
def dkwX3_note_4 : List UInt8 := [21, 4, 42, 180, 0, 7, 16, 11, 46, 108, 46, 167, 0, 47, 28, 8, 160, 0, 16, 21, 4, 42]
abbrev dktX3_note_4 : List UInt8 := dkwX3_note_4 ++ dktX3_note_5
def dkwX3_note_3 : List UInt8 := [180, 0, 55, 27, 46, 54, 4, 21, 4, 156, 0, 6, 16, 247, 172, 28, 7, 160, 0, 21, 42, 180, 0, 52]
abbrev dktX3_note_3 : List UInt8 := dkwX3_note_3 ++ dktX3_note_4
def dkwX3_note_2 : List UInt8 := [180, 0, 7, 29, 28, 96, 46, 172, 42, 182, 0, 162, 154, 0, 6, 16, 247, 172, 42, 182, 1, 91, 42]
abbrev dktX3_note_2 : List UInt8 := dkwX3_note_2 ++ dktX3_note_3
def dkwX3_note_1 : List UInt8 := [20, 1, 94, 184, 0, 101, 154, 0, 5, 2, 172, 16, 38, 7, 27, 104, 96, 62, 28, 7, 162, 0, 12, 42]
abbrev dktX3_note_1 : List UInt8 := dkwX3_note_1 ++ dktX3_note_2
def dkwX3_note_0 : List UInt8 := [27, 133, 9, 42, 180, 0, 7, 16, 37, 46, 4, 100, 133, 184, 0, 101, 153, 0, 15, 28, 133, 9]
abbrev dktX3_note_0 : List UInt8 := dkwX3_note_0 ++ dktX3_note_1
theorem dksX3_note_0 : cX3_note.data.toList.drop 0 = dktX3_note_0 := by decide +kernel
theorem dksX3_note_1 : cX3_note.data.toList.drop 22 = dktX3_note_1 := dk_seg dksX3_note_0 22 rfl rfl
theorem dksX3_note_2 : cX3_note.data.toList.drop 46 = dktX3_note_2 := dk_seg dksX3_note_1 24 rfl rfl
theorem dksX3_note_3 : cX3_note.data.toList.drop 69 = dktX3_note_3 := dk_seg dksX3_note_2 23 rfl rfl
theorem dksX3_note_4 : cX3_note.data.toList.drop 93 = dktX3_note_4 := dk_seg dksX3_note_3 24 rfl rfl
theorem dksX3_note_5 : cX3_note.data.toList.drop 115 = dktX3_note_5 := dk_seg dksX3_note_4 22 rfl rfl
theorem dksX3_note_6 : cX3_note.data.toList.drop 139 = dktX3_note_6 := dk_seg dksX3_note_5 24 rfl rfl
theorem dX3_note_0 : decode cX3_note 0 = .ok (.iload_n 1, 1) := dk_27 (dk_at dksX3_note_0 0 rfl rfl)
theorem dX3_note_1 : decode cX3_note 1 = .ok (.i2l, 1) := dk_133 (dk_at dksX3_note_0 1 rfl rfl)
theorem dX3_note_2 : decode cX3_note 2 = .ok (.lconst 0, 1) := dk_9 (dk_at dksX3_note_0 2 rfl rfl)
theorem dX3_note_3 : decode cX3_note 3 = .ok (.aload_n 0, 1) := dk_42 (dk_at dksX3_note_0 3 rfl rfl)
theorem dX3_note_4 : decode cX3_note 4 = .ok (.getfield 7, 3) := dk_180 0 7 (dk_at dksX3_note_0 4 rfl rfl)
theorem dX3_note_7 : decode cX3_note 7 = .ok (.bipush 37, 2) := dk_16 37 (dk_at dksX3_note_0 7 rfl rfl)
theorem dX3_note_9 : decode cX3_note 9 = .ok (.iaload, 1) := dk_46 (dk_at dksX3_note_0 9 rfl rfl)
theorem dX3_note_10 : decode cX3_note 10 = .ok (.iconst 1, 1) := dk_4 (dk_at dksX3_note_0 10 rfl rfl)
theorem dX3_note_11 : decode cX3_note 11 = .ok (.isub, 1) := dk_100 (dk_at dksX3_note_0 11 rfl rfl)
theorem dX3_note_12 : decode cX3_note 12 = .ok (.i2l, 1) := dk_133 (dk_at dksX3_note_0 12 rfl rfl)
theorem dX3_note_13 : decode cX3_note 13 = .ok (.invokestatic 101, 3) := dk_184 0 101 (dk_at dksX3_note_0 13 rfl rfl)
theorem dX3_note_16 : decode cX3_note 16 = .ok (.ifCond .eq 15, 3) := dk_153 0 15 (dk_at dksX3_note_0 16 rfl rfl)
theorem dX3_note_19 : decode cX3_note 19 = .ok (.iload_n 2, 1) := dk_28 (dk_at dksX3_note_0 19 rfl rfl)
theorem dX3_note_20 : decode cX3_note 20 = .ok (.i2l, 1) := dk_133 (dk_at dksX3_note_0 20 rfl rfl)
theorem dX3_note_21 : decode cX3_note 21 = .ok (.lconst 0, 1) := dk_9 (dk_at dksX3_note_0 21 rfl rfl)
theorem dX3_note_22 : decode cX3_note 22 = .ok (.ldc2_w 350, 3) := dk_20 1 94 (dk_at dksX3_note_1 0 rfl rfl)
theorem dX3_note_25 : decode cX3_note 25 = .ok (.invokestatic 101, 3) := dk_184 0 101 (dk_at dksX3_note_1 3 rfl rfl)
theorem dX3_note_28 : decode cX3_note 28 = .ok (.ifCond .ne 5, 3) := dk_154 0 5 (dk_at dksX3_note_1 6 rfl rfl)
theorem dX3_note_31 : decode cX3_note 31 = .ok (.iconst (-1), 1) := dk_2 (dk_at dksX3_note_1 9 rfl rfl)
theorem dX3_note_32 : decode cX3_note 32 = .ok (.ireturn, 1) := dk_172 (dk_at dksX3_note_1 10 rfl rfl)
theorem dX3_note_33 : decode cX3_note 33 = .ok (.bipush 38, 2) := dk_16 38 (dk_at dksX3_note_1 11 rfl rfl)
theorem dX3_note_35 : decode cX3_note 35 = .ok (.iconst 4, 1) := dk_7 (dk_at dksX3_note_1 13 rfl rfl)
theorem dX3_note_36 : decode cX3_note 36 = .ok (.iload_n 1, 1) := dk_27 (dk_at dksX3_note_1 14 rfl rfl)
theorem dX3_note_37 : decode cX3_note 37 = .ok (.imul, 1) := dk_104 (dk_at dksX3_note_1 15 rfl rfl)
theorem dX3_note_38 : decode cX3_note 38 = .ok (.iadd, 1) := dk_96 (dk_at dksX3_note_1 16 rfl rfl)
theorem dX3_note_39 : decode cX3_note 39 = .ok (.istore_n 3, 1) := dk_62 (dk_at dksX3_note_1 17 rfl rfl)
theorem dX3_note_40 : decode cX3_note 40 = .ok (.iload_n 2, 1) := dk_28 (dk_at dksX3_note_1 18 rfl rfl)
theorem dX3_note_41 : decode cX3_note 41 = .ok (.iconst 4, 1) := dk_7 (dk_at dksX3_note_1 19 rfl rfl)
theorem dX3_note_42 : decode cX3_note 42 = .ok (.if_icmp .ge 12, 3) := dk_162 0 12 (dk_at dksX3_note_1 20 rfl rfl)
theorem dX3_note_45 : decode cX3_note 45 = .ok (.aload_n 0, 1) := dk_42 (dk_at dksX3_note_1 23 rfl rfl)
theorem dX3_note_46 : decode cX3_note 46 = .ok (.getfield 7, 3) := dk_180 0 7 (dk_at dksX3_note_2 0 rfl rfl)
theorem dX3_note_49 : decode cX3_note 49 = .ok (.iload_n 3, 1) := dk_29 (dk_at dksX3_note_2 3 rfl rfl)
theorem dX3_note_50 : decode cX3_note 50 = .ok (.iload_n 2, 1) := dk_28 (dk_at dksX3_note_2 4 rfl rfl)
theorem dX3_note_51 : decode cX3_note 51 = .ok (.iadd, 1) := dk_96 (dk_at dksX3_note_2 5 rfl rfl)
theorem dX3_note_52 : decode cX3_note 52 = .ok (.iaload, 1) := dk_46 (dk_at dksX3_note_2 6 rfl rfl)
theorem dX3_note_53 : decode cX3_note 53 = .ok (.ireturn, 1) := dk_172 (dk_at dksX3_note_2 7 rfl rfl)
theorem dX3_note_54 : decode cX3_note 54 = .ok (.aload_n 0, 1) := dk_42 (dk_at dksX3_note_2 8 rfl rfl)
theorem dX3_note_55 : decode cX3_note 55 = .ok (.invokevirtual 162, 3) := dk_182 0 162 (dk_at dksX3_note_2 9 rfl rfl)
theorem dX3_note_58 : decode cX3_note 58 = .ok (.ifCond .ne 6, 3) := dk_154 0 6 (dk_at dksX3_note_2 12 rfl rfl)
theorem dX3_note_61 : decode cX3_note 61 = .ok (.bipush (-9), 2) := dk_16 247 (dk_at dksX3_note_2 15 rfl rfl)
theorem dX3_note_63 : decode cX3_note 63 = .ok (.ireturn, 1) := dk_172 (dk_at dksX3_note_2 17 rfl rfl)
theorem dX3_note_64 : decode cX3_note 64 = .ok (.aload_n 0, 1) := dk_42 (dk_at dksX3_note_2 18 rfl rfl)
theorem dX3_note_65 : decode cX3_note 65 = .ok (.invokevirtual 347, 3) := dk_182 1 91 (dk_at dksX3_note_2 19 rfl rfl)
theorem dX3_note_68 : decode cX3_note 68 = .ok (.aload_n 0, 1) := dk_42 (dk_at dksX3_note_2 22 rfl rfl)
theorem dX3_note_69 : decode cX3_note 69 = .ok (.getfield 55, 3) := dk_180 0 55 (dk_at dksX3_note_3 0 rfl rfl)
theorem dX3_note_72 : decode cX3_note 72 = .ok (.iload_n 1, 1) := dk_27 (dk_at dksX3_note_3 3 rfl rfl)
theorem dX3_note_73 : decode cX3_note 73 = .ok (.iaload, 1) := dk_46 (dk_at dksX3_note_3 4 rfl rfl)
theorem dX3_note_74 : decode cX3_note 74 = .ok (.istore 4, 2) := dk_54 4 (dk_at dksX3_note_3 5 rfl rfl)
theorem dX3_note_76 : decode cX3_note 76 = .ok (.iload 4, 2) := dk_21 4 (dk_at dksX3_note_3 7 rfl rfl)
theorem dX3_note_78 : decode cX3_note 78 = .ok (.ifCond .ge 6, 3) := dk_156 0 6 (dk_at dksX3_note_3 9 rfl rfl)
theorem dX3_note_81 : decode cX3_note 81 = .ok (.bipush (-9), 2) := dk_16 247 (dk_at dksX3_note_3 12 rfl rfl)
theorem dX3_note_83 : decode cX3_note 83 = .ok (.ireturn, 1) := dk_172 (dk_at dksX3_note_3 14 rfl rfl)
theorem dX3_note_84 : decode cX3_note 84 = .ok (.iload_n 2, 1) := dk_28 (dk_at dksX3_note_3 15 rfl rfl)
theorem dX3_note_85 : decode cX3_note 85 = .ok (.iconst 4, 1) := dk_7 (dk_at dksX3_note_3 16 rfl rfl)
theorem dX3_note_86 : decode cX3_note 86 = .ok (.if_icmp .ne 21, 3) := dk_160 0 21 (dk_at dksX3_note_3 17 rfl rfl)
theorem dX3_note_89 : decode cX3_note 89 = .ok (.aload_n 0, 1) := dk_42 (dk_at dksX3_note_3 20 rfl rfl)
theorem dX3_note_90 : decode cX3_note 90 = .ok (.getfield 52, 3) := dk_180 0 52 (dk_at dksX3_note_3 21 rfl rfl)
theorem dX3_note_93 : decode cX3_note 93 = .ok (.iload 4, 2) := dk_21 4 (dk_at dksX3_note_4 0 rfl rfl)
theorem dX3_note_95 : decode cX3_note 95 = .ok (.aload_n 0, 1) := dk_42 (dk_at dksX3_note_4 2 rfl rfl)
theorem dX3_note_96 : decode cX3_note 96 = .ok (.getfield 7, 3) := dk_180 0 7 (dk_at dksX3_note_4 3 rfl rfl)
theorem dX3_note_99 : decode cX3_note 99 = .ok (.bipush 11, 2) := dk_16 11 (dk_at dksX3_note_4 6 rfl rfl)
theorem dX3_note_101 : decode cX3_note 101 = .ok (.iaload, 1) := dk_46 (dk_at dksX3_note_4 8 rfl rfl)
theorem dX3_note_102 : decode cX3_note 102 = .ok (.idiv, 1) := dk_108 (dk_at dksX3_note_4 9 rfl rfl)
theorem dX3_note_103 : decode cX3_note 103 = .ok (.iaload, 1) := dk_46 (dk_at dksX3_note_4 10 rfl rfl)
theorem dX3_note_104 : decode cX3_note 104 = .ok (.goto 47, 3) := dk_167 0 47 (dk_at dksX3_note_4 11 rfl rfl)
theorem dX3_note_107 : decode cX3_note 107 = .ok (.iload_n 2, 1) := dk_28 (dk_at dksX3_note_4 14 rfl rfl)
theorem dX3_note_108 : decode cX3_note 108 = .ok (.iconst 5, 1) := dk_8 (dk_at dksX3_note_4 15 rfl rfl)
theorem dX3_note_109 : decode cX3_note 109 = .ok (.if_icmp .ne 16, 3) := dk_160 0 16 (dk_at dksX3_note_4 16 rfl rfl)
theorem dX3_note_112 : decode cX3_note 112 = .ok (.iload 4, 2) := dk_21 4 (dk_at dksX3_note_4 19 rfl rfl)
theorem dX3_note_114 : decode cX3_note 114 = .ok (.aload_n 0, 1) := dk_42 (dk_at dksX3_note_4 21 rfl rfl)
theorem dX3_note_115 : decode cX3_note 115 = .ok (.getfield 7, 3) := dk_180 0 7 (dk_at dksX3_note_5 0 rfl rfl)
theorem dX3_note_118 : decode cX3_note 118 = .ok (.bipush 11, 2) := dk_16 11 (dk_at dksX3_note_5 3 rfl rfl)
theorem dX3_note_120 : decode cX3_note 120 = .ok (.iaload, 1) := dk_46 (dk_at dksX3_note_5 5 rfl rfl)
theorem dX3_note_121 : decode cX3_note 121 = .ok (.irem, 1) := dk_112 (dk_at dksX3_note_5 6 rfl rfl)
theorem dX3_note_122 : decode cX3_note 122 = .ok (.goto 29, 3) := dk_167 0 29 (dk_at dksX3_note_5 7 rfl rfl)
theorem dX3_note_125 : decode cX3_note 125 = .ok (.aload_n 0, 1) := dk_42 (dk_at dksX3_note_5 10 rfl rfl)
theorem dX3_note_126 : decode cX3_note 126 = .ok (.getfield 52, 3) := dk_180 0 52 (dk_at dksX3_note_5 11 rfl rfl)
theorem dX3_note_129 : decode cX3_note 129 = .ok (.iload 4, 2) := dk_21 4 (dk_at dksX3_note_5 14 rfl rfl)
theorem dX3_note_131 : decode cX3_note 131 = .ok (.aload_n 0, 1) := dk_42 (dk_at dksX3_note_5 16 rfl rfl)
theorem dX3_note_132 : decode cX3_note 132 = .ok (.getfield 7, 3) := dk_180 0 7 (dk_at dksX3_note_5 17 rfl rfl)
theorem dX3_note_135 : decode cX3_note 135 = .ok (.iload_n 3, 1) := dk_29 (dk_at dksX3_note_5 20 rfl rfl)
theorem dX3_note_136 : decode cX3_note 136 = .ok (.iconst 2, 1) := dk_5 (dk_at dksX3_note_5 21 rfl rfl)
theorem dX3_note_137 : decode cX3_note 137 = .ok (.iadd, 1) := dk_96 (dk_at dksX3_note_5 22 rfl rfl)
theorem dX3_note_138 : decode cX3_note 138 = .ok (.iaload, 1) := dk_46 (dk_at dksX3_note_5 23 rfl rfl)
theorem dX3_note_139 : decode cX3_note 139 = .ok (.iadd, 1) := dk_96 (dk_at dksX3_note_6 0 rfl rfl)
theorem dX3_note_140 : decode cX3_note 140 = .ok (.iconst 1, 1) := dk_4 (dk_at dksX3_note_6 1 rfl rfl)
theorem dX3_note_141 : decode cX3_note 141 = .ok (.isub, 1) := dk_100 (dk_at dksX3_note_6 2 rfl rfl)
theorem dX3_note_142 : decode cX3_note 142 = .ok (.aload_n 0, 1) := dk_42 (dk_at dksX3_note_6 3 rfl rfl)
theorem dX3_note_143 : decode cX3_note 143 = .ok (.getfield 7, 3) := dk_180 0 7 (dk_at dksX3_note_6 4 rfl rfl)
theorem dX3_note_146 : decode cX3_note 146 = .ok (.bipush 11, 2) := dk_16 11 (dk_at dksX3_note_6 7 rfl rfl)
theorem dX3_note_148 : decode cX3_note 148 = .ok (.iaload, 1) := dk_46 (dk_at dksX3_note_6 9 rfl rfl)
theorem dX3_note_149 : decode cX3_note 149 = .ok (.idiv, 1) := dk_108 (dk_at dksX3_note_6 10 rfl rfl)
theorem dX3_note_150 : decode cX3_note 150 = .ok (.iaload, 1) := dk_46 (dk_at dksX3_note_6 11 rfl rfl)
theorem dX3_note_151 : decode cX3_note 151 = .ok (.ireturn, 1) := dk_172 (dk_at dksX3_note_6 12 rfl rfl)
abbrev cX3_index : ByteArray := prog_33_method_82_code
def yX3_index : MethodName := ⟨RX3, "index", "(II)I"⟩
def dkwX3_index_3 : List UInt8 := [21, 5, 155, 0, 7, 4, 167, 0, 4, 3, 100, 62, 132, 4, 1, 167, 255, 204, 16, 247, 172]
abbrev dktX3_index_3 : List UInt8 := dkwX3_index_3 ++ []
def dkwX3_index_2 : List UInt8 := [54, 5, 21, 5, 155, 0, 19, 29, 154, 0, 15, 28, 154, 0, 8, 21, 4, 167, 0, 5, 21, 5, 172, 29]
abbrev dktX3_index_2 : List UInt8 := dkwX3_index_2 ++ dktX3_index_3
def dkwX3_index_1 : List UInt8 := [2, 172, 42, 182, 1, 91, 27, 62, 3, 54, 4, 21, 4, 16, 100, 162, 0, 51, 42, 21, 4, 182, 1, 96]
abbrev dktX3_index_1 : List UInt8 := dkwX3_index_1 ++ dktX3_index_2
def dkwX3_index_0 : List UInt8 := [42, 182, 0, 162, 154, 0, 6, 16, 254, 172, 27, 155, 0, 13, 28, 133, 9, 10, 184, 0, 101, 154, 0, 5]
abbrev dktX3_index_0 : List UInt8 := dkwX3_index_0 ++ dktX3_index_1
theorem dksX3_index_0 : cX3_index.data.toList.drop 0 = dktX3_index_0 := by decide +kernel
theorem dksX3_index_1 : cX3_index.data.toList.drop 24 = dktX3_index_1 := dk_seg dksX3_index_0 24 rfl rfl
theorem dksX3_index_2 : cX3_index.data.toList.drop 48 = dktX3_index_2 := dk_seg dksX3_index_1 24 rfl rfl
theorem dksX3_index_3 : cX3_index.data.toList.drop 72 = dktX3_index_3 := dk_seg dksX3_index_2 24 rfl rfl
theorem dX3_index_0 : decode cX3_index 0 = .ok (.aload_n 0, 1) := dk_42 (dk_at dksX3_index_0 0 rfl rfl)
theorem dX3_index_1 : decode cX3_index 1 = .ok (.invokevirtual 162, 3) := dk_182 0 162 (dk_at dksX3_index_0 1 rfl rfl)
theorem dX3_index_4 : decode cX3_index 4 = .ok (.ifCond .ne 6, 3) := dk_154 0 6 (dk_at dksX3_index_0 4 rfl rfl)
theorem dX3_index_7 : decode cX3_index 7 = .ok (.bipush (-2), 2) := dk_16 254 (dk_at dksX3_index_0 7 rfl rfl)
theorem dX3_index_9 : decode cX3_index 9 = .ok (.ireturn, 1) := dk_172 (dk_at dksX3_index_0 9 rfl rfl)
theorem dX3_index_10 : decode cX3_index 10 = .ok (.iload_n 1, 1) := dk_27 (dk_at dksX3_index_0 10 rfl rfl)
theorem dX3_index_11 : decode cX3_index 11 = .ok (.ifCond .lt 13, 3) := dk_155 0 13 (dk_at dksX3_index_0 11 rfl rfl)
theorem dX3_index_14 : decode cX3_index 14 = .ok (.iload_n 2, 1) := dk_28 (dk_at dksX3_index_0 14 rfl rfl)
theorem dX3_index_15 : decode cX3_index 15 = .ok (.i2l, 1) := dk_133 (dk_at dksX3_index_0 15 rfl rfl)
theorem dX3_index_16 : decode cX3_index 16 = .ok (.lconst 0, 1) := dk_9 (dk_at dksX3_index_0 16 rfl rfl)
theorem dX3_index_17 : decode cX3_index 17 = .ok (.lconst 1, 1) := dk_10 (dk_at dksX3_index_0 17 rfl rfl)
theorem dX3_index_18 : decode cX3_index 18 = .ok (.invokestatic 101, 3) := dk_184 0 101 (dk_at dksX3_index_0 18 rfl rfl)
theorem dX3_index_21 : decode cX3_index 21 = .ok (.ifCond .ne 5, 3) := dk_154 0 5 (dk_at dksX3_index_0 21 rfl rfl)
theorem dX3_index_24 : decode cX3_index 24 = .ok (.iconst (-1), 1) := dk_2 (dk_at dksX3_index_1 0 rfl rfl)
theorem dX3_index_25 : decode cX3_index 25 = .ok (.ireturn, 1) := dk_172 (dk_at dksX3_index_1 1 rfl rfl)
theorem dX3_index_26 : decode cX3_index 26 = .ok (.aload_n 0, 1) := dk_42 (dk_at dksX3_index_1 2 rfl rfl)
theorem dX3_index_27 : decode cX3_index 27 = .ok (.invokevirtual 347, 3) := dk_182 1 91 (dk_at dksX3_index_1 3 rfl rfl)
theorem dX3_index_30 : decode cX3_index 30 = .ok (.iload_n 1, 1) := dk_27 (dk_at dksX3_index_1 6 rfl rfl)
theorem dX3_index_31 : decode cX3_index 31 = .ok (.istore_n 3, 1) := dk_62 (dk_at dksX3_index_1 7 rfl rfl)
theorem dX3_index_32 : decode cX3_index 32 = .ok (.iconst 0, 1) := dk_3 (dk_at dksX3_index_1 8 rfl rfl)
theorem dX3_index_33 : decode cX3_index 33 = .ok (.istore 4, 2) := dk_54 4 (dk_at dksX3_index_1 9 rfl rfl)
theorem dX3_index_35 : decode cX3_index 35 = .ok (.iload 4, 2) := dk_21 4 (dk_at dksX3_index_1 11 rfl rfl)
theorem dX3_index_37 : decode cX3_index 37 = .ok (.bipush 100, 2) := dk_16 100 (dk_at dksX3_index_1 13 rfl rfl)
theorem dX3_index_39 : decode cX3_index 39 = .ok (.if_icmp .ge 51, 3) := dk_162 0 51 (dk_at dksX3_index_1 15 rfl rfl)
theorem dX3_index_42 : decode cX3_index 42 = .ok (.aload_n 0, 1) := dk_42 (dk_at dksX3_index_1 18 rfl rfl)
theorem dX3_index_43 : decode cX3_index 43 = .ok (.iload 4, 2) := dk_21 4 (dk_at dksX3_index_1 19 rfl rfl)
theorem dX3_index_45 : decode cX3_index 45 = .ok (.invokevirtual 352, 3) := dk_182 1 96 (dk_at dksX3_index_1 21 rfl rfl)
theorem dX3_index_48 : decode cX3_index 48 = .ok (.istore 5, 2) := dk_54 5 (dk_at dksX3_index_2 0 rfl rfl)
theorem dX3_index_50 : decode cX3_index 50 = .ok (.iload 5, 2) := dk_21 5 (dk_at dksX3_index_2 2 rfl rfl)
theorem dX3_index_52 : decode cX3_index 52 = .ok (.ifCond .lt 19, 3) := dk_155 0 19 (dk_at dksX3_index_2 4 rfl rfl)
theorem dX3_index_55 : decode cX3_index 55 = .ok (.iload_n 3, 1) := dk_29 (dk_at dksX3_index_2 7 rfl rfl)
theorem dX3_index_56 : decode cX3_index 56 = .ok (.ifCond .ne 15, 3) := dk_154 0 15 (dk_at dksX3_index_2 8 rfl rfl)
theorem dX3_index_59 : decode cX3_index 59 = .ok (.iload_n 2, 1) := dk_28 (dk_at dksX3_index_2 11 rfl rfl)
theorem dX3_index_60 : decode cX3_index 60 = .ok (.ifCond .ne 8, 3) := dk_154 0 8 (dk_at dksX3_index_2 12 rfl rfl)
theorem dX3_index_63 : decode cX3_index 63 = .ok (.iload 4, 2) := dk_21 4 (dk_at dksX3_index_2 15 rfl rfl)
theorem dX3_index_65 : decode cX3_index 65 = .ok (.goto 5, 3) := dk_167 0 5 (dk_at dksX3_index_2 17 rfl rfl)
theorem dX3_index_68 : decode cX3_index 68 = .ok (.iload 5, 2) := dk_21 5 (dk_at dksX3_index_2 20 rfl rfl)
theorem dX3_index_70 : decode cX3_index 70 = .ok (.ireturn, 1) := dk_172 (dk_at dksX3_index_2 22 rfl rfl)
theorem dX3_index_71 : decode cX3_index 71 = .ok (.iload_n 3, 1) := dk_29 (dk_at dksX3_index_2 23 rfl rfl)
theorem dX3_index_72 : decode cX3_index 72 = .ok (.iload 5, 2) := dk_21 5 (dk_at dksX3_index_3 0 rfl rfl)
theorem dX3_index_74 : decode cX3_index 74 = .ok (.ifCond .lt 7, 3) := dk_155 0 7 (dk_at dksX3_index_3 2 rfl rfl)
theorem dX3_index_77 : decode cX3_index 77 = .ok (.iconst 1, 1) := dk_4 (dk_at dksX3_index_3 5 rfl rfl)
theorem dX3_index_78 : decode cX3_index 78 = .ok (.goto 4, 3) := dk_167 0 4 (dk_at dksX3_index_3 6 rfl rfl)
theorem dX3_index_81 : decode cX3_index 81 = .ok (.iconst 0, 1) := dk_3 (dk_at dksX3_index_3 9 rfl rfl)
theorem dX3_index_82 : decode cX3_index 82 = .ok (.isub, 1) := dk_100 (dk_at dksX3_index_3 10 rfl rfl)
theorem dX3_index_83 : decode cX3_index 83 = .ok (.istore_n 3, 1) := dk_62 (dk_at dksX3_index_3 11 rfl rfl)
theorem dX3_index_84 : decode cX3_index 84 = .ok (.iinc 4 1, 3) := dk_132 4 1 (dk_at dksX3_index_3 12 rfl rfl)
theorem dX3_index_87 : decode cX3_index 87 = .ok (.goto (-52), 3) := dk_167 255 204 (dk_at dksX3_index_3 15 rfl rfl)
theorem dX3_index_90 : decode cX3_index 90 = .ok (.bipush (-9), 2) := dk_16 247 (dk_at dksX3_index_3 18 rfl rfl)
theorem dX3_index_92 : decode cX3_index 92 = .ok (.ireturn, 1) := dk_172 (dk_at dksX3_index_3 20 rfl rfl)
abbrev cX3_pageBy : ByteArray := prog_33_method_81_code
def yX3_pageBy : MethodName := ⟨RX3, "pageBy", "(I)I"⟩
def dkwX3_pageBy_3 : List UInt8 := [167, 0, 4, 28, 61, 132, 3, 1, 167, 255, 180, 28, 172]
abbrev dktX3_pageBy_3 : List UInt8 := dkwX3_pageBy_3 ++ []
def dkwX3_pageBy_2 : List UInt8 := [46, 42, 180, 0, 7, 16, 11, 46, 108, 46, 54, 4, 28, 155, 0, 9, 21, 4, 28, 162, 0, 8, 21, 4]
abbrev dktX3_pageBy_2 : List UInt8 := dkwX3_pageBy_2 ++ dktX3_pageBy_3
def dkwX3_pageBy_1 : List UInt8 := [96, 46, 27, 160, 0, 50, 42, 180, 0, 55, 29, 46, 155, 0, 41, 42, 180, 0, 52, 42, 180, 0, 55, 29]
abbrev dktX3_pageBy_1 : List UInt8 := dkwX3_pageBy_1 ++ dktX3_pageBy_2
def dkwX3_pageBy_0 : List UInt8 := [2, 61, 3, 62, 29, 42, 180, 0, 7, 16, 37, 46, 162, 0, 71, 42, 180, 0, 7, 16, 38, 7, 29, 104]
abbrev dktX3_pageBy_0 : List UInt8 := dkwX3_pageBy_0 ++ dktX3_pageBy_1
theorem dksX3_pageBy_0 : cX3_pageBy.data.toList.drop 0 = dktX3_pageBy_0 := by decide +kernel
theorem dksX3_pageBy_1 : cX3_pageBy.data.toList.drop 24 = dktX3_pageBy_1 := dk_seg dksX3_pageBy_0 24 rfl rfl
theorem dksX3_pageBy_2 : cX3_pageBy.data.toList.drop 48 = dktX3_pageBy_2 := dk_seg dksX3_pageBy_1 24 rfl rfl
theorem dksX3_pageBy_3 : cX3_pageBy.data.toList.drop 72 = dktX3_pageBy_3 := dk_seg dksX3_pageBy_2 24 rfl rfl
theorem dX3_pageBy_0 : decode cX3_pageBy 0 = .ok (.iconst (-1), 1) := dk_2 (dk_at dksX3_pageBy_0 0 rfl rfl)
theorem dX3_pageBy_1 : decode cX3_pageBy 1 = .ok (.istore_n 2, 1) := dk_61 (dk_at dksX3_pageBy_0 1 rfl rfl)
theorem dX3_pageBy_2 : decode cX3_pageBy 2 = .ok (.iconst 0, 1) := dk_3 (dk_at dksX3_pageBy_0 2 rfl rfl)
theorem dX3_pageBy_3 : decode cX3_pageBy 3 = .ok (.istore_n 3, 1) := dk_62 (dk_at dksX3_pageBy_0 3 rfl rfl)
theorem dX3_pageBy_4 : decode cX3_pageBy 4 = .ok (.iload_n 3, 1) := dk_29 (dk_at dksX3_pageBy_0 4 rfl rfl)
theorem dX3_pageBy_5 : decode cX3_pageBy 5 = .ok (.aload_n 0, 1) := dk_42 (dk_at dksX3_pageBy_0 5 rfl rfl)
theorem dX3_pageBy_6 : decode cX3_pageBy 6 = .ok (.getfield 7, 3) := dk_180 0 7 (dk_at dksX3_pageBy_0 6 rfl rfl)
theorem dX3_pageBy_9 : decode cX3_pageBy 9 = .ok (.bipush 37, 2) := dk_16 37 (dk_at dksX3_pageBy_0 9 rfl rfl)
theorem dX3_pageBy_11 : decode cX3_pageBy 11 = .ok (.iaload, 1) := dk_46 (dk_at dksX3_pageBy_0 11 rfl rfl)
theorem dX3_pageBy_12 : decode cX3_pageBy 12 = .ok (.if_icmp .ge 71, 3) := dk_162 0 71 (dk_at dksX3_pageBy_0 12 rfl rfl)
theorem dX3_pageBy_15 : decode cX3_pageBy 15 = .ok (.aload_n 0, 1) := dk_42 (dk_at dksX3_pageBy_0 15 rfl rfl)
theorem dX3_pageBy_16 : decode cX3_pageBy 16 = .ok (.getfield 7, 3) := dk_180 0 7 (dk_at dksX3_pageBy_0 16 rfl rfl)
theorem dX3_pageBy_19 : decode cX3_pageBy 19 = .ok (.bipush 38, 2) := dk_16 38 (dk_at dksX3_pageBy_0 19 rfl rfl)
theorem dX3_pageBy_21 : decode cX3_pageBy 21 = .ok (.iconst 4, 1) := dk_7 (dk_at dksX3_pageBy_0 21 rfl rfl)
theorem dX3_pageBy_22 : decode cX3_pageBy 22 = .ok (.iload_n 3, 1) := dk_29 (dk_at dksX3_pageBy_0 22 rfl rfl)
theorem dX3_pageBy_23 : decode cX3_pageBy 23 = .ok (.imul, 1) := dk_104 (dk_at dksX3_pageBy_0 23 rfl rfl)
theorem dX3_pageBy_24 : decode cX3_pageBy 24 = .ok (.iadd, 1) := dk_96 (dk_at dksX3_pageBy_1 0 rfl rfl)
theorem dX3_pageBy_25 : decode cX3_pageBy 25 = .ok (.iaload, 1) := dk_46 (dk_at dksX3_pageBy_1 1 rfl rfl)
theorem dX3_pageBy_26 : decode cX3_pageBy 26 = .ok (.iload_n 1, 1) := dk_27 (dk_at dksX3_pageBy_1 2 rfl rfl)
theorem dX3_pageBy_27 : decode cX3_pageBy 27 = .ok (.if_icmp .ne 50, 3) := dk_160 0 50 (dk_at dksX3_pageBy_1 3 rfl rfl)
theorem dX3_pageBy_30 : decode cX3_pageBy 30 = .ok (.aload_n 0, 1) := dk_42 (dk_at dksX3_pageBy_1 6 rfl rfl)
theorem dX3_pageBy_31 : decode cX3_pageBy 31 = .ok (.getfield 55, 3) := dk_180 0 55 (dk_at dksX3_pageBy_1 7 rfl rfl)
theorem dX3_pageBy_34 : decode cX3_pageBy 34 = .ok (.iload_n 3, 1) := dk_29 (dk_at dksX3_pageBy_1 10 rfl rfl)
theorem dX3_pageBy_35 : decode cX3_pageBy 35 = .ok (.iaload, 1) := dk_46 (dk_at dksX3_pageBy_1 11 rfl rfl)
theorem dX3_pageBy_36 : decode cX3_pageBy 36 = .ok (.ifCond .lt 41, 3) := dk_155 0 41 (dk_at dksX3_pageBy_1 12 rfl rfl)
theorem dX3_pageBy_39 : decode cX3_pageBy 39 = .ok (.aload_n 0, 1) := dk_42 (dk_at dksX3_pageBy_1 15 rfl rfl)
theorem dX3_pageBy_40 : decode cX3_pageBy 40 = .ok (.getfield 52, 3) := dk_180 0 52 (dk_at dksX3_pageBy_1 16 rfl rfl)
theorem dX3_pageBy_43 : decode cX3_pageBy 43 = .ok (.aload_n 0, 1) := dk_42 (dk_at dksX3_pageBy_1 19 rfl rfl)
theorem dX3_pageBy_44 : decode cX3_pageBy 44 = .ok (.getfield 55, 3) := dk_180 0 55 (dk_at dksX3_pageBy_1 20 rfl rfl)
theorem dX3_pageBy_47 : decode cX3_pageBy 47 = .ok (.iload_n 3, 1) := dk_29 (dk_at dksX3_pageBy_1 23 rfl rfl)
theorem dX3_pageBy_48 : decode cX3_pageBy 48 = .ok (.iaload, 1) := dk_46 (dk_at dksX3_pageBy_2 0 rfl rfl)
theorem dX3_pageBy_49 : decode cX3_pageBy 49 = .ok (.aload_n 0, 1) := dk_42 (dk_at dksX3_pageBy_2 1 rfl rfl)
theorem dX3_pageBy_50 : decode cX3_pageBy 50 = .ok (.getfield 7, 3) := dk_180 0 7 (dk_at dksX3_pageBy_2 2 rfl rfl)
theorem dX3_pageBy_53 : decode cX3_pageBy 53 = .ok (.bipush 11, 2) := dk_16 11 (dk_at dksX3_pageBy_2 5 rfl rfl)
theorem dX3_pageBy_55 : decode cX3_pageBy 55 = .ok (.iaload, 1) := dk_46 (dk_at dksX3_pageBy_2 7 rfl rfl)
theorem dX3_pageBy_56 : decode cX3_pageBy 56 = .ok (.idiv, 1) := dk_108 (dk_at dksX3_pageBy_2 8 rfl rfl)
theorem dX3_pageBy_57 : decode cX3_pageBy 57 = .ok (.iaload, 1) := dk_46 (dk_at dksX3_pageBy_2 9 rfl rfl)
theorem dX3_pageBy_58 : decode cX3_pageBy 58 = .ok (.istore 4, 2) := dk_54 4 (dk_at dksX3_pageBy_2 10 rfl rfl)
theorem dX3_pageBy_60 : decode cX3_pageBy 60 = .ok (.iload_n 2, 1) := dk_28 (dk_at dksX3_pageBy_2 12 rfl rfl)
theorem dX3_pageBy_61 : decode cX3_pageBy 61 = .ok (.ifCond .lt 9, 3) := dk_155 0 9 (dk_at dksX3_pageBy_2 13 rfl rfl)
theorem dX3_pageBy_64 : decode cX3_pageBy 64 = .ok (.iload 4, 2) := dk_21 4 (dk_at dksX3_pageBy_2 16 rfl rfl)
theorem dX3_pageBy_66 : decode cX3_pageBy 66 = .ok (.iload_n 2, 1) := dk_28 (dk_at dksX3_pageBy_2 18 rfl rfl)
theorem dX3_pageBy_67 : decode cX3_pageBy 67 = .ok (.if_icmp .ge 8, 3) := dk_162 0 8 (dk_at dksX3_pageBy_2 19 rfl rfl)
theorem dX3_pageBy_70 : decode cX3_pageBy 70 = .ok (.iload 4, 2) := dk_21 4 (dk_at dksX3_pageBy_2 22 rfl rfl)
theorem dX3_pageBy_72 : decode cX3_pageBy 72 = .ok (.goto 4, 3) := dk_167 0 4 (dk_at dksX3_pageBy_3 0 rfl rfl)
theorem dX3_pageBy_75 : decode cX3_pageBy 75 = .ok (.iload_n 2, 1) := dk_28 (dk_at dksX3_pageBy_3 3 rfl rfl)
theorem dX3_pageBy_76 : decode cX3_pageBy 76 = .ok (.istore_n 2, 1) := dk_61 (dk_at dksX3_pageBy_3 4 rfl rfl)
theorem dX3_pageBy_77 : decode cX3_pageBy 77 = .ok (.iinc 3 1, 3) := dk_132 3 1 (dk_at dksX3_pageBy_3 5 rfl rfl)
theorem dX3_pageBy_80 : decode cX3_pageBy 80 = .ok (.goto (-76), 3) := dk_167 255 180 (dk_at dksX3_pageBy_3 8 rfl rfl)
theorem dX3_pageBy_83 : decode cX3_pageBy 83 = .ok (.iload_n 2, 1) := dk_28 (dk_at dksX3_pageBy_3 11 rfl rfl)
theorem dX3_pageBy_84 : decode cX3_pageBy 84 = .ok (.ireturn, 1) := dk_172 (dk_at dksX3_pageBy_3 12 rfl rfl)
abbrev cX3_effort : ByteArray := prog_33_method_83_code
def yX3_effort : MethodName := ⟨RX3, "effort", "(I)I"⟩
def dkwX3_effort_2 : List UInt8 := [180, 0, 7, 16, 88, 46, 96, 42, 180, 0, 7, 16, 89, 46, 96, 172]
abbrev dktX3_effort_2 : List UInt8 := dkwX3_effort_2 ++ []
def dkwX3_effort_1 : List UInt8 := [16, 86, 27, 96, 46, 167, 0, 34, 42, 180, 0, 7, 16, 86, 46, 42, 180, 0, 7, 16, 87, 46, 96, 42]
abbrev dktX3_effort_1 : List UInt8 := dkwX3_effort_1 ++ dktX3_effort_2
def dkwX3_effort_0 : List UInt8 := [27, 133, 9, 20, 0, 99, 184, 0, 101, 154, 0, 5, 2, 172, 27, 7, 162, 0, 15, 42, 180, 0, 7]
abbrev dktX3_effort_0 : List UInt8 := dkwX3_effort_0 ++ dktX3_effort_1
theorem dksX3_effort_0 : cX3_effort.data.toList.drop 0 = dktX3_effort_0 := by decide +kernel
theorem dksX3_effort_1 : cX3_effort.data.toList.drop 23 = dktX3_effort_1 := dk_seg dksX3_effort_0 23 rfl rfl
theorem dksX3_effort_2 : cX3_effort.data.toList.drop 47 = dktX3_effort_2 := dk_seg dksX3_effort_1 24 rfl rfl
theorem dX3_effort_0 : decode cX3_effort 0 = .ok (.iload_n 1, 1) := dk_27 (dk_at dksX3_effort_0 0 rfl rfl)
theorem dX3_effort_1 : decode cX3_effort 1 = .ok (.i2l, 1) := dk_133 (dk_at dksX3_effort_0 1 rfl rfl)
theorem dX3_effort_2 : decode cX3_effort 2 = .ok (.lconst 0, 1) := dk_9 (dk_at dksX3_effort_0 2 rfl rfl)
theorem dX3_effort_3 : decode cX3_effort 3 = .ok (.ldc2_w 99, 3) := dk_20 0 99 (dk_at dksX3_effort_0 3 rfl rfl)
theorem dX3_effort_6 : decode cX3_effort 6 = .ok (.invokestatic 101, 3) := dk_184 0 101 (dk_at dksX3_effort_0 6 rfl rfl)
theorem dX3_effort_9 : decode cX3_effort 9 = .ok (.ifCond .ne 5, 3) := dk_154 0 5 (dk_at dksX3_effort_0 9 rfl rfl)
theorem dX3_effort_12 : decode cX3_effort 12 = .ok (.iconst (-1), 1) := dk_2 (dk_at dksX3_effort_0 12 rfl rfl)
theorem dX3_effort_13 : decode cX3_effort 13 = .ok (.ireturn, 1) := dk_172 (dk_at dksX3_effort_0 13 rfl rfl)
theorem dX3_effort_14 : decode cX3_effort 14 = .ok (.iload_n 1, 1) := dk_27 (dk_at dksX3_effort_0 14 rfl rfl)
theorem dX3_effort_15 : decode cX3_effort 15 = .ok (.iconst 4, 1) := dk_7 (dk_at dksX3_effort_0 15 rfl rfl)
theorem dX3_effort_16 : decode cX3_effort 16 = .ok (.if_icmp .ge 15, 3) := dk_162 0 15 (dk_at dksX3_effort_0 16 rfl rfl)
theorem dX3_effort_19 : decode cX3_effort 19 = .ok (.aload_n 0, 1) := dk_42 (dk_at dksX3_effort_0 19 rfl rfl)
theorem dX3_effort_20 : decode cX3_effort 20 = .ok (.getfield 7, 3) := dk_180 0 7 (dk_at dksX3_effort_0 20 rfl rfl)
theorem dX3_effort_23 : decode cX3_effort 23 = .ok (.bipush 86, 2) := dk_16 86 (dk_at dksX3_effort_1 0 rfl rfl)
theorem dX3_effort_25 : decode cX3_effort 25 = .ok (.iload_n 1, 1) := dk_27 (dk_at dksX3_effort_1 2 rfl rfl)
theorem dX3_effort_26 : decode cX3_effort 26 = .ok (.iadd, 1) := dk_96 (dk_at dksX3_effort_1 3 rfl rfl)
theorem dX3_effort_27 : decode cX3_effort 27 = .ok (.iaload, 1) := dk_46 (dk_at dksX3_effort_1 4 rfl rfl)
theorem dX3_effort_28 : decode cX3_effort 28 = .ok (.goto 34, 3) := dk_167 0 34 (dk_at dksX3_effort_1 5 rfl rfl)
theorem dX3_effort_31 : decode cX3_effort 31 = .ok (.aload_n 0, 1) := dk_42 (dk_at dksX3_effort_1 8 rfl rfl)
theorem dX3_effort_32 : decode cX3_effort 32 = .ok (.getfield 7, 3) := dk_180 0 7 (dk_at dksX3_effort_1 9 rfl rfl)
theorem dX3_effort_35 : decode cX3_effort 35 = .ok (.bipush 86, 2) := dk_16 86 (dk_at dksX3_effort_1 12 rfl rfl)
theorem dX3_effort_37 : decode cX3_effort 37 = .ok (.iaload, 1) := dk_46 (dk_at dksX3_effort_1 14 rfl rfl)
theorem dX3_effort_38 : decode cX3_effort 38 = .ok (.aload_n 0, 1) := dk_42 (dk_at dksX3_effort_1 15 rfl rfl)
theorem dX3_effort_39 : decode cX3_effort 39 = .ok (.getfield 7, 3) := dk_180 0 7 (dk_at dksX3_effort_1 16 rfl rfl)
theorem dX3_effort_42 : decode cX3_effort 42 = .ok (.bipush 87, 2) := dk_16 87 (dk_at dksX3_effort_1 19 rfl rfl)
theorem dX3_effort_44 : decode cX3_effort 44 = .ok (.iaload, 1) := dk_46 (dk_at dksX3_effort_1 21 rfl rfl)
theorem dX3_effort_45 : decode cX3_effort 45 = .ok (.iadd, 1) := dk_96 (dk_at dksX3_effort_1 22 rfl rfl)
theorem dX3_effort_46 : decode cX3_effort 46 = .ok (.aload_n 0, 1) := dk_42 (dk_at dksX3_effort_1 23 rfl rfl)
theorem dX3_effort_47 : decode cX3_effort 47 = .ok (.getfield 7, 3) := dk_180 0 7 (dk_at dksX3_effort_2 0 rfl rfl)
theorem dX3_effort_50 : decode cX3_effort 50 = .ok (.bipush 88, 2) := dk_16 88 (dk_at dksX3_effort_2 3 rfl rfl)
theorem dX3_effort_52 : decode cX3_effort 52 = .ok (.iaload, 1) := dk_46 (dk_at dksX3_effort_2 5 rfl rfl)
theorem dX3_effort_53 : decode cX3_effort 53 = .ok (.iadd, 1) := dk_96 (dk_at dksX3_effort_2 6 rfl rfl)
theorem dX3_effort_54 : decode cX3_effort 54 = .ok (.aload_n 0, 1) := dk_42 (dk_at dksX3_effort_2 7 rfl rfl)
theorem dX3_effort_55 : decode cX3_effort 55 = .ok (.getfield 7, 3) := dk_180 0 7 (dk_at dksX3_effort_2 8 rfl rfl)
theorem dX3_effort_58 : decode cX3_effort 58 = .ok (.bipush 89, 2) := dk_16 89 (dk_at dksX3_effort_2 11 rfl rfl)
theorem dX3_effort_60 : decode cX3_effort 60 = .ok (.iaload, 1) := dk_46 (dk_at dksX3_effort_2 13 rfl rfl)
theorem dX3_effort_61 : decode cX3_effort 61 = .ok (.iadd, 1) := dk_96 (dk_at dksX3_effort_2 14 rfl rfl)
theorem dX3_effort_62 : decode cX3_effort 62 = .ok (.ireturn, 1) := dk_172 (dk_at dksX3_effort_2 15 rfl rfl)
abbrev cX3_fitting : ByteArray := prog_33_method_85_code
def yX3_fitting : MethodName := ⟨RX3, "fitting", "(I)I"⟩
def dkwX3_fitting_3 : List UInt8 := [167, 255, 211, 27, 154, 0, 7, 28, 167, 0, 14, 27, 4, 160, 0, 7, 29, 167, 0, 5, 21, 4, 172]
abbrev dktX3_fitting_3 : List UInt8 := dkwX3_fitting_3 ++ []
def dkwX3_fitting_2 : List UInt8 := [153, 0, 21, 28, 154, 0, 8, 21, 5, 167, 0, 4, 29, 62, 21, 5, 54, 4, 132, 2, 1, 132, 5, 1]
abbrev dktX3_fitting_2 : List UInt8 := dkwX3_fitting_2 ++ dktX3_fitting_3
def dkwX3_fitting_1 : List UInt8 := [54, 5, 21, 5, 17, 19, 136, 162, 0, 43, 42, 21, 5, 182, 0, 157, 153, 0, 28, 42, 182, 1, 99]
abbrev dktX3_fitting_1 : List UInt8 := dkwX3_fitting_1 ++ dktX3_fitting_2
def dkwX3_fitting_0 : List UInt8 := [27, 133, 9, 20, 1, 73, 184, 0, 101, 154, 0, 5, 2, 172, 3, 61, 16, 247, 62, 16, 247, 54, 4, 3]
abbrev dktX3_fitting_0 : List UInt8 := dkwX3_fitting_0 ++ dktX3_fitting_1
theorem dksX3_fitting_0 : cX3_fitting.data.toList.drop 0 = dktX3_fitting_0 := by decide +kernel
theorem dksX3_fitting_1 : cX3_fitting.data.toList.drop 24 = dktX3_fitting_1 := dk_seg dksX3_fitting_0 24 rfl rfl
theorem dksX3_fitting_2 : cX3_fitting.data.toList.drop 47 = dktX3_fitting_2 := dk_seg dksX3_fitting_1 23 rfl rfl
theorem dksX3_fitting_3 : cX3_fitting.data.toList.drop 71 = dktX3_fitting_3 := dk_seg dksX3_fitting_2 24 rfl rfl
theorem dX3_fitting_0 : decode cX3_fitting 0 = .ok (.iload_n 1, 1) := dk_27 (dk_at dksX3_fitting_0 0 rfl rfl)
theorem dX3_fitting_1 : decode cX3_fitting 1 = .ok (.i2l, 1) := dk_133 (dk_at dksX3_fitting_0 1 rfl rfl)
theorem dX3_fitting_2 : decode cX3_fitting 2 = .ok (.lconst 0, 1) := dk_9 (dk_at dksX3_fitting_0 2 rfl rfl)
theorem dX3_fitting_3 : decode cX3_fitting 3 = .ok (.ldc2_w 329, 3) := dk_20 1 73 (dk_at dksX3_fitting_0 3 rfl rfl)
theorem dX3_fitting_6 : decode cX3_fitting 6 = .ok (.invokestatic 101, 3) := dk_184 0 101 (dk_at dksX3_fitting_0 6 rfl rfl)
theorem dX3_fitting_9 : decode cX3_fitting 9 = .ok (.ifCond .ne 5, 3) := dk_154 0 5 (dk_at dksX3_fitting_0 9 rfl rfl)
theorem dX3_fitting_12 : decode cX3_fitting 12 = .ok (.iconst (-1), 1) := dk_2 (dk_at dksX3_fitting_0 12 rfl rfl)
theorem dX3_fitting_13 : decode cX3_fitting 13 = .ok (.ireturn, 1) := dk_172 (dk_at dksX3_fitting_0 13 rfl rfl)
theorem dX3_fitting_14 : decode cX3_fitting 14 = .ok (.iconst 0, 1) := dk_3 (dk_at dksX3_fitting_0 14 rfl rfl)
theorem dX3_fitting_15 : decode cX3_fitting 15 = .ok (.istore_n 2, 1) := dk_61 (dk_at dksX3_fitting_0 15 rfl rfl)
theorem dX3_fitting_16 : decode cX3_fitting 16 = .ok (.bipush (-9), 2) := dk_16 247 (dk_at dksX3_fitting_0 16 rfl rfl)
theorem dX3_fitting_18 : decode cX3_fitting 18 = .ok (.istore_n 3, 1) := dk_62 (dk_at dksX3_fitting_0 18 rfl rfl)
theorem dX3_fitting_19 : decode cX3_fitting 19 = .ok (.bipush (-9), 2) := dk_16 247 (dk_at dksX3_fitting_0 19 rfl rfl)
theorem dX3_fitting_21 : decode cX3_fitting 21 = .ok (.istore 4, 2) := dk_54 4 (dk_at dksX3_fitting_0 21 rfl rfl)
theorem dX3_fitting_23 : decode cX3_fitting 23 = .ok (.iconst 0, 1) := dk_3 (dk_at dksX3_fitting_0 23 rfl rfl)
theorem dX3_fitting_24 : decode cX3_fitting 24 = .ok (.istore 5, 2) := dk_54 5 (dk_at dksX3_fitting_1 0 rfl rfl)
theorem dX3_fitting_26 : decode cX3_fitting 26 = .ok (.iload 5, 2) := dk_21 5 (dk_at dksX3_fitting_1 2 rfl rfl)
theorem dX3_fitting_28 : decode cX3_fitting 28 = .ok (.sipush 5000, 3) := dk_17 19 136 (dk_at dksX3_fitting_1 4 rfl rfl)
theorem dX3_fitting_31 : decode cX3_fitting 31 = .ok (.if_icmp .ge 43, 3) := dk_162 0 43 (dk_at dksX3_fitting_1 7 rfl rfl)
theorem dX3_fitting_34 : decode cX3_fitting 34 = .ok (.aload_n 0, 1) := dk_42 (dk_at dksX3_fitting_1 10 rfl rfl)
theorem dX3_fitting_35 : decode cX3_fitting 35 = .ok (.iload 5, 2) := dk_21 5 (dk_at dksX3_fitting_1 11 rfl rfl)
theorem dX3_fitting_37 : decode cX3_fitting 37 = .ok (.invokevirtual 157, 3) := dk_182 0 157 (dk_at dksX3_fitting_1 13 rfl rfl)
theorem dX3_fitting_40 : decode cX3_fitting 40 = .ok (.ifCond .eq 28, 3) := dk_153 0 28 (dk_at dksX3_fitting_1 16 rfl rfl)
theorem dX3_fitting_43 : decode cX3_fitting 43 = .ok (.aload_n 0, 1) := dk_42 (dk_at dksX3_fitting_1 19 rfl rfl)
theorem dX3_fitting_44 : decode cX3_fitting 44 = .ok (.invokevirtual 355, 3) := dk_182 1 99 (dk_at dksX3_fitting_1 20 rfl rfl)
theorem dX3_fitting_47 : decode cX3_fitting 47 = .ok (.ifCond .eq 21, 3) := dk_153 0 21 (dk_at dksX3_fitting_2 0 rfl rfl)
theorem dX3_fitting_50 : decode cX3_fitting 50 = .ok (.iload_n 2, 1) := dk_28 (dk_at dksX3_fitting_2 3 rfl rfl)
theorem dX3_fitting_51 : decode cX3_fitting 51 = .ok (.ifCond .ne 8, 3) := dk_154 0 8 (dk_at dksX3_fitting_2 4 rfl rfl)
theorem dX3_fitting_54 : decode cX3_fitting 54 = .ok (.iload 5, 2) := dk_21 5 (dk_at dksX3_fitting_2 7 rfl rfl)
theorem dX3_fitting_56 : decode cX3_fitting 56 = .ok (.goto 4, 3) := dk_167 0 4 (dk_at dksX3_fitting_2 9 rfl rfl)
theorem dX3_fitting_59 : decode cX3_fitting 59 = .ok (.iload_n 3, 1) := dk_29 (dk_at dksX3_fitting_2 12 rfl rfl)
theorem dX3_fitting_60 : decode cX3_fitting 60 = .ok (.istore_n 3, 1) := dk_62 (dk_at dksX3_fitting_2 13 rfl rfl)
theorem dX3_fitting_61 : decode cX3_fitting 61 = .ok (.iload 5, 2) := dk_21 5 (dk_at dksX3_fitting_2 14 rfl rfl)
theorem dX3_fitting_63 : decode cX3_fitting 63 = .ok (.istore 4, 2) := dk_54 4 (dk_at dksX3_fitting_2 16 rfl rfl)
theorem dX3_fitting_65 : decode cX3_fitting 65 = .ok (.iinc 2 1, 3) := dk_132 2 1 (dk_at dksX3_fitting_2 18 rfl rfl)
theorem dX3_fitting_68 : decode cX3_fitting 68 = .ok (.iinc 5 1, 3) := dk_132 5 1 (dk_at dksX3_fitting_2 21 rfl rfl)
theorem dX3_fitting_71 : decode cX3_fitting 71 = .ok (.goto (-45), 3) := dk_167 255 211 (dk_at dksX3_fitting_3 0 rfl rfl)
theorem dX3_fitting_74 : decode cX3_fitting 74 = .ok (.iload_n 1, 1) := dk_27 (dk_at dksX3_fitting_3 3 rfl rfl)
theorem dX3_fitting_75 : decode cX3_fitting 75 = .ok (.ifCond .ne 7, 3) := dk_154 0 7 (dk_at dksX3_fitting_3 4 rfl rfl)
theorem dX3_fitting_78 : decode cX3_fitting 78 = .ok (.iload_n 2, 1) := dk_28 (dk_at dksX3_fitting_3 7 rfl rfl)
theorem dX3_fitting_79 : decode cX3_fitting 79 = .ok (.goto 14, 3) := dk_167 0 14 (dk_at dksX3_fitting_3 8 rfl rfl)
theorem dX3_fitting_82 : decode cX3_fitting 82 = .ok (.iload_n 1, 1) := dk_27 (dk_at dksX3_fitting_3 11 rfl rfl)
theorem dX3_fitting_83 : decode cX3_fitting 83 = .ok (.iconst 1, 1) := dk_4 (dk_at dksX3_fitting_3 12 rfl rfl)
theorem dX3_fitting_84 : decode cX3_fitting 84 = .ok (.if_icmp .ne 7, 3) := dk_160 0 7 (dk_at dksX3_fitting_3 13 rfl rfl)
theorem dX3_fitting_87 : decode cX3_fitting 87 = .ok (.iload_n 3, 1) := dk_29 (dk_at dksX3_fitting_3 16 rfl rfl)
theorem dX3_fitting_88 : decode cX3_fitting 88 = .ok (.goto 5, 3) := dk_167 0 5 (dk_at dksX3_fitting_3 17 rfl rfl)
theorem dX3_fitting_91 : decode cX3_fitting 91 = .ok (.iload 4, 2) := dk_21 4 (dk_at dksX3_fitting_3 20 rfl rfl)
theorem dX3_fitting_93 : decode cX3_fitting 93 = .ok (.ireturn, 1) := dk_172 (dk_at dksX3_fitting_3 22 rfl rfl)
abbrev cX3_isSeen : ByteArray := prog_33_method_84_code
def yX3_isSeen : MethodName := ⟨RX3, "isSeen", "()Z"⟩
def dkwX3_isSeen_3 : List UInt8 := [167, 0, 4, 3, 160, 0, 7, 4, 167, 0, 4, 3, 60, 132, 2, 1, 167, 255, 175, 27, 172]
abbrev dktX3_isSeen_3 : List UInt8 := dkwX3_isSeen_3 ++ []
def dkwX3_isSeen_2 : List UInt8 := [42, 42, 180, 0, 7, 29, 46, 182, 0, 133, 42, 180, 0, 7, 29, 5, 96, 46, 154, 0, 7, 4]
abbrev dktX3_isSeen_2 : List UInt8 := dkwX3_isSeen_2 ++ dktX3_isSeen_3
def dkwX3_isSeen_1 : List UInt8 := [153, 0, 57, 42, 42, 180, 0, 7, 29, 46, 182, 0, 130, 42, 180, 0, 7, 29, 4, 96, 46, 160, 0, 36]
abbrev dktX3_isSeen_1 : List UInt8 := dkwX3_isSeen_1 ++ dktX3_isSeen_2
def dkwX3_isSeen_0 : List UInt8 := [4, 60, 3, 61, 28, 42, 180, 0, 7, 16, 12, 46, 162, 0, 76, 16, 13, 6, 28, 104, 96, 62, 27]
abbrev dktX3_isSeen_0 : List UInt8 := dkwX3_isSeen_0 ++ dktX3_isSeen_1
theorem dksX3_isSeen_0 : cX3_isSeen.data.toList.drop 0 = dktX3_isSeen_0 := by decide +kernel
theorem dksX3_isSeen_1 : cX3_isSeen.data.toList.drop 23 = dktX3_isSeen_1 := dk_seg dksX3_isSeen_0 23 rfl rfl
theorem dksX3_isSeen_2 : cX3_isSeen.data.toList.drop 47 = dktX3_isSeen_2 := dk_seg dksX3_isSeen_1 24 rfl rfl
theorem dksX3_isSeen_3 : cX3_isSeen.data.toList.drop 69 = dktX3_isSeen_3 := dk_seg dksX3_isSeen_2 22 rfl rfl
theorem dX3_isSeen_0 : decode cX3_isSeen 0 = .ok (.iconst 1, 1) := dk_4 (dk_at dksX3_isSeen_0 0 rfl rfl)
theorem dX3_isSeen_1 : decode cX3_isSeen 1 = .ok (.istore_n 1, 1) := dk_60 (dk_at dksX3_isSeen_0 1 rfl rfl)
theorem dX3_isSeen_2 : decode cX3_isSeen 2 = .ok (.iconst 0, 1) := dk_3 (dk_at dksX3_isSeen_0 2 rfl rfl)
theorem dX3_isSeen_3 : decode cX3_isSeen 3 = .ok (.istore_n 2, 1) := dk_61 (dk_at dksX3_isSeen_0 3 rfl rfl)
theorem dX3_isSeen_4 : decode cX3_isSeen 4 = .ok (.iload_n 2, 1) := dk_28 (dk_at dksX3_isSeen_0 4 rfl rfl)
theorem dX3_isSeen_5 : decode cX3_isSeen 5 = .ok (.aload_n 0, 1) := dk_42 (dk_at dksX3_isSeen_0 5 rfl rfl)
theorem dX3_isSeen_6 : decode cX3_isSeen 6 = .ok (.getfield 7, 3) := dk_180 0 7 (dk_at dksX3_isSeen_0 6 rfl rfl)
theorem dX3_isSeen_9 : decode cX3_isSeen 9 = .ok (.bipush 12, 2) := dk_16 12 (dk_at dksX3_isSeen_0 9 rfl rfl)
theorem dX3_isSeen_11 : decode cX3_isSeen 11 = .ok (.iaload, 1) := dk_46 (dk_at dksX3_isSeen_0 11 rfl rfl)
theorem dX3_isSeen_12 : decode cX3_isSeen 12 = .ok (.if_icmp .ge 76, 3) := dk_162 0 76 (dk_at dksX3_isSeen_0 12 rfl rfl)
theorem dX3_isSeen_15 : decode cX3_isSeen 15 = .ok (.bipush 13, 2) := dk_16 13 (dk_at dksX3_isSeen_0 15 rfl rfl)
theorem dX3_isSeen_17 : decode cX3_isSeen 17 = .ok (.iconst 3, 1) := dk_6 (dk_at dksX3_isSeen_0 17 rfl rfl)
theorem dX3_isSeen_18 : decode cX3_isSeen 18 = .ok (.iload_n 2, 1) := dk_28 (dk_at dksX3_isSeen_0 18 rfl rfl)
theorem dX3_isSeen_19 : decode cX3_isSeen 19 = .ok (.imul, 1) := dk_104 (dk_at dksX3_isSeen_0 19 rfl rfl)
theorem dX3_isSeen_20 : decode cX3_isSeen 20 = .ok (.iadd, 1) := dk_96 (dk_at dksX3_isSeen_0 20 rfl rfl)
theorem dX3_isSeen_21 : decode cX3_isSeen 21 = .ok (.istore_n 3, 1) := dk_62 (dk_at dksX3_isSeen_0 21 rfl rfl)
theorem dX3_isSeen_22 : decode cX3_isSeen 22 = .ok (.iload_n 1, 1) := dk_27 (dk_at dksX3_isSeen_0 22 rfl rfl)
theorem dX3_isSeen_23 : decode cX3_isSeen 23 = .ok (.ifCond .eq 57, 3) := dk_153 0 57 (dk_at dksX3_isSeen_1 0 rfl rfl)
theorem dX3_isSeen_26 : decode cX3_isSeen 26 = .ok (.aload_n 0, 1) := dk_42 (dk_at dksX3_isSeen_1 3 rfl rfl)
theorem dX3_isSeen_27 : decode cX3_isSeen 27 = .ok (.aload_n 0, 1) := dk_42 (dk_at dksX3_isSeen_1 4 rfl rfl)
theorem dX3_isSeen_28 : decode cX3_isSeen 28 = .ok (.getfield 7, 3) := dk_180 0 7 (dk_at dksX3_isSeen_1 5 rfl rfl)
theorem dX3_isSeen_31 : decode cX3_isSeen 31 = .ok (.iload_n 3, 1) := dk_29 (dk_at dksX3_isSeen_1 8 rfl rfl)
theorem dX3_isSeen_32 : decode cX3_isSeen 32 = .ok (.iaload, 1) := dk_46 (dk_at dksX3_isSeen_1 9 rfl rfl)
theorem dX3_isSeen_33 : decode cX3_isSeen 33 = .ok (.invokevirtual 130, 3) := dk_182 0 130 (dk_at dksX3_isSeen_1 10 rfl rfl)
theorem dX3_isSeen_36 : decode cX3_isSeen 36 = .ok (.aload_n 0, 1) := dk_42 (dk_at dksX3_isSeen_1 13 rfl rfl)
theorem dX3_isSeen_37 : decode cX3_isSeen 37 = .ok (.getfield 7, 3) := dk_180 0 7 (dk_at dksX3_isSeen_1 14 rfl rfl)
theorem dX3_isSeen_40 : decode cX3_isSeen 40 = .ok (.iload_n 3, 1) := dk_29 (dk_at dksX3_isSeen_1 17 rfl rfl)
theorem dX3_isSeen_41 : decode cX3_isSeen 41 = .ok (.iconst 1, 1) := dk_4 (dk_at dksX3_isSeen_1 18 rfl rfl)
theorem dX3_isSeen_42 : decode cX3_isSeen 42 = .ok (.iadd, 1) := dk_96 (dk_at dksX3_isSeen_1 19 rfl rfl)
theorem dX3_isSeen_43 : decode cX3_isSeen 43 = .ok (.iaload, 1) := dk_46 (dk_at dksX3_isSeen_1 20 rfl rfl)
theorem dX3_isSeen_44 : decode cX3_isSeen 44 = .ok (.if_icmp .ne 36, 3) := dk_160 0 36 (dk_at dksX3_isSeen_1 21 rfl rfl)
theorem dX3_isSeen_47 : decode cX3_isSeen 47 = .ok (.aload_n 0, 1) := dk_42 (dk_at dksX3_isSeen_2 0 rfl rfl)
theorem dX3_isSeen_48 : decode cX3_isSeen 48 = .ok (.aload_n 0, 1) := dk_42 (dk_at dksX3_isSeen_2 1 rfl rfl)
theorem dX3_isSeen_49 : decode cX3_isSeen 49 = .ok (.getfield 7, 3) := dk_180 0 7 (dk_at dksX3_isSeen_2 2 rfl rfl)
theorem dX3_isSeen_52 : decode cX3_isSeen 52 = .ok (.iload_n 3, 1) := dk_29 (dk_at dksX3_isSeen_2 5 rfl rfl)
theorem dX3_isSeen_53 : decode cX3_isSeen 53 = .ok (.iaload, 1) := dk_46 (dk_at dksX3_isSeen_2 6 rfl rfl)
theorem dX3_isSeen_54 : decode cX3_isSeen 54 = .ok (.invokevirtual 133, 3) := dk_182 0 133 (dk_at dksX3_isSeen_2 7 rfl rfl)
theorem dX3_isSeen_57 : decode cX3_isSeen 57 = .ok (.aload_n 0, 1) := dk_42 (dk_at dksX3_isSeen_2 10 rfl rfl)
theorem dX3_isSeen_58 : decode cX3_isSeen 58 = .ok (.getfield 7, 3) := dk_180 0 7 (dk_at dksX3_isSeen_2 11 rfl rfl)
theorem dX3_isSeen_61 : decode cX3_isSeen 61 = .ok (.iload_n 3, 1) := dk_29 (dk_at dksX3_isSeen_2 14 rfl rfl)
theorem dX3_isSeen_62 : decode cX3_isSeen 62 = .ok (.iconst 2, 1) := dk_5 (dk_at dksX3_isSeen_2 15 rfl rfl)
theorem dX3_isSeen_63 : decode cX3_isSeen 63 = .ok (.iadd, 1) := dk_96 (dk_at dksX3_isSeen_2 16 rfl rfl)
theorem dX3_isSeen_64 : decode cX3_isSeen 64 = .ok (.iaload, 1) := dk_46 (dk_at dksX3_isSeen_2 17 rfl rfl)
theorem dX3_isSeen_65 : decode cX3_isSeen 65 = .ok (.ifCond .ne 7, 3) := dk_154 0 7 (dk_at dksX3_isSeen_2 18 rfl rfl)
theorem dX3_isSeen_68 : decode cX3_isSeen 68 = .ok (.iconst 1, 1) := dk_4 (dk_at dksX3_isSeen_2 21 rfl rfl)
theorem dX3_isSeen_69 : decode cX3_isSeen 69 = .ok (.goto 4, 3) := dk_167 0 4 (dk_at dksX3_isSeen_3 0 rfl rfl)
theorem dX3_isSeen_72 : decode cX3_isSeen 72 = .ok (.iconst 0, 1) := dk_3 (dk_at dksX3_isSeen_3 3 rfl rfl)
theorem dX3_isSeen_73 : decode cX3_isSeen 73 = .ok (.if_icmp .ne 7, 3) := dk_160 0 7 (dk_at dksX3_isSeen_3 4 rfl rfl)
theorem dX3_isSeen_76 : decode cX3_isSeen 76 = .ok (.iconst 1, 1) := dk_4 (dk_at dksX3_isSeen_3 7 rfl rfl)
theorem dX3_isSeen_77 : decode cX3_isSeen 77 = .ok (.goto 4, 3) := dk_167 0 4 (dk_at dksX3_isSeen_3 8 rfl rfl)
theorem dX3_isSeen_80 : decode cX3_isSeen 80 = .ok (.iconst 0, 1) := dk_3 (dk_at dksX3_isSeen_3 11 rfl rfl)
theorem dX3_isSeen_81 : decode cX3_isSeen 81 = .ok (.istore_n 1, 1) := dk_60 (dk_at dksX3_isSeen_3 12 rfl rfl)
theorem dX3_isSeen_82 : decode cX3_isSeen 82 = .ok (.iinc 2 1, 3) := dk_132 2 1 (dk_at dksX3_isSeen_3 13 rfl rfl)
theorem dX3_isSeen_85 : decode cX3_isSeen 85 = .ok (.goto (-81), 3) := dk_167 255 175 (dk_at dksX3_isSeen_3 16 rfl rfl)
theorem dX3_isSeen_88 : decode cX3_isSeen 88 = .ok (.iload_n 1, 1) := dk_27 (dk_at dksX3_isSeen_3 19 rfl rfl)
theorem dX3_isSeen_89 : decode cX3_isSeen 89 = .ok (.ireturn, 1) := dk_172 (dk_at dksX3_isSeen_3 20 rfl rfl)
abbrev cX3_readsBy : ByteArray := prog_33_method_87_code
def yX3_readsBy : MethodName := ⟨RX3, "readsBy", "(I)I"⟩
def dkwX3_readsBy_0 : List UInt8 := [42, 27, 182, 0, 157, 153, 0, 10, 42, 182, 1, 102, 167, 0, 4, 2, 172]
abbrev dktX3_readsBy_0 : List UInt8 := dkwX3_readsBy_0 ++ []
theorem dksX3_readsBy_0 : cX3_readsBy.data.toList.drop 0 = dktX3_readsBy_0 := by decide +kernel
theorem dX3_readsBy_0 : decode cX3_readsBy 0 = .ok (.aload_n 0, 1) := dk_42 (dk_at dksX3_readsBy_0 0 rfl rfl)
theorem dX3_readsBy_1 : decode cX3_readsBy 1 = .ok (.iload_n 1, 1) := dk_27 (dk_at dksX3_readsBy_0 1 rfl rfl)
theorem dX3_readsBy_2 : decode cX3_readsBy 2 = .ok (.invokevirtual 157, 3) := dk_182 0 157 (dk_at dksX3_readsBy_0 2 rfl rfl)
theorem dX3_readsBy_5 : decode cX3_readsBy 5 = .ok (.ifCond .eq 10, 3) := dk_153 0 10 (dk_at dksX3_readsBy_0 5 rfl rfl)
theorem dX3_readsBy_8 : decode cX3_readsBy 8 = .ok (.aload_n 0, 1) := dk_42 (dk_at dksX3_readsBy_0 8 rfl rfl)
theorem dX3_readsBy_9 : decode cX3_readsBy 9 = .ok (.invokevirtual 358, 3) := dk_182 1 102 (dk_at dksX3_readsBy_0 9 rfl rfl)
theorem dX3_readsBy_12 : decode cX3_readsBy 12 = .ok (.goto 4, 3) := dk_167 0 4 (dk_at dksX3_readsBy_0 12 rfl rfl)
theorem dX3_readsBy_15 : decode cX3_readsBy 15 = .ok (.iconst (-1), 1) := dk_2 (dk_at dksX3_readsBy_0 15 rfl rfl)
theorem dX3_readsBy_16 : decode cX3_readsBy 16 = .ok (.ireturn, 1) := dk_172 (dk_at dksX3_readsBy_0 16 rfl rfl)
abbrev cX3_ownPages : ByteArray := prog_33_method_86_code
def yX3_ownPages : MethodName := ⟨RX3, "ownPages", "()I"⟩
def dkwX3_ownPages_1 : List UInt8 := [167, 255, 235, 27, 172]
abbrev dktX3_ownPages_1 : List UInt8 := dkwX3_ownPages_1 ++ []
def dkwX3_ownPages_0 : List UInt8 := [3, 60, 27, 5, 42, 180, 0, 78, 104, 162, 0, 17, 42, 27, 182, 1, 67, 153, 0, 9, 132, 1, 1]
abbrev dktX3_ownPages_0 : List UInt8 := dkwX3_ownPages_0 ++ dktX3_ownPages_1
theorem dksX3_ownPages_0 : cX3_ownPages.data.toList.drop 0 = dktX3_ownPages_0 := by decide +kernel
theorem dksX3_ownPages_1 : cX3_ownPages.data.toList.drop 23 = dktX3_ownPages_1 := dk_seg dksX3_ownPages_0 23 rfl rfl
theorem dX3_ownPages_0 : decode cX3_ownPages 0 = .ok (.iconst 0, 1) := dk_3 (dk_at dksX3_ownPages_0 0 rfl rfl)
theorem dX3_ownPages_1 : decode cX3_ownPages 1 = .ok (.istore_n 1, 1) := dk_60 (dk_at dksX3_ownPages_0 1 rfl rfl)
theorem dX3_ownPages_2 : decode cX3_ownPages 2 = .ok (.iload_n 1, 1) := dk_27 (dk_at dksX3_ownPages_0 2 rfl rfl)
theorem dX3_ownPages_3 : decode cX3_ownPages 3 = .ok (.iconst 2, 1) := dk_5 (dk_at dksX3_ownPages_0 3 rfl rfl)
theorem dX3_ownPages_4 : decode cX3_ownPages 4 = .ok (.aload_n 0, 1) := dk_42 (dk_at dksX3_ownPages_0 4 rfl rfl)
theorem dX3_ownPages_5 : decode cX3_ownPages 5 = .ok (.getfield 78, 3) := dk_180 0 78 (dk_at dksX3_ownPages_0 5 rfl rfl)
theorem dX3_ownPages_8 : decode cX3_ownPages 8 = .ok (.imul, 1) := dk_104 (dk_at dksX3_ownPages_0 8 rfl rfl)
theorem dX3_ownPages_9 : decode cX3_ownPages 9 = .ok (.if_icmp .ge 17, 3) := dk_162 0 17 (dk_at dksX3_ownPages_0 9 rfl rfl)
theorem dX3_ownPages_12 : decode cX3_ownPages 12 = .ok (.aload_n 0, 1) := dk_42 (dk_at dksX3_ownPages_0 12 rfl rfl)
theorem dX3_ownPages_13 : decode cX3_ownPages 13 = .ok (.iload_n 1, 1) := dk_27 (dk_at dksX3_ownPages_0 13 rfl rfl)
theorem dX3_ownPages_14 : decode cX3_ownPages 14 = .ok (.invokevirtual 323, 3) := dk_182 1 67 (dk_at dksX3_ownPages_0 14 rfl rfl)
theorem dX3_ownPages_17 : decode cX3_ownPages 17 = .ok (.ifCond .eq 9, 3) := dk_153 0 9 (dk_at dksX3_ownPages_0 17 rfl rfl)
theorem dX3_ownPages_20 : decode cX3_ownPages 20 = .ok (.iinc 1 1, 3) := dk_132 1 1 (dk_at dksX3_ownPages_0 20 rfl rfl)
theorem dX3_ownPages_23 : decode cX3_ownPages 23 = .ok (.goto (-21), 3) := dk_167 255 235 (dk_at dksX3_ownPages_1 0 rfl rfl)
theorem dX3_ownPages_26 : decode cX3_ownPages 26 = .ok (.iload_n 1, 1) := dk_27 (dk_at dksX3_ownPages_1 3 rfl rfl)
theorem dX3_ownPages_27 : decode cX3_ownPages 27 = .ok (.ireturn, 1) := dk_172 (dk_at dksX3_ownPages_1 4 rfl rfl)
abbrev cX3_cutsFor : ByteArray := prog_33_method_89_code
def yX3_cutsFor : MethodName := ⟨RX3, "cutsFor", "(I)I"⟩
def dkwX3_cutsFor_0 : List UInt8 := [42, 27, 182, 0, 157, 153, 0, 10, 42, 182, 1, 105, 167, 0, 4, 2, 172]
abbrev dktX3_cutsFor_0 : List UInt8 := dkwX3_cutsFor_0 ++ []
theorem dksX3_cutsFor_0 : cX3_cutsFor.data.toList.drop 0 = dktX3_cutsFor_0 := by decide +kernel
theorem dX3_cutsFor_0 : decode cX3_cutsFor 0 = .ok (.aload_n 0, 1) := dk_42 (dk_at dksX3_cutsFor_0 0 rfl rfl)
theorem dX3_cutsFor_1 : decode cX3_cutsFor 1 = .ok (.iload_n 1, 1) := dk_27 (dk_at dksX3_cutsFor_0 1 rfl rfl)
theorem dX3_cutsFor_2 : decode cX3_cutsFor 2 = .ok (.invokevirtual 157, 3) := dk_182 0 157 (dk_at dksX3_cutsFor_0 2 rfl rfl)
theorem dX3_cutsFor_5 : decode cX3_cutsFor 5 = .ok (.ifCond .eq 10, 3) := dk_153 0 10 (dk_at dksX3_cutsFor_0 5 rfl rfl)
theorem dX3_cutsFor_8 : decode cX3_cutsFor 8 = .ok (.aload_n 0, 1) := dk_42 (dk_at dksX3_cutsFor_0 8 rfl rfl)
theorem dX3_cutsFor_9 : decode cX3_cutsFor 9 = .ok (.invokevirtual 361, 3) := dk_182 1 105 (dk_at dksX3_cutsFor_0 9 rfl rfl)
theorem dX3_cutsFor_12 : decode cX3_cutsFor 12 = .ok (.goto 4, 3) := dk_167 0 4 (dk_at dksX3_cutsFor_0 12 rfl rfl)
theorem dX3_cutsFor_15 : decode cX3_cutsFor 15 = .ok (.iconst (-1), 1) := dk_2 (dk_at dksX3_cutsFor_0 15 rfl rfl)
theorem dX3_cutsFor_16 : decode cX3_cutsFor 16 = .ok (.ireturn, 1) := dk_172 (dk_at dksX3_cutsFor_0 16 rfl rfl)
abbrev cX3_edgesToCut : ByteArray := prog_33_method_88_code
def yX3_edgesToCut : MethodName := ⟨RX3, "edgesToCut", "()I"⟩
def dkwX3_edgesToCut_2 : List UInt8 := [21, 4, 120, 167, 0, 4, 3, 128, 60, 132, 3, 1, 167, 255, 212, 132, 2, 1, 167, 255, 194, 27, 172]
abbrev dktX3_edgesToCut_2 : List UInt8 := dkwX3_edgesToCut_2 ++ []
def dkwX3_edgesToCut_1 : List UInt8 := [42, 28, 29, 182, 0, 116, 54, 4, 27, 21, 4, 155, 0, 19, 21, 4, 42, 182, 0, 124, 159, 0, 10, 4]
abbrev dktX3_edgesToCut_1 : List UInt8 := dkwX3_edgesToCut_1 ++ dktX3_edgesToCut_2
def dkwX3_edgesToCut_0 : List UInt8 := [3, 60, 3, 61, 28, 42, 180, 0, 78, 162, 0, 60, 28, 4, 96, 62, 29, 42, 180, 0, 78, 162, 0, 42]
abbrev dktX3_edgesToCut_0 : List UInt8 := dkwX3_edgesToCut_0 ++ dktX3_edgesToCut_1
theorem dksX3_edgesToCut_0 : cX3_edgesToCut.data.toList.drop 0 = dktX3_edgesToCut_0 := by decide +kernel
theorem dksX3_edgesToCut_1 : cX3_edgesToCut.data.toList.drop 24 = dktX3_edgesToCut_1 := dk_seg dksX3_edgesToCut_0 24 rfl rfl
theorem dksX3_edgesToCut_2 : cX3_edgesToCut.data.toList.drop 48 = dktX3_edgesToCut_2 := dk_seg dksX3_edgesToCut_1 24 rfl rfl
theorem dX3_edgesToCut_0 : decode cX3_edgesToCut 0 = .ok (.iconst 0, 1) := dk_3 (dk_at dksX3_edgesToCut_0 0 rfl rfl)
theorem dX3_edgesToCut_1 : decode cX3_edgesToCut 1 = .ok (.istore_n 1, 1) := dk_60 (dk_at dksX3_edgesToCut_0 1 rfl rfl)
theorem dX3_edgesToCut_2 : decode cX3_edgesToCut 2 = .ok (.iconst 0, 1) := dk_3 (dk_at dksX3_edgesToCut_0 2 rfl rfl)
theorem dX3_edgesToCut_3 : decode cX3_edgesToCut 3 = .ok (.istore_n 2, 1) := dk_61 (dk_at dksX3_edgesToCut_0 3 rfl rfl)
theorem dX3_edgesToCut_4 : decode cX3_edgesToCut 4 = .ok (.iload_n 2, 1) := dk_28 (dk_at dksX3_edgesToCut_0 4 rfl rfl)
theorem dX3_edgesToCut_5 : decode cX3_edgesToCut 5 = .ok (.aload_n 0, 1) := dk_42 (dk_at dksX3_edgesToCut_0 5 rfl rfl)
theorem dX3_edgesToCut_6 : decode cX3_edgesToCut 6 = .ok (.getfield 78, 3) := dk_180 0 78 (dk_at dksX3_edgesToCut_0 6 rfl rfl)
theorem dX3_edgesToCut_9 : decode cX3_edgesToCut 9 = .ok (.if_icmp .ge 60, 3) := dk_162 0 60 (dk_at dksX3_edgesToCut_0 9 rfl rfl)
theorem dX3_edgesToCut_12 : decode cX3_edgesToCut 12 = .ok (.iload_n 2, 1) := dk_28 (dk_at dksX3_edgesToCut_0 12 rfl rfl)
theorem dX3_edgesToCut_13 : decode cX3_edgesToCut 13 = .ok (.iconst 1, 1) := dk_4 (dk_at dksX3_edgesToCut_0 13 rfl rfl)
theorem dX3_edgesToCut_14 : decode cX3_edgesToCut 14 = .ok (.iadd, 1) := dk_96 (dk_at dksX3_edgesToCut_0 14 rfl rfl)
theorem dX3_edgesToCut_15 : decode cX3_edgesToCut 15 = .ok (.istore_n 3, 1) := dk_62 (dk_at dksX3_edgesToCut_0 15 rfl rfl)
theorem dX3_edgesToCut_16 : decode cX3_edgesToCut 16 = .ok (.iload_n 3, 1) := dk_29 (dk_at dksX3_edgesToCut_0 16 rfl rfl)
theorem dX3_edgesToCut_17 : decode cX3_edgesToCut 17 = .ok (.aload_n 0, 1) := dk_42 (dk_at dksX3_edgesToCut_0 17 rfl rfl)
theorem dX3_edgesToCut_18 : decode cX3_edgesToCut 18 = .ok (.getfield 78, 3) := dk_180 0 78 (dk_at dksX3_edgesToCut_0 18 rfl rfl)
theorem dX3_edgesToCut_21 : decode cX3_edgesToCut 21 = .ok (.if_icmp .ge 42, 3) := dk_162 0 42 (dk_at dksX3_edgesToCut_0 21 rfl rfl)
theorem dX3_edgesToCut_24 : decode cX3_edgesToCut 24 = .ok (.aload_n 0, 1) := dk_42 (dk_at dksX3_edgesToCut_1 0 rfl rfl)
theorem dX3_edgesToCut_25 : decode cX3_edgesToCut 25 = .ok (.iload_n 2, 1) := dk_28 (dk_at dksX3_edgesToCut_1 1 rfl rfl)
theorem dX3_edgesToCut_26 : decode cX3_edgesToCut 26 = .ok (.iload_n 3, 1) := dk_29 (dk_at dksX3_edgesToCut_1 2 rfl rfl)
theorem dX3_edgesToCut_27 : decode cX3_edgesToCut 27 = .ok (.invokevirtual 116, 3) := dk_182 0 116 (dk_at dksX3_edgesToCut_1 3 rfl rfl)
theorem dX3_edgesToCut_30 : decode cX3_edgesToCut 30 = .ok (.istore 4, 2) := dk_54 4 (dk_at dksX3_edgesToCut_1 6 rfl rfl)
theorem dX3_edgesToCut_32 : decode cX3_edgesToCut 32 = .ok (.iload_n 1, 1) := dk_27 (dk_at dksX3_edgesToCut_1 8 rfl rfl)
theorem dX3_edgesToCut_33 : decode cX3_edgesToCut 33 = .ok (.iload 4, 2) := dk_21 4 (dk_at dksX3_edgesToCut_1 9 rfl rfl)
theorem dX3_edgesToCut_35 : decode cX3_edgesToCut 35 = .ok (.ifCond .lt 19, 3) := dk_155 0 19 (dk_at dksX3_edgesToCut_1 11 rfl rfl)
theorem dX3_edgesToCut_38 : decode cX3_edgesToCut 38 = .ok (.iload 4, 2) := dk_21 4 (dk_at dksX3_edgesToCut_1 14 rfl rfl)
theorem dX3_edgesToCut_40 : decode cX3_edgesToCut 40 = .ok (.aload_n 0, 1) := dk_42 (dk_at dksX3_edgesToCut_1 16 rfl rfl)
theorem dX3_edgesToCut_41 : decode cX3_edgesToCut 41 = .ok (.invokevirtual 124, 3) := dk_182 0 124 (dk_at dksX3_edgesToCut_1 17 rfl rfl)
theorem dX3_edgesToCut_44 : decode cX3_edgesToCut 44 = .ok (.if_icmp .eq 10, 3) := dk_159 0 10 (dk_at dksX3_edgesToCut_1 20 rfl rfl)
theorem dX3_edgesToCut_47 : decode cX3_edgesToCut 47 = .ok (.iconst 1, 1) := dk_4 (dk_at dksX3_edgesToCut_1 23 rfl rfl)
theorem dX3_edgesToCut_48 : decode cX3_edgesToCut 48 = .ok (.iload 4, 2) := dk_21 4 (dk_at dksX3_edgesToCut_2 0 rfl rfl)
theorem dX3_edgesToCut_50 : decode cX3_edgesToCut 50 = .ok (.ishl, 1) := dk_120 (dk_at dksX3_edgesToCut_2 2 rfl rfl)
theorem dX3_edgesToCut_51 : decode cX3_edgesToCut 51 = .ok (.goto 4, 3) := dk_167 0 4 (dk_at dksX3_edgesToCut_2 3 rfl rfl)
theorem dX3_edgesToCut_54 : decode cX3_edgesToCut 54 = .ok (.iconst 0, 1) := dk_3 (dk_at dksX3_edgesToCut_2 6 rfl rfl)
theorem dX3_edgesToCut_55 : decode cX3_edgesToCut 55 = .ok (.ior, 1) := dk_128 (dk_at dksX3_edgesToCut_2 7 rfl rfl)
theorem dX3_edgesToCut_56 : decode cX3_edgesToCut 56 = .ok (.istore_n 1, 1) := dk_60 (dk_at dksX3_edgesToCut_2 8 rfl rfl)
theorem dX3_edgesToCut_57 : decode cX3_edgesToCut 57 = .ok (.iinc 3 1, 3) := dk_132 3 1 (dk_at dksX3_edgesToCut_2 9 rfl rfl)
theorem dX3_edgesToCut_60 : decode cX3_edgesToCut 60 = .ok (.goto (-44), 3) := dk_167 255 212 (dk_at dksX3_edgesToCut_2 12 rfl rfl)
theorem dX3_edgesToCut_63 : decode cX3_edgesToCut 63 = .ok (.iinc 2 1, 3) := dk_132 2 1 (dk_at dksX3_edgesToCut_2 15 rfl rfl)
theorem dX3_edgesToCut_66 : decode cX3_edgesToCut 66 = .ok (.goto (-62), 3) := dk_167 255 194 (dk_at dksX3_edgesToCut_2 18 rfl rfl)
theorem dX3_edgesToCut_69 : decode cX3_edgesToCut 69 = .ok (.iload_n 1, 1) := dk_27 (dk_at dksX3_edgesToCut_2 21 rfl rfl)
theorem dX3_edgesToCut_70 : decode cX3_edgesToCut 70 = .ok (.ireturn, 1) := dk_172 (dk_at dksX3_edgesToCut_2 22 rfl rfl)
abbrev cX3_best : ByteArray := prog_33_method_90_code
def yX3_best : MethodName := ⟨RX3, "best", "(I)I"⟩
def dkwX3_best_6 : List UInt8 := [167, 0, 5, 21, 4, 172]
abbrev dktX3_best_6 : List UInt8 := dkwX3_best_6 ++ []
def dkwX3_best_5 : List UInt8 := [21, 4, 54, 4, 132, 5, 1, 167, 255, 153, 27, 154, 0, 7, 28, 167, 0, 14, 27, 4, 160, 0, 7, 29]
abbrev dktX3_best_5 : List UInt8 := dkwX3_best_5 ++ dktX3_best_6
def dkwX3_best_4 : List UInt8 := [28, 61, 21, 8, 153, 0, 8, 21, 6, 167, 0, 4, 29, 62, 21, 8, 153, 0, 8, 21, 7, 167, 0, 5]
abbrev dktX3_best_4 : List UInt8 := dkwX3_best_4 ++ dktX3_best_5
def dkwX3_best_3 : List UInt8 := [21, 7, 21, 4, 164, 0, 7, 4, 167, 0, 4, 3, 54, 8, 21, 8, 153, 0, 8, 21, 5, 167, 0, 4]
abbrev dktX3_best_3 : List UInt8 := dkwX3_best_3 ++ dktX3_best_4
def dkwX3_best_2 : List UInt8 := [54, 6, 42, 182, 1, 102, 54, 7, 28, 155, 0, 22, 21, 6, 29, 161, 0, 16, 21, 6, 29, 160, 0, 14]
abbrev dktX3_best_2 : List UInt8 := dkwX3_best_2 ++ dktX3_best_3
def dkwX3_best_1 : List UInt8 := [21, 5, 17, 19, 136, 162, 0, 101, 42, 21, 5, 182, 0, 157, 153, 0, 86, 42, 182, 1, 105, 184, 0, 170]
abbrev dktX3_best_1 : List UInt8 := dkwX3_best_1 ++ dktX3_best_2
def dkwX3_best_0 : List UInt8 := [27, 133, 9, 20, 1, 73, 184, 0, 101, 154, 0, 5, 2, 172, 2, 61, 3, 62, 3, 54, 4, 3, 54, 5]
abbrev dktX3_best_0 : List UInt8 := dkwX3_best_0 ++ dktX3_best_1
theorem dksX3_best_0 : cX3_best.data.toList.drop 0 = dktX3_best_0 := by decide +kernel
theorem dksX3_best_1 : cX3_best.data.toList.drop 24 = dktX3_best_1 := dk_seg dksX3_best_0 24 rfl rfl
theorem dksX3_best_2 : cX3_best.data.toList.drop 48 = dktX3_best_2 := dk_seg dksX3_best_1 24 rfl rfl
theorem dksX3_best_3 : cX3_best.data.toList.drop 72 = dktX3_best_3 := dk_seg dksX3_best_2 24 rfl rfl
theorem dksX3_best_4 : cX3_best.data.toList.drop 96 = dktX3_best_4 := dk_seg dksX3_best_3 24 rfl rfl
theorem dksX3_best_5 : cX3_best.data.toList.drop 120 = dktX3_best_5 := dk_seg dksX3_best_4 24 rfl rfl
theorem dksX3_best_6 : cX3_best.data.toList.drop 144 = dktX3_best_6 := dk_seg dksX3_best_5 24 rfl rfl
theorem dX3_best_0 : decode cX3_best 0 = .ok (.iload_n 1, 1) := dk_27 (dk_at dksX3_best_0 0 rfl rfl)
theorem dX3_best_1 : decode cX3_best 1 = .ok (.i2l, 1) := dk_133 (dk_at dksX3_best_0 1 rfl rfl)
theorem dX3_best_2 : decode cX3_best 2 = .ok (.lconst 0, 1) := dk_9 (dk_at dksX3_best_0 2 rfl rfl)
theorem dX3_best_3 : decode cX3_best 3 = .ok (.ldc2_w 329, 3) := dk_20 1 73 (dk_at dksX3_best_0 3 rfl rfl)
theorem dX3_best_6 : decode cX3_best 6 = .ok (.invokestatic 101, 3) := dk_184 0 101 (dk_at dksX3_best_0 6 rfl rfl)
theorem dX3_best_9 : decode cX3_best 9 = .ok (.ifCond .ne 5, 3) := dk_154 0 5 (dk_at dksX3_best_0 9 rfl rfl)
theorem dX3_best_12 : decode cX3_best 12 = .ok (.iconst (-1), 1) := dk_2 (dk_at dksX3_best_0 12 rfl rfl)
theorem dX3_best_13 : decode cX3_best 13 = .ok (.ireturn, 1) := dk_172 (dk_at dksX3_best_0 13 rfl rfl)
theorem dX3_best_14 : decode cX3_best 14 = .ok (.iconst (-1), 1) := dk_2 (dk_at dksX3_best_0 14 rfl rfl)
theorem dX3_best_15 : decode cX3_best 15 = .ok (.istore_n 2, 1) := dk_61 (dk_at dksX3_best_0 15 rfl rfl)
theorem dX3_best_16 : decode cX3_best 16 = .ok (.iconst 0, 1) := dk_3 (dk_at dksX3_best_0 16 rfl rfl)
theorem dX3_best_17 : decode cX3_best 17 = .ok (.istore_n 3, 1) := dk_62 (dk_at dksX3_best_0 17 rfl rfl)
theorem dX3_best_18 : decode cX3_best 18 = .ok (.iconst 0, 1) := dk_3 (dk_at dksX3_best_0 18 rfl rfl)
theorem dX3_best_19 : decode cX3_best 19 = .ok (.istore 4, 2) := dk_54 4 (dk_at dksX3_best_0 19 rfl rfl)
theorem dX3_best_21 : decode cX3_best 21 = .ok (.iconst 0, 1) := dk_3 (dk_at dksX3_best_0 21 rfl rfl)
theorem dX3_best_22 : decode cX3_best 22 = .ok (.istore 5, 2) := dk_54 5 (dk_at dksX3_best_0 22 rfl rfl)
theorem dX3_best_24 : decode cX3_best 24 = .ok (.iload 5, 2) := dk_21 5 (dk_at dksX3_best_1 0 rfl rfl)
theorem dX3_best_26 : decode cX3_best 26 = .ok (.sipush 5000, 3) := dk_17 19 136 (dk_at dksX3_best_1 2 rfl rfl)
theorem dX3_best_29 : decode cX3_best 29 = .ok (.if_icmp .ge 101, 3) := dk_162 0 101 (dk_at dksX3_best_1 5 rfl rfl)
theorem dX3_best_32 : decode cX3_best 32 = .ok (.aload_n 0, 1) := dk_42 (dk_at dksX3_best_1 8 rfl rfl)
theorem dX3_best_33 : decode cX3_best 33 = .ok (.iload 5, 2) := dk_21 5 (dk_at dksX3_best_1 9 rfl rfl)
theorem dX3_best_35 : decode cX3_best 35 = .ok (.invokevirtual 157, 3) := dk_182 0 157 (dk_at dksX3_best_1 11 rfl rfl)
theorem dX3_best_38 : decode cX3_best 38 = .ok (.ifCond .eq 86, 3) := dk_153 0 86 (dk_at dksX3_best_1 14 rfl rfl)
theorem dX3_best_41 : decode cX3_best 41 = .ok (.aload_n 0, 1) := dk_42 (dk_at dksX3_best_1 17 rfl rfl)
theorem dX3_best_42 : decode cX3_best 42 = .ok (.invokevirtual 361, 3) := dk_182 1 105 (dk_at dksX3_best_1 18 rfl rfl)
theorem dX3_best_45 : decode cX3_best 45 = .ok (.invokestatic 170, 3) := dk_184 0 170 (dk_at dksX3_best_1 21 rfl rfl)
theorem dX3_best_48 : decode cX3_best 48 = .ok (.istore 6, 2) := dk_54 6 (dk_at dksX3_best_2 0 rfl rfl)
theorem dX3_best_50 : decode cX3_best 50 = .ok (.aload_n 0, 1) := dk_42 (dk_at dksX3_best_2 2 rfl rfl)
theorem dX3_best_51 : decode cX3_best 51 = .ok (.invokevirtual 358, 3) := dk_182 1 102 (dk_at dksX3_best_2 3 rfl rfl)
theorem dX3_best_54 : decode cX3_best 54 = .ok (.istore 7, 2) := dk_54 7 (dk_at dksX3_best_2 6 rfl rfl)
theorem dX3_best_56 : decode cX3_best 56 = .ok (.iload_n 2, 1) := dk_28 (dk_at dksX3_best_2 8 rfl rfl)
theorem dX3_best_57 : decode cX3_best 57 = .ok (.ifCond .lt 22, 3) := dk_155 0 22 (dk_at dksX3_best_2 9 rfl rfl)
theorem dX3_best_60 : decode cX3_best 60 = .ok (.iload 6, 2) := dk_21 6 (dk_at dksX3_best_2 12 rfl rfl)
theorem dX3_best_62 : decode cX3_best 62 = .ok (.iload_n 3, 1) := dk_29 (dk_at dksX3_best_2 14 rfl rfl)
theorem dX3_best_63 : decode cX3_best 63 = .ok (.if_icmp .lt 16, 3) := dk_161 0 16 (dk_at dksX3_best_2 15 rfl rfl)
theorem dX3_best_66 : decode cX3_best 66 = .ok (.iload 6, 2) := dk_21 6 (dk_at dksX3_best_2 18 rfl rfl)
theorem dX3_best_68 : decode cX3_best 68 = .ok (.iload_n 3, 1) := dk_29 (dk_at dksX3_best_2 20 rfl rfl)
theorem dX3_best_69 : decode cX3_best 69 = .ok (.if_icmp .ne 14, 3) := dk_160 0 14 (dk_at dksX3_best_2 21 rfl rfl)
theorem dX3_best_72 : decode cX3_best 72 = .ok (.iload 7, 2) := dk_21 7 (dk_at dksX3_best_3 0 rfl rfl)
theorem dX3_best_74 : decode cX3_best 74 = .ok (.iload 4, 2) := dk_21 4 (dk_at dksX3_best_3 2 rfl rfl)
theorem dX3_best_76 : decode cX3_best 76 = .ok (.if_icmp .le 7, 3) := dk_164 0 7 (dk_at dksX3_best_3 4 rfl rfl)
theorem dX3_best_79 : decode cX3_best 79 = .ok (.iconst 1, 1) := dk_4 (dk_at dksX3_best_3 7 rfl rfl)
theorem dX3_best_80 : decode cX3_best 80 = .ok (.goto 4, 3) := dk_167 0 4 (dk_at dksX3_best_3 8 rfl rfl)
theorem dX3_best_83 : decode cX3_best 83 = .ok (.iconst 0, 1) := dk_3 (dk_at dksX3_best_3 11 rfl rfl)
theorem dX3_best_84 : decode cX3_best 84 = .ok (.istore 8, 2) := dk_54 8 (dk_at dksX3_best_3 12 rfl rfl)
theorem dX3_best_86 : decode cX3_best 86 = .ok (.iload 8, 2) := dk_21 8 (dk_at dksX3_best_3 14 rfl rfl)
theorem dX3_best_88 : decode cX3_best 88 = .ok (.ifCond .eq 8, 3) := dk_153 0 8 (dk_at dksX3_best_3 16 rfl rfl)
theorem dX3_best_91 : decode cX3_best 91 = .ok (.iload 5, 2) := dk_21 5 (dk_at dksX3_best_3 19 rfl rfl)
theorem dX3_best_93 : decode cX3_best 93 = .ok (.goto 4, 3) := dk_167 0 4 (dk_at dksX3_best_3 21 rfl rfl)
theorem dX3_best_96 : decode cX3_best 96 = .ok (.iload_n 2, 1) := dk_28 (dk_at dksX3_best_4 0 rfl rfl)
theorem dX3_best_97 : decode cX3_best 97 = .ok (.istore_n 2, 1) := dk_61 (dk_at dksX3_best_4 1 rfl rfl)
theorem dX3_best_98 : decode cX3_best 98 = .ok (.iload 8, 2) := dk_21 8 (dk_at dksX3_best_4 2 rfl rfl)
theorem dX3_best_100 : decode cX3_best 100 = .ok (.ifCond .eq 8, 3) := dk_153 0 8 (dk_at dksX3_best_4 4 rfl rfl)
theorem dX3_best_103 : decode cX3_best 103 = .ok (.iload 6, 2) := dk_21 6 (dk_at dksX3_best_4 7 rfl rfl)
theorem dX3_best_105 : decode cX3_best 105 = .ok (.goto 4, 3) := dk_167 0 4 (dk_at dksX3_best_4 9 rfl rfl)
theorem dX3_best_108 : decode cX3_best 108 = .ok (.iload_n 3, 1) := dk_29 (dk_at dksX3_best_4 12 rfl rfl)
theorem dX3_best_109 : decode cX3_best 109 = .ok (.istore_n 3, 1) := dk_62 (dk_at dksX3_best_4 13 rfl rfl)
theorem dX3_best_110 : decode cX3_best 110 = .ok (.iload 8, 2) := dk_21 8 (dk_at dksX3_best_4 14 rfl rfl)
theorem dX3_best_112 : decode cX3_best 112 = .ok (.ifCond .eq 8, 3) := dk_153 0 8 (dk_at dksX3_best_4 16 rfl rfl)
theorem dX3_best_115 : decode cX3_best 115 = .ok (.iload 7, 2) := dk_21 7 (dk_at dksX3_best_4 19 rfl rfl)
theorem dX3_best_117 : decode cX3_best 117 = .ok (.goto 5, 3) := dk_167 0 5 (dk_at dksX3_best_4 21 rfl rfl)
theorem dX3_best_120 : decode cX3_best 120 = .ok (.iload 4, 2) := dk_21 4 (dk_at dksX3_best_5 0 rfl rfl)
theorem dX3_best_122 : decode cX3_best 122 = .ok (.istore 4, 2) := dk_54 4 (dk_at dksX3_best_5 2 rfl rfl)
theorem dX3_best_124 : decode cX3_best 124 = .ok (.iinc 5 1, 3) := dk_132 5 1 (dk_at dksX3_best_5 4 rfl rfl)
theorem dX3_best_127 : decode cX3_best 127 = .ok (.goto (-103), 3) := dk_167 255 153 (dk_at dksX3_best_5 7 rfl rfl)
theorem dX3_best_130 : decode cX3_best 130 = .ok (.iload_n 1, 1) := dk_27 (dk_at dksX3_best_5 10 rfl rfl)
theorem dX3_best_131 : decode cX3_best 131 = .ok (.ifCond .ne 7, 3) := dk_154 0 7 (dk_at dksX3_best_5 11 rfl rfl)
theorem dX3_best_134 : decode cX3_best 134 = .ok (.iload_n 2, 1) := dk_28 (dk_at dksX3_best_5 14 rfl rfl)
theorem dX3_best_135 : decode cX3_best 135 = .ok (.goto 14, 3) := dk_167 0 14 (dk_at dksX3_best_5 15 rfl rfl)
theorem dX3_best_138 : decode cX3_best 138 = .ok (.iload_n 1, 1) := dk_27 (dk_at dksX3_best_5 18 rfl rfl)
theorem dX3_best_139 : decode cX3_best 139 = .ok (.iconst 1, 1) := dk_4 (dk_at dksX3_best_5 19 rfl rfl)
theorem dX3_best_140 : decode cX3_best 140 = .ok (.if_icmp .ne 7, 3) := dk_160 0 7 (dk_at dksX3_best_5 20 rfl rfl)
theorem dX3_best_143 : decode cX3_best 143 = .ok (.iload_n 3, 1) := dk_29 (dk_at dksX3_best_5 23 rfl rfl)
theorem dX3_best_144 : decode cX3_best 144 = .ok (.goto 5, 3) := dk_167 0 5 (dk_at dksX3_best_6 0 rfl rfl)
theorem dX3_best_147 : decode cX3_best 147 = .ok (.iload 4, 2) := dk_21 4 (dk_at dksX3_best_6 3 rfl rfl)
theorem dX3_best_149 : decode cX3_best 149 = .ok (.ireturn, 1) := dk_172 (dk_at dksX3_best_6 5 rfl rfl)
theorem q98 : (Jvm.Cond.initialized "CribBookletModel") ∈ lw_all := lw_g (lw_at lw_m1 12 rfl) rfl
theorem q727 : (Jvm.Cond.selects "CribBookletModel" ({ cls := "java/lang/Object", name := "getClass", desc := "()Ljava/lang/Class;" } : Jvm.MethodName) ({ cls := "java/lang/Object", name := "getClass", desc := "()Ljava/lang/Class;" } : Jvm.MethodName)) ∈ lw_all := lw_g (lw_at lw_m3 161 rfl) rfl
theorem q2826 : (Jvm.Cond.instantiable "CribBookletModel" (31 : Nat)) ∈ lw_all := lw_g (lw_at lw_m12 100 rfl) rfl
theorem q2828 : (Jvm.Cond.instanceMethod ({ cls := "CribBookletModel", name := "<init>", desc := "()V" } : Jvm.MethodName)) ∈ lw_all := lw_g (lw_at lw_m12 102 rfl) rfl
theorem q2829 : (Jvm.Cond.code ({ cls := "CribBookletModel", name := "<init>", desc := "()V" } : Jvm.MethodName) prog_33_method_1_code (1 : Nat) (Option.none : Option Jvm.ClassFile.FieldType)) ∈ lw_all := lw_g (lw_at lw_m12 103 rfl) rfl
theorem q2830 : (Jvm.Cond.methodLink "CribBookletModel" (1 : Nat) ({ cls := "java/lang/Object", name := "<init>", desc := "()V" } : Jvm.MethodName)) ∈ lw_all := lw_g (lw_at lw_m12 104 rfl) rfl
theorem q2831 : (Jvm.Cond.methodLink "CribBookletModel" (58 : Nat) ({ cls := "CribBookletModel", name := "noPrint", desc := "()V" } : Jvm.MethodName)) ∈ lw_all := lw_g (lw_at lw_m12 105 rfl) rfl
theorem q2832 : (Jvm.Cond.privateMethod ({ cls := "CribBookletModel", name := "noPrint", desc := "()V" } : Jvm.MethodName)) ∈ lw_tbl := lw_at lw_m12 106 rfl
theorem q2833 : (Jvm.Cond.instanceMethod ({ cls := "CribBookletModel", name := "noPrint", desc := "()V" } : Jvm.MethodName)) ∈ lw_all := lw_g (lw_at lw_m12 107 rfl) rfl
theorem q2834 : (Jvm.Cond.code ({ cls := "CribBookletModel", name := "noPrint", desc := "()V" } : Jvm.MethodName) prog_33_method_5_code (2 : Nat) (Option.none : Option Jvm.ClassFile.FieldType)) ∈ lw_all := lw_g (lw_at lw_m12 108 rfl) rfl
theorem q2835 : (Jvm.Cond.fieldLink "CribBookletModel" (7 : Nat) "CribBookletModel" "s" "[I") ∈ lw_all := lw_g (lw_at lw_m12 109 rfl) rfl
theorem q2836 : (Jvm.Cond.fieldLink "CribBookletModel" (13 : Nat) "CribBookletModel" "before" "[I") ∈ lw_all := lw_g (lw_at lw_m12 110 rfl) rfl
theorem q2837 : (Jvm.Cond.fieldLink "CribBookletModel" (16 : Nat) "CribBookletModel" "start" "[I") ∈ lw_all := lw_g (lw_at lw_m12 111 rfl) rfl
theorem q2838 : (Jvm.Cond.fieldLink "CribBookletModel" (61 : Nat) "CribBookletModel" "undoMany" "I") ∈ lw_all := lw_g (lw_at lw_m12 112 rfl) rfl
theorem q2839 : (Jvm.Cond.fieldLink "CribBookletModel" (181 : Nat) "CribBookletModel" "length" "I") ∈ lw_all := lw_g (lw_at lw_m12 113 rfl) rfl
theorem q2840 : (Jvm.Cond.fieldLink "CribBookletModel" (19 : Nat) "CribBookletModel" "text" "[I") ∈ lw_all := lw_g (lw_at lw_m12 114 rfl) rfl
theorem q2841 : (Jvm.Cond.fieldLink "CribBookletModel" (65 : Nat) "CribBookletModel" "runs" "Z") ∈ lw_all := lw_g (lw_at lw_m12 115 rfl) rfl
theorem q2842 : (Jvm.Cond.fieldLink "CribBookletModel" (72 : Nat) "CribBookletModel" "high" "I") ∈ lw_all := lw_g (lw_at lw_m12 116 rfl) rfl
theorem q2843 : (Jvm.Cond.fieldLink "CribBookletModel" (75 : Nat) "CribBookletModel" "wide" "I") ∈ lw_all := lw_g (lw_at lw_m12 117 rfl) rfl
theorem q2844 : (Jvm.Cond.fieldLink "CribBookletModel" (78 : Nat) "CribBookletModel" "many" "I") ∈ lw_all := lw_g (lw_at lw_m12 118 rfl) rfl
theorem q2845 : (Jvm.Cond.fieldLink "CribBookletModel" (22 : Nat) "CribBookletModel" "cellAt" "[I") ∈ lw_all := lw_g (lw_at lw_m12 119 rfl) rfl
theorem q2846 : (Jvm.Cond.fieldLink "CribBookletModel" (25 : Nat) "CribBookletModel" "sideAt" "[I") ∈ lw_all := lw_g (lw_at lw_m12 120 rfl) rfl
theorem q2847 : (Jvm.Cond.fieldLink "CribBookletModel" (28 : Nat) "CribBookletModel" "mirrorAt" "[I") ∈ lw_all := lw_g (lw_at lw_m12 121 rfl) rfl
theorem q2848 : (Jvm.Cond.fieldLink "CribBookletModel" (31 : Nat) "CribBookletModel" "upsideAt" "[I") ∈ lw_all := lw_g (lw_at lw_m12 122 rfl) rfl
theorem q2849 : (Jvm.Cond.fieldLink "CribBookletModel" (34 : Nat) "CribBookletModel" "hadCell" "[I") ∈ lw_all := lw_g (lw_at lw_m12 123 rfl) rfl
theorem q2850 : (Jvm.Cond.fieldLink "CribBookletModel" (37 : Nat) "CribBookletModel" "hadSide" "[I") ∈ lw_all := lw_g (lw_at lw_m12 124 rfl) rfl
theorem q2851 : (Jvm.Cond.fieldLink "CribBookletModel" (40 : Nat) "CribBookletModel" "hadMirror" "[I") ∈ lw_all := lw_g (lw_at lw_m12 125 rfl) rfl
theorem q2852 : (Jvm.Cond.fieldLink "CribBookletModel" (43 : Nat) "CribBookletModel" "hadUpside" "[I") ∈ lw_all := lw_g (lw_at lw_m12 126 rfl) rfl
theorem q2853 : (Jvm.Cond.fieldLink "CribBookletModel" (196 : Nat) "CribBookletModel" "spot" "I") ∈ lw_all := lw_g (lw_at lw_m12 127 rfl) rfl
theorem q2854 : (Jvm.Cond.fieldLink "CribBookletModel" (215 : Nat) "CribBookletModel" "begins" "I") ∈ lw_all := lw_g (lw_at lw_m12 128 rfl) rfl
theorem q2855 : (Jvm.Cond.fieldLink "CribBookletModel" (206 : Nat) "CribBookletModel" "kind" "I") ∈ lw_all := lw_g (lw_at lw_m12 129 rfl) rfl
theorem q2856 : (Jvm.Cond.fieldLink "CribBookletModel" (192 : Nat) "CribBookletModel" "word" "J") ∈ lw_all := lw_g (lw_at lw_m12 130 rfl) rfl
theorem q2857 : (Jvm.Cond.fieldLink "CribBookletModel" (209 : Nat) "CribBookletModel" "number" "I") ∈ lw_all := lw_g (lw_at lw_m12 131 rfl) rfl
theorem q2858 : (Jvm.Cond.fieldLink "CribBookletModel" (46 : Nat) "CribBookletModel" "needs" "[I") ∈ lw_all := lw_g (lw_at lw_m12 132 rfl) rfl
theorem q2859 : (Jvm.Cond.fieldLink "CribBookletModel" (224 : Nat) "CribBookletModel" "needed" "I") ∈ lw_all := lw_g (lw_at lw_m12 133 rfl) rfl
theorem q2860 : (Jvm.Cond.fieldLink "CribBookletModel" (238 : Nat) "CribBookletModel" "isWhole" "Z") ∈ lw_all := lw_g (lw_at lw_m12 134 rfl) rfl
theorem q2861 : (Jvm.Cond.fieldLink "CribBookletModel" (298 : Nat) "CribBookletModel" "fails" "I") ∈ lw_all := lw_g (lw_at lw_m12 135 rfl) rfl
theorem q2862 : (Jvm.Cond.fieldLink "CribBookletModel" (49 : Nat) "CribBookletModel" "pieceOf" "[I") ∈ lw_all := lw_g (lw_at lw_m12 136 rfl) rfl
theorem q2863 : (Jvm.Cond.fieldLink "CribBookletModel" (335 : Nat) "CribBookletModel" "openMany" "I") ∈ lw_all := lw_g (lw_at lw_m12 137 rfl) rfl
theorem q2864 : (Jvm.Cond.fieldLink "CribBookletModel" (52 : Nat) "CribBookletModel" "openPages" "[I") ∈ lw_all := lw_g (lw_at lw_m12 138 rfl) rfl
theorem q2865 : (Jvm.Cond.fieldLink "CribBookletModel" (55 : Nat) "CribBookletModel" "firstLine" "[I") ∈ lw_all := lw_g (lw_at lw_m12 139 rfl) rfl
theorem q2866 : (Jvm.Cond.laysFinal "CribBookletModel" "CribBookletModel" "s" "[I") ∈ lw_all := lw_g (lw_at lw_m12 140 rfl) rfl
theorem q2867 : (Jvm.Cond.soleField "CribBookletModel" "s") ∈ lw_all := lw_g (lw_at lw_m12 141 rfl) rfl
theorem q2868 : (Jvm.Cond.laysFinal "CribBookletModel" "CribBookletModel" "before" "[I") ∈ lw_all := lw_g (lw_at lw_m12 142 rfl) rfl
theorem q2869 : (Jvm.Cond.soleField "CribBookletModel" "before") ∈ lw_all := lw_g (lw_at lw_m12 143 rfl) rfl
theorem q2870 : (Jvm.Cond.laysFinal "CribBookletModel" "CribBookletModel" "start" "[I") ∈ lw_all := lw_g (lw_at lw_m12 144 rfl) rfl
theorem q2871 : (Jvm.Cond.soleField "CribBookletModel" "start") ∈ lw_all := lw_g (lw_at lw_m12 145 rfl) rfl
theorem q2872 : (Jvm.Cond.lays "CribBookletModel" "CribBookletModel" "undoMany" "I") ∈ lw_all := lw_g (lw_at lw_m12 146 rfl) rfl
theorem q2873 : (Jvm.Cond.soleField "CribBookletModel" "undoMany") ∈ lw_all := lw_g (lw_at lw_m12 147 rfl) rfl
theorem q2874 : (Jvm.Cond.lays "CribBookletModel" "CribBookletModel" "length" "I") ∈ lw_all := lw_g (lw_at lw_m12 148 rfl) rfl
theorem q2875 : (Jvm.Cond.soleField "CribBookletModel" "length") ∈ lw_all := lw_g (lw_at lw_m12 149 rfl) rfl
theorem q2876 : (Jvm.Cond.laysFinal "CribBookletModel" "CribBookletModel" "text" "[I") ∈ lw_all := lw_g (lw_at lw_m12 150 rfl) rfl
theorem q2877 : (Jvm.Cond.soleField "CribBookletModel" "text") ∈ lw_all := lw_g (lw_at lw_m12 151 rfl) rfl
theorem q2878 : (Jvm.Cond.lays "CribBookletModel" "CribBookletModel" "runs" "Z") ∈ lw_all := lw_g (lw_at lw_m12 152 rfl) rfl
theorem q2879 : (Jvm.Cond.soleField "CribBookletModel" "runs") ∈ lw_all := lw_g (lw_at lw_m12 153 rfl) rfl
theorem q2880 : (Jvm.Cond.lays "CribBookletModel" "CribBookletModel" "high" "I") ∈ lw_all := lw_g (lw_at lw_m12 154 rfl) rfl
theorem q2881 : (Jvm.Cond.soleField "CribBookletModel" "high") ∈ lw_all := lw_g (lw_at lw_m12 155 rfl) rfl
theorem q2882 : (Jvm.Cond.lays "CribBookletModel" "CribBookletModel" "wide" "I") ∈ lw_all := lw_g (lw_at lw_m12 156 rfl) rfl
theorem q2883 : (Jvm.Cond.soleField "CribBookletModel" "wide") ∈ lw_all := lw_g (lw_at lw_m12 157 rfl) rfl
theorem q2884 : (Jvm.Cond.lays "CribBookletModel" "CribBookletModel" "many" "I") ∈ lw_all := lw_g (lw_at lw_m12 158 rfl) rfl
theorem q2885 : (Jvm.Cond.soleField "CribBookletModel" "many") ∈ lw_all := lw_g (lw_at lw_m12 159 rfl) rfl
theorem q2886 : (Jvm.Cond.laysFinal "CribBookletModel" "CribBookletModel" "cellAt" "[I") ∈ lw_all := lw_g (lw_at lw_m12 160 rfl) rfl
theorem q2887 : (Jvm.Cond.soleField "CribBookletModel" "cellAt") ∈ lw_all := lw_g (lw_at lw_m12 161 rfl) rfl
theorem q2888 : (Jvm.Cond.laysFinal "CribBookletModel" "CribBookletModel" "sideAt" "[I") ∈ lw_all := lw_g (lw_at lw_m12 162 rfl) rfl
theorem q2889 : (Jvm.Cond.soleField "CribBookletModel" "sideAt") ∈ lw_all := lw_g (lw_at lw_m12 163 rfl) rfl
theorem q2890 : (Jvm.Cond.laysFinal "CribBookletModel" "CribBookletModel" "mirrorAt" "[I") ∈ lw_all := lw_g (lw_at lw_m12 164 rfl) rfl
theorem q2891 : (Jvm.Cond.soleField "CribBookletModel" "mirrorAt") ∈ lw_all := lw_g (lw_at lw_m12 165 rfl) rfl
theorem q2892 : (Jvm.Cond.laysFinal "CribBookletModel" "CribBookletModel" "upsideAt" "[I") ∈ lw_all := lw_g (lw_at lw_m12 166 rfl) rfl
theorem q2893 : (Jvm.Cond.soleField "CribBookletModel" "upsideAt") ∈ lw_all := lw_g (lw_at lw_m12 167 rfl) rfl
theorem q2894 : (Jvm.Cond.laysFinal "CribBookletModel" "CribBookletModel" "hadCell" "[I") ∈ lw_all := lw_g (lw_at lw_m12 168 rfl) rfl
theorem q2895 : (Jvm.Cond.soleField "CribBookletModel" "hadCell") ∈ lw_all := lw_g (lw_at lw_m12 169 rfl) rfl
theorem q2896 : (Jvm.Cond.laysFinal "CribBookletModel" "CribBookletModel" "hadSide" "[I") ∈ lw_all := lw_g (lw_at lw_m12 170 rfl) rfl
theorem q2897 : (Jvm.Cond.soleField "CribBookletModel" "hadSide") ∈ lw_all := lw_g (lw_at lw_m12 171 rfl) rfl
theorem q2898 : (Jvm.Cond.laysFinal "CribBookletModel" "CribBookletModel" "hadMirror" "[I") ∈ lw_all := lw_g (lw_at lw_m12 172 rfl) rfl
theorem q2899 : (Jvm.Cond.soleField "CribBookletModel" "hadMirror") ∈ lw_all := lw_g (lw_at lw_m12 173 rfl) rfl
theorem q2900 : (Jvm.Cond.laysFinal "CribBookletModel" "CribBookletModel" "hadUpside" "[I") ∈ lw_all := lw_g (lw_at lw_m12 174 rfl) rfl
theorem q2901 : (Jvm.Cond.soleField "CribBookletModel" "hadUpside") ∈ lw_all := lw_g (lw_at lw_m12 175 rfl) rfl
theorem q2902 : (Jvm.Cond.lays "CribBookletModel" "CribBookletModel" "spot" "I") ∈ lw_all := lw_g (lw_at lw_m12 176 rfl) rfl
theorem q2903 : (Jvm.Cond.soleField "CribBookletModel" "spot") ∈ lw_all := lw_g (lw_at lw_m12 177 rfl) rfl
theorem q2904 : (Jvm.Cond.lays "CribBookletModel" "CribBookletModel" "begins" "I") ∈ lw_all := lw_g (lw_at lw_m12 178 rfl) rfl
theorem q2905 : (Jvm.Cond.soleField "CribBookletModel" "begins") ∈ lw_all := lw_g (lw_at lw_m12 179 rfl) rfl
theorem q2906 : (Jvm.Cond.lays "CribBookletModel" "CribBookletModel" "kind" "I") ∈ lw_all := lw_g (lw_at lw_m12 180 rfl) rfl
theorem q2907 : (Jvm.Cond.soleField "CribBookletModel" "kind") ∈ lw_all := lw_g (lw_at lw_m12 181 rfl) rfl
theorem q2908 : (Jvm.Cond.lays "CribBookletModel" "CribBookletModel" "word" "J") ∈ lw_all := lw_g (lw_at lw_m12 182 rfl) rfl
theorem q2909 : (Jvm.Cond.soleField "CribBookletModel" "word") ∈ lw_all := lw_g (lw_at lw_m12 183 rfl) rfl
theorem q2910 : (Jvm.Cond.lays "CribBookletModel" "CribBookletModel" "number" "I") ∈ lw_all := lw_g (lw_at lw_m12 184 rfl) rfl
theorem q2911 : (Jvm.Cond.soleField "CribBookletModel" "number") ∈ lw_all := lw_g (lw_at lw_m12 185 rfl) rfl
theorem q2912 : (Jvm.Cond.laysFinal "CribBookletModel" "CribBookletModel" "needs" "[I") ∈ lw_all := lw_g (lw_at lw_m12 186 rfl) rfl
theorem q2913 : (Jvm.Cond.soleField "CribBookletModel" "needs") ∈ lw_all := lw_g (lw_at lw_m12 187 rfl) rfl
theorem q2914 : (Jvm.Cond.lays "CribBookletModel" "CribBookletModel" "needed" "I") ∈ lw_all := lw_g (lw_at lw_m12 188 rfl) rfl
theorem q2915 : (Jvm.Cond.soleField "CribBookletModel" "needed") ∈ lw_all := lw_g (lw_at lw_m12 189 rfl) rfl
theorem q2916 : (Jvm.Cond.lays "CribBookletModel" "CribBookletModel" "isWhole" "Z") ∈ lw_all := lw_g (lw_at lw_m12 190 rfl) rfl
theorem q2917 : (Jvm.Cond.soleField "CribBookletModel" "isWhole") ∈ lw_all := lw_g (lw_at lw_m12 191 rfl) rfl
theorem q2918 : (Jvm.Cond.lays "CribBookletModel" "CribBookletModel" "fails" "I") ∈ lw_all := lw_g (lw_at lw_m12 192 rfl) rfl
theorem q2919 : (Jvm.Cond.soleField "CribBookletModel" "fails") ∈ lw_all := lw_g (lw_at lw_m12 193 rfl) rfl
theorem q2920 : (Jvm.Cond.laysFinal "CribBookletModel" "CribBookletModel" "pieceOf" "[I") ∈ lw_all := lw_g (lw_at lw_m12 194 rfl) rfl
theorem q2921 : (Jvm.Cond.soleField "CribBookletModel" "pieceOf") ∈ lw_all := lw_g (lw_at lw_m12 195 rfl) rfl
theorem q2922 : (Jvm.Cond.lays "CribBookletModel" "CribBookletModel" "openMany" "I") ∈ lw_all := lw_g (lw_at lw_m12 196 rfl) rfl
theorem q2923 : (Jvm.Cond.soleField "CribBookletModel" "openMany") ∈ lw_all := lw_g (lw_at lw_m12 197 rfl) rfl
theorem q2924 : (Jvm.Cond.laysFinal "CribBookletModel" "CribBookletModel" "openPages" "[I") ∈ lw_all := lw_g (lw_at lw_m12 198 rfl) rfl
theorem q2925 : (Jvm.Cond.soleField "CribBookletModel" "openPages") ∈ lw_all := lw_g (lw_at lw_m12 199 rfl) rfl
theorem q2926 : (Jvm.Cond.laysFinal "CribBookletModel" "CribBookletModel" "firstLine" "[I") ∈ lw_all := lw_g (lw_at lw_m12 200 rfl) rfl
theorem q2927 : (Jvm.Cond.soleField "CribBookletModel" "firstLine") ∈ lw_all := lw_g (lw_at lw_m12 201 rfl) rfl
theorem q2928 : (Jvm.Cond.superclass "CribBookletModel" "java/lang/Object") ∈ lw_all := lw_g (lw_at lw_m12 202 rfl) rfl
theorem q2930 : (Jvm.Cond.instanceMethod ({ cls := "CribBookletModel", name := "setSheet", desc := "(II)I" } : Jvm.MethodName)) ∈ lw_all := lw_g (lw_at lw_m12 204 rfl) rfl
theorem q2931 : (Jvm.Cond.selects "CribBookletModel" ({ cls := "CribBookletModel", name := "setSheet", desc := "(II)I" } : Jvm.MethodName) ({ cls := "CribBookletModel", name := "setSheet", desc := "(II)I" } : Jvm.MethodName)) ∈ lw_all := lw_g (lw_at lw_m12 205 rfl) rfl
theorem q2932 : (Jvm.Cond.code ({ cls := "CribBookletModel", name := "setSheet", desc := "(II)I" } : Jvm.MethodName) prog_33_method_27_code (3 : Nat) (Option.some Jvm.ClassFile.FieldType.int)) ∈ lw_all := lw_g (lw_at lw_m12 206 rfl) rfl
theorem q2933 : (Jvm.Cond.methodLink "CribBookletModel" (136 : Nat) ({ cls := "CribBookletModel", name := "isSide", desc := "(I)Z" } : Jvm.MethodName)) ∈ lw_all := lw_g (lw_at lw_m12 207 rfl) rfl
theorem q2934 : (Jvm.Cond.static ({ cls := "CribBookletModel", name := "isSide", desc := "(I)Z" } : Jvm.MethodName)) ∈ lw_all := lw_g (lw_at lw_m12 208 rfl) rfl
theorem q2935 : (Jvm.Cond.code ({ cls := "CribBookletModel", name := "isSide", desc := "(I)Z" } : Jvm.MethodName) prog_33_method_26_code (1 : Nat) (Option.some Jvm.ClassFile.FieldType.boolean)) ∈ lw_all := lw_g (lw_at lw_m12 209 rfl) rfl
theorem q2936 : (Jvm.Cond.methodLink "CribBookletModel" (139 : Nat) ({ cls := "CribBookletModel", name := "act", desc := "()V" } : Jvm.MethodName)) ∈ lw_all := lw_g (lw_at lw_m12 210 rfl) rfl
theorem q2937 : (Jvm.Cond.privateMethod ({ cls := "CribBookletModel", name := "act", desc := "()V" } : Jvm.MethodName)) ∈ lw_tbl := lw_at lw_m12 211 rfl
theorem q2938 : (Jvm.Cond.instanceMethod ({ cls := "CribBookletModel", name := "act", desc := "()V" } : Jvm.MethodName)) ∈ lw_all := lw_g (lw_at lw_m12 212 rfl) rfl
theorem q2939 : (Jvm.Cond.code ({ cls := "CribBookletModel", name := "act", desc := "()V" } : Jvm.MethodName) prog_33_method_9_code (1 : Nat) (Option.none : Option Jvm.ClassFile.FieldType)) ∈ lw_all := lw_g (lw_at lw_m12 213 rfl) rfl
theorem q2940 : (Jvm.Cond.methodLink "CribBookletModel" (69 : Nat) ({ cls := "CribBookletModel", name := "record", desc := "()V" } : Jvm.MethodName)) ∈ lw_all := lw_g (lw_at lw_m12 214 rfl) rfl
theorem q2941 : (Jvm.Cond.privateMethod ({ cls := "CribBookletModel", name := "record", desc := "()V" } : Jvm.MethodName)) ∈ lw_tbl := lw_at lw_m12 215 rfl
theorem q2942 : (Jvm.Cond.instanceMethod ({ cls := "CribBookletModel", name := "record", desc := "()V" } : Jvm.MethodName)) ∈ lw_all := lw_g (lw_at lw_m12 216 rfl) rfl
theorem q2943 : (Jvm.Cond.code ({ cls := "CribBookletModel", name := "record", desc := "()V" } : Jvm.MethodName) prog_33_method_8_code (2 : Nat) (Option.none : Option Jvm.ClassFile.FieldType)) ∈ lw_all := lw_g (lw_at lw_m12 217 rfl) rfl
theorem q2945 : (Jvm.Cond.instanceMethod ({ cls := "CribBookletModel", name := "fold", desc := "(I)I" } : Jvm.MethodName)) ∈ lw_all := lw_g (lw_at lw_m12 219 rfl) rfl
theorem q2946 : (Jvm.Cond.selects "CribBookletModel" ({ cls := "CribBookletModel", name := "fold", desc := "(I)I" } : Jvm.MethodName) ({ cls := "CribBookletModel", name := "fold", desc := "(I)I" } : Jvm.MethodName)) ∈ lw_all := lw_g (lw_at lw_m12 220 rfl) rfl
theorem q2947 : (Jvm.Cond.code ({ cls := "CribBookletModel", name := "fold", desc := "(I)I" } : Jvm.MethodName) prog_33_method_28_code (2 : Nat) (Option.some Jvm.ClassFile.FieldType.int)) ∈ lw_all := lw_g (lw_at lw_m12 221 rfl) rfl
theorem q2948 : (Jvm.Cond.constantLong "CribBookletModel" (99 : Nat) (4 : Int64)) ∈ lw_all := lw_g (lw_at lw_m12 222 rfl) rfl
theorem q2949 : (Jvm.Cond.methodLink "CribBookletModel" (101 : Nat) ({ cls := "CribBookletModel", name := "in", desc := "(JJJ)Z" } : Jvm.MethodName)) ∈ lw_all := lw_g (lw_at lw_m12 223 rfl) rfl
theorem q2950 : (Jvm.Cond.static ({ cls := "CribBookletModel", name := "in", desc := "(JJJ)Z" } : Jvm.MethodName)) ∈ lw_all := lw_g (lw_at lw_m12 224 rfl) rfl
theorem q2951 : (Jvm.Cond.code ({ cls := "CribBookletModel", name := "in", desc := "(JJJ)Z" } : Jvm.MethodName) prog_33_method_2_code (6 : Nat) (Option.some Jvm.ClassFile.FieldType.boolean)) ∈ lw_all := lw_g (lw_at lw_m12 225 rfl) rfl
theorem q2952 : (Jvm.Cond.methodLink "CribBookletModel" (92 : Nat) ({ cls := "CribBookletModel", name := "layNow", desc := "()V" } : Jvm.MethodName)) ∈ lw_all := lw_g (lw_at lw_m12 226 rfl) rfl
theorem q2953 : (Jvm.Cond.privateMethod ({ cls := "CribBookletModel", name := "layNow", desc := "()V" } : Jvm.MethodName)) ∈ lw_tbl := lw_at lw_m12 227 rfl
theorem q2954 : (Jvm.Cond.instanceMethod ({ cls := "CribBookletModel", name := "layNow", desc := "()V" } : Jvm.MethodName)) ∈ lw_all := lw_g (lw_at lw_m12 228 rfl) rfl
theorem q2955 : (Jvm.Cond.code ({ cls := "CribBookletModel", name := "layNow", desc := "()V" } : Jvm.MethodName) prog_33_method_14_code (2 : Nat) (Option.none : Option Jvm.ClassFile.FieldType)) ∈ lw_all := lw_g (lw_at lw_m12 229 rfl) rfl
theorem q2956 : (Jvm.Cond.methodLink "CribBookletModel" (85 : Nat) ({ cls := "CribBookletModel", name := "layOpen", desc := "()V" } : Jvm.MethodName)) ∈ lw_all := lw_g (lw_at lw_m12 230 rfl) rfl
theorem q2957 : (Jvm.Cond.privateMethod ({ cls := "CribBookletModel", name := "layOpen", desc := "()V" } : Jvm.MethodName)) ∈ lw_tbl := lw_at lw_m12 231 rfl
theorem q2958 : (Jvm.Cond.instanceMethod ({ cls := "CribBookletModel", name := "layOpen", desc := "()V" } : Jvm.MethodName)) ∈ lw_all := lw_g (lw_at lw_m12 232 rfl) rfl
theorem q2959 : (Jvm.Cond.code ({ cls := "CribBookletModel", name := "layOpen", desc := "()V" } : Jvm.MethodName) prog_33_method_10_code (2 : Nat) (Option.none : Option Jvm.ClassFile.FieldType)) ∈ lw_all := lw_g (lw_at lw_m12 233 rfl) rfl
theorem q2960 : (Jvm.Cond.methodLink "CribBookletModel" (88 : Nat) ({ cls := "CribBookletModel", name := "foldBy", desc := "(I)V" } : Jvm.MethodName)) ∈ lw_all := lw_g (lw_at lw_m12 234 rfl) rfl
theorem q2961 : (Jvm.Cond.privateMethod ({ cls := "CribBookletModel", name := "foldBy", desc := "(I)V" } : Jvm.MethodName)) ∈ lw_tbl := lw_at lw_m12 235 rfl
theorem q2962 : (Jvm.Cond.instanceMethod ({ cls := "CribBookletModel", name := "foldBy", desc := "(I)V" } : Jvm.MethodName)) ∈ lw_all := lw_g (lw_at lw_m12 236 rfl) rfl
theorem q2963 : (Jvm.Cond.code ({ cls := "CribBookletModel", name := "foldBy", desc := "(I)V" } : Jvm.MethodName) prog_33_method_13_code (14 : Nat) (Option.none : Option Jvm.ClassFile.FieldType)) ∈ lw_all := lw_g (lw_at lw_m12 237 rfl) rfl
theorem q2964 : (Jvm.Cond.methodLink "CribBookletModel" (81 : Nat) ({ cls := "CribBookletModel", name := "takeLayer", desc := "(III)V" } : Jvm.MethodName)) ∈ lw_all := lw_g (lw_at lw_m12 238 rfl) rfl
theorem q2965 : (Jvm.Cond.privateMethod ({ cls := "CribBookletModel", name := "takeLayer", desc := "(III)V" } : Jvm.MethodName)) ∈ lw_tbl := lw_at lw_m12 239 rfl
theorem q2966 : (Jvm.Cond.instanceMethod ({ cls := "CribBookletModel", name := "takeLayer", desc := "(III)V" } : Jvm.MethodName)) ∈ lw_all := lw_g (lw_at lw_m13 0 rfl) rfl
theorem q2967 : (Jvm.Cond.code ({ cls := "CribBookletModel", name := "takeLayer", desc := "(III)V" } : Jvm.MethodName) prog_33_method_12_code (4 : Nat) (Option.none : Option Jvm.ClassFile.FieldType)) ∈ lw_all := lw_g (lw_at lw_m13 1 rfl) rfl
theorem q2968 : (Jvm.Cond.methodLink "CribBookletModel" (105 : Nat) ({ cls := "CribBookletModel", name := "mayFold", desc := "(I)Z" } : Jvm.MethodName)) ∈ lw_all := lw_g (lw_at lw_m13 2 rfl) rfl
theorem q2969 : (Jvm.Cond.privateMethod ({ cls := "CribBookletModel", name := "mayFold", desc := "(I)Z" } : Jvm.MethodName)) ∈ lw_tbl := lw_at lw_m13 3 rfl
theorem q2970 : (Jvm.Cond.instanceMethod ({ cls := "CribBookletModel", name := "mayFold", desc := "(I)Z" } : Jvm.MethodName)) ∈ lw_all := lw_g (lw_at lw_m13 4 rfl) rfl
theorem q2971 : (Jvm.Cond.code ({ cls := "CribBookletModel", name := "mayFold", desc := "(I)Z" } : Jvm.MethodName) prog_33_method_11_code (2 : Nat) (Option.some Jvm.ClassFile.FieldType.boolean)) ∈ lw_all := lw_g (lw_at lw_m13 5 rfl) rfl
theorem q2972 : (Jvm.Cond.methodLink "CribBookletModel" (142 : Nat) ({ cls := "CribBookletModel", name := "isHeld", desc := "()Z" } : Jvm.MethodName)) ∈ lw_all := lw_g (lw_at lw_m13 6 rfl) rfl
theorem q2973 : (Jvm.Cond.privateMethod ({ cls := "CribBookletModel", name := "isHeld", desc := "()Z" } : Jvm.MethodName)) ∈ lw_tbl := lw_at lw_m13 7 rfl
theorem q2974 : (Jvm.Cond.instanceMethod ({ cls := "CribBookletModel", name := "isHeld", desc := "()Z" } : Jvm.MethodName)) ∈ lw_all := lw_g (lw_at lw_m13 8 rfl) rfl
theorem q2975 : (Jvm.Cond.code ({ cls := "CribBookletModel", name := "isHeld", desc := "()Z" } : Jvm.MethodName) prog_33_method_7_code (1 : Nat) (Option.some Jvm.ClassFile.FieldType.boolean)) ∈ lw_all := lw_g (lw_at lw_m13 9 rfl) rfl
theorem q2977 : (Jvm.Cond.instanceMethod ({ cls := "CribBookletModel", name := "unfold", desc := "()I" } : Jvm.MethodName)) ∈ lw_all := lw_g (lw_at lw_m13 11 rfl) rfl
theorem q2978 : (Jvm.Cond.selects "CribBookletModel" ({ cls := "CribBookletModel", name := "unfold", desc := "()I" } : Jvm.MethodName) ({ cls := "CribBookletModel", name := "unfold", desc := "()I" } : Jvm.MethodName)) ∈ lw_all := lw_g (lw_at lw_m13 12 rfl) rfl
theorem q2979 : (Jvm.Cond.code ({ cls := "CribBookletModel", name := "unfold", desc := "()I" } : Jvm.MethodName) prog_33_method_29_code (1 : Nat) (Option.some Jvm.ClassFile.FieldType.int)) ∈ lw_all := lw_g (lw_at lw_m13 13 rfl) rfl
theorem q2981 : (Jvm.Cond.instanceMethod ({ cls := "CribBookletModel", name := "setSpine", desc := "(I)I" } : Jvm.MethodName)) ∈ lw_all := lw_g (lw_at lw_m13 15 rfl) rfl
theorem q2982 : (Jvm.Cond.selects "CribBookletModel" ({ cls := "CribBookletModel", name := "setSpine", desc := "(I)I" } : Jvm.MethodName) ({ cls := "CribBookletModel", name := "setSpine", desc := "(I)I" } : Jvm.MethodName)) ∈ lw_all := lw_g (lw_at lw_m13 16 rfl) rfl
theorem q2983 : (Jvm.Cond.code ({ cls := "CribBookletModel", name := "setSpine", desc := "(I)I" } : Jvm.MethodName) prog_33_method_30_code (3 : Nat) (Option.some Jvm.ClassFile.FieldType.int)) ∈ lw_all := lw_g (lw_at lw_m13 17 rfl) rfl
theorem q2985 : (Jvm.Cond.instanceMethod ({ cls := "CribBookletModel", name := "print", desc := "(IIIII)I" } : Jvm.MethodName)) ∈ lw_all := lw_g (lw_at lw_m13 19 rfl) rfl
theorem q2986 : (Jvm.Cond.selects "CribBookletModel" ({ cls := "CribBookletModel", name := "print", desc := "(IIIII)I" } : Jvm.MethodName) ({ cls := "CribBookletModel", name := "print", desc := "(IIIII)I" } : Jvm.MethodName)) ∈ lw_all := lw_g (lw_at lw_m13 20 rfl) rfl
theorem q2987 : (Jvm.Cond.code ({ cls := "CribBookletModel", name := "print", desc := "(IIIII)I" } : Jvm.MethodName) prog_33_method_33_code (8 : Nat) (Option.some Jvm.ClassFile.FieldType.int)) ∈ lw_all := lw_g (lw_at lw_m13 21 rfl) rfl
theorem q2988 : (Jvm.Cond.methodLink "CribBookletModel" (146 : Nat) ({ cls := "CribBookletModel", name := "isCell", desc := "(II)Z" } : Jvm.MethodName)) ∈ lw_all := lw_g (lw_at lw_m13 22 rfl) rfl
theorem q2989 : (Jvm.Cond.privateMethod ({ cls := "CribBookletModel", name := "isCell", desc := "(II)Z" } : Jvm.MethodName)) ∈ lw_tbl := lw_at lw_m13 23 rfl
theorem q2990 : (Jvm.Cond.instanceMethod ({ cls := "CribBookletModel", name := "isCell", desc := "(II)Z" } : Jvm.MethodName)) ∈ lw_all := lw_g (lw_at lw_m13 24 rfl) rfl
theorem q2991 : (Jvm.Cond.code ({ cls := "CribBookletModel", name := "isCell", desc := "(II)Z" } : Jvm.MethodName) prog_33_method_31_code (3 : Nat) (Option.some Jvm.ClassFile.FieldType.boolean)) ∈ lw_all := lw_g (lw_at lw_m13 25 rfl) rfl
theorem q2992 : (Jvm.Cond.constantLong "CribBookletModel" (149 : Nat) (-1 : Int64)) ∈ lw_all := lw_g (lw_at lw_m13 26 rfl) rfl
theorem q2993 : (Jvm.Cond.constantLong "CribBookletModel" (151 : Nat) (31 : Int64)) ∈ lw_all := lw_g (lw_at lw_m13 27 rfl) rfl
theorem q2994 : (Jvm.Cond.methodLink "CribBookletModel" (153 : Nat) ({ cls := "CribBookletModel", name := "printOn", desc := "(III)I" } : Jvm.MethodName)) ∈ lw_all := lw_g (lw_at lw_m13 28 rfl) rfl
theorem q2995 : (Jvm.Cond.privateMethod ({ cls := "CribBookletModel", name := "printOn", desc := "(III)I" } : Jvm.MethodName)) ∈ lw_tbl := lw_at lw_m13 29 rfl
theorem q2996 : (Jvm.Cond.instanceMethod ({ cls := "CribBookletModel", name := "printOn", desc := "(III)I" } : Jvm.MethodName)) ∈ lw_all := lw_g (lw_at lw_m13 30 rfl) rfl
theorem q2997 : (Jvm.Cond.code ({ cls := "CribBookletModel", name := "printOn", desc := "(III)I" } : Jvm.MethodName) prog_33_method_32_code (6 : Nat) (Option.some Jvm.ClassFile.FieldType.int)) ∈ lw_all := lw_g (lw_at lw_m13 31 rfl) rfl
theorem q2999 : (Jvm.Cond.instanceMethod ({ cls := "CribBookletModel", name := "printAll", desc := "(I)I" } : Jvm.MethodName)) ∈ lw_all := lw_g (lw_at lw_m13 33 rfl) rfl
theorem q3000 : (Jvm.Cond.selects "CribBookletModel" ({ cls := "CribBookletModel", name := "printAll", desc := "(I)I" } : Jvm.MethodName) ({ cls := "CribBookletModel", name := "printAll", desc := "(I)I" } : Jvm.MethodName)) ∈ lw_all := lw_g (lw_at lw_m13 34 rfl) rfl
theorem q3001 : (Jvm.Cond.code ({ cls := "CribBookletModel", name := "printAll", desc := "(I)I" } : Jvm.MethodName) prog_33_method_34_code (4 : Nat) (Option.some Jvm.ClassFile.FieldType.int)) ∈ lw_all := lw_g (lw_at lw_m13 35 rfl) rfl
theorem q3002 : (Jvm.Cond.methodLink "CribBookletModel" (157 : Nat) ({ cls := "CribBookletModel", name := "layBy", desc := "(I)Z" } : Jvm.MethodName)) ∈ lw_all := lw_g (lw_at lw_m13 36 rfl) rfl
theorem q3003 : (Jvm.Cond.privateMethod ({ cls := "CribBookletModel", name := "layBy", desc := "(I)Z" } : Jvm.MethodName)) ∈ lw_tbl := lw_at lw_m13 37 rfl
theorem q3004 : (Jvm.Cond.instanceMethod ({ cls := "CribBookletModel", name := "layBy", desc := "(I)Z" } : Jvm.MethodName)) ∈ lw_all := lw_g (lw_at lw_m13 38 rfl) rfl
theorem q3005 : (Jvm.Cond.code ({ cls := "CribBookletModel", name := "layBy", desc := "(I)Z" } : Jvm.MethodName) prog_33_method_16_code (5 : Nat) (Option.some Jvm.ClassFile.FieldType.boolean)) ∈ lw_all := lw_g (lw_at lw_m13 39 rfl) rfl
theorem q3006 : (Jvm.Cond.methodLink "CribBookletModel" (95 : Nat) ({ cls := "CribBookletModel", name := "cells", desc := "()I" } : Jvm.MethodName)) ∈ lw_all := lw_g (lw_at lw_m13 40 rfl) rfl
theorem q3007 : (Jvm.Cond.privateMethod ({ cls := "CribBookletModel", name := "cells", desc := "()I" } : Jvm.MethodName)) ∈ lw_tbl := lw_at lw_m13 41 rfl
theorem q3008 : (Jvm.Cond.instanceMethod ({ cls := "CribBookletModel", name := "cells", desc := "()I" } : Jvm.MethodName)) ∈ lw_all := lw_g (lw_at lw_m13 42 rfl) rfl
theorem q3009 : (Jvm.Cond.code ({ cls := "CribBookletModel", name := "cells", desc := "()I" } : Jvm.MethodName) prog_33_method_6_code (1 : Nat) (Option.some Jvm.ClassFile.FieldType.int)) ∈ lw_all := lw_g (lw_at lw_m13 43 rfl) rfl
theorem q3010 : (Jvm.Cond.methodLink "CribBookletModel" (113 : Nat) ({ cls := "CribBookletModel", name := "sideOf", desc := "(I)I" } : Jvm.MethodName)) ∈ lw_all := lw_g (lw_at lw_m13 44 rfl) rfl
theorem q3011 : (Jvm.Cond.privateMethod ({ cls := "CribBookletModel", name := "sideOf", desc := "(I)I" } : Jvm.MethodName)) ∈ lw_tbl := lw_at lw_m13 45 rfl
theorem q3012 : (Jvm.Cond.instanceMethod ({ cls := "CribBookletModel", name := "sideOf", desc := "(I)I" } : Jvm.MethodName)) ∈ lw_all := lw_g (lw_at lw_m13 46 rfl) rfl
theorem q3013 : (Jvm.Cond.code ({ cls := "CribBookletModel", name := "sideOf", desc := "(I)I" } : Jvm.MethodName) prog_33_method_17_code (3 : Nat) (Option.some Jvm.ClassFile.FieldType.int)) ∈ lw_all := lw_g (lw_at lw_m13 47 rfl) rfl
theorem q3014 : (Jvm.Cond.methodLink "CribBookletModel" (109 : Nat) ({ cls := "CribBookletModel", name := "turnOf", desc := "(I)I" } : Jvm.MethodName)) ∈ lw_all := lw_g (lw_at lw_m13 48 rfl) rfl
theorem q3015 : (Jvm.Cond.privateMethod ({ cls := "CribBookletModel", name := "turnOf", desc := "(I)I" } : Jvm.MethodName)) ∈ lw_tbl := lw_at lw_m13 49 rfl
theorem q3016 : (Jvm.Cond.instanceMethod ({ cls := "CribBookletModel", name := "turnOf", desc := "(I)I" } : Jvm.MethodName)) ∈ lw_all := lw_g (lw_at lw_m13 50 rfl) rfl
theorem q3017 : (Jvm.Cond.code ({ cls := "CribBookletModel", name := "turnOf", desc := "(I)I" } : Jvm.MethodName) prog_33_method_18_code (2 : Nat) (Option.some Jvm.ClassFile.FieldType.int)) ∈ lw_all := lw_g (lw_at lw_m13 51 rfl) rfl
theorem q3019 : (Jvm.Cond.instanceMethod ({ cls := "CribBookletModel", name := "cut", desc := "(I)I" } : Jvm.MethodName)) ∈ lw_all := lw_g (lw_at lw_m13 53 rfl) rfl
theorem q3020 : (Jvm.Cond.selects "CribBookletModel" ({ cls := "CribBookletModel", name := "cut", desc := "(I)I" } : Jvm.MethodName) ({ cls := "CribBookletModel", name := "cut", desc := "(I)I" } : Jvm.MethodName)) ∈ lw_all := lw_g (lw_at lw_m13 54 rfl) rfl
theorem q3021 : (Jvm.Cond.code ({ cls := "CribBookletModel", name := "cut", desc := "(I)I" } : Jvm.MethodName) prog_33_method_36_code (2 : Nat) (Option.some Jvm.ClassFile.FieldType.int)) ∈ lw_all := lw_g (lw_at lw_m13 55 rfl) rfl
theorem q3022 : (Jvm.Cond.constantLong "CribBookletModel" (160 : Nat) (3 : Int64)) ∈ lw_all := lw_g (lw_at lw_m13 56 rfl) rfl
theorem q3023 : (Jvm.Cond.methodLink "CribBookletModel" (162 : Nat) ({ cls := "CribBookletModel", name := "isBooklet", desc := "()Z" } : Jvm.MethodName)) ∈ lw_all := lw_g (lw_at lw_m13 57 rfl) rfl
theorem q3024 : (Jvm.Cond.privateMethod ({ cls := "CribBookletModel", name := "isBooklet", desc := "()Z" } : Jvm.MethodName)) ∈ lw_tbl := lw_at lw_m13 58 rfl
theorem q3025 : (Jvm.Cond.instanceMethod ({ cls := "CribBookletModel", name := "isBooklet", desc := "()Z" } : Jvm.MethodName)) ∈ lw_all := lw_g (lw_at lw_m13 59 rfl) rfl
theorem q3026 : (Jvm.Cond.code ({ cls := "CribBookletModel", name := "isBooklet", desc := "()Z" } : Jvm.MethodName) prog_33_method_15_code (1 : Nat) (Option.some Jvm.ClassFile.FieldType.boolean)) ∈ lw_all := lw_g (lw_at lw_m13 60 rfl) rfl
theorem q3027 : (Jvm.Cond.methodLink "CribBookletModel" (120 : Nat) ({ cls := "CribBookletModel", name := "has", desc := "(II)Z" } : Jvm.MethodName)) ∈ lw_all := lw_g (lw_at lw_m13 61 rfl) rfl
theorem q3028 : (Jvm.Cond.static ({ cls := "CribBookletModel", name := "has", desc := "(II)Z" } : Jvm.MethodName)) ∈ lw_all := lw_g (lw_at lw_m13 62 rfl) rfl
theorem q3029 : (Jvm.Cond.code ({ cls := "CribBookletModel", name := "has", desc := "(II)Z" } : Jvm.MethodName) prog_33_method_3_code (2 : Nat) (Option.some Jvm.ClassFile.FieldType.boolean)) ∈ lw_all := lw_g (lw_at lw_m13 63 rfl) rfl
theorem q3030 : (Jvm.Cond.methodLink "CribBookletModel" (165 : Nat) ({ cls := "CribBookletModel", name := "pairsAt", desc := "(I)I" } : Jvm.MethodName)) ∈ lw_all := lw_g (lw_at lw_m13 64 rfl) rfl
theorem q3031 : (Jvm.Cond.privateMethod ({ cls := "CribBookletModel", name := "pairsAt", desc := "(I)I" } : Jvm.MethodName)) ∈ lw_tbl := lw_at lw_m13 65 rfl
theorem q3032 : (Jvm.Cond.instanceMethod ({ cls := "CribBookletModel", name := "pairsAt", desc := "(I)I" } : Jvm.MethodName)) ∈ lw_all := lw_g (lw_at lw_m13 66 rfl) rfl
theorem q3033 : (Jvm.Cond.code ({ cls := "CribBookletModel", name := "pairsAt", desc := "(I)I" } : Jvm.MethodName) prog_33_method_35_code (5 : Nat) (Option.some Jvm.ClassFile.FieldType.int)) ∈ lw_all := lw_g (lw_at lw_m13 67 rfl) rfl
theorem q3034 : (Jvm.Cond.methodLink "CribBookletModel" (116 : Nat) ({ cls := "CribBookletModel", name := "edgeOf", desc := "(II)I" } : Jvm.MethodName)) ∈ lw_all := lw_g (lw_at lw_m13 68 rfl) rfl
theorem q3035 : (Jvm.Cond.privateMethod ({ cls := "CribBookletModel", name := "edgeOf", desc := "(II)I" } : Jvm.MethodName)) ∈ lw_tbl := lw_at lw_m13 69 rfl
theorem q3036 : (Jvm.Cond.instanceMethod ({ cls := "CribBookletModel", name := "edgeOf", desc := "(II)I" } : Jvm.MethodName)) ∈ lw_all := lw_g (lw_at lw_m13 70 rfl) rfl
theorem q3037 : (Jvm.Cond.code ({ cls := "CribBookletModel", name := "edgeOf", desc := "(II)I" } : Jvm.MethodName) prog_33_method_22_code (7 : Nat) (Option.some Jvm.ClassFile.FieldType.int)) ∈ lw_all := lw_g (lw_at lw_m13 71 rfl) rfl
theorem q3039 : (Jvm.Cond.instanceMethod ({ cls := "CribBookletModel", name := "staple", desc := "(I)I" } : Jvm.MethodName)) ∈ lw_all := lw_g (lw_at lw_m13 73 rfl) rfl
theorem q3040 : (Jvm.Cond.selects "CribBookletModel" ({ cls := "CribBookletModel", name := "staple", desc := "(I)I" } : Jvm.MethodName) ({ cls := "CribBookletModel", name := "staple", desc := "(I)I" } : Jvm.MethodName)) ∈ lw_all := lw_g (lw_at lw_m13 74 rfl) rfl
theorem q3041 : (Jvm.Cond.code ({ cls := "CribBookletModel", name := "staple", desc := "(I)I" } : Jvm.MethodName) prog_33_method_37_code (2 : Nat) (Option.some Jvm.ClassFile.FieldType.int)) ∈ lw_all := lw_g (lw_at lw_m13 75 rfl) rfl
theorem q3042 : (Jvm.Cond.constantLong "CribBookletModel" (168 : Nat) (9 : Int64)) ∈ lw_all := lw_g (lw_at lw_m13 76 rfl) rfl
theorem q3043 : (Jvm.Cond.methodLink "CribBookletModel" (170 : Nat) ({ cls := "CribBookletModel", name := "ones", desc := "(I)I" } : Jvm.MethodName)) ∈ lw_all := lw_g (lw_at lw_m13 77 rfl) rfl
theorem q3044 : (Jvm.Cond.static ({ cls := "CribBookletModel", name := "ones", desc := "(I)I" } : Jvm.MethodName)) ∈ lw_all := lw_g (lw_at lw_m13 78 rfl) rfl
theorem q3045 : (Jvm.Cond.code ({ cls := "CribBookletModel", name := "ones", desc := "(I)I" } : Jvm.MethodName) prog_33_method_4_code (3 : Nat) (Option.some Jvm.ClassFile.FieldType.int)) ∈ lw_all := lw_g (lw_at lw_m13 79 rfl) rfl
theorem q3047 : (Jvm.Cond.instanceMethod ({ cls := "CribBookletModel", name := "unstaple", desc := "(I)I" } : Jvm.MethodName)) ∈ lw_all := lw_g (lw_at lw_m13 81 rfl) rfl
theorem q3048 : (Jvm.Cond.selects "CribBookletModel" ({ cls := "CribBookletModel", name := "unstaple", desc := "(I)I" } : Jvm.MethodName) ({ cls := "CribBookletModel", name := "unstaple", desc := "(I)I" } : Jvm.MethodName)) ∈ lw_all := lw_g (lw_at lw_m13 82 rfl) rfl
theorem q3049 : (Jvm.Cond.code ({ cls := "CribBookletModel", name := "unstaple", desc := "(I)I" } : Jvm.MethodName) prog_33_method_38_code (2 : Nat) (Option.some Jvm.ClassFile.FieldType.int)) ∈ lw_all := lw_g (lw_at lw_m13 83 rfl) rfl
theorem q3051 : (Jvm.Cond.instanceMethod ({ cls := "CribBookletModel", name := "setLegs", desc := "(I)I" } : Jvm.MethodName)) ∈ lw_all := lw_g (lw_at lw_m13 85 rfl) rfl
theorem q3052 : (Jvm.Cond.selects "CribBookletModel" ({ cls := "CribBookletModel", name := "setLegs", desc := "(I)I" } : Jvm.MethodName) ({ cls := "CribBookletModel", name := "setLegs", desc := "(I)I" } : Jvm.MethodName)) ∈ lw_all := lw_g (lw_at lw_m13 86 rfl) rfl
theorem q3053 : (Jvm.Cond.code ({ cls := "CribBookletModel", name := "setLegs", desc := "(I)I" } : Jvm.MethodName) prog_33_method_39_code (3 : Nat) (Option.some Jvm.ClassFile.FieldType.int)) ∈ lw_all := lw_g (lw_at lw_m13 87 rfl) rfl
theorem q3054 : (Jvm.Cond.constantLong "CribBookletModel" (173 : Nat) (16 : Int64)) ∈ lw_all := lw_g (lw_at lw_m13 88 rfl) rfl
theorem q3056 : (Jvm.Cond.instanceMethod ({ cls := "CribBookletModel", name := "see", desc := "(III)I" } : Jvm.MethodName)) ∈ lw_all := lw_g (lw_at lw_m13 90 rfl) rfl
theorem q3057 : (Jvm.Cond.selects "CribBookletModel" ({ cls := "CribBookletModel", name := "see", desc := "(III)I" } : Jvm.MethodName) ({ cls := "CribBookletModel", name := "see", desc := "(III)I" } : Jvm.MethodName)) ∈ lw_all := lw_g (lw_at lw_m13 91 rfl) rfl
theorem q3058 : (Jvm.Cond.code ({ cls := "CribBookletModel", name := "see", desc := "(III)I" } : Jvm.MethodName) prog_33_method_40_code (5 : Nat) (Option.some Jvm.ClassFile.FieldType.int)) ∈ lw_all := lw_g (lw_at lw_m13 92 rfl) rfl
theorem q3060 : (Jvm.Cond.instanceMethod ({ cls := "CribBookletModel", name := "forget", desc := "()I" } : Jvm.MethodName)) ∈ lw_all := lw_g (lw_at lw_m13 94 rfl) rfl
theorem q3061 : (Jvm.Cond.selects "CribBookletModel" ({ cls := "CribBookletModel", name := "forget", desc := "()I" } : Jvm.MethodName) ({ cls := "CribBookletModel", name := "forget", desc := "()I" } : Jvm.MethodName)) ∈ lw_all := lw_g (lw_at lw_m13 95 rfl) rfl
theorem q3062 : (Jvm.Cond.code ({ cls := "CribBookletModel", name := "forget", desc := "()I" } : Jvm.MethodName) prog_33_method_41_code (2 : Nat) (Option.some Jvm.ClassFile.FieldType.int)) ∈ lw_all := lw_g (lw_at lw_m13 96 rfl) rfl
theorem q3064 : (Jvm.Cond.instanceMethod ({ cls := "CribBookletModel", name := "addNote", desc := "(IIII)I" } : Jvm.MethodName)) ∈ lw_all := lw_g (lw_at lw_m13 98 rfl) rfl
theorem q3065 : (Jvm.Cond.selects "CribBookletModel" ({ cls := "CribBookletModel", name := "addNote", desc := "(IIII)I" } : Jvm.MethodName) ({ cls := "CribBookletModel", name := "addNote", desc := "(IIII)I" } : Jvm.MethodName)) ∈ lw_all := lw_g (lw_at lw_m13 99 rfl) rfl
theorem q3066 : (Jvm.Cond.code ({ cls := "CribBookletModel", name := "addNote", desc := "(IIII)I" } : Jvm.MethodName) prog_33_method_42_code (6 : Nat) (Option.some Jvm.ClassFile.FieldType.int)) ∈ lw_all := lw_g (lw_at lw_m13 100 rfl) rfl
theorem q3067 : (Jvm.Cond.constantLong "CribBookletModel" (175 : Nat) (99 : Int64)) ∈ lw_all := lw_g (lw_at lw_m13 101 rfl) rfl
theorem q3068 : (Jvm.Cond.constantLong "CribBookletModel" (177 : Nat) (20 : Int64)) ∈ lw_all := lw_g (lw_at lw_m13 102 rfl) rfl
theorem q3070 : (Jvm.Cond.instanceMethod ({ cls := "CribBookletModel", name := "removeNote", desc := "(I)I" } : Jvm.MethodName)) ∈ lw_all := lw_g (lw_at lw_m13 104 rfl) rfl
theorem q3071 : (Jvm.Cond.selects "CribBookletModel" ({ cls := "CribBookletModel", name := "removeNote", desc := "(I)I" } : Jvm.MethodName) ({ cls := "CribBookletModel", name := "removeNote", desc := "(I)I" } : Jvm.MethodName)) ∈ lw_all := lw_g (lw_at lw_m13 105 rfl) rfl
theorem q3072 : (Jvm.Cond.code ({ cls := "CribBookletModel", name := "removeNote", desc := "(I)I" } : Jvm.MethodName) prog_33_method_43_code (3 : Nat) (Option.some Jvm.ClassFile.FieldType.int)) ∈ lw_all := lw_g (lw_at lw_m13 106 rfl) rfl
theorem q3074 : (Jvm.Cond.instanceMethod ({ cls := "CribBookletModel", name := "setLines", desc := "(I)I" } : Jvm.MethodName)) ∈ lw_all := lw_g (lw_at lw_m13 108 rfl) rfl
theorem q3075 : (Jvm.Cond.selects "CribBookletModel" ({ cls := "CribBookletModel", name := "setLines", desc := "(I)I" } : Jvm.MethodName) ({ cls := "CribBookletModel", name := "setLines", desc := "(I)I" } : Jvm.MethodName)) ∈ lw_all := lw_g (lw_at lw_m13 109 rfl) rfl
theorem q3076 : (Jvm.Cond.code ({ cls := "CribBookletModel", name := "setLines", desc := "(I)I" } : Jvm.MethodName) prog_33_method_44_code (3 : Nat) (Option.some Jvm.ClassFile.FieldType.int)) ∈ lw_all := lw_g (lw_at lw_m13 110 rfl) rfl
theorem q3078 : (Jvm.Cond.instanceMethod ({ cls := "CribBookletModel", name := "take", desc := "(I)I" } : Jvm.MethodName)) ∈ lw_all := lw_g (lw_at lw_m13 112 rfl) rfl
theorem q3079 : (Jvm.Cond.selects "CribBookletModel" ({ cls := "CribBookletModel", name := "take", desc := "(I)I" } : Jvm.MethodName) ({ cls := "CribBookletModel", name := "take", desc := "(I)I" } : Jvm.MethodName)) ∈ lw_all := lw_g (lw_at lw_m13 113 rfl) rfl
theorem q3080 : (Jvm.Cond.code ({ cls := "CribBookletModel", name := "take", desc := "(I)I" } : Jvm.MethodName) prog_33_method_45_code (3 : Nat) (Option.some Jvm.ClassFile.FieldType.int)) ∈ lw_all := lw_g (lw_at lw_m13 114 rfl) rfl
theorem q3082 : (Jvm.Cond.instanceMethod ({ cls := "CribBookletModel", name := "restore", desc := "(I)I" } : Jvm.MethodName)) ∈ lw_all := lw_g (lw_at lw_m13 116 rfl) rfl
theorem q3083 : (Jvm.Cond.selects "CribBookletModel" ({ cls := "CribBookletModel", name := "restore", desc := "(I)I" } : Jvm.MethodName) ({ cls := "CribBookletModel", name := "restore", desc := "(I)I" } : Jvm.MethodName)) ∈ lw_all := lw_g (lw_at lw_m13 117 rfl) rfl
theorem q3084 : (Jvm.Cond.code ({ cls := "CribBookletModel", name := "restore", desc := "(I)I" } : Jvm.MethodName) prog_33_method_46_code (3 : Nat) (Option.some Jvm.ClassFile.FieldType.int)) ∈ lw_all := lw_g (lw_at lw_m13 118 rfl) rfl
theorem q3086 : (Jvm.Cond.instanceMethod ({ cls := "CribBookletModel", name := "undo", desc := "()I" } : Jvm.MethodName)) ∈ lw_all := lw_g (lw_at lw_m13 120 rfl) rfl
theorem q3087 : (Jvm.Cond.selects "CribBookletModel" ({ cls := "CribBookletModel", name := "undo", desc := "()I" } : Jvm.MethodName) ({ cls := "CribBookletModel", name := "undo", desc := "()I" } : Jvm.MethodName)) ∈ lw_all := lw_g (lw_at lw_m13 121 rfl) rfl
theorem q3088 : (Jvm.Cond.code ({ cls := "CribBookletModel", name := "undo", desc := "()I" } : Jvm.MethodName) prog_33_method_47_code (2 : Nat) (Option.some Jvm.ClassFile.FieldType.int)) ∈ lw_all := lw_g (lw_at lw_m13 122 rfl) rfl
theorem q3090 : (Jvm.Cond.instanceMethod ({ cls := "CribBookletModel", name := "append", desc := "(I)I" } : Jvm.MethodName)) ∈ lw_all := lw_g (lw_at lw_m13 124 rfl) rfl
theorem q3091 : (Jvm.Cond.selects "CribBookletModel" ({ cls := "CribBookletModel", name := "append", desc := "(I)I" } : Jvm.MethodName) ({ cls := "CribBookletModel", name := "append", desc := "(I)I" } : Jvm.MethodName)) ∈ lw_all := lw_g (lw_at lw_m13 125 rfl) rfl
theorem q3092 : (Jvm.Cond.code ({ cls := "CribBookletModel", name := "append", desc := "(I)I" } : Jvm.MethodName) prog_33_method_48_code (2 : Nat) (Option.some Jvm.ClassFile.FieldType.int)) ∈ lw_all := lw_g (lw_at lw_m13 126 rfl) rfl
theorem q3093 : (Jvm.Cond.constantLong "CribBookletModel" (179 : Nat) (255 : Int64)) ∈ lw_all := lw_g (lw_at lw_m13 127 rfl) rfl
theorem q3095 : (Jvm.Cond.instanceMethod ({ cls := "CribBookletModel", name := "clearText", desc := "()I" } : Jvm.MethodName)) ∈ lw_all := lw_g (lw_at lw_m13 129 rfl) rfl
theorem q3096 : (Jvm.Cond.selects "CribBookletModel" ({ cls := "CribBookletModel", name := "clearText", desc := "()I" } : Jvm.MethodName) ({ cls := "CribBookletModel", name := "clearText", desc := "()I" } : Jvm.MethodName)) ∈ lw_all := lw_g (lw_at lw_m13 130 rfl) rfl
theorem q3097 : (Jvm.Cond.code ({ cls := "CribBookletModel", name := "clearText", desc := "()I" } : Jvm.MethodName) prog_33_method_49_code (2 : Nat) (Option.some Jvm.ClassFile.FieldType.int)) ∈ lw_all := lw_g (lw_at lw_m13 131 rfl) rfl
theorem q3099 : (Jvm.Cond.instanceMethod ({ cls := "CribBookletModel", name := "run", desc := "()I" } : Jvm.MethodName)) ∈ lw_all := lw_g (lw_at lw_m13 133 rfl) rfl
theorem q3100 : (Jvm.Cond.selects "CribBookletModel" ({ cls := "CribBookletModel", name := "run", desc := "()I" } : Jvm.MethodName) ({ cls := "CribBookletModel", name := "run", desc := "()I" } : Jvm.MethodName)) ∈ lw_all := lw_g (lw_at lw_m13 134 rfl) rfl
theorem q3101 : (Jvm.Cond.code ({ cls := "CribBookletModel", name := "run", desc := "()I" } : Jvm.MethodName) prog_33_method_62_code (4 : Nat) (Option.some Jvm.ClassFile.FieldType.int)) ∈ lw_all := lw_g (lw_at lw_m13 135 rfl) rfl
theorem q3102 : (Jvm.Cond.methodLink "CribBookletModel" (312 : Nat) ({ cls := "CribBookletModel", name := "runAll", desc := "()I" } : Jvm.MethodName)) ∈ lw_all := lw_g (lw_at lw_m13 136 rfl) rfl
theorem q3103 : (Jvm.Cond.privateMethod ({ cls := "CribBookletModel", name := "runAll", desc := "()I" } : Jvm.MethodName)) ∈ lw_tbl := lw_at lw_m13 137 rfl
theorem q3104 : (Jvm.Cond.instanceMethod ({ cls := "CribBookletModel", name := "runAll", desc := "()I" } : Jvm.MethodName)) ∈ lw_all := lw_g (lw_at lw_m13 138 rfl) rfl
theorem q3105 : (Jvm.Cond.code ({ cls := "CribBookletModel", name := "runAll", desc := "()I" } : Jvm.MethodName) prog_33_method_61_code (5 : Nat) (Option.some Jvm.ClassFile.FieldType.int)) ∈ lw_all := lw_g (lw_at lw_m13 139 rfl) rfl
theorem q3106 : (Jvm.Cond.methodLink "CribBookletModel" (227 : Nat) ({ cls := "CribBookletModel", name := "next", desc := "()V" } : Jvm.MethodName)) ∈ lw_all := lw_g (lw_at lw_m13 140 rfl) rfl
theorem q3107 : (Jvm.Cond.privateMethod ({ cls := "CribBookletModel", name := "next", desc := "()V" } : Jvm.MethodName)) ∈ lw_tbl := lw_at lw_m13 141 rfl
theorem q3108 : (Jvm.Cond.instanceMethod ({ cls := "CribBookletModel", name := "next", desc := "()V" } : Jvm.MethodName)) ∈ lw_all := lw_g (lw_at lw_m13 142 rfl) rfl
theorem q3109 : (Jvm.Cond.code ({ cls := "CribBookletModel", name := "next", desc := "()V" } : Jvm.MethodName) prog_33_method_54_code (1 : Nat) (Option.none : Option Jvm.ClassFile.FieldType)) ∈ lw_all := lw_g (lw_at lw_m13 143 rfl) rfl
theorem q3110 : (Jvm.Cond.methodLink "CribBookletModel" (199 : Nat) ({ cls := "CribBookletModel", name := "isLetter", desc := "(I)Z" } : Jvm.MethodName)) ∈ lw_all := lw_g (lw_at lw_m13 144 rfl) rfl
theorem q3111 : (Jvm.Cond.static ({ cls := "CribBookletModel", name := "isLetter", desc := "(I)Z" } : Jvm.MethodName)) ∈ lw_all := lw_g (lw_at lw_m13 145 rfl) rfl
theorem q3112 : (Jvm.Cond.code ({ cls := "CribBookletModel", name := "isLetter", desc := "(I)Z" } : Jvm.MethodName) prog_33_method_50_code (1 : Nat) (Option.some Jvm.ClassFile.FieldType.boolean)) ∈ lw_all := lw_g (lw_at lw_m13 146 rfl) rfl
theorem q3113 : (Jvm.Cond.constantLong "CribBookletModel" (184 : Nat) (97 : Int64)) ∈ lw_all := lw_g (lw_at lw_m13 147 rfl) rfl
theorem q3114 : (Jvm.Cond.constantLong "CribBookletModel" (186 : Nat) (122 : Int64)) ∈ lw_all := lw_g (lw_at lw_m13 148 rfl) rfl
theorem q3115 : (Jvm.Cond.methodLink "CribBookletModel" (218 : Nat) ({ cls := "CribBookletModel", name := "readWord", desc := "()V" } : Jvm.MethodName)) ∈ lw_all := lw_g (lw_at lw_m13 149 rfl) rfl
theorem q3116 : (Jvm.Cond.privateMethod ({ cls := "CribBookletModel", name := "readWord", desc := "()V" } : Jvm.MethodName)) ∈ lw_tbl := lw_at lw_m13 150 rfl
theorem q3117 : (Jvm.Cond.instanceMethod ({ cls := "CribBookletModel", name := "readWord", desc := "()V" } : Jvm.MethodName)) ∈ lw_all := lw_g (lw_at lw_m13 151 rfl) rfl
theorem q3118 : (Jvm.Cond.code ({ cls := "CribBookletModel", name := "readWord", desc := "()V" } : Jvm.MethodName) prog_33_method_52_code (2 : Nat) (Option.none : Option Jvm.ClassFile.FieldType)) ∈ lw_all := lw_g (lw_at lw_m13 152 rfl) rfl
theorem q3119 : (Jvm.Cond.constantLong "CribBookletModel" (202 : Nat) (32 : Int64)) ∈ lw_all := lw_g (lw_at lw_m13 153 rfl) rfl
theorem q3120 : (Jvm.Cond.constantLong "CribBookletModel" (204 : Nat) (96 : Int64)) ∈ lw_all := lw_g (lw_at lw_m13 154 rfl) rfl
theorem q3121 : (Jvm.Cond.methodLink "CribBookletModel" (212 : Nat) ({ cls := "CribBookletModel", name := "isFigure", desc := "(I)Z" } : Jvm.MethodName)) ∈ lw_all := lw_g (lw_at lw_m13 155 rfl) rfl
theorem q3122 : (Jvm.Cond.static ({ cls := "CribBookletModel", name := "isFigure", desc := "(I)Z" } : Jvm.MethodName)) ∈ lw_all := lw_g (lw_at lw_m13 156 rfl) rfl
theorem q3123 : (Jvm.Cond.code ({ cls := "CribBookletModel", name := "isFigure", desc := "(I)Z" } : Jvm.MethodName) prog_33_method_51_code (1 : Nat) (Option.some Jvm.ClassFile.FieldType.boolean)) ∈ lw_all := lw_g (lw_at lw_m13 157 rfl) rfl
theorem q3124 : (Jvm.Cond.constantLong "CribBookletModel" (188 : Nat) (48 : Int64)) ∈ lw_all := lw_g (lw_at lw_m13 158 rfl) rfl
theorem q3125 : (Jvm.Cond.constantLong "CribBookletModel" (190 : Nat) (57 : Int64)) ∈ lw_all := lw_g (lw_at lw_m13 159 rfl) rfl
theorem q3126 : (Jvm.Cond.methodLink "CribBookletModel" (221 : Nat) ({ cls := "CribBookletModel", name := "readNumber", desc := "()V" } : Jvm.MethodName)) ∈ lw_all := lw_g (lw_at lw_m13 160 rfl) rfl
theorem q3127 : (Jvm.Cond.privateMethod ({ cls := "CribBookletModel", name := "readNumber", desc := "()V" } : Jvm.MethodName)) ∈ lw_tbl := lw_at lw_m13 161 rfl
theorem q3128 : (Jvm.Cond.instanceMethod ({ cls := "CribBookletModel", name := "readNumber", desc := "()V" } : Jvm.MethodName)) ∈ lw_all := lw_g (lw_at lw_m13 162 rfl) rfl
theorem q3129 : (Jvm.Cond.code ({ cls := "CribBookletModel", name := "readNumber", desc := "()V" } : Jvm.MethodName) prog_33_method_53_code (3 : Nat) (Option.none : Option Jvm.ClassFile.FieldType)) ∈ lw_all := lw_g (lw_at lw_m13 163 rfl) rfl
theorem q3130 : (Jvm.Cond.methodLink "CribBookletModel" (301 : Nat) ({ cls := "CribBookletModel", name := "isCommand", desc := "(J)Z" } : Jvm.MethodName)) ∈ lw_all := lw_g (lw_at lw_m13 164 rfl) rfl
theorem q3131 : (Jvm.Cond.static ({ cls := "CribBookletModel", name := "isCommand", desc := "(J)Z" } : Jvm.MethodName)) ∈ lw_all := lw_g (lw_at lw_m13 165 rfl) rfl
theorem q3132 : (Jvm.Cond.code ({ cls := "CribBookletModel", name := "isCommand", desc := "(J)Z" } : Jvm.MethodName) prog_33_method_58_code (2 : Nat) (Option.some Jvm.ClassFile.FieldType.boolean)) ∈ lw_all := lw_g (lw_at lw_m13 166 rfl) rfl
theorem q3133 : (Jvm.Cond.constantLong "CribBookletModel" (257 : Nat) (20190388 : Int64)) ∈ lw_all := lw_g (lw_at lw_m13 167 rfl) rfl
theorem q3134 : (Jvm.Cond.constantLong "CribBookletModel" (255 : Nat) (212356 : Int64)) ∈ lw_all := lw_g (lw_at lw_m13 168 rfl) rfl
theorem q3135 : (Jvm.Cond.constantLong "CribBookletModel" (259 : Nat) (719535492 : Int64)) ∈ lw_all := lw_g (lw_at lw_m13 169 rfl) rfl
theorem q3136 : (Jvm.Cond.constantLong "CribBookletModel" (243 : Nat) (20456901 : Int64)) ∈ lw_all := lw_g (lw_at lw_m13 170 rfl) rfl
theorem q3137 : (Jvm.Cond.constantLong "CribBookletModel" (261 : Nat) (17376724 : Int64)) ∈ lw_all := lw_g (lw_at lw_m13 171 rfl) rfl
theorem q3138 : (Jvm.Cond.constantLong "CribBookletModel" (241 : Nat) (3764 : Int64)) ∈ lw_all := lw_g (lw_at lw_m13 172 rfl) rfl
theorem q3139 : (Jvm.Cond.constantLong "CribBookletModel" (263 : Nat) (658555269 : Int64)) ∈ lw_all := lw_g (lw_at lw_m13 173 rfl) rfl
theorem q3140 : (Jvm.Cond.constantLong "CribBookletModel" (248 : Nat) (474757 : Int64)) ∈ lw_all := lw_g (lw_at lw_m13 174 rfl) rfl
theorem q3141 : (Jvm.Cond.constantLong "CribBookletModel" (265 : Nat) (12892339 : Int64)) ∈ lw_all := lw_g (lw_at lw_m13 175 rfl) rfl
theorem q3142 : (Jvm.Cond.methodLink "CribBookletModel" (305 : Nat) ({ cls := "CribBookletModel", name := "readsNeeds", desc := "(J)Z" } : Jvm.MethodName)) ∈ lw_all := lw_g (lw_at lw_m13 176 rfl) rfl
theorem q3143 : (Jvm.Cond.privateMethod ({ cls := "CribBookletModel", name := "readsNeeds", desc := "(J)Z" } : Jvm.MethodName)) ∈ lw_tbl := lw_at lw_m13 177 rfl
theorem q3144 : (Jvm.Cond.instanceMethod ({ cls := "CribBookletModel", name := "readsNeeds", desc := "(J)Z" } : Jvm.MethodName)) ∈ lw_all := lw_g (lw_at lw_m13 178 rfl) rfl
theorem q3145 : (Jvm.Cond.code ({ cls := "CribBookletModel", name := "readsNeeds", desc := "(J)Z" } : Jvm.MethodName) prog_33_method_57_code (5 : Nat) (Option.some Jvm.ClassFile.FieldType.boolean)) ∈ lw_all := lw_g (lw_at lw_m13 179 rfl) rfl
theorem q3146 : (Jvm.Cond.methodLink "CribBookletModel" (245 : Nat) ({ cls := "CribBookletModel", name := "edgeWord", desc := "()I" } : Jvm.MethodName)) ∈ lw_all := lw_g (lw_at lw_m13 180 rfl) rfl
theorem q3147 : (Jvm.Cond.privateMethod ({ cls := "CribBookletModel", name := "edgeWord", desc := "()I" } : Jvm.MethodName)) ∈ lw_tbl := lw_at lw_m13 181 rfl
theorem q3148 : (Jvm.Cond.instanceMethod ({ cls := "CribBookletModel", name := "edgeWord", desc := "()I" } : Jvm.MethodName)) ∈ lw_all := lw_g (lw_at lw_m13 182 rfl) rfl
theorem q3149 : (Jvm.Cond.code ({ cls := "CribBookletModel", name := "edgeWord", desc := "()I" } : Jvm.MethodName) prog_33_method_56_code (2 : Nat) (Option.some Jvm.ClassFile.FieldType.int)) ∈ lw_all := lw_g (lw_at lw_m13 183 rfl) rfl
theorem q3150 : (Jvm.Cond.constantLong "CribBookletModel" (230 : Nat) (398548 : Int64)) ∈ lw_all := lw_g (lw_at lw_m13 184 rfl) rfl
theorem q3151 : (Jvm.Cond.constantLong "CribBookletModel" (232 : Nat) (19176724 : Int64)) ∈ lw_all := lw_g (lw_at lw_m13 185 rfl) rfl
theorem q3152 : (Jvm.Cond.constantLong "CribBookletModel" (234 : Nat) (20976 : Int64)) ∈ lw_all := lw_g (lw_at lw_m13 186 rfl) rfl
theorem q3153 : (Jvm.Cond.constantLong "CribBookletModel" (236 : Nat) (83513837 : Int64)) ∈ lw_all := lw_g (lw_at lw_m13 187 rfl) rfl
theorem q3154 : (Jvm.Cond.methodLink "CribBookletModel" (250 : Nat) ({ cls := "CribBookletModel", name := "numbers", desc := "(II)Z" } : Jvm.MethodName)) ∈ lw_all := lw_g (lw_at lw_m13 188 rfl) rfl
theorem q3155 : (Jvm.Cond.privateMethod ({ cls := "CribBookletModel", name := "numbers", desc := "(II)Z" } : Jvm.MethodName)) ∈ lw_tbl := lw_at lw_m13 189 rfl
theorem q3156 : (Jvm.Cond.instanceMethod ({ cls := "CribBookletModel", name := "numbers", desc := "(II)Z" } : Jvm.MethodName)) ∈ lw_all := lw_g (lw_at lw_m13 190 rfl) rfl
theorem q3157 : (Jvm.Cond.code ({ cls := "CribBookletModel", name := "numbers", desc := "(II)Z" } : Jvm.MethodName) prog_33_method_55_code (3 : Nat) (Option.some Jvm.ClassFile.FieldType.boolean)) ∈ lw_all := lw_g (lw_at lw_m13 191 rfl) rfl
theorem q3158 : (Jvm.Cond.constantLong "CribBookletModel" (253 : Nat) (24395141 : Int64)) ∈ lw_all := lw_g (lw_at lw_m13 192 rfl) rfl
theorem q3159 : (Jvm.Cond.methodLink "CribBookletModel" (308 : Nat) ({ cls := "CribBookletModel", name := "doCommand", desc := "(J)I" } : Jvm.MethodName)) ∈ lw_all := lw_g (lw_at lw_m13 193 rfl) rfl
theorem q3160 : (Jvm.Cond.privateMethod ({ cls := "CribBookletModel", name := "doCommand", desc := "(J)I" } : Jvm.MethodName)) ∈ lw_tbl := lw_at lw_m13 194 rfl
theorem q3161 : (Jvm.Cond.instanceMethod ({ cls := "CribBookletModel", name := "doCommand", desc := "(J)I" } : Jvm.MethodName)) ∈ lw_all := lw_g (lw_at lw_m13 195 rfl) rfl
theorem q3162 : (Jvm.Cond.code ({ cls := "CribBookletModel", name := "doCommand", desc := "(J)I" } : Jvm.MethodName) prog_33_method_60_code (3 : Nat) (Option.some Jvm.ClassFile.FieldType.int)) ∈ lw_all := lw_g (lw_at lw_m13 196 rfl) rfl
theorem q3163 : (Jvm.Cond.methodLink "CribBookletModel" (270 : Nat) ({ cls := "CribBookletModel", name := "setSheet", desc := "(II)I" } : Jvm.MethodName)) ∈ lw_all := lw_g (lw_at lw_m13 197 rfl) rfl
theorem q3164 : (Jvm.Cond.methodLink "CribBookletModel" (273 : Nat) ({ cls := "CribBookletModel", name := "doFolds", desc := "()I" } : Jvm.MethodName)) ∈ lw_all := lw_g (lw_at lw_m13 198 rfl) rfl
theorem q3165 : (Jvm.Cond.privateMethod ({ cls := "CribBookletModel", name := "doFolds", desc := "()I" } : Jvm.MethodName)) ∈ lw_tbl := lw_at lw_m13 199 rfl
theorem q3166 : (Jvm.Cond.instanceMethod ({ cls := "CribBookletModel", name := "doFolds", desc := "()I" } : Jvm.MethodName)) ∈ lw_all := lw_g (lw_at lw_m13 200 rfl) rfl
theorem q3167 : (Jvm.Cond.code ({ cls := "CribBookletModel", name := "doFolds", desc := "()I" } : Jvm.MethodName) prog_33_method_59_code (3 : Nat) (Option.some Jvm.ClassFile.FieldType.int)) ∈ lw_all := lw_g (lw_at lw_m13 201 rfl) rfl
theorem q3168 : (Jvm.Cond.methodLink "CribBookletModel" (267 : Nat) ({ cls := "CribBookletModel", name := "fold", desc := "(I)I" } : Jvm.MethodName)) ∈ lw_all := lw_g (lw_at lw_m13 202 rfl) rfl
theorem q3169 : (Jvm.Cond.methodLink "CribBookletModel" (276 : Nat) ({ cls := "CribBookletModel", name := "unfold", desc := "()I" } : Jvm.MethodName)) ∈ lw_all := lw_g (lw_at lw_m13 203 rfl) rfl
theorem q3170 : (Jvm.Cond.methodLink "CribBookletModel" (279 : Nat) ({ cls := "CribBookletModel", name := "setSpine", desc := "(I)I" } : Jvm.MethodName)) ∈ lw_all := lw_g (lw_at lw_m13 204 rfl) rfl
theorem q3171 : (Jvm.Cond.methodLink "CribBookletModel" (282 : Nat) ({ cls := "CribBookletModel", name := "printAll", desc := "(I)I" } : Jvm.MethodName)) ∈ lw_all := lw_g (lw_at lw_m13 205 rfl) rfl
theorem q3172 : (Jvm.Cond.methodLink "CribBookletModel" (285 : Nat) ({ cls := "CribBookletModel", name := "cut", desc := "(I)I" } : Jvm.MethodName)) ∈ lw_all := lw_g (lw_at lw_m13 206 rfl) rfl
theorem q3173 : (Jvm.Cond.methodLink "CribBookletModel" (288 : Nat) ({ cls := "CribBookletModel", name := "staple", desc := "(I)I" } : Jvm.MethodName)) ∈ lw_all := lw_g (lw_at lw_m13 207 rfl) rfl
theorem q3174 : (Jvm.Cond.methodLink "CribBookletModel" (291 : Nat) ({ cls := "CribBookletModel", name := "addNote", desc := "(IIII)I" } : Jvm.MethodName)) ∈ lw_all := lw_g (lw_at lw_m13 208 rfl) rfl
theorem q3175 : (Jvm.Cond.methodLink "CribBookletModel" (295 : Nat) ({ cls := "CribBookletModel", name := "setLines", desc := "(I)I" } : Jvm.MethodName)) ∈ lw_all := lw_g (lw_at lw_m13 209 rfl) rfl
theorem q3177 : (Jvm.Cond.instanceMethod ({ cls := "CribBookletModel", name := "count", desc := "(I)I" } : Jvm.MethodName)) ∈ lw_all := lw_g (lw_at lw_m13 211 rfl) rfl
theorem q3178 : (Jvm.Cond.selects "CribBookletModel" ({ cls := "CribBookletModel", name := "count", desc := "(I)I" } : Jvm.MethodName) ({ cls := "CribBookletModel", name := "count", desc := "(I)I" } : Jvm.MethodName)) ∈ lw_all := lw_g (lw_at lw_m13 212 rfl) rfl
theorem q3179 : (Jvm.Cond.code ({ cls := "CribBookletModel", name := "count", desc := "(I)I" } : Jvm.MethodName) prog_33_method_64_code (2 : Nat) (Option.some Jvm.ClassFile.FieldType.int)) ∈ lw_all := lw_g (lw_at lw_m13 213 rfl) rfl
theorem q3180 : (Jvm.Cond.methodLink "CribBookletModel" (315 : Nat) ({ cls := "CribBookletModel", name := "foldsNow", desc := "()I" } : Jvm.MethodName)) ∈ lw_all := lw_g (lw_at lw_m13 214 rfl) rfl
theorem q3181 : (Jvm.Cond.privateMethod ({ cls := "CribBookletModel", name := "foldsNow", desc := "()I" } : Jvm.MethodName)) ∈ lw_tbl := lw_at lw_m13 215 rfl
theorem q3182 : (Jvm.Cond.instanceMethod ({ cls := "CribBookletModel", name := "foldsNow", desc := "()I" } : Jvm.MethodName)) ∈ lw_all := lw_g (lw_at lw_m13 216 rfl) rfl
theorem q3183 : (Jvm.Cond.code ({ cls := "CribBookletModel", name := "foldsNow", desc := "()I" } : Jvm.MethodName) prog_33_method_63_code (3 : Nat) (Option.some Jvm.ClassFile.FieldType.int)) ∈ lw_all := lw_g (lw_at lw_m13 217 rfl) rfl
theorem q3185 : (Jvm.Cond.instanceMethod ({ cls := "CribBookletModel", name := "side", desc := "(IIII)I" } : Jvm.MethodName)) ∈ lw_all := lw_g (lw_at lw_m13 219 rfl) rfl
theorem q3186 : (Jvm.Cond.selects "CribBookletModel" ({ cls := "CribBookletModel", name := "side", desc := "(IIII)I" } : Jvm.MethodName) ({ cls := "CribBookletModel", name := "side", desc := "(IIII)I" } : Jvm.MethodName)) ∈ lw_all := lw_g (lw_at lw_m13 220 rfl) rfl
theorem q3187 : (Jvm.Cond.code ({ cls := "CribBookletModel", name := "side", desc := "(IIII)I" } : Jvm.MethodName) prog_33_method_65_code (6 : Nat) (Option.some Jvm.ClassFile.FieldType.int)) ∈ lw_all := lw_g (lw_at lw_m13 221 rfl) rfl
theorem q3189 : (Jvm.Cond.instanceMethod ({ cls := "CribBookletModel", name := "layer", desc := "(III)I" } : Jvm.MethodName)) ∈ lw_all := lw_g (lw_at lw_m13 223 rfl) rfl
theorem q3190 : (Jvm.Cond.selects "CribBookletModel" ({ cls := "CribBookletModel", name := "layer", desc := "(III)I" } : Jvm.MethodName) ({ cls := "CribBookletModel", name := "layer", desc := "(III)I" } : Jvm.MethodName)) ∈ lw_all := lw_g (lw_at lw_m13 224 rfl) rfl
theorem q3191 : (Jvm.Cond.code ({ cls := "CribBookletModel", name := "layer", desc := "(III)I" } : Jvm.MethodName) prog_33_method_66_code (6 : Nat) (Option.some Jvm.ClassFile.FieldType.int)) ∈ lw_all := lw_g (lw_at lw_m13 225 rfl) rfl
theorem q3193 : (Jvm.Cond.instanceMethod ({ cls := "CribBookletModel", name := "page", desc := "(II)I" } : Jvm.MethodName)) ∈ lw_all := lw_g (lw_at lw_m13 227 rfl) rfl
theorem q3194 : (Jvm.Cond.selects "CribBookletModel" ({ cls := "CribBookletModel", name := "page", desc := "(II)I" } : Jvm.MethodName) ({ cls := "CribBookletModel", name := "page", desc := "(II)I" } : Jvm.MethodName)) ∈ lw_all := lw_g (lw_at lw_m13 228 rfl) rfl
theorem q3195 : (Jvm.Cond.code ({ cls := "CribBookletModel", name := "page", desc := "(II)I" } : Jvm.MethodName) prog_33_method_67_code (5 : Nat) (Option.some Jvm.ClassFile.FieldType.int)) ∈ lw_all := lw_g (lw_at lw_m13 229 rfl) rfl
theorem q3196 : (Jvm.Cond.constantLong "CribBookletModel" (318 : Nat) (7 : Int64)) ∈ lw_all := lw_g (lw_at lw_m13 230 rfl) rfl
theorem q3197 : (Jvm.Cond.methodLink "CribBookletModel" (133 : Nat) ({ cls := "CribBookletModel", name := "isUpright", desc := "(I)Z" } : Jvm.MethodName)) ∈ lw_all := lw_g (lw_at lw_m13 231 rfl) rfl
theorem q3198 : (Jvm.Cond.privateMethod ({ cls := "CribBookletModel", name := "isUpright", desc := "(I)Z" } : Jvm.MethodName)) ∈ lw_tbl := lw_at lw_m13 232 rfl
theorem q3199 : (Jvm.Cond.instanceMethod ({ cls := "CribBookletModel", name := "isUpright", desc := "(I)Z" } : Jvm.MethodName)) ∈ lw_all := lw_g (lw_at lw_m13 233 rfl) rfl
theorem q3200 : (Jvm.Cond.code ({ cls := "CribBookletModel", name := "isUpright", desc := "(I)Z" } : Jvm.MethodName) prog_33_method_19_code (2 : Nat) (Option.some Jvm.ClassFile.FieldType.boolean)) ∈ lw_all := lw_g (lw_at lw_m13 234 rfl) rfl
theorem q3201 : (Jvm.Cond.methodLink "CribBookletModel" (320 : Nat) ({ cls := "CribBookletModel", name := "isHidden", desc := "(I)Z" } : Jvm.MethodName)) ∈ lw_all := lw_g (lw_at lw_m13 235 rfl) rfl
theorem q3202 : (Jvm.Cond.privateMethod ({ cls := "CribBookletModel", name := "isHidden", desc := "(I)Z" } : Jvm.MethodName)) ∈ lw_tbl := lw_at lw_m13 236 rfl
theorem q3203 : (Jvm.Cond.instanceMethod ({ cls := "CribBookletModel", name := "isHidden", desc := "(I)Z" } : Jvm.MethodName)) ∈ lw_all := lw_g (lw_at lw_m13 237 rfl) rfl
theorem q3204 : (Jvm.Cond.code ({ cls := "CribBookletModel", name := "isHidden", desc := "(I)Z" } : Jvm.MethodName) prog_33_method_24_code (2 : Nat) (Option.some Jvm.ClassFile.FieldType.boolean)) ∈ lw_all := lw_g (lw_at lw_m13 238 rfl) rfl
theorem q3205 : (Jvm.Cond.methodLink "CribBookletModel" (127 : Nat) ({ cls := "CribBookletModel", name := "shutBy", desc := "(II)I" } : Jvm.MethodName)) ∈ lw_all := lw_g (lw_at lw_m13 239 rfl) rfl
theorem q3206 : (Jvm.Cond.privateMethod ({ cls := "CribBookletModel", name := "shutBy", desc := "(II)I" } : Jvm.MethodName)) ∈ lw_tbl := lw_at lw_m14 0 rfl
theorem q3207 : (Jvm.Cond.instanceMethod ({ cls := "CribBookletModel", name := "shutBy", desc := "(II)I" } : Jvm.MethodName)) ∈ lw_all := lw_g (lw_at lw_m14 1 rfl) rfl
theorem q3208 : (Jvm.Cond.code ({ cls := "CribBookletModel", name := "shutBy", desc := "(II)I" } : Jvm.MethodName) prog_33_method_23_code (7 : Nat) (Option.some Jvm.ClassFile.FieldType.int)) ∈ lw_all := lw_g (lw_at lw_m14 2 rfl) rfl
theorem q3209 : (Jvm.Cond.methodLink "CribBookletModel" (124 : Nat) ({ cls := "CribBookletModel", name := "spineEdge", desc := "()I" } : Jvm.MethodName)) ∈ lw_all := lw_g (lw_at lw_m14 3 rfl) rfl
theorem q3210 : (Jvm.Cond.privateMethod ({ cls := "CribBookletModel", name := "spineEdge", desc := "()I" } : Jvm.MethodName)) ∈ lw_tbl := lw_at lw_m14 4 rfl
theorem q3211 : (Jvm.Cond.instanceMethod ({ cls := "CribBookletModel", name := "spineEdge", desc := "()I" } : Jvm.MethodName)) ∈ lw_all := lw_g (lw_at lw_m14 5 rfl) rfl
theorem q3212 : (Jvm.Cond.code ({ cls := "CribBookletModel", name := "spineEdge", desc := "()I" } : Jvm.MethodName) prog_33_method_21_code (1 : Nat) (Option.some Jvm.ClassFile.FieldType.int)) ∈ lw_all := lw_g (lw_at lw_m14 6 rfl) rfl
theorem q3213 : (Jvm.Cond.methodLink "CribBookletModel" (323 : Nat) ({ cls := "CribBookletModel", name := "isItsOwn", desc := "(I)Z" } : Jvm.MethodName)) ∈ lw_all := lw_g (lw_at lw_m14 7 rfl) rfl
theorem q3214 : (Jvm.Cond.privateMethod ({ cls := "CribBookletModel", name := "isItsOwn", desc := "(I)Z" } : Jvm.MethodName)) ∈ lw_tbl := lw_at lw_m14 8 rfl
theorem q3215 : (Jvm.Cond.instanceMethod ({ cls := "CribBookletModel", name := "isItsOwn", desc := "(I)Z" } : Jvm.MethodName)) ∈ lw_all := lw_g (lw_at lw_m14 9 rfl) rfl
theorem q3216 : (Jvm.Cond.code ({ cls := "CribBookletModel", name := "isItsOwn", desc := "(I)Z" } : Jvm.MethodName) prog_33_method_25_code (2 : Nat) (Option.some Jvm.ClassFile.FieldType.boolean)) ∈ lw_all := lw_g (lw_at lw_m14 10 rfl) rfl
theorem q3217 : (Jvm.Cond.methodLink "CribBookletModel" (130 : Nat) ({ cls := "CribBookletModel", name := "printedOn", desc := "(I)I" } : Jvm.MethodName)) ∈ lw_all := lw_g (lw_at lw_m14 11 rfl) rfl
theorem q3218 : (Jvm.Cond.privateMethod ({ cls := "CribBookletModel", name := "printedOn", desc := "(I)I" } : Jvm.MethodName)) ∈ lw_tbl := lw_at lw_m14 12 rfl
theorem q3219 : (Jvm.Cond.instanceMethod ({ cls := "CribBookletModel", name := "printedOn", desc := "(I)I" } : Jvm.MethodName)) ∈ lw_all := lw_g (lw_at lw_m14 13 rfl) rfl
theorem q3220 : (Jvm.Cond.code ({ cls := "CribBookletModel", name := "printedOn", desc := "(I)I" } : Jvm.MethodName) prog_33_method_20_code (2 : Nat) (Option.some Jvm.ClassFile.FieldType.int)) ∈ lw_all := lw_g (lw_at lw_m14 14 rfl) rfl
theorem q3221 : (Jvm.Cond.methodLink "CribBookletModel" (326 : Nat) ({ cls := "CribBookletModel", name := "linesOn", desc := "(I)I" } : Jvm.MethodName)) ∈ lw_all := lw_g (lw_at lw_m14 15 rfl) rfl
theorem q3222 : (Jvm.Cond.privateMethod ({ cls := "CribBookletModel", name := "linesOn", desc := "(I)I" } : Jvm.MethodName)) ∈ lw_tbl := lw_at lw_m14 16 rfl
theorem q3223 : (Jvm.Cond.instanceMethod ({ cls := "CribBookletModel", name := "linesOn", desc := "(I)I" } : Jvm.MethodName)) ∈ lw_all := lw_g (lw_at lw_m14 17 rfl) rfl
theorem q3224 : (Jvm.Cond.code ({ cls := "CribBookletModel", name := "linesOn", desc := "(I)I" } : Jvm.MethodName) prog_33_method_79_code (6 : Nat) (Option.some Jvm.ClassFile.FieldType.int)) ∈ lw_all := lw_g (lw_at lw_m14 18 rfl) rfl
theorem q3225 : (Jvm.Cond.methodLink "CribBookletModel" (347 : Nat) ({ cls := "CribBookletModel", name := "layNotes", desc := "()V" } : Jvm.MethodName)) ∈ lw_all := lw_g (lw_at lw_m14 19 rfl) rfl
theorem q3226 : (Jvm.Cond.privateMethod ({ cls := "CribBookletModel", name := "layNotes", desc := "()V" } : Jvm.MethodName)) ∈ lw_tbl := lw_at lw_m14 20 rfl
theorem q3227 : (Jvm.Cond.instanceMethod ({ cls := "CribBookletModel", name := "layNotes", desc := "()V" } : Jvm.MethodName)) ∈ lw_all := lw_g (lw_at lw_m14 21 rfl) rfl
theorem q3228 : (Jvm.Cond.code ({ cls := "CribBookletModel", name := "layNotes", desc := "()V" } : Jvm.MethodName) prog_33_method_78_code (7 : Nat) (Option.none : Option Jvm.ClassFile.FieldType)) ∈ lw_all := lw_g (lw_at lw_m14 22 rfl) rfl
theorem q3229 : (Jvm.Cond.methodLink "CribBookletModel" (341 : Nat) ({ cls := "CribBookletModel", name := "comesAhead", desc := "(II)Z" } : Jvm.MethodName)) ∈ lw_all := lw_g (lw_at lw_m14 23 rfl) rfl
theorem q3230 : (Jvm.Cond.privateMethod ({ cls := "CribBookletModel", name := "comesAhead", desc := "(II)Z" } : Jvm.MethodName)) ∈ lw_tbl := lw_at lw_m14 24 rfl
theorem q3231 : (Jvm.Cond.instanceMethod ({ cls := "CribBookletModel", name := "comesAhead", desc := "(II)Z" } : Jvm.MethodName)) ∈ lw_all := lw_g (lw_at lw_m14 25 rfl) rfl
theorem q3232 : (Jvm.Cond.code ({ cls := "CribBookletModel", name := "comesAhead", desc := "(II)Z" } : Jvm.MethodName) prog_33_method_76_code (5 : Nat) (Option.some Jvm.ClassFile.FieldType.boolean)) ∈ lw_all := lw_g (lw_at lw_m14 26 rfl) rfl
theorem q3233 : (Jvm.Cond.methodLink "CribBookletModel" (344 : Nat) ({ cls := "CribBookletModel", name := "wholeFrom", desc := "(II)I" } : Jvm.MethodName)) ∈ lw_all := lw_g (lw_at lw_m14 27 rfl) rfl
theorem q3234 : (Jvm.Cond.privateMethod ({ cls := "CribBookletModel", name := "wholeFrom", desc := "(II)I" } : Jvm.MethodName)) ∈ lw_tbl := lw_at lw_m14 28 rfl
theorem q3235 : (Jvm.Cond.instanceMethod ({ cls := "CribBookletModel", name := "wholeFrom", desc := "(II)I" } : Jvm.MethodName)) ∈ lw_all := lw_g (lw_at lw_m14 29 rfl) rfl
theorem q3236 : (Jvm.Cond.code ({ cls := "CribBookletModel", name := "wholeFrom", desc := "(II)I" } : Jvm.MethodName) prog_33_method_77_code (6 : Nat) (Option.some Jvm.ClassFile.FieldType.int)) ∈ lw_all := lw_g (lw_at lw_m14 30 rfl) rfl
theorem q3237 : (Jvm.Cond.methodLink "CribBookletModel" (338 : Nat) ({ cls := "CribBookletModel", name := "openingOf", desc := "(I)I" } : Jvm.MethodName)) ∈ lw_all := lw_g (lw_at lw_m14 31 rfl) rfl
theorem q3238 : (Jvm.Cond.privateMethod ({ cls := "CribBookletModel", name := "openingOf", desc := "(I)I" } : Jvm.MethodName)) ∈ lw_tbl := lw_at lw_m14 32 rfl
theorem q3239 : (Jvm.Cond.instanceMethod ({ cls := "CribBookletModel", name := "openingOf", desc := "(I)I" } : Jvm.MethodName)) ∈ lw_all := lw_g (lw_at lw_m14 33 rfl) rfl
theorem q3240 : (Jvm.Cond.code ({ cls := "CribBookletModel", name := "openingOf", desc := "(I)I" } : Jvm.MethodName) prog_33_method_75_code (2 : Nat) (Option.some Jvm.ClassFile.FieldType.int)) ∈ lw_all := lw_g (lw_at lw_m14 34 rfl) rfl
theorem q3242 : (Jvm.Cond.instanceMethod ({ cls := "CribBookletModel", name := "opening", desc := "(II)I" } : Jvm.MethodName)) ∈ lw_all := lw_g (lw_at lw_m14 36 rfl) rfl
theorem q3243 : (Jvm.Cond.selects "CribBookletModel" ({ cls := "CribBookletModel", name := "opening", desc := "(II)I" } : Jvm.MethodName) ({ cls := "CribBookletModel", name := "opening", desc := "(II)I" } : Jvm.MethodName)) ∈ lw_all := lw_g (lw_at lw_m14 37 rfl) rfl
theorem q3244 : (Jvm.Cond.code ({ cls := "CribBookletModel", name := "opening", desc := "(II)I" } : Jvm.MethodName) prog_33_method_68_code (5 : Nat) (Option.some Jvm.ClassFile.FieldType.int)) ∈ lw_all := lw_g (lw_at lw_m14 38 rfl) rfl
theorem q3245 : (Jvm.Cond.constantLong "CribBookletModel" (329 : Nat) (2 : Int64)) ∈ lw_all := lw_g (lw_at lw_m14 39 rfl) rfl
theorem q3247 : (Jvm.Cond.instanceMethod ({ cls := "CribBookletModel", name := "hanging", desc := "(I)I" } : Jvm.MethodName)) ∈ lw_all := lw_g (lw_at lw_m14 41 rfl) rfl
theorem q3248 : (Jvm.Cond.selects "CribBookletModel" ({ cls := "CribBookletModel", name := "hanging", desc := "(I)I" } : Jvm.MethodName) ({ cls := "CribBookletModel", name := "hanging", desc := "(I)I" } : Jvm.MethodName)) ∈ lw_all := lw_g (lw_at lw_m14 42 rfl) rfl
theorem q3249 : (Jvm.Cond.code ({ cls := "CribBookletModel", name := "hanging", desc := "(I)I" } : Jvm.MethodName) prog_33_method_69_code (2 : Nat) (Option.some Jvm.ClassFile.FieldType.int)) ∈ lw_all := lw_g (lw_at lw_m14 43 rfl) rfl
theorem q3251 : (Jvm.Cond.instanceMethod ({ cls := "CribBookletModel", name := "together", desc := "(II)I" } : Jvm.MethodName)) ∈ lw_all := lw_g (lw_at lw_m14 45 rfl) rfl
theorem q3252 : (Jvm.Cond.selects "CribBookletModel" ({ cls := "CribBookletModel", name := "together", desc := "(II)I" } : Jvm.MethodName) ({ cls := "CribBookletModel", name := "together", desc := "(II)I" } : Jvm.MethodName)) ∈ lw_all := lw_g (lw_at lw_m14 46 rfl) rfl
theorem q3253 : (Jvm.Cond.code ({ cls := "CribBookletModel", name := "together", desc := "(II)I" } : Jvm.MethodName) prog_33_method_70_code (4 : Nat) (Option.some Jvm.ClassFile.FieldType.int)) ∈ lw_all := lw_g (lw_at lw_m14 47 rfl) rfl
theorem q3255 : (Jvm.Cond.instanceMethod ({ cls := "CribBookletModel", name := "pieces", desc := "()I" } : Jvm.MethodName)) ∈ lw_all := lw_g (lw_at lw_m14 49 rfl) rfl
theorem q3256 : (Jvm.Cond.selects "CribBookletModel" ({ cls := "CribBookletModel", name := "pieces", desc := "()I" } : Jvm.MethodName) ({ cls := "CribBookletModel", name := "pieces", desc := "()I" } : Jvm.MethodName)) ∈ lw_all := lw_g (lw_at lw_m14 50 rfl) rfl
theorem q3257 : (Jvm.Cond.code ({ cls := "CribBookletModel", name := "pieces", desc := "()I" } : Jvm.MethodName) prog_33_method_71_code (6 : Nat) (Option.some Jvm.ClassFile.FieldType.int)) ∈ lw_all := lw_g (lw_at lw_m14 51 rfl) rfl
theorem q3258 : (Jvm.Cond.methodLink "CribBookletModel" (331 : Nat) ({ cls := "CribBookletModel", name := "joins", desc := "(II)V" } : Jvm.MethodName)) ∈ lw_all := lw_g (lw_at lw_m14 52 rfl) rfl
theorem q3259 : (Jvm.Cond.privateMethod ({ cls := "CribBookletModel", name := "joins", desc := "(II)V" } : Jvm.MethodName)) ∈ lw_tbl := lw_at lw_m14 53 rfl
theorem q3260 : (Jvm.Cond.instanceMethod ({ cls := "CribBookletModel", name := "joins", desc := "(II)V" } : Jvm.MethodName)) ∈ lw_all := lw_g (lw_at lw_m14 54 rfl) rfl
theorem q3261 : (Jvm.Cond.code ({ cls := "CribBookletModel", name := "joins", desc := "(II)V" } : Jvm.MethodName) prog_33_method_72_code (4 : Nat) (Option.none : Option Jvm.ClassFile.FieldType)) ∈ lw_all := lw_g (lw_at lw_m14 55 rfl) rfl
theorem q3263 : (Jvm.Cond.instanceMethod ({ cls := "CribBookletModel", name := "reading", desc := "(I)I" } : Jvm.MethodName)) ∈ lw_all := lw_g (lw_at lw_m14 57 rfl) rfl
theorem q3264 : (Jvm.Cond.selects "CribBookletModel" ({ cls := "CribBookletModel", name := "reading", desc := "(I)I" } : Jvm.MethodName) ({ cls := "CribBookletModel", name := "reading", desc := "(I)I" } : Jvm.MethodName)) ∈ lw_all := lw_g (lw_at lw_m14 58 rfl) rfl
theorem q3265 : (Jvm.Cond.code ({ cls := "CribBookletModel", name := "reading", desc := "(I)I" } : Jvm.MethodName) prog_33_method_73_code (3 : Nat) (Option.some Jvm.ClassFile.FieldType.int)) ∈ lw_all := lw_g (lw_at lw_m14 59 rfl) rfl
theorem q3267 : (Jvm.Cond.instanceMethod ({ cls := "CribBookletModel", name := "pageOf", desc := "(I)I" } : Jvm.MethodName)) ∈ lw_all := lw_g (lw_at lw_m14 61 rfl) rfl
theorem q3268 : (Jvm.Cond.selects "CribBookletModel" ({ cls := "CribBookletModel", name := "pageOf", desc := "(I)I" } : Jvm.MethodName) ({ cls := "CribBookletModel", name := "pageOf", desc := "(I)I" } : Jvm.MethodName)) ∈ lw_all := lw_g (lw_at lw_m14 62 rfl) rfl
theorem q3269 : (Jvm.Cond.code ({ cls := "CribBookletModel", name := "pageOf", desc := "(I)I" } : Jvm.MethodName) prog_33_method_74_code (3 : Nat) (Option.some Jvm.ClassFile.FieldType.int)) ∈ lw_all := lw_g (lw_at lw_m14 63 rfl) rfl
theorem q3271 : (Jvm.Cond.instanceMethod ({ cls := "CribBookletModel", name := "note", desc := "(II)I" } : Jvm.MethodName)) ∈ lw_all := lw_g (lw_at lw_m14 65 rfl) rfl
theorem q3272 : (Jvm.Cond.selects "CribBookletModel" ({ cls := "CribBookletModel", name := "note", desc := "(II)I" } : Jvm.MethodName) ({ cls := "CribBookletModel", name := "note", desc := "(II)I" } : Jvm.MethodName)) ∈ lw_all := lw_g (lw_at lw_m14 66 rfl) rfl
theorem q3273 : (Jvm.Cond.code ({ cls := "CribBookletModel", name := "note", desc := "(II)I" } : Jvm.MethodName) prog_33_method_80_code (5 : Nat) (Option.some Jvm.ClassFile.FieldType.int)) ∈ lw_all := lw_g (lw_at lw_m14 67 rfl) rfl
theorem q3274 : (Jvm.Cond.constantLong "CribBookletModel" (350 : Nat) (6 : Int64)) ∈ lw_all := lw_g (lw_at lw_m14 68 rfl) rfl
theorem q3276 : (Jvm.Cond.instanceMethod ({ cls := "CribBookletModel", name := "index", desc := "(II)I" } : Jvm.MethodName)) ∈ lw_all := lw_g (lw_at lw_m14 70 rfl) rfl
theorem q3277 : (Jvm.Cond.selects "CribBookletModel" ({ cls := "CribBookletModel", name := "index", desc := "(II)I" } : Jvm.MethodName) ({ cls := "CribBookletModel", name := "index", desc := "(II)I" } : Jvm.MethodName)) ∈ lw_all := lw_g (lw_at lw_m14 71 rfl) rfl
theorem q3278 : (Jvm.Cond.code ({ cls := "CribBookletModel", name := "index", desc := "(II)I" } : Jvm.MethodName) prog_33_method_82_code (6 : Nat) (Option.some Jvm.ClassFile.FieldType.int)) ∈ lw_all := lw_g (lw_at lw_m14 72 rfl) rfl
theorem q3279 : (Jvm.Cond.methodLink "CribBookletModel" (352 : Nat) ({ cls := "CribBookletModel", name := "pageBy", desc := "(I)I" } : Jvm.MethodName)) ∈ lw_all := lw_g (lw_at lw_m14 73 rfl) rfl
theorem q3280 : (Jvm.Cond.privateMethod ({ cls := "CribBookletModel", name := "pageBy", desc := "(I)I" } : Jvm.MethodName)) ∈ lw_tbl := lw_at lw_m14 74 rfl
theorem q3281 : (Jvm.Cond.instanceMethod ({ cls := "CribBookletModel", name := "pageBy", desc := "(I)I" } : Jvm.MethodName)) ∈ lw_all := lw_g (lw_at lw_m14 75 rfl) rfl
theorem q3282 : (Jvm.Cond.code ({ cls := "CribBookletModel", name := "pageBy", desc := "(I)I" } : Jvm.MethodName) prog_33_method_81_code (5 : Nat) (Option.some Jvm.ClassFile.FieldType.int)) ∈ lw_all := lw_g (lw_at lw_m14 76 rfl) rfl
theorem q3284 : (Jvm.Cond.instanceMethod ({ cls := "CribBookletModel", name := "effort", desc := "(I)I" } : Jvm.MethodName)) ∈ lw_all := lw_g (lw_at lw_m14 78 rfl) rfl
theorem q3285 : (Jvm.Cond.selects "CribBookletModel" ({ cls := "CribBookletModel", name := "effort", desc := "(I)I" } : Jvm.MethodName) ({ cls := "CribBookletModel", name := "effort", desc := "(I)I" } : Jvm.MethodName)) ∈ lw_all := lw_g (lw_at lw_m14 79 rfl) rfl
theorem q3286 : (Jvm.Cond.code ({ cls := "CribBookletModel", name := "effort", desc := "(I)I" } : Jvm.MethodName) prog_33_method_83_code (2 : Nat) (Option.some Jvm.ClassFile.FieldType.int)) ∈ lw_all := lw_g (lw_at lw_m14 80 rfl) rfl
theorem q3288 : (Jvm.Cond.instanceMethod ({ cls := "CribBookletModel", name := "fitting", desc := "(I)I" } : Jvm.MethodName)) ∈ lw_all := lw_g (lw_at lw_m14 82 rfl) rfl
theorem q3289 : (Jvm.Cond.selects "CribBookletModel" ({ cls := "CribBookletModel", name := "fitting", desc := "(I)I" } : Jvm.MethodName) ({ cls := "CribBookletModel", name := "fitting", desc := "(I)I" } : Jvm.MethodName)) ∈ lw_all := lw_g (lw_at lw_m14 83 rfl) rfl
theorem q3290 : (Jvm.Cond.code ({ cls := "CribBookletModel", name := "fitting", desc := "(I)I" } : Jvm.MethodName) prog_33_method_85_code (6 : Nat) (Option.some Jvm.ClassFile.FieldType.int)) ∈ lw_all := lw_g (lw_at lw_m14 84 rfl) rfl
theorem q3291 : (Jvm.Cond.methodLink "CribBookletModel" (355 : Nat) ({ cls := "CribBookletModel", name := "isSeen", desc := "()Z" } : Jvm.MethodName)) ∈ lw_all := lw_g (lw_at lw_m14 85 rfl) rfl
theorem q3292 : (Jvm.Cond.privateMethod ({ cls := "CribBookletModel", name := "isSeen", desc := "()Z" } : Jvm.MethodName)) ∈ lw_tbl := lw_at lw_m14 86 rfl
theorem q3293 : (Jvm.Cond.instanceMethod ({ cls := "CribBookletModel", name := "isSeen", desc := "()Z" } : Jvm.MethodName)) ∈ lw_all := lw_g (lw_at lw_m14 87 rfl) rfl
theorem q3294 : (Jvm.Cond.code ({ cls := "CribBookletModel", name := "isSeen", desc := "()Z" } : Jvm.MethodName) prog_33_method_84_code (4 : Nat) (Option.some Jvm.ClassFile.FieldType.boolean)) ∈ lw_all := lw_g (lw_at lw_m14 88 rfl) rfl
theorem q3296 : (Jvm.Cond.instanceMethod ({ cls := "CribBookletModel", name := "readsBy", desc := "(I)I" } : Jvm.MethodName)) ∈ lw_all := lw_g (lw_at lw_m14 90 rfl) rfl
theorem q3297 : (Jvm.Cond.selects "CribBookletModel" ({ cls := "CribBookletModel", name := "readsBy", desc := "(I)I" } : Jvm.MethodName) ({ cls := "CribBookletModel", name := "readsBy", desc := "(I)I" } : Jvm.MethodName)) ∈ lw_all := lw_g (lw_at lw_m14 91 rfl) rfl
theorem q3298 : (Jvm.Cond.code ({ cls := "CribBookletModel", name := "readsBy", desc := "(I)I" } : Jvm.MethodName) prog_33_method_87_code (2 : Nat) (Option.some Jvm.ClassFile.FieldType.int)) ∈ lw_all := lw_g (lw_at lw_m14 92 rfl) rfl
theorem q3299 : (Jvm.Cond.methodLink "CribBookletModel" (358 : Nat) ({ cls := "CribBookletModel", name := "ownPages", desc := "()I" } : Jvm.MethodName)) ∈ lw_all := lw_g (lw_at lw_m14 93 rfl) rfl
theorem q3300 : (Jvm.Cond.privateMethod ({ cls := "CribBookletModel", name := "ownPages", desc := "()I" } : Jvm.MethodName)) ∈ lw_tbl := lw_at lw_m14 94 rfl
theorem q3301 : (Jvm.Cond.instanceMethod ({ cls := "CribBookletModel", name := "ownPages", desc := "()I" } : Jvm.MethodName)) ∈ lw_all := lw_g (lw_at lw_m14 95 rfl) rfl
theorem q3302 : (Jvm.Cond.code ({ cls := "CribBookletModel", name := "ownPages", desc := "()I" } : Jvm.MethodName) prog_33_method_86_code (2 : Nat) (Option.some Jvm.ClassFile.FieldType.int)) ∈ lw_all := lw_g (lw_at lw_m14 96 rfl) rfl
theorem q3304 : (Jvm.Cond.instanceMethod ({ cls := "CribBookletModel", name := "cutsFor", desc := "(I)I" } : Jvm.MethodName)) ∈ lw_all := lw_g (lw_at lw_m14 98 rfl) rfl
theorem q3305 : (Jvm.Cond.selects "CribBookletModel" ({ cls := "CribBookletModel", name := "cutsFor", desc := "(I)I" } : Jvm.MethodName) ({ cls := "CribBookletModel", name := "cutsFor", desc := "(I)I" } : Jvm.MethodName)) ∈ lw_all := lw_g (lw_at lw_m14 99 rfl) rfl
theorem q3306 : (Jvm.Cond.code ({ cls := "CribBookletModel", name := "cutsFor", desc := "(I)I" } : Jvm.MethodName) prog_33_method_89_code (2 : Nat) (Option.some Jvm.ClassFile.FieldType.int)) ∈ lw_all := lw_g (lw_at lw_m14 100 rfl) rfl
theorem q3307 : (Jvm.Cond.methodLink "CribBookletModel" (361 : Nat) ({ cls := "CribBookletModel", name := "edgesToCut", desc := "()I" } : Jvm.MethodName)) ∈ lw_all := lw_g (lw_at lw_m14 101 rfl) rfl
theorem q3308 : (Jvm.Cond.privateMethod ({ cls := "CribBookletModel", name := "edgesToCut", desc := "()I" } : Jvm.MethodName)) ∈ lw_tbl := lw_at lw_m14 102 rfl
theorem q3309 : (Jvm.Cond.instanceMethod ({ cls := "CribBookletModel", name := "edgesToCut", desc := "()I" } : Jvm.MethodName)) ∈ lw_all := lw_g (lw_at lw_m14 103 rfl) rfl
theorem q3310 : (Jvm.Cond.code ({ cls := "CribBookletModel", name := "edgesToCut", desc := "()I" } : Jvm.MethodName) prog_33_method_88_code (5 : Nat) (Option.some Jvm.ClassFile.FieldType.int)) ∈ lw_all := lw_g (lw_at lw_m14 104 rfl) rfl
theorem q3312 : (Jvm.Cond.instanceMethod ({ cls := "CribBookletModel", name := "best", desc := "(I)I" } : Jvm.MethodName)) ∈ lw_all := lw_g (lw_at lw_m14 106 rfl) rfl
theorem q3313 : (Jvm.Cond.selects "CribBookletModel" ({ cls := "CribBookletModel", name := "best", desc := "(I)I" } : Jvm.MethodName) ({ cls := "CribBookletModel", name := "best", desc := "(I)I" } : Jvm.MethodName)) ∈ lw_all := lw_g (lw_at lw_m14 107 rfl) rfl
theorem q3314 : (Jvm.Cond.code ({ cls := "CribBookletModel", name := "best", desc := "(I)I" } : Jvm.MethodName) prog_33_method_90_code (9 : Nat) (Option.some Jvm.ClassFile.FieldType.int)) ∈ lw_all := lw_g (lw_at lw_m14 108 rfl) rfl
theorem q3337 : (Jvm.Cond.castable "CribBookletModel" "java/lang/Object") ∈ lw_tbl := lw_at lw_m14 131 rfl
theorem in_X3 : ∀ w ∈ wsX30, w ∈ lw_all := lw_in wsX30 [2866, 2868, 2870, 2872, 2874, 2876, 2878, 2880, 2882, 2884, 2886, 2888, 2890, 2892, 2894, 2896, 2898, 2900, 2902, 2904, 2906, 2908, 2910, 2912, 2914, 2916, 2918, 2920, 2922, 2924, 2926] (by decide +kernel) (by decide +kernel)

end
section
/-! the law's own entry -/
set_option maxRecDepth 100000
abbrev cL_law : ByteArray := code
def dkwL_law_46 : List UInt8 := [167, 251, 81, 4, 172]
abbrev dktL_law_46 : List UInt8 := dkwL_law_46 ++ []
def dkwL_law_45 : List UInt8 := [29, 4, 96, 46, 182, 0, 167, 44, 42, 29, 4, 96, 46, 182, 0, 170, 159, 0, 5, 3, 172, 132, 3, 6]
abbrev dktL_law_45 : List UInt8 := dkwL_law_45 ++ dktL_law_46
def dkwL_law_44 : List UInt8 := [42, 29, 4, 96, 46, 182, 0, 163, 44, 42, 29, 4, 96, 46, 182, 0, 166, 159, 0, 28, 3, 172, 43, 42]
abbrev dktL_law_44 : List UInt8 := dkwL_law_44 ++ dktL_law_45
def dkwL_law_43 : List UInt8 := [43, 42, 29, 4, 96, 46, 182, 0, 159, 44, 42, 29, 4, 96, 46, 182, 0, 162, 159, 0, 51, 3, 172, 43]
abbrev dktL_law_43 : List UInt8 := dkwL_law_43 ++ dktL_law_44
def dkwL_law_42 : List UInt8 := [172, 43, 42, 29, 4, 96, 46, 182, 0, 155, 44, 42, 29, 4, 96, 46, 182, 0, 158, 159, 0, 74, 3, 172]
abbrev dktL_law_42 : List UInt8 := dkwL_law_42 ++ dktL_law_43
def dkwL_law_41 : List UInt8 := [3, 172, 43, 42, 29, 4, 96, 46, 182, 0, 151, 44, 42, 29, 4, 96, 46, 182, 0, 154, 159, 0, 97, 3]
abbrev dktL_law_41 : List UInt8 := dkwL_law_41 ++ dktL_law_42
def dkwL_law_40 : List UInt8 := [29, 5, 96, 46, 182, 0, 147, 44, 42, 29, 4, 96, 46, 42, 29, 5, 96, 46, 182, 0, 150, 159, 0, 120]
abbrev dktL_law_40 : List UInt8 := dkwL_law_40 ++ dktL_law_41
def dkwL_law_39 : List UInt8 := [29, 4, 96, 46, 42, 29, 5, 96, 46, 182, 0, 146, 159, 0, 153, 3, 172, 43, 42, 29, 4, 96, 46, 42]
abbrev dktL_law_39 : List UInt8 := dkwL_law_39 ++ dktL_law_40
def dkwL_law_38 : List UInt8 := [182, 0, 142, 159, 0, 186, 3, 172, 43, 42, 29, 4, 96, 46, 42, 29, 5, 96, 46, 182, 0, 143, 44, 42]
abbrev dktL_law_38 : List UInt8 := dkwL_law_38 ++ dktL_law_39
def dkwL_law_37 : List UInt8 := [182, 0, 138, 159, 0, 209, 3, 172, 43, 42, 29, 4, 96, 46, 182, 0, 139, 44, 42, 29, 4, 96, 46]
abbrev dktL_law_37 : List UInt8 := dkwL_law_37 ++ dktL_law_38
def dkwL_law_36 : List UInt8 := [182, 0, 134, 159, 0, 232, 3, 172, 43, 42, 29, 4, 96, 46, 182, 0, 135, 44, 42, 29, 4, 96, 46]
abbrev dktL_law_36 : List UInt8 := dkwL_law_36 ++ dktL_law_37
def dkwL_law_35 : List UInt8 := [29, 4, 96, 46, 42, 29, 5, 96, 46, 182, 0, 130, 159, 0, 245, 3, 172, 43, 182, 0, 131, 44]
abbrev dktL_law_35 : List UInt8 := dkwL_law_35 ++ dktL_law_36
def dkwL_law_34 : List UInt8 := [182, 0, 126, 159, 1, 22, 3, 172, 43, 42, 29, 4, 96, 46, 42, 29, 5, 96, 46, 182, 0, 127, 44, 42]
abbrev dktL_law_34 : List UInt8 := dkwL_law_34 ++ dktL_law_35
def dkwL_law_33 : List UInt8 := [182, 0, 122, 159, 1, 45, 3, 172, 43, 42, 29, 4, 96, 46, 182, 0, 123, 44, 42, 29, 4, 96, 46]
abbrev dktL_law_33 : List UInt8 := dkwL_law_33 ++ dktL_law_34
def dkwL_law_32 : List UInt8 := [29, 4, 96, 46, 42, 29, 5, 96, 46, 182, 0, 119, 44, 42, 29, 4, 96, 46, 42, 29, 5, 96, 46]
abbrev dktL_law_32 : List UInt8 := dkwL_law_32 ++ dktL_law_33
def dkwL_law_31 : List UInt8 := [182, 0, 115, 44, 42, 29, 4, 96, 46, 42, 29, 5, 96, 46, 182, 0, 118, 159, 1, 78, 3, 172, 43, 42]
abbrev dktL_law_31 : List UInt8 := dkwL_law_31 ++ dktL_law_32
def dkwL_law_30 : List UInt8 := [6, 96, 46, 182, 0, 114, 159, 1, 111, 3, 172, 43, 42, 29, 4, 96, 46, 42, 29, 5, 96, 46]
abbrev dktL_law_30 : List UInt8 := dkwL_law_30 ++ dktL_law_31
def dkwL_law_29 : List UInt8 := [5, 96, 46, 42, 29, 6, 96, 46, 182, 0, 111, 44, 42, 29, 4, 96, 46, 42, 29, 5, 96, 46, 42, 29]
abbrev dktL_law_29 : List UInt8 := dkwL_law_29 ++ dktL_law_30
def dkwL_law_28 : List UInt8 := [6, 96, 46, 42, 29, 7, 96, 46, 182, 0, 110, 159, 1, 154, 3, 172, 43, 42, 29, 4, 96, 46, 42, 29]
abbrev dktL_law_28 : List UInt8 := dkwL_law_28 ++ dktL_law_29
def dkwL_law_27 : List UInt8 := [6, 96, 46, 42, 29, 7, 96, 46, 182, 0, 107, 44, 42, 29, 4, 96, 46, 42, 29, 5, 96, 46, 42, 29]
abbrev dktL_law_27 : List UInt8 := dkwL_law_27 ++ dktL_law_28
def dkwL_law_26 : List UInt8 := [4, 96, 46, 182, 0, 106, 159, 1, 207, 3, 172, 43, 42, 29, 4, 96, 46, 42, 29, 5, 96, 46, 42, 29]
abbrev dktL_law_26 : List UInt8 := dkwL_law_26 ++ dktL_law_27
def dkwL_law_25 : List UInt8 := [182, 0, 99, 44, 182, 0, 102, 159, 1, 230, 3, 172, 43, 42, 29, 4, 96, 46, 182, 0, 103, 44, 42, 29]
abbrev dktL_law_25 : List UInt8 := dkwL_law_25 ++ dktL_law_26
def dkwL_law_24 : List UInt8 := [182, 0, 94, 159, 2, 0, 3, 172, 43, 182, 0, 95, 44, 182, 0, 98, 159, 1, 243, 3, 172, 43]
abbrev dktL_law_24 : List UInt8 := dkwL_law_24 ++ dktL_law_25
def dkwL_law_23 : List UInt8 := [182, 0, 90, 159, 2, 23, 3, 172, 43, 42, 29, 4, 96, 46, 182, 0, 91, 44, 42, 29, 4, 96, 46]
abbrev dktL_law_23 : List UInt8 := dkwL_law_23 ++ dktL_law_24
def dkwL_law_22 : List UInt8 := [96, 46, 182, 0, 83, 44, 42, 29, 4, 96, 46, 182, 0, 86, 159, 2, 36, 3, 172, 43, 182, 0, 87, 44]
abbrev dktL_law_22 : List UInt8 := dkwL_law_22 ++ dktL_law_23
def dkwL_law_21 : List UInt8 := [4, 96, 46, 182, 0, 79, 44, 42, 29, 4, 96, 46, 182, 0, 82, 159, 2, 59, 3, 172, 43, 42, 29, 4]
abbrev dktL_law_21 : List UInt8 := dkwL_law_21 ++ dktL_law_22
def dkwL_law_20 : List UInt8 := [29, 4, 96, 46, 182, 0, 75, 44, 42, 29, 4, 96, 46, 182, 0, 78, 159, 2, 82, 3, 172, 43, 42, 29]
abbrev dktL_law_20 : List UInt8 := dkwL_law_20 ++ dktL_law_21
def dkwL_law_19 : List UInt8 := [42, 29, 4, 96, 46, 182, 0, 71, 44, 42, 29, 4, 96, 46, 182, 0, 74, 159, 2, 105, 3, 172, 43, 42]
abbrev dktL_law_19 : List UInt8 := dkwL_law_19 ++ dktL_law_20
def dkwL_law_18 : List UInt8 := [42, 29, 5, 96, 46, 42, 29, 6, 96, 46, 42, 29, 7, 96, 46, 182, 0, 70, 159, 2, 128, 3, 172, 43]
abbrev dktL_law_18 : List UInt8 := dkwL_law_18 ++ dktL_law_19
def dkwL_law_17 : List UInt8 := [42, 29, 5, 96, 46, 42, 29, 6, 96, 46, 42, 29, 7, 96, 46, 182, 0, 66, 44, 42, 29, 4, 96, 46]
abbrev dktL_law_17 : List UInt8 := dkwL_law_17 ++ dktL_law_18
def dkwL_law_16 : List UInt8 := [159, 2, 194, 3, 172, 43, 182, 0, 62, 44, 182, 0, 65, 159, 2, 181, 3, 172, 43, 42, 29, 4, 96, 46]
abbrev dktL_law_16 : List UInt8 := dkwL_law_16 ++ dktL_law_17
def dkwL_law_15 : List UInt8 := [182, 0, 57, 44, 42, 29, 4, 96, 46, 42, 29, 5, 96, 46, 42, 29, 6, 96, 46, 182, 0, 61]
abbrev dktL_law_15 : List UInt8 := dkwL_law_15 ++ dktL_law_16
def dkwL_law_14 : List UInt8 := [182, 0, 56, 159, 2, 237, 3, 172, 43, 42, 29, 4, 96, 46, 42, 29, 5, 96, 46, 42, 29, 6, 96, 46]
abbrev dktL_law_14 : List UInt8 := dkwL_law_14 ++ dktL_law_15
def dkwL_law_13 : List UInt8 := [46, 182, 0, 52, 159, 3, 4, 3, 172, 43, 42, 29, 4, 96, 46, 182, 0, 53, 44, 42, 29, 4, 96, 46]
abbrev dktL_law_13 : List UInt8 := dkwL_law_13 ++ dktL_law_14
def dkwL_law_12 : List UInt8 := [96, 46, 182, 0, 48, 159, 3, 27, 3, 172, 43, 42, 29, 4, 96, 46, 182, 0, 49, 44, 42, 29, 4, 96]
abbrev dktL_law_12 : List UInt8 := dkwL_law_12 ++ dktL_law_13
def dkwL_law_11 : List UInt8 := [4, 96, 46, 182, 0, 44, 159, 3, 50, 3, 172, 43, 42, 29, 4, 96, 46, 182, 0, 45, 44, 42, 29, 4]
abbrev dktL_law_11 : List UInt8 := dkwL_law_11 ++ dktL_law_12
def dkwL_law_10 : List UInt8 := [29, 4, 96, 46, 182, 0, 40, 159, 3, 73, 3, 172, 43, 42, 29, 4, 96, 46, 182, 0, 41, 44, 42, 29]
abbrev dktL_law_10 : List UInt8 := dkwL_law_10 ++ dktL_law_11
def dkwL_law_9 : List UInt8 := [42, 29, 8, 96, 46, 182, 0, 36, 159, 3, 96, 3, 172, 43, 42, 29, 4, 96, 46, 182, 0, 37, 44, 42]
abbrev dktL_law_9 : List UInt8 := dkwL_law_9 ++ dktL_law_10
def dkwL_law_8 : List UInt8 := [182, 0, 32, 44, 42, 29, 4, 96, 46, 42, 29, 5, 96, 46, 42, 29, 6, 96, 46, 42, 29, 7, 96, 46]
abbrev dktL_law_8 : List UInt8 := dkwL_law_8 ++ dktL_law_9
def dkwL_law_7 : List UInt8 := [96, 46, 42, 29, 5, 96, 46, 42, 29, 6, 96, 46, 42, 29, 7, 96, 46, 42, 29, 8, 96, 46]
abbrev dktL_law_7 : List UInt8 := dkwL_law_7 ++ dktL_law_8
def dkwL_law_6 : List UInt8 := [4, 96, 46, 182, 0, 28, 44, 42, 29, 4, 96, 46, 182, 0, 31, 159, 3, 159, 3, 172, 43, 42, 29, 4]
abbrev dktL_law_6 : List UInt8 := dkwL_law_6 ++ dktL_law_7
def dkwL_law_5 : List UInt8 := [182, 0, 22, 159, 3, 195, 3, 172, 43, 182, 0, 23, 44, 182, 0, 27, 159, 3, 182, 3, 172, 43, 42, 29]
abbrev dktL_law_5 : List UInt8 := dkwL_law_5 ++ dktL_law_6
def dkwL_law_4 : List UInt8 := [46, 182, 0, 17, 159, 3, 218, 3, 172, 43, 42, 29, 4, 96, 46, 182, 0, 18, 44, 42, 29, 4, 96, 46]
abbrev dktL_law_4 : List UInt8 := dkwL_law_4 ++ dktL_law_5
def dkwL_law_3 : List UInt8 := [43, 42, 29, 4, 96, 46, 42, 29, 5, 96, 46, 182, 0, 13, 44, 42, 29, 4, 96, 46, 42, 29, 5, 96]
abbrev dktL_law_3 : List UInt8 := dkwL_law_3 ++ dktL_law_4
def dkwL_law_2 : List UInt8 := [170, 0, 0, 0, 0, 4, 157, 0, 0, 0, 0, 0, 0, 0, 37, 0, 0, 0, 167, 0, 0, 0, 200, 0, 0, 0, 223, 0, 0, 0, 236, 0, 0, 1, 3, 0, 0, 1, 66, 0, 0, 1, 89, 0, 0, 1, 112, 0, 0, 1, 135, 0, 0, 1, 158, 0, 0, 1, 181, 0, 0, 1, 224, 0, 0, 1, 237, 0, 0, 2, 34, 0, 0, 2, 57, 0, 0, 2, 80, 0, 0, 2, 103, 0, 0, 2, 126, 0, 0, 2, 139, 0, 0, 2, 162, 0, 0, 2, 175, 0, 0, 2, 188, 0, 0, 2, 211, 0, 0, 3, 8, 0, 0, 3, 51, 0, 0, 3, 84, 0, 0, 3, 117, 0, 0, 3, 140, 0, 0, 3, 173, 0, 0, 3, 186, 0, 0, 3, 209, 0, 0, 3, 232, 0, 0, 4, 9, 0, 0, 4, 42, 0, 0, 4, 65, 0, 0, 4, 88, 0, 0, 4, 111, 0, 0, 4, 134]
abbrev dktL_law_2 : List UInt8 := dkwL_law_2 ++ dktL_law_3
def dkwL_law_1 : List UInt8 := [163, 4, 172, 42, 29, 46, 16, 63, 126]
abbrev dktL_law_1 : List UInt8 := dkwL_law_1 ++ dktL_law_2
def dkwL_law_0 : List UInt8 := [187, 0, 7, 89, 183, 0, 9, 76, 187, 0, 10, 89, 183, 0, 12, 77, 3, 62, 29, 42, 190, 16, 6, 100]
abbrev dktL_law_0 : List UInt8 := dkwL_law_0 ++ dktL_law_1
theorem dksL_law_0 : cL_law.data.toList.drop 0 = dktL_law_0 := by decide +kernel
theorem dksL_law_1 : cL_law.data.toList.drop 24 = dktL_law_1 := dk_seg dksL_law_0 24 rfl rfl
theorem dksL_law_2 : cL_law.data.toList.drop 33 = dktL_law_2 := dk_seg dksL_law_1 9 rfl rfl
theorem dksL_law_3 : cL_law.data.toList.drop 200 = dktL_law_3 := dk_seg dksL_law_2 167 rfl rfl
theorem dksL_law_4 : cL_law.data.toList.drop 224 = dktL_law_4 := dk_seg dksL_law_3 24 rfl rfl
theorem dksL_law_5 : cL_law.data.toList.drop 248 = dktL_law_5 := dk_seg dksL_law_4 24 rfl rfl
theorem dksL_law_6 : cL_law.data.toList.drop 272 = dktL_law_6 := dk_seg dksL_law_5 24 rfl rfl
theorem dksL_law_7 : cL_law.data.toList.drop 296 = dktL_law_7 := dk_seg dksL_law_6 24 rfl rfl
theorem dksL_law_8 : cL_law.data.toList.drop 318 = dktL_law_8 := dk_seg dksL_law_7 22 rfl rfl
theorem dksL_law_9 : cL_law.data.toList.drop 342 = dktL_law_9 := dk_seg dksL_law_8 24 rfl rfl
theorem dksL_law_10 : cL_law.data.toList.drop 366 = dktL_law_10 := dk_seg dksL_law_9 24 rfl rfl
theorem dksL_law_11 : cL_law.data.toList.drop 390 = dktL_law_11 := dk_seg dksL_law_10 24 rfl rfl
theorem dksL_law_12 : cL_law.data.toList.drop 414 = dktL_law_12 := dk_seg dksL_law_11 24 rfl rfl
theorem dksL_law_13 : cL_law.data.toList.drop 438 = dktL_law_13 := dk_seg dksL_law_12 24 rfl rfl
theorem dksL_law_14 : cL_law.data.toList.drop 462 = dktL_law_14 := dk_seg dksL_law_13 24 rfl rfl
theorem dksL_law_15 : cL_law.data.toList.drop 486 = dktL_law_15 := dk_seg dksL_law_14 24 rfl rfl
theorem dksL_law_16 : cL_law.data.toList.drop 508 = dktL_law_16 := dk_seg dksL_law_15 22 rfl rfl
theorem dksL_law_17 : cL_law.data.toList.drop 532 = dktL_law_17 := dk_seg dksL_law_16 24 rfl rfl
theorem dksL_law_18 : cL_law.data.toList.drop 556 = dktL_law_18 := dk_seg dksL_law_17 24 rfl rfl
theorem dksL_law_19 : cL_law.data.toList.drop 580 = dktL_law_19 := dk_seg dksL_law_18 24 rfl rfl
theorem dksL_law_20 : cL_law.data.toList.drop 604 = dktL_law_20 := dk_seg dksL_law_19 24 rfl rfl
theorem dksL_law_21 : cL_law.data.toList.drop 628 = dktL_law_21 := dk_seg dksL_law_20 24 rfl rfl
theorem dksL_law_22 : cL_law.data.toList.drop 652 = dktL_law_22 := dk_seg dksL_law_21 24 rfl rfl
theorem dksL_law_23 : cL_law.data.toList.drop 676 = dktL_law_23 := dk_seg dksL_law_22 24 rfl rfl
theorem dksL_law_24 : cL_law.data.toList.drop 699 = dktL_law_24 := dk_seg dksL_law_23 23 rfl rfl
theorem dksL_law_25 : cL_law.data.toList.drop 721 = dktL_law_25 := dk_seg dksL_law_24 22 rfl rfl
theorem dksL_law_26 : cL_law.data.toList.drop 745 = dktL_law_26 := dk_seg dksL_law_25 24 rfl rfl
theorem dksL_law_27 : cL_law.data.toList.drop 769 = dktL_law_27 := dk_seg dksL_law_26 24 rfl rfl
theorem dksL_law_28 : cL_law.data.toList.drop 793 = dktL_law_28 := dk_seg dksL_law_27 24 rfl rfl
theorem dksL_law_29 : cL_law.data.toList.drop 817 = dktL_law_29 := dk_seg dksL_law_28 24 rfl rfl
theorem dksL_law_30 : cL_law.data.toList.drop 841 = dktL_law_30 := dk_seg dksL_law_29 24 rfl rfl
theorem dksL_law_31 : cL_law.data.toList.drop 863 = dktL_law_31 := dk_seg dksL_law_30 22 rfl rfl
theorem dksL_law_32 : cL_law.data.toList.drop 887 = dktL_law_32 := dk_seg dksL_law_31 24 rfl rfl
theorem dksL_law_33 : cL_law.data.toList.drop 910 = dktL_law_33 := dk_seg dksL_law_32 23 rfl rfl
theorem dksL_law_34 : cL_law.data.toList.drop 933 = dktL_law_34 := dk_seg dksL_law_33 23 rfl rfl
theorem dksL_law_35 : cL_law.data.toList.drop 957 = dktL_law_35 := dk_seg dksL_law_34 24 rfl rfl
theorem dksL_law_36 : cL_law.data.toList.drop 979 = dktL_law_36 := dk_seg dksL_law_35 22 rfl rfl
theorem dksL_law_37 : cL_law.data.toList.drop 1002 = dktL_law_37 := dk_seg dksL_law_36 23 rfl rfl
theorem dksL_law_38 : cL_law.data.toList.drop 1025 = dktL_law_38 := dk_seg dksL_law_37 23 rfl rfl
theorem dksL_law_39 : cL_law.data.toList.drop 1049 = dktL_law_39 := dk_seg dksL_law_38 24 rfl rfl
theorem dksL_law_40 : cL_law.data.toList.drop 1073 = dktL_law_40 := dk_seg dksL_law_39 24 rfl rfl
theorem dksL_law_41 : cL_law.data.toList.drop 1097 = dktL_law_41 := dk_seg dksL_law_40 24 rfl rfl
theorem dksL_law_42 : cL_law.data.toList.drop 1121 = dktL_law_42 := dk_seg dksL_law_41 24 rfl rfl
theorem dksL_law_43 : cL_law.data.toList.drop 1145 = dktL_law_43 := dk_seg dksL_law_42 24 rfl rfl
theorem dksL_law_44 : cL_law.data.toList.drop 1169 = dktL_law_44 := dk_seg dksL_law_43 24 rfl rfl
theorem dksL_law_45 : cL_law.data.toList.drop 1193 = dktL_law_45 := dk_seg dksL_law_44 24 rfl rfl
theorem dksL_law_46 : cL_law.data.toList.drop 1217 = dktL_law_46 := dk_seg dksL_law_45 24 rfl rfl
theorem dL_law_0 : decode cL_law 0 = .ok (.new 7, 3) := dk_187 0 7 (dk_at dksL_law_0 0 rfl rfl)
theorem dL_law_3 : decode cL_law 3 = .ok (.dup, 1) := dk_89 (dk_at dksL_law_0 3 rfl rfl)
theorem dL_law_4 : decode cL_law 4 = .ok (.invokespecial 9, 3) := dk_183 0 9 (dk_at dksL_law_0 4 rfl rfl)
theorem dL_law_7 : decode cL_law 7 = .ok (.astore_n 1, 1) := dk_76 (dk_at dksL_law_0 7 rfl rfl)
theorem dL_law_8 : decode cL_law 8 = .ok (.new 10, 3) := dk_187 0 10 (dk_at dksL_law_0 8 rfl rfl)
theorem dL_law_11 : decode cL_law 11 = .ok (.dup, 1) := dk_89 (dk_at dksL_law_0 11 rfl rfl)
theorem dL_law_12 : decode cL_law 12 = .ok (.invokespecial 12, 3) := dk_183 0 12 (dk_at dksL_law_0 12 rfl rfl)
theorem dL_law_15 : decode cL_law 15 = .ok (.astore_n 2, 1) := dk_77 (dk_at dksL_law_0 15 rfl rfl)
theorem dL_law_16 : decode cL_law 16 = .ok (.iconst 0, 1) := dk_3 (dk_at dksL_law_0 16 rfl rfl)
theorem dL_law_17 : decode cL_law 17 = .ok (.istore_n 3, 1) := dk_62 (dk_at dksL_law_0 17 rfl rfl)
theorem dL_law_18 : decode cL_law 18 = .ok (.iload_n 3, 1) := dk_29 (dk_at dksL_law_0 18 rfl rfl)
theorem dL_law_19 : decode cL_law 19 = .ok (.aload_n 0, 1) := dk_42 (dk_at dksL_law_0 19 rfl rfl)
theorem dL_law_20 : decode cL_law 20 = .ok (.arraylength, 1) := dk_190 (dk_at dksL_law_0 20 rfl rfl)
theorem dL_law_21 : decode cL_law 21 = .ok (.bipush 6, 2) := dk_16 6 (dk_at dksL_law_0 21 rfl rfl)
theorem dL_law_23 : decode cL_law 23 = .ok (.isub, 1) := dk_100 (dk_at dksL_law_0 23 rfl rfl)
theorem dL_law_24 : decode cL_law 24 = .ok (.if_icmp .gt 1196, 3) := dk_163 4 172 (dk_at dksL_law_1 0 rfl rfl)
theorem dL_law_27 : decode cL_law 27 = .ok (.aload_n 0, 1) := dk_42 (dk_at dksL_law_1 3 rfl rfl)
theorem dL_law_28 : decode cL_law 28 = .ok (.iload_n 3, 1) := dk_29 (dk_at dksL_law_1 4 rfl rfl)
theorem dL_law_29 : decode cL_law 29 = .ok (.iaload, 1) := dk_46 (dk_at dksL_law_1 5 rfl rfl)
theorem dL_law_30 : decode cL_law 30 = .ok (.bipush 63, 2) := dk_16 63 (dk_at dksL_law_1 6 rfl rfl)
theorem dL_law_32 : decode cL_law 32 = .ok (.iand, 1) := dk_126 (dk_at dksL_law_1 8 rfl rfl)
theorem dL_law_33 : decode cL_law 33 = .ok (.tableswitch 1181 0 37 #[167, 200, 223, 236, 259, 322, 345, 368, 391, 414, 437, 480, 493, 546, 569, 592, 615, 638, 651, 674, 687, 700, 723, 776, 819, 852, 885, 908, 941, 954, 977, 1000, 1033, 1066, 1089, 1112, 1135, 1158], 167) := by decide +kernel
theorem dL_law_200 : decode cL_law 200 = .ok (.aload_n 1, 1) := dk_43 (dk_at dksL_law_3 0 rfl rfl)
theorem dL_law_201 : decode cL_law 201 = .ok (.aload_n 0, 1) := dk_42 (dk_at dksL_law_3 1 rfl rfl)
theorem dL_law_202 : decode cL_law 202 = .ok (.iload_n 3, 1) := dk_29 (dk_at dksL_law_3 2 rfl rfl)
theorem dL_law_203 : decode cL_law 203 = .ok (.iconst 1, 1) := dk_4 (dk_at dksL_law_3 3 rfl rfl)
theorem dL_law_204 : decode cL_law 204 = .ok (.iadd, 1) := dk_96 (dk_at dksL_law_3 4 rfl rfl)
theorem dL_law_205 : decode cL_law 205 = .ok (.iaload, 1) := dk_46 (dk_at dksL_law_3 5 rfl rfl)
theorem dL_law_206 : decode cL_law 206 = .ok (.aload_n 0, 1) := dk_42 (dk_at dksL_law_3 6 rfl rfl)
theorem dL_law_207 : decode cL_law 207 = .ok (.iload_n 3, 1) := dk_29 (dk_at dksL_law_3 7 rfl rfl)
theorem dL_law_208 : decode cL_law 208 = .ok (.iconst 2, 1) := dk_5 (dk_at dksL_law_3 8 rfl rfl)
theorem dL_law_209 : decode cL_law 209 = .ok (.iadd, 1) := dk_96 (dk_at dksL_law_3 9 rfl rfl)
theorem dL_law_210 : decode cL_law 210 = .ok (.iaload, 1) := dk_46 (dk_at dksL_law_3 10 rfl rfl)
theorem dL_law_211 : decode cL_law 211 = .ok (.invokevirtual 13, 3) := dk_182 0 13 (dk_at dksL_law_3 11 rfl rfl)
theorem dL_law_214 : decode cL_law 214 = .ok (.aload_n 2, 1) := dk_44 (dk_at dksL_law_3 14 rfl rfl)
theorem dL_law_215 : decode cL_law 215 = .ok (.aload_n 0, 1) := dk_42 (dk_at dksL_law_3 15 rfl rfl)
theorem dL_law_216 : decode cL_law 216 = .ok (.iload_n 3, 1) := dk_29 (dk_at dksL_law_3 16 rfl rfl)
theorem dL_law_217 : decode cL_law 217 = .ok (.iconst 1, 1) := dk_4 (dk_at dksL_law_3 17 rfl rfl)
theorem dL_law_218 : decode cL_law 218 = .ok (.iadd, 1) := dk_96 (dk_at dksL_law_3 18 rfl rfl)
theorem dL_law_219 : decode cL_law 219 = .ok (.iaload, 1) := dk_46 (dk_at dksL_law_3 19 rfl rfl)
theorem dL_law_220 : decode cL_law 220 = .ok (.aload_n 0, 1) := dk_42 (dk_at dksL_law_3 20 rfl rfl)
theorem dL_law_221 : decode cL_law 221 = .ok (.iload_n 3, 1) := dk_29 (dk_at dksL_law_3 21 rfl rfl)
theorem dL_law_222 : decode cL_law 222 = .ok (.iconst 2, 1) := dk_5 (dk_at dksL_law_3 22 rfl rfl)
theorem dL_law_223 : decode cL_law 223 = .ok (.iadd, 1) := dk_96 (dk_at dksL_law_3 23 rfl rfl)
theorem dL_law_224 : decode cL_law 224 = .ok (.iaload, 1) := dk_46 (dk_at dksL_law_4 0 rfl rfl)
theorem dL_law_225 : decode cL_law 225 = .ok (.invokevirtual 17, 3) := dk_182 0 17 (dk_at dksL_law_4 1 rfl rfl)
theorem dL_law_228 : decode cL_law 228 = .ok (.if_icmp .eq 986, 3) := dk_159 3 218 (dk_at dksL_law_4 4 rfl rfl)
theorem dL_law_231 : decode cL_law 231 = .ok (.iconst 0, 1) := dk_3 (dk_at dksL_law_4 7 rfl rfl)
theorem dL_law_232 : decode cL_law 232 = .ok (.ireturn, 1) := dk_172 (dk_at dksL_law_4 8 rfl rfl)
theorem dL_law_233 : decode cL_law 233 = .ok (.aload_n 1, 1) := dk_43 (dk_at dksL_law_4 9 rfl rfl)
theorem dL_law_234 : decode cL_law 234 = .ok (.aload_n 0, 1) := dk_42 (dk_at dksL_law_4 10 rfl rfl)
theorem dL_law_235 : decode cL_law 235 = .ok (.iload_n 3, 1) := dk_29 (dk_at dksL_law_4 11 rfl rfl)
theorem dL_law_236 : decode cL_law 236 = .ok (.iconst 1, 1) := dk_4 (dk_at dksL_law_4 12 rfl rfl)
theorem dL_law_237 : decode cL_law 237 = .ok (.iadd, 1) := dk_96 (dk_at dksL_law_4 13 rfl rfl)
theorem dL_law_238 : decode cL_law 238 = .ok (.iaload, 1) := dk_46 (dk_at dksL_law_4 14 rfl rfl)
theorem dL_law_239 : decode cL_law 239 = .ok (.invokevirtual 18, 3) := dk_182 0 18 (dk_at dksL_law_4 15 rfl rfl)
theorem dL_law_242 : decode cL_law 242 = .ok (.aload_n 2, 1) := dk_44 (dk_at dksL_law_4 18 rfl rfl)
theorem dL_law_243 : decode cL_law 243 = .ok (.aload_n 0, 1) := dk_42 (dk_at dksL_law_4 19 rfl rfl)
theorem dL_law_244 : decode cL_law 244 = .ok (.iload_n 3, 1) := dk_29 (dk_at dksL_law_4 20 rfl rfl)
theorem dL_law_245 : decode cL_law 245 = .ok (.iconst 1, 1) := dk_4 (dk_at dksL_law_4 21 rfl rfl)
theorem dL_law_246 : decode cL_law 246 = .ok (.iadd, 1) := dk_96 (dk_at dksL_law_4 22 rfl rfl)
theorem dL_law_247 : decode cL_law 247 = .ok (.iaload, 1) := dk_46 (dk_at dksL_law_4 23 rfl rfl)
theorem dL_law_248 : decode cL_law 248 = .ok (.invokevirtual 22, 3) := dk_182 0 22 (dk_at dksL_law_5 0 rfl rfl)
theorem dL_law_251 : decode cL_law 251 = .ok (.if_icmp .eq 963, 3) := dk_159 3 195 (dk_at dksL_law_5 3 rfl rfl)
theorem dL_law_254 : decode cL_law 254 = .ok (.iconst 0, 1) := dk_3 (dk_at dksL_law_5 6 rfl rfl)
theorem dL_law_255 : decode cL_law 255 = .ok (.ireturn, 1) := dk_172 (dk_at dksL_law_5 7 rfl rfl)
theorem dL_law_256 : decode cL_law 256 = .ok (.aload_n 1, 1) := dk_43 (dk_at dksL_law_5 8 rfl rfl)
theorem dL_law_257 : decode cL_law 257 = .ok (.invokevirtual 23, 3) := dk_182 0 23 (dk_at dksL_law_5 9 rfl rfl)
theorem dL_law_260 : decode cL_law 260 = .ok (.aload_n 2, 1) := dk_44 (dk_at dksL_law_5 12 rfl rfl)
theorem dL_law_261 : decode cL_law 261 = .ok (.invokevirtual 27, 3) := dk_182 0 27 (dk_at dksL_law_5 13 rfl rfl)
theorem dL_law_264 : decode cL_law 264 = .ok (.if_icmp .eq 950, 3) := dk_159 3 182 (dk_at dksL_law_5 16 rfl rfl)
theorem dL_law_267 : decode cL_law 267 = .ok (.iconst 0, 1) := dk_3 (dk_at dksL_law_5 19 rfl rfl)
theorem dL_law_268 : decode cL_law 268 = .ok (.ireturn, 1) := dk_172 (dk_at dksL_law_5 20 rfl rfl)
theorem dL_law_269 : decode cL_law 269 = .ok (.aload_n 1, 1) := dk_43 (dk_at dksL_law_5 21 rfl rfl)
theorem dL_law_270 : decode cL_law 270 = .ok (.aload_n 0, 1) := dk_42 (dk_at dksL_law_5 22 rfl rfl)
theorem dL_law_271 : decode cL_law 271 = .ok (.iload_n 3, 1) := dk_29 (dk_at dksL_law_5 23 rfl rfl)
theorem dL_law_272 : decode cL_law 272 = .ok (.iconst 1, 1) := dk_4 (dk_at dksL_law_6 0 rfl rfl)
theorem dL_law_273 : decode cL_law 273 = .ok (.iadd, 1) := dk_96 (dk_at dksL_law_6 1 rfl rfl)
theorem dL_law_274 : decode cL_law 274 = .ok (.iaload, 1) := dk_46 (dk_at dksL_law_6 2 rfl rfl)
theorem dL_law_275 : decode cL_law 275 = .ok (.invokevirtual 28, 3) := dk_182 0 28 (dk_at dksL_law_6 3 rfl rfl)
theorem dL_law_278 : decode cL_law 278 = .ok (.aload_n 2, 1) := dk_44 (dk_at dksL_law_6 6 rfl rfl)
theorem dL_law_279 : decode cL_law 279 = .ok (.aload_n 0, 1) := dk_42 (dk_at dksL_law_6 7 rfl rfl)
theorem dL_law_280 : decode cL_law 280 = .ok (.iload_n 3, 1) := dk_29 (dk_at dksL_law_6 8 rfl rfl)
theorem dL_law_281 : decode cL_law 281 = .ok (.iconst 1, 1) := dk_4 (dk_at dksL_law_6 9 rfl rfl)
theorem dL_law_282 : decode cL_law 282 = .ok (.iadd, 1) := dk_96 (dk_at dksL_law_6 10 rfl rfl)
theorem dL_law_283 : decode cL_law 283 = .ok (.iaload, 1) := dk_46 (dk_at dksL_law_6 11 rfl rfl)
theorem dL_law_284 : decode cL_law 284 = .ok (.invokevirtual 31, 3) := dk_182 0 31 (dk_at dksL_law_6 12 rfl rfl)
theorem dL_law_287 : decode cL_law 287 = .ok (.if_icmp .eq 927, 3) := dk_159 3 159 (dk_at dksL_law_6 15 rfl rfl)
theorem dL_law_290 : decode cL_law 290 = .ok (.iconst 0, 1) := dk_3 (dk_at dksL_law_6 18 rfl rfl)
theorem dL_law_291 : decode cL_law 291 = .ok (.ireturn, 1) := dk_172 (dk_at dksL_law_6 19 rfl rfl)
theorem dL_law_292 : decode cL_law 292 = .ok (.aload_n 1, 1) := dk_43 (dk_at dksL_law_6 20 rfl rfl)
theorem dL_law_293 : decode cL_law 293 = .ok (.aload_n 0, 1) := dk_42 (dk_at dksL_law_6 21 rfl rfl)
theorem dL_law_294 : decode cL_law 294 = .ok (.iload_n 3, 1) := dk_29 (dk_at dksL_law_6 22 rfl rfl)
theorem dL_law_295 : decode cL_law 295 = .ok (.iconst 1, 1) := dk_4 (dk_at dksL_law_6 23 rfl rfl)
theorem dL_law_296 : decode cL_law 296 = .ok (.iadd, 1) := dk_96 (dk_at dksL_law_7 0 rfl rfl)
theorem dL_law_297 : decode cL_law 297 = .ok (.iaload, 1) := dk_46 (dk_at dksL_law_7 1 rfl rfl)
theorem dL_law_298 : decode cL_law 298 = .ok (.aload_n 0, 1) := dk_42 (dk_at dksL_law_7 2 rfl rfl)
theorem dL_law_299 : decode cL_law 299 = .ok (.iload_n 3, 1) := dk_29 (dk_at dksL_law_7 3 rfl rfl)
theorem dL_law_300 : decode cL_law 300 = .ok (.iconst 2, 1) := dk_5 (dk_at dksL_law_7 4 rfl rfl)
theorem dL_law_301 : decode cL_law 301 = .ok (.iadd, 1) := dk_96 (dk_at dksL_law_7 5 rfl rfl)
theorem dL_law_302 : decode cL_law 302 = .ok (.iaload, 1) := dk_46 (dk_at dksL_law_7 6 rfl rfl)
theorem dL_law_303 : decode cL_law 303 = .ok (.aload_n 0, 1) := dk_42 (dk_at dksL_law_7 7 rfl rfl)
theorem dL_law_304 : decode cL_law 304 = .ok (.iload_n 3, 1) := dk_29 (dk_at dksL_law_7 8 rfl rfl)
theorem dL_law_305 : decode cL_law 305 = .ok (.iconst 3, 1) := dk_6 (dk_at dksL_law_7 9 rfl rfl)
theorem dL_law_306 : decode cL_law 306 = .ok (.iadd, 1) := dk_96 (dk_at dksL_law_7 10 rfl rfl)
theorem dL_law_307 : decode cL_law 307 = .ok (.iaload, 1) := dk_46 (dk_at dksL_law_7 11 rfl rfl)
theorem dL_law_308 : decode cL_law 308 = .ok (.aload_n 0, 1) := dk_42 (dk_at dksL_law_7 12 rfl rfl)
theorem dL_law_309 : decode cL_law 309 = .ok (.iload_n 3, 1) := dk_29 (dk_at dksL_law_7 13 rfl rfl)
theorem dL_law_310 : decode cL_law 310 = .ok (.iconst 4, 1) := dk_7 (dk_at dksL_law_7 14 rfl rfl)
theorem dL_law_311 : decode cL_law 311 = .ok (.iadd, 1) := dk_96 (dk_at dksL_law_7 15 rfl rfl)
theorem dL_law_312 : decode cL_law 312 = .ok (.iaload, 1) := dk_46 (dk_at dksL_law_7 16 rfl rfl)
theorem dL_law_313 : decode cL_law 313 = .ok (.aload_n 0, 1) := dk_42 (dk_at dksL_law_7 17 rfl rfl)
theorem dL_law_314 : decode cL_law 314 = .ok (.iload_n 3, 1) := dk_29 (dk_at dksL_law_7 18 rfl rfl)
theorem dL_law_315 : decode cL_law 315 = .ok (.iconst 5, 1) := dk_8 (dk_at dksL_law_7 19 rfl rfl)
theorem dL_law_316 : decode cL_law 316 = .ok (.iadd, 1) := dk_96 (dk_at dksL_law_7 20 rfl rfl)
theorem dL_law_317 : decode cL_law 317 = .ok (.iaload, 1) := dk_46 (dk_at dksL_law_7 21 rfl rfl)
theorem dL_law_318 : decode cL_law 318 = .ok (.invokevirtual 32, 3) := dk_182 0 32 (dk_at dksL_law_8 0 rfl rfl)
theorem dL_law_321 : decode cL_law 321 = .ok (.aload_n 2, 1) := dk_44 (dk_at dksL_law_8 3 rfl rfl)
theorem dL_law_322 : decode cL_law 322 = .ok (.aload_n 0, 1) := dk_42 (dk_at dksL_law_8 4 rfl rfl)
theorem dL_law_323 : decode cL_law 323 = .ok (.iload_n 3, 1) := dk_29 (dk_at dksL_law_8 5 rfl rfl)
theorem dL_law_324 : decode cL_law 324 = .ok (.iconst 1, 1) := dk_4 (dk_at dksL_law_8 6 rfl rfl)
theorem dL_law_325 : decode cL_law 325 = .ok (.iadd, 1) := dk_96 (dk_at dksL_law_8 7 rfl rfl)
theorem dL_law_326 : decode cL_law 326 = .ok (.iaload, 1) := dk_46 (dk_at dksL_law_8 8 rfl rfl)
theorem dL_law_327 : decode cL_law 327 = .ok (.aload_n 0, 1) := dk_42 (dk_at dksL_law_8 9 rfl rfl)
theorem dL_law_328 : decode cL_law 328 = .ok (.iload_n 3, 1) := dk_29 (dk_at dksL_law_8 10 rfl rfl)
theorem dL_law_329 : decode cL_law 329 = .ok (.iconst 2, 1) := dk_5 (dk_at dksL_law_8 11 rfl rfl)
theorem dL_law_330 : decode cL_law 330 = .ok (.iadd, 1) := dk_96 (dk_at dksL_law_8 12 rfl rfl)
theorem dL_law_331 : decode cL_law 331 = .ok (.iaload, 1) := dk_46 (dk_at dksL_law_8 13 rfl rfl)
theorem dL_law_332 : decode cL_law 332 = .ok (.aload_n 0, 1) := dk_42 (dk_at dksL_law_8 14 rfl rfl)
theorem dL_law_333 : decode cL_law 333 = .ok (.iload_n 3, 1) := dk_29 (dk_at dksL_law_8 15 rfl rfl)
theorem dL_law_334 : decode cL_law 334 = .ok (.iconst 3, 1) := dk_6 (dk_at dksL_law_8 16 rfl rfl)
theorem dL_law_335 : decode cL_law 335 = .ok (.iadd, 1) := dk_96 (dk_at dksL_law_8 17 rfl rfl)
theorem dL_law_336 : decode cL_law 336 = .ok (.iaload, 1) := dk_46 (dk_at dksL_law_8 18 rfl rfl)
theorem dL_law_337 : decode cL_law 337 = .ok (.aload_n 0, 1) := dk_42 (dk_at dksL_law_8 19 rfl rfl)
theorem dL_law_338 : decode cL_law 338 = .ok (.iload_n 3, 1) := dk_29 (dk_at dksL_law_8 20 rfl rfl)
theorem dL_law_339 : decode cL_law 339 = .ok (.iconst 4, 1) := dk_7 (dk_at dksL_law_8 21 rfl rfl)
theorem dL_law_340 : decode cL_law 340 = .ok (.iadd, 1) := dk_96 (dk_at dksL_law_8 22 rfl rfl)
theorem dL_law_341 : decode cL_law 341 = .ok (.iaload, 1) := dk_46 (dk_at dksL_law_8 23 rfl rfl)
theorem dL_law_342 : decode cL_law 342 = .ok (.aload_n 0, 1) := dk_42 (dk_at dksL_law_9 0 rfl rfl)
theorem dL_law_343 : decode cL_law 343 = .ok (.iload_n 3, 1) := dk_29 (dk_at dksL_law_9 1 rfl rfl)
theorem dL_law_344 : decode cL_law 344 = .ok (.iconst 5, 1) := dk_8 (dk_at dksL_law_9 2 rfl rfl)
theorem dL_law_345 : decode cL_law 345 = .ok (.iadd, 1) := dk_96 (dk_at dksL_law_9 3 rfl rfl)
theorem dL_law_346 : decode cL_law 346 = .ok (.iaload, 1) := dk_46 (dk_at dksL_law_9 4 rfl rfl)
theorem dL_law_347 : decode cL_law 347 = .ok (.invokevirtual 36, 3) := dk_182 0 36 (dk_at dksL_law_9 5 rfl rfl)
theorem dL_law_350 : decode cL_law 350 = .ok (.if_icmp .eq 864, 3) := dk_159 3 96 (dk_at dksL_law_9 8 rfl rfl)
theorem dL_law_353 : decode cL_law 353 = .ok (.iconst 0, 1) := dk_3 (dk_at dksL_law_9 11 rfl rfl)
theorem dL_law_354 : decode cL_law 354 = .ok (.ireturn, 1) := dk_172 (dk_at dksL_law_9 12 rfl rfl)
theorem dL_law_355 : decode cL_law 355 = .ok (.aload_n 1, 1) := dk_43 (dk_at dksL_law_9 13 rfl rfl)
theorem dL_law_356 : decode cL_law 356 = .ok (.aload_n 0, 1) := dk_42 (dk_at dksL_law_9 14 rfl rfl)
theorem dL_law_357 : decode cL_law 357 = .ok (.iload_n 3, 1) := dk_29 (dk_at dksL_law_9 15 rfl rfl)
theorem dL_law_358 : decode cL_law 358 = .ok (.iconst 1, 1) := dk_4 (dk_at dksL_law_9 16 rfl rfl)
theorem dL_law_359 : decode cL_law 359 = .ok (.iadd, 1) := dk_96 (dk_at dksL_law_9 17 rfl rfl)
theorem dL_law_360 : decode cL_law 360 = .ok (.iaload, 1) := dk_46 (dk_at dksL_law_9 18 rfl rfl)
theorem dL_law_361 : decode cL_law 361 = .ok (.invokevirtual 37, 3) := dk_182 0 37 (dk_at dksL_law_9 19 rfl rfl)
theorem dL_law_364 : decode cL_law 364 = .ok (.aload_n 2, 1) := dk_44 (dk_at dksL_law_9 22 rfl rfl)
theorem dL_law_365 : decode cL_law 365 = .ok (.aload_n 0, 1) := dk_42 (dk_at dksL_law_9 23 rfl rfl)
theorem dL_law_366 : decode cL_law 366 = .ok (.iload_n 3, 1) := dk_29 (dk_at dksL_law_10 0 rfl rfl)
theorem dL_law_367 : decode cL_law 367 = .ok (.iconst 1, 1) := dk_4 (dk_at dksL_law_10 1 rfl rfl)
theorem dL_law_368 : decode cL_law 368 = .ok (.iadd, 1) := dk_96 (dk_at dksL_law_10 2 rfl rfl)
theorem dL_law_369 : decode cL_law 369 = .ok (.iaload, 1) := dk_46 (dk_at dksL_law_10 3 rfl rfl)
theorem dL_law_370 : decode cL_law 370 = .ok (.invokevirtual 40, 3) := dk_182 0 40 (dk_at dksL_law_10 4 rfl rfl)
theorem dL_law_373 : decode cL_law 373 = .ok (.if_icmp .eq 841, 3) := dk_159 3 73 (dk_at dksL_law_10 7 rfl rfl)
theorem dL_law_376 : decode cL_law 376 = .ok (.iconst 0, 1) := dk_3 (dk_at dksL_law_10 10 rfl rfl)
theorem dL_law_377 : decode cL_law 377 = .ok (.ireturn, 1) := dk_172 (dk_at dksL_law_10 11 rfl rfl)
theorem dL_law_378 : decode cL_law 378 = .ok (.aload_n 1, 1) := dk_43 (dk_at dksL_law_10 12 rfl rfl)
theorem dL_law_379 : decode cL_law 379 = .ok (.aload_n 0, 1) := dk_42 (dk_at dksL_law_10 13 rfl rfl)
theorem dL_law_380 : decode cL_law 380 = .ok (.iload_n 3, 1) := dk_29 (dk_at dksL_law_10 14 rfl rfl)
theorem dL_law_381 : decode cL_law 381 = .ok (.iconst 1, 1) := dk_4 (dk_at dksL_law_10 15 rfl rfl)
theorem dL_law_382 : decode cL_law 382 = .ok (.iadd, 1) := dk_96 (dk_at dksL_law_10 16 rfl rfl)
theorem dL_law_383 : decode cL_law 383 = .ok (.iaload, 1) := dk_46 (dk_at dksL_law_10 17 rfl rfl)
theorem dL_law_384 : decode cL_law 384 = .ok (.invokevirtual 41, 3) := dk_182 0 41 (dk_at dksL_law_10 18 rfl rfl)
theorem dL_law_387 : decode cL_law 387 = .ok (.aload_n 2, 1) := dk_44 (dk_at dksL_law_10 21 rfl rfl)
theorem dL_law_388 : decode cL_law 388 = .ok (.aload_n 0, 1) := dk_42 (dk_at dksL_law_10 22 rfl rfl)
theorem dL_law_389 : decode cL_law 389 = .ok (.iload_n 3, 1) := dk_29 (dk_at dksL_law_10 23 rfl rfl)
theorem dL_law_390 : decode cL_law 390 = .ok (.iconst 1, 1) := dk_4 (dk_at dksL_law_11 0 rfl rfl)
theorem dL_law_391 : decode cL_law 391 = .ok (.iadd, 1) := dk_96 (dk_at dksL_law_11 1 rfl rfl)
theorem dL_law_392 : decode cL_law 392 = .ok (.iaload, 1) := dk_46 (dk_at dksL_law_11 2 rfl rfl)
theorem dL_law_393 : decode cL_law 393 = .ok (.invokevirtual 44, 3) := dk_182 0 44 (dk_at dksL_law_11 3 rfl rfl)
theorem dL_law_396 : decode cL_law 396 = .ok (.if_icmp .eq 818, 3) := dk_159 3 50 (dk_at dksL_law_11 6 rfl rfl)
theorem dL_law_399 : decode cL_law 399 = .ok (.iconst 0, 1) := dk_3 (dk_at dksL_law_11 9 rfl rfl)
theorem dL_law_400 : decode cL_law 400 = .ok (.ireturn, 1) := dk_172 (dk_at dksL_law_11 10 rfl rfl)
theorem dL_law_401 : decode cL_law 401 = .ok (.aload_n 1, 1) := dk_43 (dk_at dksL_law_11 11 rfl rfl)
theorem dL_law_402 : decode cL_law 402 = .ok (.aload_n 0, 1) := dk_42 (dk_at dksL_law_11 12 rfl rfl)
theorem dL_law_403 : decode cL_law 403 = .ok (.iload_n 3, 1) := dk_29 (dk_at dksL_law_11 13 rfl rfl)
theorem dL_law_404 : decode cL_law 404 = .ok (.iconst 1, 1) := dk_4 (dk_at dksL_law_11 14 rfl rfl)
theorem dL_law_405 : decode cL_law 405 = .ok (.iadd, 1) := dk_96 (dk_at dksL_law_11 15 rfl rfl)
theorem dL_law_406 : decode cL_law 406 = .ok (.iaload, 1) := dk_46 (dk_at dksL_law_11 16 rfl rfl)
theorem dL_law_407 : decode cL_law 407 = .ok (.invokevirtual 45, 3) := dk_182 0 45 (dk_at dksL_law_11 17 rfl rfl)
theorem dL_law_410 : decode cL_law 410 = .ok (.aload_n 2, 1) := dk_44 (dk_at dksL_law_11 20 rfl rfl)
theorem dL_law_411 : decode cL_law 411 = .ok (.aload_n 0, 1) := dk_42 (dk_at dksL_law_11 21 rfl rfl)
theorem dL_law_412 : decode cL_law 412 = .ok (.iload_n 3, 1) := dk_29 (dk_at dksL_law_11 22 rfl rfl)
theorem dL_law_413 : decode cL_law 413 = .ok (.iconst 1, 1) := dk_4 (dk_at dksL_law_11 23 rfl rfl)
theorem dL_law_414 : decode cL_law 414 = .ok (.iadd, 1) := dk_96 (dk_at dksL_law_12 0 rfl rfl)
theorem dL_law_415 : decode cL_law 415 = .ok (.iaload, 1) := dk_46 (dk_at dksL_law_12 1 rfl rfl)
theorem dL_law_416 : decode cL_law 416 = .ok (.invokevirtual 48, 3) := dk_182 0 48 (dk_at dksL_law_12 2 rfl rfl)
theorem dL_law_419 : decode cL_law 419 = .ok (.if_icmp .eq 795, 3) := dk_159 3 27 (dk_at dksL_law_12 5 rfl rfl)
theorem dL_law_422 : decode cL_law 422 = .ok (.iconst 0, 1) := dk_3 (dk_at dksL_law_12 8 rfl rfl)
theorem dL_law_423 : decode cL_law 423 = .ok (.ireturn, 1) := dk_172 (dk_at dksL_law_12 9 rfl rfl)
theorem dL_law_424 : decode cL_law 424 = .ok (.aload_n 1, 1) := dk_43 (dk_at dksL_law_12 10 rfl rfl)
theorem dL_law_425 : decode cL_law 425 = .ok (.aload_n 0, 1) := dk_42 (dk_at dksL_law_12 11 rfl rfl)
theorem dL_law_426 : decode cL_law 426 = .ok (.iload_n 3, 1) := dk_29 (dk_at dksL_law_12 12 rfl rfl)
theorem dL_law_427 : decode cL_law 427 = .ok (.iconst 1, 1) := dk_4 (dk_at dksL_law_12 13 rfl rfl)
theorem dL_law_428 : decode cL_law 428 = .ok (.iadd, 1) := dk_96 (dk_at dksL_law_12 14 rfl rfl)
theorem dL_law_429 : decode cL_law 429 = .ok (.iaload, 1) := dk_46 (dk_at dksL_law_12 15 rfl rfl)
theorem dL_law_430 : decode cL_law 430 = .ok (.invokevirtual 49, 3) := dk_182 0 49 (dk_at dksL_law_12 16 rfl rfl)
theorem dL_law_433 : decode cL_law 433 = .ok (.aload_n 2, 1) := dk_44 (dk_at dksL_law_12 19 rfl rfl)
theorem dL_law_434 : decode cL_law 434 = .ok (.aload_n 0, 1) := dk_42 (dk_at dksL_law_12 20 rfl rfl)
theorem dL_law_435 : decode cL_law 435 = .ok (.iload_n 3, 1) := dk_29 (dk_at dksL_law_12 21 rfl rfl)
theorem dL_law_436 : decode cL_law 436 = .ok (.iconst 1, 1) := dk_4 (dk_at dksL_law_12 22 rfl rfl)
theorem dL_law_437 : decode cL_law 437 = .ok (.iadd, 1) := dk_96 (dk_at dksL_law_12 23 rfl rfl)
theorem dL_law_438 : decode cL_law 438 = .ok (.iaload, 1) := dk_46 (dk_at dksL_law_13 0 rfl rfl)
theorem dL_law_439 : decode cL_law 439 = .ok (.invokevirtual 52, 3) := dk_182 0 52 (dk_at dksL_law_13 1 rfl rfl)
theorem dL_law_442 : decode cL_law 442 = .ok (.if_icmp .eq 772, 3) := dk_159 3 4 (dk_at dksL_law_13 4 rfl rfl)
theorem dL_law_445 : decode cL_law 445 = .ok (.iconst 0, 1) := dk_3 (dk_at dksL_law_13 7 rfl rfl)
theorem dL_law_446 : decode cL_law 446 = .ok (.ireturn, 1) := dk_172 (dk_at dksL_law_13 8 rfl rfl)
theorem dL_law_447 : decode cL_law 447 = .ok (.aload_n 1, 1) := dk_43 (dk_at dksL_law_13 9 rfl rfl)
theorem dL_law_448 : decode cL_law 448 = .ok (.aload_n 0, 1) := dk_42 (dk_at dksL_law_13 10 rfl rfl)
theorem dL_law_449 : decode cL_law 449 = .ok (.iload_n 3, 1) := dk_29 (dk_at dksL_law_13 11 rfl rfl)
theorem dL_law_450 : decode cL_law 450 = .ok (.iconst 1, 1) := dk_4 (dk_at dksL_law_13 12 rfl rfl)
theorem dL_law_451 : decode cL_law 451 = .ok (.iadd, 1) := dk_96 (dk_at dksL_law_13 13 rfl rfl)
theorem dL_law_452 : decode cL_law 452 = .ok (.iaload, 1) := dk_46 (dk_at dksL_law_13 14 rfl rfl)
theorem dL_law_453 : decode cL_law 453 = .ok (.invokevirtual 53, 3) := dk_182 0 53 (dk_at dksL_law_13 15 rfl rfl)
theorem dL_law_456 : decode cL_law 456 = .ok (.aload_n 2, 1) := dk_44 (dk_at dksL_law_13 18 rfl rfl)
theorem dL_law_457 : decode cL_law 457 = .ok (.aload_n 0, 1) := dk_42 (dk_at dksL_law_13 19 rfl rfl)
theorem dL_law_458 : decode cL_law 458 = .ok (.iload_n 3, 1) := dk_29 (dk_at dksL_law_13 20 rfl rfl)
theorem dL_law_459 : decode cL_law 459 = .ok (.iconst 1, 1) := dk_4 (dk_at dksL_law_13 21 rfl rfl)
theorem dL_law_460 : decode cL_law 460 = .ok (.iadd, 1) := dk_96 (dk_at dksL_law_13 22 rfl rfl)
theorem dL_law_461 : decode cL_law 461 = .ok (.iaload, 1) := dk_46 (dk_at dksL_law_13 23 rfl rfl)
theorem dL_law_462 : decode cL_law 462 = .ok (.invokevirtual 56, 3) := dk_182 0 56 (dk_at dksL_law_14 0 rfl rfl)
theorem dL_law_465 : decode cL_law 465 = .ok (.if_icmp .eq 749, 3) := dk_159 2 237 (dk_at dksL_law_14 3 rfl rfl)
theorem dL_law_468 : decode cL_law 468 = .ok (.iconst 0, 1) := dk_3 (dk_at dksL_law_14 6 rfl rfl)
theorem dL_law_469 : decode cL_law 469 = .ok (.ireturn, 1) := dk_172 (dk_at dksL_law_14 7 rfl rfl)
theorem dL_law_470 : decode cL_law 470 = .ok (.aload_n 1, 1) := dk_43 (dk_at dksL_law_14 8 rfl rfl)
theorem dL_law_471 : decode cL_law 471 = .ok (.aload_n 0, 1) := dk_42 (dk_at dksL_law_14 9 rfl rfl)
theorem dL_law_472 : decode cL_law 472 = .ok (.iload_n 3, 1) := dk_29 (dk_at dksL_law_14 10 rfl rfl)
theorem dL_law_473 : decode cL_law 473 = .ok (.iconst 1, 1) := dk_4 (dk_at dksL_law_14 11 rfl rfl)
theorem dL_law_474 : decode cL_law 474 = .ok (.iadd, 1) := dk_96 (dk_at dksL_law_14 12 rfl rfl)
theorem dL_law_475 : decode cL_law 475 = .ok (.iaload, 1) := dk_46 (dk_at dksL_law_14 13 rfl rfl)
theorem dL_law_476 : decode cL_law 476 = .ok (.aload_n 0, 1) := dk_42 (dk_at dksL_law_14 14 rfl rfl)
theorem dL_law_477 : decode cL_law 477 = .ok (.iload_n 3, 1) := dk_29 (dk_at dksL_law_14 15 rfl rfl)
theorem dL_law_478 : decode cL_law 478 = .ok (.iconst 2, 1) := dk_5 (dk_at dksL_law_14 16 rfl rfl)
theorem dL_law_479 : decode cL_law 479 = .ok (.iadd, 1) := dk_96 (dk_at dksL_law_14 17 rfl rfl)
theorem dL_law_480 : decode cL_law 480 = .ok (.iaload, 1) := dk_46 (dk_at dksL_law_14 18 rfl rfl)
theorem dL_law_481 : decode cL_law 481 = .ok (.aload_n 0, 1) := dk_42 (dk_at dksL_law_14 19 rfl rfl)
theorem dL_law_482 : decode cL_law 482 = .ok (.iload_n 3, 1) := dk_29 (dk_at dksL_law_14 20 rfl rfl)
theorem dL_law_483 : decode cL_law 483 = .ok (.iconst 3, 1) := dk_6 (dk_at dksL_law_14 21 rfl rfl)
theorem dL_law_484 : decode cL_law 484 = .ok (.iadd, 1) := dk_96 (dk_at dksL_law_14 22 rfl rfl)
theorem dL_law_485 : decode cL_law 485 = .ok (.iaload, 1) := dk_46 (dk_at dksL_law_14 23 rfl rfl)
theorem dL_law_486 : decode cL_law 486 = .ok (.invokevirtual 57, 3) := dk_182 0 57 (dk_at dksL_law_15 0 rfl rfl)
theorem dL_law_489 : decode cL_law 489 = .ok (.aload_n 2, 1) := dk_44 (dk_at dksL_law_15 3 rfl rfl)
theorem dL_law_490 : decode cL_law 490 = .ok (.aload_n 0, 1) := dk_42 (dk_at dksL_law_15 4 rfl rfl)
theorem dL_law_491 : decode cL_law 491 = .ok (.iload_n 3, 1) := dk_29 (dk_at dksL_law_15 5 rfl rfl)
theorem dL_law_492 : decode cL_law 492 = .ok (.iconst 1, 1) := dk_4 (dk_at dksL_law_15 6 rfl rfl)
theorem dL_law_493 : decode cL_law 493 = .ok (.iadd, 1) := dk_96 (dk_at dksL_law_15 7 rfl rfl)
theorem dL_law_494 : decode cL_law 494 = .ok (.iaload, 1) := dk_46 (dk_at dksL_law_15 8 rfl rfl)
theorem dL_law_495 : decode cL_law 495 = .ok (.aload_n 0, 1) := dk_42 (dk_at dksL_law_15 9 rfl rfl)
theorem dL_law_496 : decode cL_law 496 = .ok (.iload_n 3, 1) := dk_29 (dk_at dksL_law_15 10 rfl rfl)
theorem dL_law_497 : decode cL_law 497 = .ok (.iconst 2, 1) := dk_5 (dk_at dksL_law_15 11 rfl rfl)
theorem dL_law_498 : decode cL_law 498 = .ok (.iadd, 1) := dk_96 (dk_at dksL_law_15 12 rfl rfl)
theorem dL_law_499 : decode cL_law 499 = .ok (.iaload, 1) := dk_46 (dk_at dksL_law_15 13 rfl rfl)
theorem dL_law_500 : decode cL_law 500 = .ok (.aload_n 0, 1) := dk_42 (dk_at dksL_law_15 14 rfl rfl)
theorem dL_law_501 : decode cL_law 501 = .ok (.iload_n 3, 1) := dk_29 (dk_at dksL_law_15 15 rfl rfl)
theorem dL_law_502 : decode cL_law 502 = .ok (.iconst 3, 1) := dk_6 (dk_at dksL_law_15 16 rfl rfl)
theorem dL_law_503 : decode cL_law 503 = .ok (.iadd, 1) := dk_96 (dk_at dksL_law_15 17 rfl rfl)
theorem dL_law_504 : decode cL_law 504 = .ok (.iaload, 1) := dk_46 (dk_at dksL_law_15 18 rfl rfl)
theorem dL_law_505 : decode cL_law 505 = .ok (.invokevirtual 61, 3) := dk_182 0 61 (dk_at dksL_law_15 19 rfl rfl)
theorem dL_law_508 : decode cL_law 508 = .ok (.if_icmp .eq 706, 3) := dk_159 2 194 (dk_at dksL_law_16 0 rfl rfl)
theorem dL_law_511 : decode cL_law 511 = .ok (.iconst 0, 1) := dk_3 (dk_at dksL_law_16 3 rfl rfl)
theorem dL_law_512 : decode cL_law 512 = .ok (.ireturn, 1) := dk_172 (dk_at dksL_law_16 4 rfl rfl)
theorem dL_law_513 : decode cL_law 513 = .ok (.aload_n 1, 1) := dk_43 (dk_at dksL_law_16 5 rfl rfl)
theorem dL_law_514 : decode cL_law 514 = .ok (.invokevirtual 62, 3) := dk_182 0 62 (dk_at dksL_law_16 6 rfl rfl)
theorem dL_law_517 : decode cL_law 517 = .ok (.aload_n 2, 1) := dk_44 (dk_at dksL_law_16 9 rfl rfl)
theorem dL_law_518 : decode cL_law 518 = .ok (.invokevirtual 65, 3) := dk_182 0 65 (dk_at dksL_law_16 10 rfl rfl)
theorem dL_law_521 : decode cL_law 521 = .ok (.if_icmp .eq 693, 3) := dk_159 2 181 (dk_at dksL_law_16 13 rfl rfl)
theorem dL_law_524 : decode cL_law 524 = .ok (.iconst 0, 1) := dk_3 (dk_at dksL_law_16 16 rfl rfl)
theorem dL_law_525 : decode cL_law 525 = .ok (.ireturn, 1) := dk_172 (dk_at dksL_law_16 17 rfl rfl)
theorem dL_law_526 : decode cL_law 526 = .ok (.aload_n 1, 1) := dk_43 (dk_at dksL_law_16 18 rfl rfl)
theorem dL_law_527 : decode cL_law 527 = .ok (.aload_n 0, 1) := dk_42 (dk_at dksL_law_16 19 rfl rfl)
theorem dL_law_528 : decode cL_law 528 = .ok (.iload_n 3, 1) := dk_29 (dk_at dksL_law_16 20 rfl rfl)
theorem dL_law_529 : decode cL_law 529 = .ok (.iconst 1, 1) := dk_4 (dk_at dksL_law_16 21 rfl rfl)
theorem dL_law_530 : decode cL_law 530 = .ok (.iadd, 1) := dk_96 (dk_at dksL_law_16 22 rfl rfl)
theorem dL_law_531 : decode cL_law 531 = .ok (.iaload, 1) := dk_46 (dk_at dksL_law_16 23 rfl rfl)
theorem dL_law_532 : decode cL_law 532 = .ok (.aload_n 0, 1) := dk_42 (dk_at dksL_law_17 0 rfl rfl)
theorem dL_law_533 : decode cL_law 533 = .ok (.iload_n 3, 1) := dk_29 (dk_at dksL_law_17 1 rfl rfl)
theorem dL_law_534 : decode cL_law 534 = .ok (.iconst 2, 1) := dk_5 (dk_at dksL_law_17 2 rfl rfl)
theorem dL_law_535 : decode cL_law 535 = .ok (.iadd, 1) := dk_96 (dk_at dksL_law_17 3 rfl rfl)
theorem dL_law_536 : decode cL_law 536 = .ok (.iaload, 1) := dk_46 (dk_at dksL_law_17 4 rfl rfl)
theorem dL_law_537 : decode cL_law 537 = .ok (.aload_n 0, 1) := dk_42 (dk_at dksL_law_17 5 rfl rfl)
theorem dL_law_538 : decode cL_law 538 = .ok (.iload_n 3, 1) := dk_29 (dk_at dksL_law_17 6 rfl rfl)
theorem dL_law_539 : decode cL_law 539 = .ok (.iconst 3, 1) := dk_6 (dk_at dksL_law_17 7 rfl rfl)
theorem dL_law_540 : decode cL_law 540 = .ok (.iadd, 1) := dk_96 (dk_at dksL_law_17 8 rfl rfl)
theorem dL_law_541 : decode cL_law 541 = .ok (.iaload, 1) := dk_46 (dk_at dksL_law_17 9 rfl rfl)
theorem dL_law_542 : decode cL_law 542 = .ok (.aload_n 0, 1) := dk_42 (dk_at dksL_law_17 10 rfl rfl)
theorem dL_law_543 : decode cL_law 543 = .ok (.iload_n 3, 1) := dk_29 (dk_at dksL_law_17 11 rfl rfl)
theorem dL_law_544 : decode cL_law 544 = .ok (.iconst 4, 1) := dk_7 (dk_at dksL_law_17 12 rfl rfl)
theorem dL_law_545 : decode cL_law 545 = .ok (.iadd, 1) := dk_96 (dk_at dksL_law_17 13 rfl rfl)
theorem dL_law_546 : decode cL_law 546 = .ok (.iaload, 1) := dk_46 (dk_at dksL_law_17 14 rfl rfl)
theorem dL_law_547 : decode cL_law 547 = .ok (.invokevirtual 66, 3) := dk_182 0 66 (dk_at dksL_law_17 15 rfl rfl)
theorem dL_law_550 : decode cL_law 550 = .ok (.aload_n 2, 1) := dk_44 (dk_at dksL_law_17 18 rfl rfl)
theorem dL_law_551 : decode cL_law 551 = .ok (.aload_n 0, 1) := dk_42 (dk_at dksL_law_17 19 rfl rfl)
theorem dL_law_552 : decode cL_law 552 = .ok (.iload_n 3, 1) := dk_29 (dk_at dksL_law_17 20 rfl rfl)
theorem dL_law_553 : decode cL_law 553 = .ok (.iconst 1, 1) := dk_4 (dk_at dksL_law_17 21 rfl rfl)
theorem dL_law_554 : decode cL_law 554 = .ok (.iadd, 1) := dk_96 (dk_at dksL_law_17 22 rfl rfl)
theorem dL_law_555 : decode cL_law 555 = .ok (.iaload, 1) := dk_46 (dk_at dksL_law_17 23 rfl rfl)
theorem dL_law_556 : decode cL_law 556 = .ok (.aload_n 0, 1) := dk_42 (dk_at dksL_law_18 0 rfl rfl)
theorem dL_law_557 : decode cL_law 557 = .ok (.iload_n 3, 1) := dk_29 (dk_at dksL_law_18 1 rfl rfl)
theorem dL_law_558 : decode cL_law 558 = .ok (.iconst 2, 1) := dk_5 (dk_at dksL_law_18 2 rfl rfl)
theorem dL_law_559 : decode cL_law 559 = .ok (.iadd, 1) := dk_96 (dk_at dksL_law_18 3 rfl rfl)
theorem dL_law_560 : decode cL_law 560 = .ok (.iaload, 1) := dk_46 (dk_at dksL_law_18 4 rfl rfl)
theorem dL_law_561 : decode cL_law 561 = .ok (.aload_n 0, 1) := dk_42 (dk_at dksL_law_18 5 rfl rfl)
theorem dL_law_562 : decode cL_law 562 = .ok (.iload_n 3, 1) := dk_29 (dk_at dksL_law_18 6 rfl rfl)
theorem dL_law_563 : decode cL_law 563 = .ok (.iconst 3, 1) := dk_6 (dk_at dksL_law_18 7 rfl rfl)
theorem dL_law_564 : decode cL_law 564 = .ok (.iadd, 1) := dk_96 (dk_at dksL_law_18 8 rfl rfl)
theorem dL_law_565 : decode cL_law 565 = .ok (.iaload, 1) := dk_46 (dk_at dksL_law_18 9 rfl rfl)
theorem dL_law_566 : decode cL_law 566 = .ok (.aload_n 0, 1) := dk_42 (dk_at dksL_law_18 10 rfl rfl)
theorem dL_law_567 : decode cL_law 567 = .ok (.iload_n 3, 1) := dk_29 (dk_at dksL_law_18 11 rfl rfl)
theorem dL_law_568 : decode cL_law 568 = .ok (.iconst 4, 1) := dk_7 (dk_at dksL_law_18 12 rfl rfl)
theorem dL_law_569 : decode cL_law 569 = .ok (.iadd, 1) := dk_96 (dk_at dksL_law_18 13 rfl rfl)
theorem dL_law_570 : decode cL_law 570 = .ok (.iaload, 1) := dk_46 (dk_at dksL_law_18 14 rfl rfl)
theorem dL_law_571 : decode cL_law 571 = .ok (.invokevirtual 70, 3) := dk_182 0 70 (dk_at dksL_law_18 15 rfl rfl)
theorem dL_law_574 : decode cL_law 574 = .ok (.if_icmp .eq 640, 3) := dk_159 2 128 (dk_at dksL_law_18 18 rfl rfl)
theorem dL_law_577 : decode cL_law 577 = .ok (.iconst 0, 1) := dk_3 (dk_at dksL_law_18 21 rfl rfl)
theorem dL_law_578 : decode cL_law 578 = .ok (.ireturn, 1) := dk_172 (dk_at dksL_law_18 22 rfl rfl)
theorem dL_law_579 : decode cL_law 579 = .ok (.aload_n 1, 1) := dk_43 (dk_at dksL_law_18 23 rfl rfl)
theorem dL_law_580 : decode cL_law 580 = .ok (.aload_n 0, 1) := dk_42 (dk_at dksL_law_19 0 rfl rfl)
theorem dL_law_581 : decode cL_law 581 = .ok (.iload_n 3, 1) := dk_29 (dk_at dksL_law_19 1 rfl rfl)
theorem dL_law_582 : decode cL_law 582 = .ok (.iconst 1, 1) := dk_4 (dk_at dksL_law_19 2 rfl rfl)
theorem dL_law_583 : decode cL_law 583 = .ok (.iadd, 1) := dk_96 (dk_at dksL_law_19 3 rfl rfl)
theorem dL_law_584 : decode cL_law 584 = .ok (.iaload, 1) := dk_46 (dk_at dksL_law_19 4 rfl rfl)
theorem dL_law_585 : decode cL_law 585 = .ok (.invokevirtual 71, 3) := dk_182 0 71 (dk_at dksL_law_19 5 rfl rfl)
theorem dL_law_588 : decode cL_law 588 = .ok (.aload_n 2, 1) := dk_44 (dk_at dksL_law_19 8 rfl rfl)
theorem dL_law_589 : decode cL_law 589 = .ok (.aload_n 0, 1) := dk_42 (dk_at dksL_law_19 9 rfl rfl)
theorem dL_law_590 : decode cL_law 590 = .ok (.iload_n 3, 1) := dk_29 (dk_at dksL_law_19 10 rfl rfl)
theorem dL_law_591 : decode cL_law 591 = .ok (.iconst 1, 1) := dk_4 (dk_at dksL_law_19 11 rfl rfl)
theorem dL_law_592 : decode cL_law 592 = .ok (.iadd, 1) := dk_96 (dk_at dksL_law_19 12 rfl rfl)
theorem dL_law_593 : decode cL_law 593 = .ok (.iaload, 1) := dk_46 (dk_at dksL_law_19 13 rfl rfl)
theorem dL_law_594 : decode cL_law 594 = .ok (.invokevirtual 74, 3) := dk_182 0 74 (dk_at dksL_law_19 14 rfl rfl)
theorem dL_law_597 : decode cL_law 597 = .ok (.if_icmp .eq 617, 3) := dk_159 2 105 (dk_at dksL_law_19 17 rfl rfl)
theorem dL_law_600 : decode cL_law 600 = .ok (.iconst 0, 1) := dk_3 (dk_at dksL_law_19 20 rfl rfl)
theorem dL_law_601 : decode cL_law 601 = .ok (.ireturn, 1) := dk_172 (dk_at dksL_law_19 21 rfl rfl)
theorem dL_law_602 : decode cL_law 602 = .ok (.aload_n 1, 1) := dk_43 (dk_at dksL_law_19 22 rfl rfl)
theorem dL_law_603 : decode cL_law 603 = .ok (.aload_n 0, 1) := dk_42 (dk_at dksL_law_19 23 rfl rfl)
theorem dL_law_604 : decode cL_law 604 = .ok (.iload_n 3, 1) := dk_29 (dk_at dksL_law_20 0 rfl rfl)
theorem dL_law_605 : decode cL_law 605 = .ok (.iconst 1, 1) := dk_4 (dk_at dksL_law_20 1 rfl rfl)
theorem dL_law_606 : decode cL_law 606 = .ok (.iadd, 1) := dk_96 (dk_at dksL_law_20 2 rfl rfl)
theorem dL_law_607 : decode cL_law 607 = .ok (.iaload, 1) := dk_46 (dk_at dksL_law_20 3 rfl rfl)
theorem dL_law_608 : decode cL_law 608 = .ok (.invokevirtual 75, 3) := dk_182 0 75 (dk_at dksL_law_20 4 rfl rfl)
theorem dL_law_611 : decode cL_law 611 = .ok (.aload_n 2, 1) := dk_44 (dk_at dksL_law_20 7 rfl rfl)
theorem dL_law_612 : decode cL_law 612 = .ok (.aload_n 0, 1) := dk_42 (dk_at dksL_law_20 8 rfl rfl)
theorem dL_law_613 : decode cL_law 613 = .ok (.iload_n 3, 1) := dk_29 (dk_at dksL_law_20 9 rfl rfl)
theorem dL_law_614 : decode cL_law 614 = .ok (.iconst 1, 1) := dk_4 (dk_at dksL_law_20 10 rfl rfl)
theorem dL_law_615 : decode cL_law 615 = .ok (.iadd, 1) := dk_96 (dk_at dksL_law_20 11 rfl rfl)
theorem dL_law_616 : decode cL_law 616 = .ok (.iaload, 1) := dk_46 (dk_at dksL_law_20 12 rfl rfl)
theorem dL_law_617 : decode cL_law 617 = .ok (.invokevirtual 78, 3) := dk_182 0 78 (dk_at dksL_law_20 13 rfl rfl)
theorem dL_law_620 : decode cL_law 620 = .ok (.if_icmp .eq 594, 3) := dk_159 2 82 (dk_at dksL_law_20 16 rfl rfl)
theorem dL_law_623 : decode cL_law 623 = .ok (.iconst 0, 1) := dk_3 (dk_at dksL_law_20 19 rfl rfl)
theorem dL_law_624 : decode cL_law 624 = .ok (.ireturn, 1) := dk_172 (dk_at dksL_law_20 20 rfl rfl)
theorem dL_law_625 : decode cL_law 625 = .ok (.aload_n 1, 1) := dk_43 (dk_at dksL_law_20 21 rfl rfl)
theorem dL_law_626 : decode cL_law 626 = .ok (.aload_n 0, 1) := dk_42 (dk_at dksL_law_20 22 rfl rfl)
theorem dL_law_627 : decode cL_law 627 = .ok (.iload_n 3, 1) := dk_29 (dk_at dksL_law_20 23 rfl rfl)
theorem dL_law_628 : decode cL_law 628 = .ok (.iconst 1, 1) := dk_4 (dk_at dksL_law_21 0 rfl rfl)
theorem dL_law_629 : decode cL_law 629 = .ok (.iadd, 1) := dk_96 (dk_at dksL_law_21 1 rfl rfl)
theorem dL_law_630 : decode cL_law 630 = .ok (.iaload, 1) := dk_46 (dk_at dksL_law_21 2 rfl rfl)
theorem dL_law_631 : decode cL_law 631 = .ok (.invokevirtual 79, 3) := dk_182 0 79 (dk_at dksL_law_21 3 rfl rfl)
theorem dL_law_634 : decode cL_law 634 = .ok (.aload_n 2, 1) := dk_44 (dk_at dksL_law_21 6 rfl rfl)
theorem dL_law_635 : decode cL_law 635 = .ok (.aload_n 0, 1) := dk_42 (dk_at dksL_law_21 7 rfl rfl)
theorem dL_law_636 : decode cL_law 636 = .ok (.iload_n 3, 1) := dk_29 (dk_at dksL_law_21 8 rfl rfl)
theorem dL_law_637 : decode cL_law 637 = .ok (.iconst 1, 1) := dk_4 (dk_at dksL_law_21 9 rfl rfl)
theorem dL_law_638 : decode cL_law 638 = .ok (.iadd, 1) := dk_96 (dk_at dksL_law_21 10 rfl rfl)
theorem dL_law_639 : decode cL_law 639 = .ok (.iaload, 1) := dk_46 (dk_at dksL_law_21 11 rfl rfl)
theorem dL_law_640 : decode cL_law 640 = .ok (.invokevirtual 82, 3) := dk_182 0 82 (dk_at dksL_law_21 12 rfl rfl)
theorem dL_law_643 : decode cL_law 643 = .ok (.if_icmp .eq 571, 3) := dk_159 2 59 (dk_at dksL_law_21 15 rfl rfl)
theorem dL_law_646 : decode cL_law 646 = .ok (.iconst 0, 1) := dk_3 (dk_at dksL_law_21 18 rfl rfl)
theorem dL_law_647 : decode cL_law 647 = .ok (.ireturn, 1) := dk_172 (dk_at dksL_law_21 19 rfl rfl)
theorem dL_law_648 : decode cL_law 648 = .ok (.aload_n 1, 1) := dk_43 (dk_at dksL_law_21 20 rfl rfl)
theorem dL_law_649 : decode cL_law 649 = .ok (.aload_n 0, 1) := dk_42 (dk_at dksL_law_21 21 rfl rfl)
theorem dL_law_650 : decode cL_law 650 = .ok (.iload_n 3, 1) := dk_29 (dk_at dksL_law_21 22 rfl rfl)
theorem dL_law_651 : decode cL_law 651 = .ok (.iconst 1, 1) := dk_4 (dk_at dksL_law_21 23 rfl rfl)
theorem dL_law_652 : decode cL_law 652 = .ok (.iadd, 1) := dk_96 (dk_at dksL_law_22 0 rfl rfl)
theorem dL_law_653 : decode cL_law 653 = .ok (.iaload, 1) := dk_46 (dk_at dksL_law_22 1 rfl rfl)
theorem dL_law_654 : decode cL_law 654 = .ok (.invokevirtual 83, 3) := dk_182 0 83 (dk_at dksL_law_22 2 rfl rfl)
theorem dL_law_657 : decode cL_law 657 = .ok (.aload_n 2, 1) := dk_44 (dk_at dksL_law_22 5 rfl rfl)
theorem dL_law_658 : decode cL_law 658 = .ok (.aload_n 0, 1) := dk_42 (dk_at dksL_law_22 6 rfl rfl)
theorem dL_law_659 : decode cL_law 659 = .ok (.iload_n 3, 1) := dk_29 (dk_at dksL_law_22 7 rfl rfl)
theorem dL_law_660 : decode cL_law 660 = .ok (.iconst 1, 1) := dk_4 (dk_at dksL_law_22 8 rfl rfl)
theorem dL_law_661 : decode cL_law 661 = .ok (.iadd, 1) := dk_96 (dk_at dksL_law_22 9 rfl rfl)
theorem dL_law_662 : decode cL_law 662 = .ok (.iaload, 1) := dk_46 (dk_at dksL_law_22 10 rfl rfl)
theorem dL_law_663 : decode cL_law 663 = .ok (.invokevirtual 86, 3) := dk_182 0 86 (dk_at dksL_law_22 11 rfl rfl)
theorem dL_law_666 : decode cL_law 666 = .ok (.if_icmp .eq 548, 3) := dk_159 2 36 (dk_at dksL_law_22 14 rfl rfl)
theorem dL_law_669 : decode cL_law 669 = .ok (.iconst 0, 1) := dk_3 (dk_at dksL_law_22 17 rfl rfl)
theorem dL_law_670 : decode cL_law 670 = .ok (.ireturn, 1) := dk_172 (dk_at dksL_law_22 18 rfl rfl)
theorem dL_law_671 : decode cL_law 671 = .ok (.aload_n 1, 1) := dk_43 (dk_at dksL_law_22 19 rfl rfl)
theorem dL_law_672 : decode cL_law 672 = .ok (.invokevirtual 87, 3) := dk_182 0 87 (dk_at dksL_law_22 20 rfl rfl)
theorem dL_law_675 : decode cL_law 675 = .ok (.aload_n 2, 1) := dk_44 (dk_at dksL_law_22 23 rfl rfl)
theorem dL_law_676 : decode cL_law 676 = .ok (.invokevirtual 90, 3) := dk_182 0 90 (dk_at dksL_law_23 0 rfl rfl)
theorem dL_law_679 : decode cL_law 679 = .ok (.if_icmp .eq 535, 3) := dk_159 2 23 (dk_at dksL_law_23 3 rfl rfl)
theorem dL_law_682 : decode cL_law 682 = .ok (.iconst 0, 1) := dk_3 (dk_at dksL_law_23 6 rfl rfl)
theorem dL_law_683 : decode cL_law 683 = .ok (.ireturn, 1) := dk_172 (dk_at dksL_law_23 7 rfl rfl)
theorem dL_law_684 : decode cL_law 684 = .ok (.aload_n 1, 1) := dk_43 (dk_at dksL_law_23 8 rfl rfl)
theorem dL_law_685 : decode cL_law 685 = .ok (.aload_n 0, 1) := dk_42 (dk_at dksL_law_23 9 rfl rfl)
theorem dL_law_686 : decode cL_law 686 = .ok (.iload_n 3, 1) := dk_29 (dk_at dksL_law_23 10 rfl rfl)
theorem dL_law_687 : decode cL_law 687 = .ok (.iconst 1, 1) := dk_4 (dk_at dksL_law_23 11 rfl rfl)
theorem dL_law_688 : decode cL_law 688 = .ok (.iadd, 1) := dk_96 (dk_at dksL_law_23 12 rfl rfl)
theorem dL_law_689 : decode cL_law 689 = .ok (.iaload, 1) := dk_46 (dk_at dksL_law_23 13 rfl rfl)
theorem dL_law_690 : decode cL_law 690 = .ok (.invokevirtual 91, 3) := dk_182 0 91 (dk_at dksL_law_23 14 rfl rfl)
theorem dL_law_693 : decode cL_law 693 = .ok (.aload_n 2, 1) := dk_44 (dk_at dksL_law_23 17 rfl rfl)
theorem dL_law_694 : decode cL_law 694 = .ok (.aload_n 0, 1) := dk_42 (dk_at dksL_law_23 18 rfl rfl)
theorem dL_law_695 : decode cL_law 695 = .ok (.iload_n 3, 1) := dk_29 (dk_at dksL_law_23 19 rfl rfl)
theorem dL_law_696 : decode cL_law 696 = .ok (.iconst 1, 1) := dk_4 (dk_at dksL_law_23 20 rfl rfl)
theorem dL_law_697 : decode cL_law 697 = .ok (.iadd, 1) := dk_96 (dk_at dksL_law_23 21 rfl rfl)
theorem dL_law_698 : decode cL_law 698 = .ok (.iaload, 1) := dk_46 (dk_at dksL_law_23 22 rfl rfl)
theorem dL_law_699 : decode cL_law 699 = .ok (.invokevirtual 94, 3) := dk_182 0 94 (dk_at dksL_law_24 0 rfl rfl)
theorem dL_law_702 : decode cL_law 702 = .ok (.if_icmp .eq 512, 3) := dk_159 2 0 (dk_at dksL_law_24 3 rfl rfl)
theorem dL_law_705 : decode cL_law 705 = .ok (.iconst 0, 1) := dk_3 (dk_at dksL_law_24 6 rfl rfl)
theorem dL_law_706 : decode cL_law 706 = .ok (.ireturn, 1) := dk_172 (dk_at dksL_law_24 7 rfl rfl)
theorem dL_law_707 : decode cL_law 707 = .ok (.aload_n 1, 1) := dk_43 (dk_at dksL_law_24 8 rfl rfl)
theorem dL_law_708 : decode cL_law 708 = .ok (.invokevirtual 95, 3) := dk_182 0 95 (dk_at dksL_law_24 9 rfl rfl)
theorem dL_law_711 : decode cL_law 711 = .ok (.aload_n 2, 1) := dk_44 (dk_at dksL_law_24 12 rfl rfl)
theorem dL_law_712 : decode cL_law 712 = .ok (.invokevirtual 98, 3) := dk_182 0 98 (dk_at dksL_law_24 13 rfl rfl)
theorem dL_law_715 : decode cL_law 715 = .ok (.if_icmp .eq 499, 3) := dk_159 1 243 (dk_at dksL_law_24 16 rfl rfl)
theorem dL_law_718 : decode cL_law 718 = .ok (.iconst 0, 1) := dk_3 (dk_at dksL_law_24 19 rfl rfl)
theorem dL_law_719 : decode cL_law 719 = .ok (.ireturn, 1) := dk_172 (dk_at dksL_law_24 20 rfl rfl)
theorem dL_law_720 : decode cL_law 720 = .ok (.aload_n 1, 1) := dk_43 (dk_at dksL_law_24 21 rfl rfl)
theorem dL_law_721 : decode cL_law 721 = .ok (.invokevirtual 99, 3) := dk_182 0 99 (dk_at dksL_law_25 0 rfl rfl)
theorem dL_law_724 : decode cL_law 724 = .ok (.aload_n 2, 1) := dk_44 (dk_at dksL_law_25 3 rfl rfl)
theorem dL_law_725 : decode cL_law 725 = .ok (.invokevirtual 102, 3) := dk_182 0 102 (dk_at dksL_law_25 4 rfl rfl)
theorem dL_law_728 : decode cL_law 728 = .ok (.if_icmp .eq 486, 3) := dk_159 1 230 (dk_at dksL_law_25 7 rfl rfl)
theorem dL_law_731 : decode cL_law 731 = .ok (.iconst 0, 1) := dk_3 (dk_at dksL_law_25 10 rfl rfl)
theorem dL_law_732 : decode cL_law 732 = .ok (.ireturn, 1) := dk_172 (dk_at dksL_law_25 11 rfl rfl)
theorem dL_law_733 : decode cL_law 733 = .ok (.aload_n 1, 1) := dk_43 (dk_at dksL_law_25 12 rfl rfl)
theorem dL_law_734 : decode cL_law 734 = .ok (.aload_n 0, 1) := dk_42 (dk_at dksL_law_25 13 rfl rfl)
theorem dL_law_735 : decode cL_law 735 = .ok (.iload_n 3, 1) := dk_29 (dk_at dksL_law_25 14 rfl rfl)
theorem dL_law_736 : decode cL_law 736 = .ok (.iconst 1, 1) := dk_4 (dk_at dksL_law_25 15 rfl rfl)
theorem dL_law_737 : decode cL_law 737 = .ok (.iadd, 1) := dk_96 (dk_at dksL_law_25 16 rfl rfl)
theorem dL_law_738 : decode cL_law 738 = .ok (.iaload, 1) := dk_46 (dk_at dksL_law_25 17 rfl rfl)
theorem dL_law_739 : decode cL_law 739 = .ok (.invokevirtual 103, 3) := dk_182 0 103 (dk_at dksL_law_25 18 rfl rfl)
theorem dL_law_742 : decode cL_law 742 = .ok (.aload_n 2, 1) := dk_44 (dk_at dksL_law_25 21 rfl rfl)
theorem dL_law_743 : decode cL_law 743 = .ok (.aload_n 0, 1) := dk_42 (dk_at dksL_law_25 22 rfl rfl)
theorem dL_law_744 : decode cL_law 744 = .ok (.iload_n 3, 1) := dk_29 (dk_at dksL_law_25 23 rfl rfl)
theorem dL_law_745 : decode cL_law 745 = .ok (.iconst 1, 1) := dk_4 (dk_at dksL_law_26 0 rfl rfl)
theorem dL_law_746 : decode cL_law 746 = .ok (.iadd, 1) := dk_96 (dk_at dksL_law_26 1 rfl rfl)
theorem dL_law_747 : decode cL_law 747 = .ok (.iaload, 1) := dk_46 (dk_at dksL_law_26 2 rfl rfl)
theorem dL_law_748 : decode cL_law 748 = .ok (.invokevirtual 106, 3) := dk_182 0 106 (dk_at dksL_law_26 3 rfl rfl)
theorem dL_law_751 : decode cL_law 751 = .ok (.if_icmp .eq 463, 3) := dk_159 1 207 (dk_at dksL_law_26 6 rfl rfl)
theorem dL_law_754 : decode cL_law 754 = .ok (.iconst 0, 1) := dk_3 (dk_at dksL_law_26 9 rfl rfl)
theorem dL_law_755 : decode cL_law 755 = .ok (.ireturn, 1) := dk_172 (dk_at dksL_law_26 10 rfl rfl)
theorem dL_law_756 : decode cL_law 756 = .ok (.aload_n 1, 1) := dk_43 (dk_at dksL_law_26 11 rfl rfl)
theorem dL_law_757 : decode cL_law 757 = .ok (.aload_n 0, 1) := dk_42 (dk_at dksL_law_26 12 rfl rfl)
theorem dL_law_758 : decode cL_law 758 = .ok (.iload_n 3, 1) := dk_29 (dk_at dksL_law_26 13 rfl rfl)
theorem dL_law_759 : decode cL_law 759 = .ok (.iconst 1, 1) := dk_4 (dk_at dksL_law_26 14 rfl rfl)
theorem dL_law_760 : decode cL_law 760 = .ok (.iadd, 1) := dk_96 (dk_at dksL_law_26 15 rfl rfl)
theorem dL_law_761 : decode cL_law 761 = .ok (.iaload, 1) := dk_46 (dk_at dksL_law_26 16 rfl rfl)
theorem dL_law_762 : decode cL_law 762 = .ok (.aload_n 0, 1) := dk_42 (dk_at dksL_law_26 17 rfl rfl)
theorem dL_law_763 : decode cL_law 763 = .ok (.iload_n 3, 1) := dk_29 (dk_at dksL_law_26 18 rfl rfl)
theorem dL_law_764 : decode cL_law 764 = .ok (.iconst 2, 1) := dk_5 (dk_at dksL_law_26 19 rfl rfl)
theorem dL_law_765 : decode cL_law 765 = .ok (.iadd, 1) := dk_96 (dk_at dksL_law_26 20 rfl rfl)
theorem dL_law_766 : decode cL_law 766 = .ok (.iaload, 1) := dk_46 (dk_at dksL_law_26 21 rfl rfl)
theorem dL_law_767 : decode cL_law 767 = .ok (.aload_n 0, 1) := dk_42 (dk_at dksL_law_26 22 rfl rfl)
theorem dL_law_768 : decode cL_law 768 = .ok (.iload_n 3, 1) := dk_29 (dk_at dksL_law_26 23 rfl rfl)
theorem dL_law_769 : decode cL_law 769 = .ok (.iconst 3, 1) := dk_6 (dk_at dksL_law_27 0 rfl rfl)
theorem dL_law_770 : decode cL_law 770 = .ok (.iadd, 1) := dk_96 (dk_at dksL_law_27 1 rfl rfl)
theorem dL_law_771 : decode cL_law 771 = .ok (.iaload, 1) := dk_46 (dk_at dksL_law_27 2 rfl rfl)
theorem dL_law_772 : decode cL_law 772 = .ok (.aload_n 0, 1) := dk_42 (dk_at dksL_law_27 3 rfl rfl)
theorem dL_law_773 : decode cL_law 773 = .ok (.iload_n 3, 1) := dk_29 (dk_at dksL_law_27 4 rfl rfl)
theorem dL_law_774 : decode cL_law 774 = .ok (.iconst 4, 1) := dk_7 (dk_at dksL_law_27 5 rfl rfl)
theorem dL_law_775 : decode cL_law 775 = .ok (.iadd, 1) := dk_96 (dk_at dksL_law_27 6 rfl rfl)
theorem dL_law_776 : decode cL_law 776 = .ok (.iaload, 1) := dk_46 (dk_at dksL_law_27 7 rfl rfl)
theorem dL_law_777 : decode cL_law 777 = .ok (.invokevirtual 107, 3) := dk_182 0 107 (dk_at dksL_law_27 8 rfl rfl)
theorem dL_law_780 : decode cL_law 780 = .ok (.aload_n 2, 1) := dk_44 (dk_at dksL_law_27 11 rfl rfl)
theorem dL_law_781 : decode cL_law 781 = .ok (.aload_n 0, 1) := dk_42 (dk_at dksL_law_27 12 rfl rfl)
theorem dL_law_782 : decode cL_law 782 = .ok (.iload_n 3, 1) := dk_29 (dk_at dksL_law_27 13 rfl rfl)
theorem dL_law_783 : decode cL_law 783 = .ok (.iconst 1, 1) := dk_4 (dk_at dksL_law_27 14 rfl rfl)
theorem dL_law_784 : decode cL_law 784 = .ok (.iadd, 1) := dk_96 (dk_at dksL_law_27 15 rfl rfl)
theorem dL_law_785 : decode cL_law 785 = .ok (.iaload, 1) := dk_46 (dk_at dksL_law_27 16 rfl rfl)
theorem dL_law_786 : decode cL_law 786 = .ok (.aload_n 0, 1) := dk_42 (dk_at dksL_law_27 17 rfl rfl)
theorem dL_law_787 : decode cL_law 787 = .ok (.iload_n 3, 1) := dk_29 (dk_at dksL_law_27 18 rfl rfl)
theorem dL_law_788 : decode cL_law 788 = .ok (.iconst 2, 1) := dk_5 (dk_at dksL_law_27 19 rfl rfl)
theorem dL_law_789 : decode cL_law 789 = .ok (.iadd, 1) := dk_96 (dk_at dksL_law_27 20 rfl rfl)
theorem dL_law_790 : decode cL_law 790 = .ok (.iaload, 1) := dk_46 (dk_at dksL_law_27 21 rfl rfl)
theorem dL_law_791 : decode cL_law 791 = .ok (.aload_n 0, 1) := dk_42 (dk_at dksL_law_27 22 rfl rfl)
theorem dL_law_792 : decode cL_law 792 = .ok (.iload_n 3, 1) := dk_29 (dk_at dksL_law_27 23 rfl rfl)
theorem dL_law_793 : decode cL_law 793 = .ok (.iconst 3, 1) := dk_6 (dk_at dksL_law_28 0 rfl rfl)
theorem dL_law_794 : decode cL_law 794 = .ok (.iadd, 1) := dk_96 (dk_at dksL_law_28 1 rfl rfl)
theorem dL_law_795 : decode cL_law 795 = .ok (.iaload, 1) := dk_46 (dk_at dksL_law_28 2 rfl rfl)
theorem dL_law_796 : decode cL_law 796 = .ok (.aload_n 0, 1) := dk_42 (dk_at dksL_law_28 3 rfl rfl)
theorem dL_law_797 : decode cL_law 797 = .ok (.iload_n 3, 1) := dk_29 (dk_at dksL_law_28 4 rfl rfl)
theorem dL_law_798 : decode cL_law 798 = .ok (.iconst 4, 1) := dk_7 (dk_at dksL_law_28 5 rfl rfl)
theorem dL_law_799 : decode cL_law 799 = .ok (.iadd, 1) := dk_96 (dk_at dksL_law_28 6 rfl rfl)
theorem dL_law_800 : decode cL_law 800 = .ok (.iaload, 1) := dk_46 (dk_at dksL_law_28 7 rfl rfl)
theorem dL_law_801 : decode cL_law 801 = .ok (.invokevirtual 110, 3) := dk_182 0 110 (dk_at dksL_law_28 8 rfl rfl)
theorem dL_law_804 : decode cL_law 804 = .ok (.if_icmp .eq 410, 3) := dk_159 1 154 (dk_at dksL_law_28 11 rfl rfl)
theorem dL_law_807 : decode cL_law 807 = .ok (.iconst 0, 1) := dk_3 (dk_at dksL_law_28 14 rfl rfl)
theorem dL_law_808 : decode cL_law 808 = .ok (.ireturn, 1) := dk_172 (dk_at dksL_law_28 15 rfl rfl)
theorem dL_law_809 : decode cL_law 809 = .ok (.aload_n 1, 1) := dk_43 (dk_at dksL_law_28 16 rfl rfl)
theorem dL_law_810 : decode cL_law 810 = .ok (.aload_n 0, 1) := dk_42 (dk_at dksL_law_28 17 rfl rfl)
theorem dL_law_811 : decode cL_law 811 = .ok (.iload_n 3, 1) := dk_29 (dk_at dksL_law_28 18 rfl rfl)
theorem dL_law_812 : decode cL_law 812 = .ok (.iconst 1, 1) := dk_4 (dk_at dksL_law_28 19 rfl rfl)
theorem dL_law_813 : decode cL_law 813 = .ok (.iadd, 1) := dk_96 (dk_at dksL_law_28 20 rfl rfl)
theorem dL_law_814 : decode cL_law 814 = .ok (.iaload, 1) := dk_46 (dk_at dksL_law_28 21 rfl rfl)
theorem dL_law_815 : decode cL_law 815 = .ok (.aload_n 0, 1) := dk_42 (dk_at dksL_law_28 22 rfl rfl)
theorem dL_law_816 : decode cL_law 816 = .ok (.iload_n 3, 1) := dk_29 (dk_at dksL_law_28 23 rfl rfl)
theorem dL_law_817 : decode cL_law 817 = .ok (.iconst 2, 1) := dk_5 (dk_at dksL_law_29 0 rfl rfl)
theorem dL_law_818 : decode cL_law 818 = .ok (.iadd, 1) := dk_96 (dk_at dksL_law_29 1 rfl rfl)
theorem dL_law_819 : decode cL_law 819 = .ok (.iaload, 1) := dk_46 (dk_at dksL_law_29 2 rfl rfl)
theorem dL_law_820 : decode cL_law 820 = .ok (.aload_n 0, 1) := dk_42 (dk_at dksL_law_29 3 rfl rfl)
theorem dL_law_821 : decode cL_law 821 = .ok (.iload_n 3, 1) := dk_29 (dk_at dksL_law_29 4 rfl rfl)
theorem dL_law_822 : decode cL_law 822 = .ok (.iconst 3, 1) := dk_6 (dk_at dksL_law_29 5 rfl rfl)
theorem dL_law_823 : decode cL_law 823 = .ok (.iadd, 1) := dk_96 (dk_at dksL_law_29 6 rfl rfl)
theorem dL_law_824 : decode cL_law 824 = .ok (.iaload, 1) := dk_46 (dk_at dksL_law_29 7 rfl rfl)
theorem dL_law_825 : decode cL_law 825 = .ok (.invokevirtual 111, 3) := dk_182 0 111 (dk_at dksL_law_29 8 rfl rfl)
theorem dL_law_828 : decode cL_law 828 = .ok (.aload_n 2, 1) := dk_44 (dk_at dksL_law_29 11 rfl rfl)
theorem dL_law_829 : decode cL_law 829 = .ok (.aload_n 0, 1) := dk_42 (dk_at dksL_law_29 12 rfl rfl)
theorem dL_law_830 : decode cL_law 830 = .ok (.iload_n 3, 1) := dk_29 (dk_at dksL_law_29 13 rfl rfl)
theorem dL_law_831 : decode cL_law 831 = .ok (.iconst 1, 1) := dk_4 (dk_at dksL_law_29 14 rfl rfl)
theorem dL_law_832 : decode cL_law 832 = .ok (.iadd, 1) := dk_96 (dk_at dksL_law_29 15 rfl rfl)
theorem dL_law_833 : decode cL_law 833 = .ok (.iaload, 1) := dk_46 (dk_at dksL_law_29 16 rfl rfl)
theorem dL_law_834 : decode cL_law 834 = .ok (.aload_n 0, 1) := dk_42 (dk_at dksL_law_29 17 rfl rfl)
theorem dL_law_835 : decode cL_law 835 = .ok (.iload_n 3, 1) := dk_29 (dk_at dksL_law_29 18 rfl rfl)
theorem dL_law_836 : decode cL_law 836 = .ok (.iconst 2, 1) := dk_5 (dk_at dksL_law_29 19 rfl rfl)
theorem dL_law_837 : decode cL_law 837 = .ok (.iadd, 1) := dk_96 (dk_at dksL_law_29 20 rfl rfl)
theorem dL_law_838 : decode cL_law 838 = .ok (.iaload, 1) := dk_46 (dk_at dksL_law_29 21 rfl rfl)
theorem dL_law_839 : decode cL_law 839 = .ok (.aload_n 0, 1) := dk_42 (dk_at dksL_law_29 22 rfl rfl)
theorem dL_law_840 : decode cL_law 840 = .ok (.iload_n 3, 1) := dk_29 (dk_at dksL_law_29 23 rfl rfl)
theorem dL_law_841 : decode cL_law 841 = .ok (.iconst 3, 1) := dk_6 (dk_at dksL_law_30 0 rfl rfl)
theorem dL_law_842 : decode cL_law 842 = .ok (.iadd, 1) := dk_96 (dk_at dksL_law_30 1 rfl rfl)
theorem dL_law_843 : decode cL_law 843 = .ok (.iaload, 1) := dk_46 (dk_at dksL_law_30 2 rfl rfl)
theorem dL_law_844 : decode cL_law 844 = .ok (.invokevirtual 114, 3) := dk_182 0 114 (dk_at dksL_law_30 3 rfl rfl)
theorem dL_law_847 : decode cL_law 847 = .ok (.if_icmp .eq 367, 3) := dk_159 1 111 (dk_at dksL_law_30 6 rfl rfl)
theorem dL_law_850 : decode cL_law 850 = .ok (.iconst 0, 1) := dk_3 (dk_at dksL_law_30 9 rfl rfl)
theorem dL_law_851 : decode cL_law 851 = .ok (.ireturn, 1) := dk_172 (dk_at dksL_law_30 10 rfl rfl)
theorem dL_law_852 : decode cL_law 852 = .ok (.aload_n 1, 1) := dk_43 (dk_at dksL_law_30 11 rfl rfl)
theorem dL_law_853 : decode cL_law 853 = .ok (.aload_n 0, 1) := dk_42 (dk_at dksL_law_30 12 rfl rfl)
theorem dL_law_854 : decode cL_law 854 = .ok (.iload_n 3, 1) := dk_29 (dk_at dksL_law_30 13 rfl rfl)
theorem dL_law_855 : decode cL_law 855 = .ok (.iconst 1, 1) := dk_4 (dk_at dksL_law_30 14 rfl rfl)
theorem dL_law_856 : decode cL_law 856 = .ok (.iadd, 1) := dk_96 (dk_at dksL_law_30 15 rfl rfl)
theorem dL_law_857 : decode cL_law 857 = .ok (.iaload, 1) := dk_46 (dk_at dksL_law_30 16 rfl rfl)
theorem dL_law_858 : decode cL_law 858 = .ok (.aload_n 0, 1) := dk_42 (dk_at dksL_law_30 17 rfl rfl)
theorem dL_law_859 : decode cL_law 859 = .ok (.iload_n 3, 1) := dk_29 (dk_at dksL_law_30 18 rfl rfl)
theorem dL_law_860 : decode cL_law 860 = .ok (.iconst 2, 1) := dk_5 (dk_at dksL_law_30 19 rfl rfl)
theorem dL_law_861 : decode cL_law 861 = .ok (.iadd, 1) := dk_96 (dk_at dksL_law_30 20 rfl rfl)
theorem dL_law_862 : decode cL_law 862 = .ok (.iaload, 1) := dk_46 (dk_at dksL_law_30 21 rfl rfl)
theorem dL_law_863 : decode cL_law 863 = .ok (.invokevirtual 115, 3) := dk_182 0 115 (dk_at dksL_law_31 0 rfl rfl)
theorem dL_law_866 : decode cL_law 866 = .ok (.aload_n 2, 1) := dk_44 (dk_at dksL_law_31 3 rfl rfl)
theorem dL_law_867 : decode cL_law 867 = .ok (.aload_n 0, 1) := dk_42 (dk_at dksL_law_31 4 rfl rfl)
theorem dL_law_868 : decode cL_law 868 = .ok (.iload_n 3, 1) := dk_29 (dk_at dksL_law_31 5 rfl rfl)
theorem dL_law_869 : decode cL_law 869 = .ok (.iconst 1, 1) := dk_4 (dk_at dksL_law_31 6 rfl rfl)
theorem dL_law_870 : decode cL_law 870 = .ok (.iadd, 1) := dk_96 (dk_at dksL_law_31 7 rfl rfl)
theorem dL_law_871 : decode cL_law 871 = .ok (.iaload, 1) := dk_46 (dk_at dksL_law_31 8 rfl rfl)
theorem dL_law_872 : decode cL_law 872 = .ok (.aload_n 0, 1) := dk_42 (dk_at dksL_law_31 9 rfl rfl)
theorem dL_law_873 : decode cL_law 873 = .ok (.iload_n 3, 1) := dk_29 (dk_at dksL_law_31 10 rfl rfl)
theorem dL_law_874 : decode cL_law 874 = .ok (.iconst 2, 1) := dk_5 (dk_at dksL_law_31 11 rfl rfl)
theorem dL_law_875 : decode cL_law 875 = .ok (.iadd, 1) := dk_96 (dk_at dksL_law_31 12 rfl rfl)
theorem dL_law_876 : decode cL_law 876 = .ok (.iaload, 1) := dk_46 (dk_at dksL_law_31 13 rfl rfl)
theorem dL_law_877 : decode cL_law 877 = .ok (.invokevirtual 118, 3) := dk_182 0 118 (dk_at dksL_law_31 14 rfl rfl)
theorem dL_law_880 : decode cL_law 880 = .ok (.if_icmp .eq 334, 3) := dk_159 1 78 (dk_at dksL_law_31 17 rfl rfl)
theorem dL_law_883 : decode cL_law 883 = .ok (.iconst 0, 1) := dk_3 (dk_at dksL_law_31 20 rfl rfl)
theorem dL_law_884 : decode cL_law 884 = .ok (.ireturn, 1) := dk_172 (dk_at dksL_law_31 21 rfl rfl)
theorem dL_law_885 : decode cL_law 885 = .ok (.aload_n 1, 1) := dk_43 (dk_at dksL_law_31 22 rfl rfl)
theorem dL_law_886 : decode cL_law 886 = .ok (.aload_n 0, 1) := dk_42 (dk_at dksL_law_31 23 rfl rfl)
theorem dL_law_887 : decode cL_law 887 = .ok (.iload_n 3, 1) := dk_29 (dk_at dksL_law_32 0 rfl rfl)
theorem dL_law_888 : decode cL_law 888 = .ok (.iconst 1, 1) := dk_4 (dk_at dksL_law_32 1 rfl rfl)
theorem dL_law_889 : decode cL_law 889 = .ok (.iadd, 1) := dk_96 (dk_at dksL_law_32 2 rfl rfl)
theorem dL_law_890 : decode cL_law 890 = .ok (.iaload, 1) := dk_46 (dk_at dksL_law_32 3 rfl rfl)
theorem dL_law_891 : decode cL_law 891 = .ok (.aload_n 0, 1) := dk_42 (dk_at dksL_law_32 4 rfl rfl)
theorem dL_law_892 : decode cL_law 892 = .ok (.iload_n 3, 1) := dk_29 (dk_at dksL_law_32 5 rfl rfl)
theorem dL_law_893 : decode cL_law 893 = .ok (.iconst 2, 1) := dk_5 (dk_at dksL_law_32 6 rfl rfl)
theorem dL_law_894 : decode cL_law 894 = .ok (.iadd, 1) := dk_96 (dk_at dksL_law_32 7 rfl rfl)
theorem dL_law_895 : decode cL_law 895 = .ok (.iaload, 1) := dk_46 (dk_at dksL_law_32 8 rfl rfl)
theorem dL_law_896 : decode cL_law 896 = .ok (.invokevirtual 119, 3) := dk_182 0 119 (dk_at dksL_law_32 9 rfl rfl)
theorem dL_law_899 : decode cL_law 899 = .ok (.aload_n 2, 1) := dk_44 (dk_at dksL_law_32 12 rfl rfl)
theorem dL_law_900 : decode cL_law 900 = .ok (.aload_n 0, 1) := dk_42 (dk_at dksL_law_32 13 rfl rfl)
theorem dL_law_901 : decode cL_law 901 = .ok (.iload_n 3, 1) := dk_29 (dk_at dksL_law_32 14 rfl rfl)
theorem dL_law_902 : decode cL_law 902 = .ok (.iconst 1, 1) := dk_4 (dk_at dksL_law_32 15 rfl rfl)
theorem dL_law_903 : decode cL_law 903 = .ok (.iadd, 1) := dk_96 (dk_at dksL_law_32 16 rfl rfl)
theorem dL_law_904 : decode cL_law 904 = .ok (.iaload, 1) := dk_46 (dk_at dksL_law_32 17 rfl rfl)
theorem dL_law_905 : decode cL_law 905 = .ok (.aload_n 0, 1) := dk_42 (dk_at dksL_law_32 18 rfl rfl)
theorem dL_law_906 : decode cL_law 906 = .ok (.iload_n 3, 1) := dk_29 (dk_at dksL_law_32 19 rfl rfl)
theorem dL_law_907 : decode cL_law 907 = .ok (.iconst 2, 1) := dk_5 (dk_at dksL_law_32 20 rfl rfl)
theorem dL_law_908 : decode cL_law 908 = .ok (.iadd, 1) := dk_96 (dk_at dksL_law_32 21 rfl rfl)
theorem dL_law_909 : decode cL_law 909 = .ok (.iaload, 1) := dk_46 (dk_at dksL_law_32 22 rfl rfl)
theorem dL_law_910 : decode cL_law 910 = .ok (.invokevirtual 122, 3) := dk_182 0 122 (dk_at dksL_law_33 0 rfl rfl)
theorem dL_law_913 : decode cL_law 913 = .ok (.if_icmp .eq 301, 3) := dk_159 1 45 (dk_at dksL_law_33 3 rfl rfl)
theorem dL_law_916 : decode cL_law 916 = .ok (.iconst 0, 1) := dk_3 (dk_at dksL_law_33 6 rfl rfl)
theorem dL_law_917 : decode cL_law 917 = .ok (.ireturn, 1) := dk_172 (dk_at dksL_law_33 7 rfl rfl)
theorem dL_law_918 : decode cL_law 918 = .ok (.aload_n 1, 1) := dk_43 (dk_at dksL_law_33 8 rfl rfl)
theorem dL_law_919 : decode cL_law 919 = .ok (.aload_n 0, 1) := dk_42 (dk_at dksL_law_33 9 rfl rfl)
theorem dL_law_920 : decode cL_law 920 = .ok (.iload_n 3, 1) := dk_29 (dk_at dksL_law_33 10 rfl rfl)
theorem dL_law_921 : decode cL_law 921 = .ok (.iconst 1, 1) := dk_4 (dk_at dksL_law_33 11 rfl rfl)
theorem dL_law_922 : decode cL_law 922 = .ok (.iadd, 1) := dk_96 (dk_at dksL_law_33 12 rfl rfl)
theorem dL_law_923 : decode cL_law 923 = .ok (.iaload, 1) := dk_46 (dk_at dksL_law_33 13 rfl rfl)
theorem dL_law_924 : decode cL_law 924 = .ok (.invokevirtual 123, 3) := dk_182 0 123 (dk_at dksL_law_33 14 rfl rfl)
theorem dL_law_927 : decode cL_law 927 = .ok (.aload_n 2, 1) := dk_44 (dk_at dksL_law_33 17 rfl rfl)
theorem dL_law_928 : decode cL_law 928 = .ok (.aload_n 0, 1) := dk_42 (dk_at dksL_law_33 18 rfl rfl)
theorem dL_law_929 : decode cL_law 929 = .ok (.iload_n 3, 1) := dk_29 (dk_at dksL_law_33 19 rfl rfl)
theorem dL_law_930 : decode cL_law 930 = .ok (.iconst 1, 1) := dk_4 (dk_at dksL_law_33 20 rfl rfl)
theorem dL_law_931 : decode cL_law 931 = .ok (.iadd, 1) := dk_96 (dk_at dksL_law_33 21 rfl rfl)
theorem dL_law_932 : decode cL_law 932 = .ok (.iaload, 1) := dk_46 (dk_at dksL_law_33 22 rfl rfl)
theorem dL_law_933 : decode cL_law 933 = .ok (.invokevirtual 126, 3) := dk_182 0 126 (dk_at dksL_law_34 0 rfl rfl)
theorem dL_law_936 : decode cL_law 936 = .ok (.if_icmp .eq 278, 3) := dk_159 1 22 (dk_at dksL_law_34 3 rfl rfl)
theorem dL_law_939 : decode cL_law 939 = .ok (.iconst 0, 1) := dk_3 (dk_at dksL_law_34 6 rfl rfl)
theorem dL_law_940 : decode cL_law 940 = .ok (.ireturn, 1) := dk_172 (dk_at dksL_law_34 7 rfl rfl)
theorem dL_law_941 : decode cL_law 941 = .ok (.aload_n 1, 1) := dk_43 (dk_at dksL_law_34 8 rfl rfl)
theorem dL_law_942 : decode cL_law 942 = .ok (.aload_n 0, 1) := dk_42 (dk_at dksL_law_34 9 rfl rfl)
theorem dL_law_943 : decode cL_law 943 = .ok (.iload_n 3, 1) := dk_29 (dk_at dksL_law_34 10 rfl rfl)
theorem dL_law_944 : decode cL_law 944 = .ok (.iconst 1, 1) := dk_4 (dk_at dksL_law_34 11 rfl rfl)
theorem dL_law_945 : decode cL_law 945 = .ok (.iadd, 1) := dk_96 (dk_at dksL_law_34 12 rfl rfl)
theorem dL_law_946 : decode cL_law 946 = .ok (.iaload, 1) := dk_46 (dk_at dksL_law_34 13 rfl rfl)
theorem dL_law_947 : decode cL_law 947 = .ok (.aload_n 0, 1) := dk_42 (dk_at dksL_law_34 14 rfl rfl)
theorem dL_law_948 : decode cL_law 948 = .ok (.iload_n 3, 1) := dk_29 (dk_at dksL_law_34 15 rfl rfl)
theorem dL_law_949 : decode cL_law 949 = .ok (.iconst 2, 1) := dk_5 (dk_at dksL_law_34 16 rfl rfl)
theorem dL_law_950 : decode cL_law 950 = .ok (.iadd, 1) := dk_96 (dk_at dksL_law_34 17 rfl rfl)
theorem dL_law_951 : decode cL_law 951 = .ok (.iaload, 1) := dk_46 (dk_at dksL_law_34 18 rfl rfl)
theorem dL_law_952 : decode cL_law 952 = .ok (.invokevirtual 127, 3) := dk_182 0 127 (dk_at dksL_law_34 19 rfl rfl)
theorem dL_law_955 : decode cL_law 955 = .ok (.aload_n 2, 1) := dk_44 (dk_at dksL_law_34 22 rfl rfl)
theorem dL_law_956 : decode cL_law 956 = .ok (.aload_n 0, 1) := dk_42 (dk_at dksL_law_34 23 rfl rfl)
theorem dL_law_957 : decode cL_law 957 = .ok (.iload_n 3, 1) := dk_29 (dk_at dksL_law_35 0 rfl rfl)
theorem dL_law_958 : decode cL_law 958 = .ok (.iconst 1, 1) := dk_4 (dk_at dksL_law_35 1 rfl rfl)
theorem dL_law_959 : decode cL_law 959 = .ok (.iadd, 1) := dk_96 (dk_at dksL_law_35 2 rfl rfl)
theorem dL_law_960 : decode cL_law 960 = .ok (.iaload, 1) := dk_46 (dk_at dksL_law_35 3 rfl rfl)
theorem dL_law_961 : decode cL_law 961 = .ok (.aload_n 0, 1) := dk_42 (dk_at dksL_law_35 4 rfl rfl)
theorem dL_law_962 : decode cL_law 962 = .ok (.iload_n 3, 1) := dk_29 (dk_at dksL_law_35 5 rfl rfl)
theorem dL_law_963 : decode cL_law 963 = .ok (.iconst 2, 1) := dk_5 (dk_at dksL_law_35 6 rfl rfl)
theorem dL_law_964 : decode cL_law 964 = .ok (.iadd, 1) := dk_96 (dk_at dksL_law_35 7 rfl rfl)
theorem dL_law_965 : decode cL_law 965 = .ok (.iaload, 1) := dk_46 (dk_at dksL_law_35 8 rfl rfl)
theorem dL_law_966 : decode cL_law 966 = .ok (.invokevirtual 130, 3) := dk_182 0 130 (dk_at dksL_law_35 9 rfl rfl)
theorem dL_law_969 : decode cL_law 969 = .ok (.if_icmp .eq 245, 3) := dk_159 0 245 (dk_at dksL_law_35 12 rfl rfl)
theorem dL_law_972 : decode cL_law 972 = .ok (.iconst 0, 1) := dk_3 (dk_at dksL_law_35 15 rfl rfl)
theorem dL_law_973 : decode cL_law 973 = .ok (.ireturn, 1) := dk_172 (dk_at dksL_law_35 16 rfl rfl)
theorem dL_law_974 : decode cL_law 974 = .ok (.aload_n 1, 1) := dk_43 (dk_at dksL_law_35 17 rfl rfl)
theorem dL_law_975 : decode cL_law 975 = .ok (.invokevirtual 131, 3) := dk_182 0 131 (dk_at dksL_law_35 18 rfl rfl)
theorem dL_law_978 : decode cL_law 978 = .ok (.aload_n 2, 1) := dk_44 (dk_at dksL_law_35 21 rfl rfl)
theorem dL_law_979 : decode cL_law 979 = .ok (.invokevirtual 134, 3) := dk_182 0 134 (dk_at dksL_law_36 0 rfl rfl)
theorem dL_law_982 : decode cL_law 982 = .ok (.if_icmp .eq 232, 3) := dk_159 0 232 (dk_at dksL_law_36 3 rfl rfl)
theorem dL_law_985 : decode cL_law 985 = .ok (.iconst 0, 1) := dk_3 (dk_at dksL_law_36 6 rfl rfl)
theorem dL_law_986 : decode cL_law 986 = .ok (.ireturn, 1) := dk_172 (dk_at dksL_law_36 7 rfl rfl)
theorem dL_law_987 : decode cL_law 987 = .ok (.aload_n 1, 1) := dk_43 (dk_at dksL_law_36 8 rfl rfl)
theorem dL_law_988 : decode cL_law 988 = .ok (.aload_n 0, 1) := dk_42 (dk_at dksL_law_36 9 rfl rfl)
theorem dL_law_989 : decode cL_law 989 = .ok (.iload_n 3, 1) := dk_29 (dk_at dksL_law_36 10 rfl rfl)
theorem dL_law_990 : decode cL_law 990 = .ok (.iconst 1, 1) := dk_4 (dk_at dksL_law_36 11 rfl rfl)
theorem dL_law_991 : decode cL_law 991 = .ok (.iadd, 1) := dk_96 (dk_at dksL_law_36 12 rfl rfl)
theorem dL_law_992 : decode cL_law 992 = .ok (.iaload, 1) := dk_46 (dk_at dksL_law_36 13 rfl rfl)
theorem dL_law_993 : decode cL_law 993 = .ok (.invokevirtual 135, 3) := dk_182 0 135 (dk_at dksL_law_36 14 rfl rfl)
theorem dL_law_996 : decode cL_law 996 = .ok (.aload_n 2, 1) := dk_44 (dk_at dksL_law_36 17 rfl rfl)
theorem dL_law_997 : decode cL_law 997 = .ok (.aload_n 0, 1) := dk_42 (dk_at dksL_law_36 18 rfl rfl)
theorem dL_law_998 : decode cL_law 998 = .ok (.iload_n 3, 1) := dk_29 (dk_at dksL_law_36 19 rfl rfl)
theorem dL_law_999 : decode cL_law 999 = .ok (.iconst 1, 1) := dk_4 (dk_at dksL_law_36 20 rfl rfl)
theorem dL_law_1000 : decode cL_law 1000 = .ok (.iadd, 1) := dk_96 (dk_at dksL_law_36 21 rfl rfl)
theorem dL_law_1001 : decode cL_law 1001 = .ok (.iaload, 1) := dk_46 (dk_at dksL_law_36 22 rfl rfl)
theorem dL_law_1002 : decode cL_law 1002 = .ok (.invokevirtual 138, 3) := dk_182 0 138 (dk_at dksL_law_37 0 rfl rfl)
theorem dL_law_1005 : decode cL_law 1005 = .ok (.if_icmp .eq 209, 3) := dk_159 0 209 (dk_at dksL_law_37 3 rfl rfl)
theorem dL_law_1008 : decode cL_law 1008 = .ok (.iconst 0, 1) := dk_3 (dk_at dksL_law_37 6 rfl rfl)
theorem dL_law_1009 : decode cL_law 1009 = .ok (.ireturn, 1) := dk_172 (dk_at dksL_law_37 7 rfl rfl)
theorem dL_law_1010 : decode cL_law 1010 = .ok (.aload_n 1, 1) := dk_43 (dk_at dksL_law_37 8 rfl rfl)
theorem dL_law_1011 : decode cL_law 1011 = .ok (.aload_n 0, 1) := dk_42 (dk_at dksL_law_37 9 rfl rfl)
theorem dL_law_1012 : decode cL_law 1012 = .ok (.iload_n 3, 1) := dk_29 (dk_at dksL_law_37 10 rfl rfl)
theorem dL_law_1013 : decode cL_law 1013 = .ok (.iconst 1, 1) := dk_4 (dk_at dksL_law_37 11 rfl rfl)
theorem dL_law_1014 : decode cL_law 1014 = .ok (.iadd, 1) := dk_96 (dk_at dksL_law_37 12 rfl rfl)
theorem dL_law_1015 : decode cL_law 1015 = .ok (.iaload, 1) := dk_46 (dk_at dksL_law_37 13 rfl rfl)
theorem dL_law_1016 : decode cL_law 1016 = .ok (.invokevirtual 139, 3) := dk_182 0 139 (dk_at dksL_law_37 14 rfl rfl)
theorem dL_law_1019 : decode cL_law 1019 = .ok (.aload_n 2, 1) := dk_44 (dk_at dksL_law_37 17 rfl rfl)
theorem dL_law_1020 : decode cL_law 1020 = .ok (.aload_n 0, 1) := dk_42 (dk_at dksL_law_37 18 rfl rfl)
theorem dL_law_1021 : decode cL_law 1021 = .ok (.iload_n 3, 1) := dk_29 (dk_at dksL_law_37 19 rfl rfl)
theorem dL_law_1022 : decode cL_law 1022 = .ok (.iconst 1, 1) := dk_4 (dk_at dksL_law_37 20 rfl rfl)
theorem dL_law_1023 : decode cL_law 1023 = .ok (.iadd, 1) := dk_96 (dk_at dksL_law_37 21 rfl rfl)
theorem dL_law_1024 : decode cL_law 1024 = .ok (.iaload, 1) := dk_46 (dk_at dksL_law_37 22 rfl rfl)
theorem dL_law_1025 : decode cL_law 1025 = .ok (.invokevirtual 142, 3) := dk_182 0 142 (dk_at dksL_law_38 0 rfl rfl)
theorem dL_law_1028 : decode cL_law 1028 = .ok (.if_icmp .eq 186, 3) := dk_159 0 186 (dk_at dksL_law_38 3 rfl rfl)
theorem dL_law_1031 : decode cL_law 1031 = .ok (.iconst 0, 1) := dk_3 (dk_at dksL_law_38 6 rfl rfl)
theorem dL_law_1032 : decode cL_law 1032 = .ok (.ireturn, 1) := dk_172 (dk_at dksL_law_38 7 rfl rfl)
theorem dL_law_1033 : decode cL_law 1033 = .ok (.aload_n 1, 1) := dk_43 (dk_at dksL_law_38 8 rfl rfl)
theorem dL_law_1034 : decode cL_law 1034 = .ok (.aload_n 0, 1) := dk_42 (dk_at dksL_law_38 9 rfl rfl)
theorem dL_law_1035 : decode cL_law 1035 = .ok (.iload_n 3, 1) := dk_29 (dk_at dksL_law_38 10 rfl rfl)
theorem dL_law_1036 : decode cL_law 1036 = .ok (.iconst 1, 1) := dk_4 (dk_at dksL_law_38 11 rfl rfl)
theorem dL_law_1037 : decode cL_law 1037 = .ok (.iadd, 1) := dk_96 (dk_at dksL_law_38 12 rfl rfl)
theorem dL_law_1038 : decode cL_law 1038 = .ok (.iaload, 1) := dk_46 (dk_at dksL_law_38 13 rfl rfl)
theorem dL_law_1039 : decode cL_law 1039 = .ok (.aload_n 0, 1) := dk_42 (dk_at dksL_law_38 14 rfl rfl)
theorem dL_law_1040 : decode cL_law 1040 = .ok (.iload_n 3, 1) := dk_29 (dk_at dksL_law_38 15 rfl rfl)
theorem dL_law_1041 : decode cL_law 1041 = .ok (.iconst 2, 1) := dk_5 (dk_at dksL_law_38 16 rfl rfl)
theorem dL_law_1042 : decode cL_law 1042 = .ok (.iadd, 1) := dk_96 (dk_at dksL_law_38 17 rfl rfl)
theorem dL_law_1043 : decode cL_law 1043 = .ok (.iaload, 1) := dk_46 (dk_at dksL_law_38 18 rfl rfl)
theorem dL_law_1044 : decode cL_law 1044 = .ok (.invokevirtual 143, 3) := dk_182 0 143 (dk_at dksL_law_38 19 rfl rfl)
theorem dL_law_1047 : decode cL_law 1047 = .ok (.aload_n 2, 1) := dk_44 (dk_at dksL_law_38 22 rfl rfl)
theorem dL_law_1048 : decode cL_law 1048 = .ok (.aload_n 0, 1) := dk_42 (dk_at dksL_law_38 23 rfl rfl)
theorem dL_law_1049 : decode cL_law 1049 = .ok (.iload_n 3, 1) := dk_29 (dk_at dksL_law_39 0 rfl rfl)
theorem dL_law_1050 : decode cL_law 1050 = .ok (.iconst 1, 1) := dk_4 (dk_at dksL_law_39 1 rfl rfl)
theorem dL_law_1051 : decode cL_law 1051 = .ok (.iadd, 1) := dk_96 (dk_at dksL_law_39 2 rfl rfl)
theorem dL_law_1052 : decode cL_law 1052 = .ok (.iaload, 1) := dk_46 (dk_at dksL_law_39 3 rfl rfl)
theorem dL_law_1053 : decode cL_law 1053 = .ok (.aload_n 0, 1) := dk_42 (dk_at dksL_law_39 4 rfl rfl)
theorem dL_law_1054 : decode cL_law 1054 = .ok (.iload_n 3, 1) := dk_29 (dk_at dksL_law_39 5 rfl rfl)
theorem dL_law_1055 : decode cL_law 1055 = .ok (.iconst 2, 1) := dk_5 (dk_at dksL_law_39 6 rfl rfl)
theorem dL_law_1056 : decode cL_law 1056 = .ok (.iadd, 1) := dk_96 (dk_at dksL_law_39 7 rfl rfl)
theorem dL_law_1057 : decode cL_law 1057 = .ok (.iaload, 1) := dk_46 (dk_at dksL_law_39 8 rfl rfl)
theorem dL_law_1058 : decode cL_law 1058 = .ok (.invokevirtual 146, 3) := dk_182 0 146 (dk_at dksL_law_39 9 rfl rfl)
theorem dL_law_1061 : decode cL_law 1061 = .ok (.if_icmp .eq 153, 3) := dk_159 0 153 (dk_at dksL_law_39 12 rfl rfl)
theorem dL_law_1064 : decode cL_law 1064 = .ok (.iconst 0, 1) := dk_3 (dk_at dksL_law_39 15 rfl rfl)
theorem dL_law_1065 : decode cL_law 1065 = .ok (.ireturn, 1) := dk_172 (dk_at dksL_law_39 16 rfl rfl)
theorem dL_law_1066 : decode cL_law 1066 = .ok (.aload_n 1, 1) := dk_43 (dk_at dksL_law_39 17 rfl rfl)
theorem dL_law_1067 : decode cL_law 1067 = .ok (.aload_n 0, 1) := dk_42 (dk_at dksL_law_39 18 rfl rfl)
theorem dL_law_1068 : decode cL_law 1068 = .ok (.iload_n 3, 1) := dk_29 (dk_at dksL_law_39 19 rfl rfl)
theorem dL_law_1069 : decode cL_law 1069 = .ok (.iconst 1, 1) := dk_4 (dk_at dksL_law_39 20 rfl rfl)
theorem dL_law_1070 : decode cL_law 1070 = .ok (.iadd, 1) := dk_96 (dk_at dksL_law_39 21 rfl rfl)
theorem dL_law_1071 : decode cL_law 1071 = .ok (.iaload, 1) := dk_46 (dk_at dksL_law_39 22 rfl rfl)
theorem dL_law_1072 : decode cL_law 1072 = .ok (.aload_n 0, 1) := dk_42 (dk_at dksL_law_39 23 rfl rfl)
theorem dL_law_1073 : decode cL_law 1073 = .ok (.iload_n 3, 1) := dk_29 (dk_at dksL_law_40 0 rfl rfl)
theorem dL_law_1074 : decode cL_law 1074 = .ok (.iconst 2, 1) := dk_5 (dk_at dksL_law_40 1 rfl rfl)
theorem dL_law_1075 : decode cL_law 1075 = .ok (.iadd, 1) := dk_96 (dk_at dksL_law_40 2 rfl rfl)
theorem dL_law_1076 : decode cL_law 1076 = .ok (.iaload, 1) := dk_46 (dk_at dksL_law_40 3 rfl rfl)
theorem dL_law_1077 : decode cL_law 1077 = .ok (.invokevirtual 147, 3) := dk_182 0 147 (dk_at dksL_law_40 4 rfl rfl)
theorem dL_law_1080 : decode cL_law 1080 = .ok (.aload_n 2, 1) := dk_44 (dk_at dksL_law_40 7 rfl rfl)
theorem dL_law_1081 : decode cL_law 1081 = .ok (.aload_n 0, 1) := dk_42 (dk_at dksL_law_40 8 rfl rfl)
theorem dL_law_1082 : decode cL_law 1082 = .ok (.iload_n 3, 1) := dk_29 (dk_at dksL_law_40 9 rfl rfl)
theorem dL_law_1083 : decode cL_law 1083 = .ok (.iconst 1, 1) := dk_4 (dk_at dksL_law_40 10 rfl rfl)
theorem dL_law_1084 : decode cL_law 1084 = .ok (.iadd, 1) := dk_96 (dk_at dksL_law_40 11 rfl rfl)
theorem dL_law_1085 : decode cL_law 1085 = .ok (.iaload, 1) := dk_46 (dk_at dksL_law_40 12 rfl rfl)
theorem dL_law_1086 : decode cL_law 1086 = .ok (.aload_n 0, 1) := dk_42 (dk_at dksL_law_40 13 rfl rfl)
theorem dL_law_1087 : decode cL_law 1087 = .ok (.iload_n 3, 1) := dk_29 (dk_at dksL_law_40 14 rfl rfl)
theorem dL_law_1088 : decode cL_law 1088 = .ok (.iconst 2, 1) := dk_5 (dk_at dksL_law_40 15 rfl rfl)
theorem dL_law_1089 : decode cL_law 1089 = .ok (.iadd, 1) := dk_96 (dk_at dksL_law_40 16 rfl rfl)
theorem dL_law_1090 : decode cL_law 1090 = .ok (.iaload, 1) := dk_46 (dk_at dksL_law_40 17 rfl rfl)
theorem dL_law_1091 : decode cL_law 1091 = .ok (.invokevirtual 150, 3) := dk_182 0 150 (dk_at dksL_law_40 18 rfl rfl)
theorem dL_law_1094 : decode cL_law 1094 = .ok (.if_icmp .eq 120, 3) := dk_159 0 120 (dk_at dksL_law_40 21 rfl rfl)
theorem dL_law_1097 : decode cL_law 1097 = .ok (.iconst 0, 1) := dk_3 (dk_at dksL_law_41 0 rfl rfl)
theorem dL_law_1098 : decode cL_law 1098 = .ok (.ireturn, 1) := dk_172 (dk_at dksL_law_41 1 rfl rfl)
theorem dL_law_1099 : decode cL_law 1099 = .ok (.aload_n 1, 1) := dk_43 (dk_at dksL_law_41 2 rfl rfl)
theorem dL_law_1100 : decode cL_law 1100 = .ok (.aload_n 0, 1) := dk_42 (dk_at dksL_law_41 3 rfl rfl)
theorem dL_law_1101 : decode cL_law 1101 = .ok (.iload_n 3, 1) := dk_29 (dk_at dksL_law_41 4 rfl rfl)
theorem dL_law_1102 : decode cL_law 1102 = .ok (.iconst 1, 1) := dk_4 (dk_at dksL_law_41 5 rfl rfl)
theorem dL_law_1103 : decode cL_law 1103 = .ok (.iadd, 1) := dk_96 (dk_at dksL_law_41 6 rfl rfl)
theorem dL_law_1104 : decode cL_law 1104 = .ok (.iaload, 1) := dk_46 (dk_at dksL_law_41 7 rfl rfl)
theorem dL_law_1105 : decode cL_law 1105 = .ok (.invokevirtual 151, 3) := dk_182 0 151 (dk_at dksL_law_41 8 rfl rfl)
theorem dL_law_1108 : decode cL_law 1108 = .ok (.aload_n 2, 1) := dk_44 (dk_at dksL_law_41 11 rfl rfl)
theorem dL_law_1109 : decode cL_law 1109 = .ok (.aload_n 0, 1) := dk_42 (dk_at dksL_law_41 12 rfl rfl)
theorem dL_law_1110 : decode cL_law 1110 = .ok (.iload_n 3, 1) := dk_29 (dk_at dksL_law_41 13 rfl rfl)
theorem dL_law_1111 : decode cL_law 1111 = .ok (.iconst 1, 1) := dk_4 (dk_at dksL_law_41 14 rfl rfl)
theorem dL_law_1112 : decode cL_law 1112 = .ok (.iadd, 1) := dk_96 (dk_at dksL_law_41 15 rfl rfl)
theorem dL_law_1113 : decode cL_law 1113 = .ok (.iaload, 1) := dk_46 (dk_at dksL_law_41 16 rfl rfl)
theorem dL_law_1114 : decode cL_law 1114 = .ok (.invokevirtual 154, 3) := dk_182 0 154 (dk_at dksL_law_41 17 rfl rfl)
theorem dL_law_1117 : decode cL_law 1117 = .ok (.if_icmp .eq 97, 3) := dk_159 0 97 (dk_at dksL_law_41 20 rfl rfl)
theorem dL_law_1120 : decode cL_law 1120 = .ok (.iconst 0, 1) := dk_3 (dk_at dksL_law_41 23 rfl rfl)
theorem dL_law_1121 : decode cL_law 1121 = .ok (.ireturn, 1) := dk_172 (dk_at dksL_law_42 0 rfl rfl)
theorem dL_law_1122 : decode cL_law 1122 = .ok (.aload_n 1, 1) := dk_43 (dk_at dksL_law_42 1 rfl rfl)
theorem dL_law_1123 : decode cL_law 1123 = .ok (.aload_n 0, 1) := dk_42 (dk_at dksL_law_42 2 rfl rfl)
theorem dL_law_1124 : decode cL_law 1124 = .ok (.iload_n 3, 1) := dk_29 (dk_at dksL_law_42 3 rfl rfl)
theorem dL_law_1125 : decode cL_law 1125 = .ok (.iconst 1, 1) := dk_4 (dk_at dksL_law_42 4 rfl rfl)
theorem dL_law_1126 : decode cL_law 1126 = .ok (.iadd, 1) := dk_96 (dk_at dksL_law_42 5 rfl rfl)
theorem dL_law_1127 : decode cL_law 1127 = .ok (.iaload, 1) := dk_46 (dk_at dksL_law_42 6 rfl rfl)
theorem dL_law_1128 : decode cL_law 1128 = .ok (.invokevirtual 155, 3) := dk_182 0 155 (dk_at dksL_law_42 7 rfl rfl)
theorem dL_law_1131 : decode cL_law 1131 = .ok (.aload_n 2, 1) := dk_44 (dk_at dksL_law_42 10 rfl rfl)
theorem dL_law_1132 : decode cL_law 1132 = .ok (.aload_n 0, 1) := dk_42 (dk_at dksL_law_42 11 rfl rfl)
theorem dL_law_1133 : decode cL_law 1133 = .ok (.iload_n 3, 1) := dk_29 (dk_at dksL_law_42 12 rfl rfl)
theorem dL_law_1134 : decode cL_law 1134 = .ok (.iconst 1, 1) := dk_4 (dk_at dksL_law_42 13 rfl rfl)
theorem dL_law_1135 : decode cL_law 1135 = .ok (.iadd, 1) := dk_96 (dk_at dksL_law_42 14 rfl rfl)
theorem dL_law_1136 : decode cL_law 1136 = .ok (.iaload, 1) := dk_46 (dk_at dksL_law_42 15 rfl rfl)
theorem dL_law_1137 : decode cL_law 1137 = .ok (.invokevirtual 158, 3) := dk_182 0 158 (dk_at dksL_law_42 16 rfl rfl)
theorem dL_law_1140 : decode cL_law 1140 = .ok (.if_icmp .eq 74, 3) := dk_159 0 74 (dk_at dksL_law_42 19 rfl rfl)
theorem dL_law_1143 : decode cL_law 1143 = .ok (.iconst 0, 1) := dk_3 (dk_at dksL_law_42 22 rfl rfl)
theorem dL_law_1144 : decode cL_law 1144 = .ok (.ireturn, 1) := dk_172 (dk_at dksL_law_42 23 rfl rfl)
theorem dL_law_1145 : decode cL_law 1145 = .ok (.aload_n 1, 1) := dk_43 (dk_at dksL_law_43 0 rfl rfl)
theorem dL_law_1146 : decode cL_law 1146 = .ok (.aload_n 0, 1) := dk_42 (dk_at dksL_law_43 1 rfl rfl)
theorem dL_law_1147 : decode cL_law 1147 = .ok (.iload_n 3, 1) := dk_29 (dk_at dksL_law_43 2 rfl rfl)
theorem dL_law_1148 : decode cL_law 1148 = .ok (.iconst 1, 1) := dk_4 (dk_at dksL_law_43 3 rfl rfl)
theorem dL_law_1149 : decode cL_law 1149 = .ok (.iadd, 1) := dk_96 (dk_at dksL_law_43 4 rfl rfl)
theorem dL_law_1150 : decode cL_law 1150 = .ok (.iaload, 1) := dk_46 (dk_at dksL_law_43 5 rfl rfl)
theorem dL_law_1151 : decode cL_law 1151 = .ok (.invokevirtual 159, 3) := dk_182 0 159 (dk_at dksL_law_43 6 rfl rfl)
theorem dL_law_1154 : decode cL_law 1154 = .ok (.aload_n 2, 1) := dk_44 (dk_at dksL_law_43 9 rfl rfl)
theorem dL_law_1155 : decode cL_law 1155 = .ok (.aload_n 0, 1) := dk_42 (dk_at dksL_law_43 10 rfl rfl)
theorem dL_law_1156 : decode cL_law 1156 = .ok (.iload_n 3, 1) := dk_29 (dk_at dksL_law_43 11 rfl rfl)
theorem dL_law_1157 : decode cL_law 1157 = .ok (.iconst 1, 1) := dk_4 (dk_at dksL_law_43 12 rfl rfl)
theorem dL_law_1158 : decode cL_law 1158 = .ok (.iadd, 1) := dk_96 (dk_at dksL_law_43 13 rfl rfl)
theorem dL_law_1159 : decode cL_law 1159 = .ok (.iaload, 1) := dk_46 (dk_at dksL_law_43 14 rfl rfl)
theorem dL_law_1160 : decode cL_law 1160 = .ok (.invokevirtual 162, 3) := dk_182 0 162 (dk_at dksL_law_43 15 rfl rfl)
theorem dL_law_1163 : decode cL_law 1163 = .ok (.if_icmp .eq 51, 3) := dk_159 0 51 (dk_at dksL_law_43 18 rfl rfl)
theorem dL_law_1166 : decode cL_law 1166 = .ok (.iconst 0, 1) := dk_3 (dk_at dksL_law_43 21 rfl rfl)
theorem dL_law_1167 : decode cL_law 1167 = .ok (.ireturn, 1) := dk_172 (dk_at dksL_law_43 22 rfl rfl)
theorem dL_law_1168 : decode cL_law 1168 = .ok (.aload_n 1, 1) := dk_43 (dk_at dksL_law_43 23 rfl rfl)
theorem dL_law_1169 : decode cL_law 1169 = .ok (.aload_n 0, 1) := dk_42 (dk_at dksL_law_44 0 rfl rfl)
theorem dL_law_1170 : decode cL_law 1170 = .ok (.iload_n 3, 1) := dk_29 (dk_at dksL_law_44 1 rfl rfl)
theorem dL_law_1171 : decode cL_law 1171 = .ok (.iconst 1, 1) := dk_4 (dk_at dksL_law_44 2 rfl rfl)
theorem dL_law_1172 : decode cL_law 1172 = .ok (.iadd, 1) := dk_96 (dk_at dksL_law_44 3 rfl rfl)
theorem dL_law_1173 : decode cL_law 1173 = .ok (.iaload, 1) := dk_46 (dk_at dksL_law_44 4 rfl rfl)
theorem dL_law_1174 : decode cL_law 1174 = .ok (.invokevirtual 163, 3) := dk_182 0 163 (dk_at dksL_law_44 5 rfl rfl)
theorem dL_law_1177 : decode cL_law 1177 = .ok (.aload_n 2, 1) := dk_44 (dk_at dksL_law_44 8 rfl rfl)
theorem dL_law_1178 : decode cL_law 1178 = .ok (.aload_n 0, 1) := dk_42 (dk_at dksL_law_44 9 rfl rfl)
theorem dL_law_1179 : decode cL_law 1179 = .ok (.iload_n 3, 1) := dk_29 (dk_at dksL_law_44 10 rfl rfl)
theorem dL_law_1180 : decode cL_law 1180 = .ok (.iconst 1, 1) := dk_4 (dk_at dksL_law_44 11 rfl rfl)
theorem dL_law_1181 : decode cL_law 1181 = .ok (.iadd, 1) := dk_96 (dk_at dksL_law_44 12 rfl rfl)
theorem dL_law_1182 : decode cL_law 1182 = .ok (.iaload, 1) := dk_46 (dk_at dksL_law_44 13 rfl rfl)
theorem dL_law_1183 : decode cL_law 1183 = .ok (.invokevirtual 166, 3) := dk_182 0 166 (dk_at dksL_law_44 14 rfl rfl)
theorem dL_law_1186 : decode cL_law 1186 = .ok (.if_icmp .eq 28, 3) := dk_159 0 28 (dk_at dksL_law_44 17 rfl rfl)
theorem dL_law_1189 : decode cL_law 1189 = .ok (.iconst 0, 1) := dk_3 (dk_at dksL_law_44 20 rfl rfl)
theorem dL_law_1190 : decode cL_law 1190 = .ok (.ireturn, 1) := dk_172 (dk_at dksL_law_44 21 rfl rfl)
theorem dL_law_1191 : decode cL_law 1191 = .ok (.aload_n 1, 1) := dk_43 (dk_at dksL_law_44 22 rfl rfl)
theorem dL_law_1192 : decode cL_law 1192 = .ok (.aload_n 0, 1) := dk_42 (dk_at dksL_law_44 23 rfl rfl)
theorem dL_law_1193 : decode cL_law 1193 = .ok (.iload_n 3, 1) := dk_29 (dk_at dksL_law_45 0 rfl rfl)
theorem dL_law_1194 : decode cL_law 1194 = .ok (.iconst 1, 1) := dk_4 (dk_at dksL_law_45 1 rfl rfl)
theorem dL_law_1195 : decode cL_law 1195 = .ok (.iadd, 1) := dk_96 (dk_at dksL_law_45 2 rfl rfl)
theorem dL_law_1196 : decode cL_law 1196 = .ok (.iaload, 1) := dk_46 (dk_at dksL_law_45 3 rfl rfl)
theorem dL_law_1197 : decode cL_law 1197 = .ok (.invokevirtual 167, 3) := dk_182 0 167 (dk_at dksL_law_45 4 rfl rfl)
theorem dL_law_1200 : decode cL_law 1200 = .ok (.aload_n 2, 1) := dk_44 (dk_at dksL_law_45 7 rfl rfl)
theorem dL_law_1201 : decode cL_law 1201 = .ok (.aload_n 0, 1) := dk_42 (dk_at dksL_law_45 8 rfl rfl)
theorem dL_law_1202 : decode cL_law 1202 = .ok (.iload_n 3, 1) := dk_29 (dk_at dksL_law_45 9 rfl rfl)
theorem dL_law_1203 : decode cL_law 1203 = .ok (.iconst 1, 1) := dk_4 (dk_at dksL_law_45 10 rfl rfl)
theorem dL_law_1204 : decode cL_law 1204 = .ok (.iadd, 1) := dk_96 (dk_at dksL_law_45 11 rfl rfl)
theorem dL_law_1205 : decode cL_law 1205 = .ok (.iaload, 1) := dk_46 (dk_at dksL_law_45 12 rfl rfl)
theorem dL_law_1206 : decode cL_law 1206 = .ok (.invokevirtual 170, 3) := dk_182 0 170 (dk_at dksL_law_45 13 rfl rfl)
theorem dL_law_1209 : decode cL_law 1209 = .ok (.if_icmp .eq 5, 3) := dk_159 0 5 (dk_at dksL_law_45 16 rfl rfl)
theorem dL_law_1212 : decode cL_law 1212 = .ok (.iconst 0, 1) := dk_3 (dk_at dksL_law_45 19 rfl rfl)
theorem dL_law_1213 : decode cL_law 1213 = .ok (.ireturn, 1) := dk_172 (dk_at dksL_law_45 20 rfl rfl)
theorem dL_law_1214 : decode cL_law 1214 = .ok (.iinc 3 6, 3) := dk_132 3 6 (dk_at dksL_law_45 21 rfl rfl)
theorem dL_law_1217 : decode cL_law 1217 = .ok (.goto (-1199), 3) := dk_167 251 81 (dk_at dksL_law_46 0 rfl rfl)
theorem dL_law_1220 : decode cL_law 1220 = .ok (.iconst 1, 1) := dk_4 (dk_at dksL_law_46 3 rfl rfl)
theorem dL_law_1221 : decode cL_law 1221 = .ok (.ireturn, 1) := dk_172 (dk_at dksL_law_46 4 rfl rfl)

end
section
theorem q86 : (Jvm.Cond.initialized "CribBookletLaw") ∈ lw_all := lw_g (lw_at lw_m1 0 rfl) rfl
set_option maxRecDepth 100000
theorem q155 : (Jvm.Cond.classLink "CribBookletLaw" (7 : Nat) "CribBooklet") ∈ lw_all := lw_g (lw_at lw_m1 69 rfl) rfl
theorem q157 : (Jvm.Cond.methodLink "CribBookletLaw" (9 : Nat) ({ cls := "CribBooklet", name := "<init>", desc := "()V" } : Jvm.MethodName)) ∈ lw_all := lw_g (lw_at lw_m1 71 rfl) rfl
theorem q378 : (Jvm.Cond.methodLink "CribBookletLaw" (13 : Nat) ({ cls := "CribBooklet", name := "setSheet", desc := "(II)I" } : Jvm.MethodName)) ∈ lw_all := lw_g (lw_at lw_m2 52 rfl) rfl
theorem q1364 : (Jvm.Cond.methodLink "CribBookletLaw" (18 : Nat) ({ cls := "CribBooklet", name := "fold", desc := "(I)I" } : Jvm.MethodName)) ∈ lw_all := lw_g (lw_at lw_m6 78 rfl) rfl
theorem q1378 : (Jvm.Cond.methodLink "CribBookletLaw" (23 : Nat) ({ cls := "CribBooklet", name := "unfold", desc := "()I" } : Jvm.MethodName)) ∈ lw_all := lw_g (lw_at lw_m6 92 rfl) rfl
theorem q1389 : (Jvm.Cond.methodLink "CribBookletLaw" (28 : Nat) ({ cls := "CribBooklet", name := "setSpine", desc := "(I)I" } : Jvm.MethodName)) ∈ lw_all := lw_g (lw_at lw_m6 103 rfl) rfl
theorem q1403 : (Jvm.Cond.methodLink "CribBookletLaw" (32 : Nat) ({ cls := "CribBooklet", name := "print", desc := "(IIIII)I" } : Jvm.MethodName)) ∈ lw_all := lw_g (lw_at lw_m6 117 rfl) rfl
theorem q1429 : (Jvm.Cond.methodLink "CribBookletLaw" (37 : Nat) ({ cls := "CribBooklet", name := "printAll", desc := "(I)I" } : Jvm.MethodName)) ∈ lw_all := lw_g (lw_at lw_m6 143 rfl) rfl
theorem q1443 : (Jvm.Cond.methodLink "CribBookletLaw" (41 : Nat) ({ cls := "CribBooklet", name := "cut", desc := "(I)I" } : Jvm.MethodName)) ∈ lw_all := lw_g (lw_at lw_m6 157 rfl) rfl
theorem q1457 : (Jvm.Cond.methodLink "CribBookletLaw" (45 : Nat) ({ cls := "CribBooklet", name := "staple", desc := "(I)I" } : Jvm.MethodName)) ∈ lw_all := lw_g (lw_at lw_m6 171 rfl) rfl
theorem q1471 : (Jvm.Cond.methodLink "CribBookletLaw" (49 : Nat) ({ cls := "CribBooklet", name := "unstaple", desc := "(I)I" } : Jvm.MethodName)) ∈ lw_all := lw_g (lw_at lw_m6 185 rfl) rfl
theorem q1485 : (Jvm.Cond.methodLink "CribBookletLaw" (53 : Nat) ({ cls := "CribBooklet", name := "setLegs", desc := "(I)I" } : Jvm.MethodName)) ∈ lw_all := lw_g (lw_at lw_m6 199 rfl) rfl
theorem q1499 : (Jvm.Cond.methodLink "CribBookletLaw" (57 : Nat) ({ cls := "CribBooklet", name := "see", desc := "(III)I" } : Jvm.MethodName)) ∈ lw_all := lw_g (lw_at lw_m6 213 rfl) rfl
theorem q1519 : (Jvm.Cond.methodLink "CribBookletLaw" (62 : Nat) ({ cls := "CribBooklet", name := "forget", desc := "()I" } : Jvm.MethodName)) ∈ lw_all := lw_g (lw_at lw_m6 233 rfl) rfl
theorem q1530 : (Jvm.Cond.methodLink "CribBookletLaw" (66 : Nat) ({ cls := "CribBooklet", name := "addNote", desc := "(IIII)I" } : Jvm.MethodName)) ∈ lw_all := lw_g (lw_at lw_m7 4 rfl) rfl
theorem q1553 : (Jvm.Cond.methodLink "CribBookletLaw" (71 : Nat) ({ cls := "CribBooklet", name := "removeNote", desc := "(I)I" } : Jvm.MethodName)) ∈ lw_all := lw_g (lw_at lw_m7 27 rfl) rfl
theorem q1567 : (Jvm.Cond.methodLink "CribBookletLaw" (75 : Nat) ({ cls := "CribBooklet", name := "setLines", desc := "(I)I" } : Jvm.MethodName)) ∈ lw_all := lw_g (lw_at lw_m7 41 rfl) rfl
theorem q1581 : (Jvm.Cond.methodLink "CribBookletLaw" (79 : Nat) ({ cls := "CribBooklet", name := "take", desc := "(I)I" } : Jvm.MethodName)) ∈ lw_all := lw_g (lw_at lw_m7 55 rfl) rfl
theorem q1587 : (Jvm.Cond.methodLink "CribBookletLaw" (83 : Nat) ({ cls := "CribBooklet", name := "restore", desc := "(I)I" } : Jvm.MethodName)) ∈ lw_all := lw_g (lw_at lw_m7 61 rfl) rfl
theorem q1591 : (Jvm.Cond.methodLink "CribBookletLaw" (87 : Nat) ({ cls := "CribBooklet", name := "undo", desc := "()I" } : Jvm.MethodName)) ∈ lw_all := lw_g (lw_at lw_m7 65 rfl) rfl
theorem q1607 : (Jvm.Cond.methodLink "CribBookletLaw" (91 : Nat) ({ cls := "CribBooklet", name := "append", desc := "(I)I" } : Jvm.MethodName)) ∈ lw_all := lw_g (lw_at lw_m7 81 rfl) rfl
theorem q1696 : (Jvm.Cond.methodLink "CribBookletLaw" (95 : Nat) ({ cls := "CribBooklet", name := "clearText", desc := "()I" } : Jvm.MethodName)) ∈ lw_all := lw_g (lw_at lw_m7 170 rfl) rfl
theorem q1720 : (Jvm.Cond.methodLink "CribBookletLaw" (99 : Nat) ({ cls := "CribBooklet", name := "run", desc := "()I" } : Jvm.MethodName)) ∈ lw_all := lw_g (lw_at lw_m7 194 rfl) rfl
theorem q2009 : (Jvm.Cond.methodLink "CribBookletLaw" (103 : Nat) ({ cls := "CribBooklet", name := "count", desc := "(I)I" } : Jvm.MethodName)) ∈ lw_all := lw_g (lw_at lw_m9 3 rfl) rfl
theorem q2025 : (Jvm.Cond.methodLink "CribBookletLaw" (107 : Nat) ({ cls := "CribBooklet", name := "side", desc := "(IIII)I" } : Jvm.MethodName)) ∈ lw_all := lw_g (lw_at lw_m9 19 rfl) rfl
theorem q2031 : (Jvm.Cond.methodLink "CribBookletLaw" (111 : Nat) ({ cls := "CribBooklet", name := "layer", desc := "(III)I" } : Jvm.MethodName)) ∈ lw_all := lw_g (lw_at lw_m9 25 rfl) rfl
theorem q2041 : (Jvm.Cond.methodLink "CribBookletLaw" (115 : Nat) ({ cls := "CribBooklet", name := "page", desc := "(II)I" } : Jvm.MethodName)) ∈ lw_all := lw_g (lw_at lw_m9 35 rfl) rfl
theorem q2627 : (Jvm.Cond.methodLink "CribBookletLaw" (119 : Nat) ({ cls := "CribBooklet", name := "opening", desc := "(II)I" } : Jvm.MethodName)) ∈ lw_all := lw_g (lw_at lw_m11 141 rfl) rfl
theorem q2631 : (Jvm.Cond.methodLink "CribBookletLaw" (123 : Nat) ({ cls := "CribBooklet", name := "hanging", desc := "(I)I" } : Jvm.MethodName)) ∈ lw_all := lw_g (lw_at lw_m11 145 rfl) rfl
theorem q2636 : (Jvm.Cond.methodLink "CribBookletLaw" (127 : Nat) ({ cls := "CribBooklet", name := "together", desc := "(II)I" } : Jvm.MethodName)) ∈ lw_all := lw_g (lw_at lw_m11 150 rfl) rfl
theorem q2645 : (Jvm.Cond.methodLink "CribBookletLaw" (131 : Nat) ({ cls := "CribBooklet", name := "pieces", desc := "()I" } : Jvm.MethodName)) ∈ lw_all := lw_g (lw_at lw_m11 159 rfl) rfl
theorem q2657 : (Jvm.Cond.methodLink "CribBookletLaw" (135 : Nat) ({ cls := "CribBooklet", name := "reading", desc := "(I)I" } : Jvm.MethodName)) ∈ lw_all := lw_g (lw_at lw_m11 171 rfl) rfl
theorem q2666 : (Jvm.Cond.methodLink "CribBookletLaw" (139 : Nat) ({ cls := "CribBooklet", name := "pageOf", desc := "(I)I" } : Jvm.MethodName)) ∈ lw_all := lw_g (lw_at lw_m11 180 rfl) rfl
theorem q2670 : (Jvm.Cond.methodLink "CribBookletLaw" (143 : Nat) ({ cls := "CribBooklet", name := "note", desc := "(II)I" } : Jvm.MethodName)) ∈ lw_all := lw_g (lw_at lw_m11 184 rfl) rfl
theorem q2684 : (Jvm.Cond.methodLink "CribBookletLaw" (147 : Nat) ({ cls := "CribBooklet", name := "index", desc := "(II)I" } : Jvm.MethodName)) ∈ lw_all := lw_g (lw_at lw_m11 198 rfl) rfl
theorem q2708 : (Jvm.Cond.methodLink "CribBookletLaw" (151 : Nat) ({ cls := "CribBooklet", name := "effort", desc := "(I)I" } : Jvm.MethodName)) ∈ lw_all := lw_g (lw_at lw_m11 222 rfl) rfl
theorem q2712 : (Jvm.Cond.methodLink "CribBookletLaw" (155 : Nat) ({ cls := "CribBooklet", name := "fitting", desc := "(I)I" } : Jvm.MethodName)) ∈ lw_all := lw_g (lw_at lw_m11 226 rfl) rfl
theorem q2752 : (Jvm.Cond.methodLink "CribBookletLaw" (159 : Nat) ({ cls := "CribBooklet", name := "readsBy", desc := "(I)I" } : Jvm.MethodName)) ∈ lw_all := lw_g (lw_at lw_m12 26 rfl) rfl
theorem q2760 : (Jvm.Cond.methodLink "CribBookletLaw" (163 : Nat) ({ cls := "CribBooklet", name := "cutsFor", desc := "(I)I" } : Jvm.MethodName)) ∈ lw_all := lw_g (lw_at lw_m12 34 rfl) rfl
theorem q2768 : (Jvm.Cond.methodLink "CribBookletLaw" (167 : Nat) ({ cls := "CribBooklet", name := "best", desc := "(I)I" } : Jvm.MethodName)) ∈ lw_all := lw_g (lw_at lw_m12 42 rfl) rfl
theorem q2825 : (Jvm.Cond.classLink "CribBookletLaw" (10 : Nat) "CribBookletModel") ∈ lw_all := lw_g (lw_at lw_m12 99 rfl) rfl
theorem q2827 : (Jvm.Cond.methodLink "CribBookletLaw" (12 : Nat) ({ cls := "CribBookletModel", name := "<init>", desc := "()V" } : Jvm.MethodName)) ∈ lw_all := lw_g (lw_at lw_m12 101 rfl) rfl
theorem q2929 : (Jvm.Cond.methodLink "CribBookletLaw" (17 : Nat) ({ cls := "CribBookletModel", name := "setSheet", desc := "(II)I" } : Jvm.MethodName)) ∈ lw_all := lw_g (lw_at lw_m12 203 rfl) rfl
theorem q2944 : (Jvm.Cond.methodLink "CribBookletLaw" (22 : Nat) ({ cls := "CribBookletModel", name := "fold", desc := "(I)I" } : Jvm.MethodName)) ∈ lw_all := lw_g (lw_at lw_m12 218 rfl) rfl
theorem q2976 : (Jvm.Cond.methodLink "CribBookletLaw" (27 : Nat) ({ cls := "CribBookletModel", name := "unfold", desc := "()I" } : Jvm.MethodName)) ∈ lw_all := lw_g (lw_at lw_m13 10 rfl) rfl
theorem q2980 : (Jvm.Cond.methodLink "CribBookletLaw" (31 : Nat) ({ cls := "CribBookletModel", name := "setSpine", desc := "(I)I" } : Jvm.MethodName)) ∈ lw_all := lw_g (lw_at lw_m13 14 rfl) rfl
theorem q2984 : (Jvm.Cond.methodLink "CribBookletLaw" (36 : Nat) ({ cls := "CribBookletModel", name := "print", desc := "(IIIII)I" } : Jvm.MethodName)) ∈ lw_all := lw_g (lw_at lw_m13 18 rfl) rfl
theorem q2998 : (Jvm.Cond.methodLink "CribBookletLaw" (40 : Nat) ({ cls := "CribBookletModel", name := "printAll", desc := "(I)I" } : Jvm.MethodName)) ∈ lw_all := lw_g (lw_at lw_m13 32 rfl) rfl
theorem q3018 : (Jvm.Cond.methodLink "CribBookletLaw" (44 : Nat) ({ cls := "CribBookletModel", name := "cut", desc := "(I)I" } : Jvm.MethodName)) ∈ lw_all := lw_g (lw_at lw_m13 52 rfl) rfl
theorem q3038 : (Jvm.Cond.methodLink "CribBookletLaw" (48 : Nat) ({ cls := "CribBookletModel", name := "staple", desc := "(I)I" } : Jvm.MethodName)) ∈ lw_all := lw_g (lw_at lw_m13 72 rfl) rfl
theorem q3046 : (Jvm.Cond.methodLink "CribBookletLaw" (52 : Nat) ({ cls := "CribBookletModel", name := "unstaple", desc := "(I)I" } : Jvm.MethodName)) ∈ lw_all := lw_g (lw_at lw_m13 80 rfl) rfl
theorem q3050 : (Jvm.Cond.methodLink "CribBookletLaw" (56 : Nat) ({ cls := "CribBookletModel", name := "setLegs", desc := "(I)I" } : Jvm.MethodName)) ∈ lw_all := lw_g (lw_at lw_m13 84 rfl) rfl
theorem q3055 : (Jvm.Cond.methodLink "CribBookletLaw" (61 : Nat) ({ cls := "CribBookletModel", name := "see", desc := "(III)I" } : Jvm.MethodName)) ∈ lw_all := lw_g (lw_at lw_m13 89 rfl) rfl
theorem q3059 : (Jvm.Cond.methodLink "CribBookletLaw" (65 : Nat) ({ cls := "CribBookletModel", name := "forget", desc := "()I" } : Jvm.MethodName)) ∈ lw_all := lw_g (lw_at lw_m13 93 rfl) rfl
theorem q3063 : (Jvm.Cond.methodLink "CribBookletLaw" (70 : Nat) ({ cls := "CribBookletModel", name := "addNote", desc := "(IIII)I" } : Jvm.MethodName)) ∈ lw_all := lw_g (lw_at lw_m13 97 rfl) rfl
theorem q3069 : (Jvm.Cond.methodLink "CribBookletLaw" (74 : Nat) ({ cls := "CribBookletModel", name := "removeNote", desc := "(I)I" } : Jvm.MethodName)) ∈ lw_all := lw_g (lw_at lw_m13 103 rfl) rfl
theorem q3073 : (Jvm.Cond.methodLink "CribBookletLaw" (78 : Nat) ({ cls := "CribBookletModel", name := "setLines", desc := "(I)I" } : Jvm.MethodName)) ∈ lw_all := lw_g (lw_at lw_m13 107 rfl) rfl
theorem q3077 : (Jvm.Cond.methodLink "CribBookletLaw" (82 : Nat) ({ cls := "CribBookletModel", name := "take", desc := "(I)I" } : Jvm.MethodName)) ∈ lw_all := lw_g (lw_at lw_m13 111 rfl) rfl
theorem q3081 : (Jvm.Cond.methodLink "CribBookletLaw" (86 : Nat) ({ cls := "CribBookletModel", name := "restore", desc := "(I)I" } : Jvm.MethodName)) ∈ lw_all := lw_g (lw_at lw_m13 115 rfl) rfl
theorem q3085 : (Jvm.Cond.methodLink "CribBookletLaw" (90 : Nat) ({ cls := "CribBookletModel", name := "undo", desc := "()I" } : Jvm.MethodName)) ∈ lw_all := lw_g (lw_at lw_m13 119 rfl) rfl
theorem q3089 : (Jvm.Cond.methodLink "CribBookletLaw" (94 : Nat) ({ cls := "CribBookletModel", name := "append", desc := "(I)I" } : Jvm.MethodName)) ∈ lw_all := lw_g (lw_at lw_m13 123 rfl) rfl
theorem q3094 : (Jvm.Cond.methodLink "CribBookletLaw" (98 : Nat) ({ cls := "CribBookletModel", name := "clearText", desc := "()I" } : Jvm.MethodName)) ∈ lw_all := lw_g (lw_at lw_m13 128 rfl) rfl
theorem q3098 : (Jvm.Cond.methodLink "CribBookletLaw" (102 : Nat) ({ cls := "CribBookletModel", name := "run", desc := "()I" } : Jvm.MethodName)) ∈ lw_all := lw_g (lw_at lw_m13 132 rfl) rfl
theorem q3176 : (Jvm.Cond.methodLink "CribBookletLaw" (106 : Nat) ({ cls := "CribBookletModel", name := "count", desc := "(I)I" } : Jvm.MethodName)) ∈ lw_all := lw_g (lw_at lw_m13 210 rfl) rfl
theorem q3184 : (Jvm.Cond.methodLink "CribBookletLaw" (110 : Nat) ({ cls := "CribBookletModel", name := "side", desc := "(IIII)I" } : Jvm.MethodName)) ∈ lw_all := lw_g (lw_at lw_m13 218 rfl) rfl
theorem q3188 : (Jvm.Cond.methodLink "CribBookletLaw" (114 : Nat) ({ cls := "CribBookletModel", name := "layer", desc := "(III)I" } : Jvm.MethodName)) ∈ lw_all := lw_g (lw_at lw_m13 222 rfl) rfl
theorem q3192 : (Jvm.Cond.methodLink "CribBookletLaw" (118 : Nat) ({ cls := "CribBookletModel", name := "page", desc := "(II)I" } : Jvm.MethodName)) ∈ lw_all := lw_g (lw_at lw_m13 226 rfl) rfl
theorem q3241 : (Jvm.Cond.methodLink "CribBookletLaw" (122 : Nat) ({ cls := "CribBookletModel", name := "opening", desc := "(II)I" } : Jvm.MethodName)) ∈ lw_all := lw_g (lw_at lw_m14 35 rfl) rfl
theorem q3246 : (Jvm.Cond.methodLink "CribBookletLaw" (126 : Nat) ({ cls := "CribBookletModel", name := "hanging", desc := "(I)I" } : Jvm.MethodName)) ∈ lw_all := lw_g (lw_at lw_m14 40 rfl) rfl
theorem q3250 : (Jvm.Cond.methodLink "CribBookletLaw" (130 : Nat) ({ cls := "CribBookletModel", name := "together", desc := "(II)I" } : Jvm.MethodName)) ∈ lw_all := lw_g (lw_at lw_m14 44 rfl) rfl
theorem q3254 : (Jvm.Cond.methodLink "CribBookletLaw" (134 : Nat) ({ cls := "CribBookletModel", name := "pieces", desc := "()I" } : Jvm.MethodName)) ∈ lw_all := lw_g (lw_at lw_m14 48 rfl) rfl
theorem q3262 : (Jvm.Cond.methodLink "CribBookletLaw" (138 : Nat) ({ cls := "CribBookletModel", name := "reading", desc := "(I)I" } : Jvm.MethodName)) ∈ lw_all := lw_g (lw_at lw_m14 56 rfl) rfl
theorem q3266 : (Jvm.Cond.methodLink "CribBookletLaw" (142 : Nat) ({ cls := "CribBookletModel", name := "pageOf", desc := "(I)I" } : Jvm.MethodName)) ∈ lw_all := lw_g (lw_at lw_m14 60 rfl) rfl
theorem q3270 : (Jvm.Cond.methodLink "CribBookletLaw" (146 : Nat) ({ cls := "CribBookletModel", name := "note", desc := "(II)I" } : Jvm.MethodName)) ∈ lw_all := lw_g (lw_at lw_m14 64 rfl) rfl
theorem q3275 : (Jvm.Cond.methodLink "CribBookletLaw" (150 : Nat) ({ cls := "CribBookletModel", name := "index", desc := "(II)I" } : Jvm.MethodName)) ∈ lw_all := lw_g (lw_at lw_m14 69 rfl) rfl
theorem q3283 : (Jvm.Cond.methodLink "CribBookletLaw" (154 : Nat) ({ cls := "CribBookletModel", name := "effort", desc := "(I)I" } : Jvm.MethodName)) ∈ lw_all := lw_g (lw_at lw_m14 77 rfl) rfl
theorem q3287 : (Jvm.Cond.methodLink "CribBookletLaw" (158 : Nat) ({ cls := "CribBookletModel", name := "fitting", desc := "(I)I" } : Jvm.MethodName)) ∈ lw_all := lw_g (lw_at lw_m14 81 rfl) rfl
theorem q3295 : (Jvm.Cond.methodLink "CribBookletLaw" (162 : Nat) ({ cls := "CribBookletModel", name := "readsBy", desc := "(I)I" } : Jvm.MethodName)) ∈ lw_all := lw_g (lw_at lw_m14 89 rfl) rfl
theorem q3303 : (Jvm.Cond.methodLink "CribBookletLaw" (166 : Nat) ({ cls := "CribBookletModel", name := "cutsFor", desc := "(I)I" } : Jvm.MethodName)) ∈ lw_all := lw_g (lw_at lw_m14 97 rfl) rfl
theorem q3311 : (Jvm.Cond.methodLink "CribBookletLaw" (170 : Nat) ({ cls := "CribBookletModel", name := "best", desc := "(I)I" } : Jvm.MethodName)) ∈ lw_all := lw_g (lw_at lw_m14 105 rfl) rfl

end
section
theorem q404 : (Jvm.Cond.interfaceMethod "CribBooklet$Command" "CribBooklet$Command" "check" "(LCribBooklet$Sheet;)I") ∈ lw_tbl := lw_at lw_m2 78 rfl
set_option maxRecDepth 100000
theorem q405 : (Jvm.Cond.declares ({ cls := "CribBooklet$Command", name := "check", desc := "(LCribBooklet$Sheet;)I" } : Jvm.MethodName)) ∈ lw_tbl := lw_at lw_m2 79 rfl
theorem q1079 : (Jvm.Cond.interfaceMethod "CribBooklet$Command" "CribBooklet$Command" "carryOut" "(LCribBooklet$Sheet;)I") ∈ lw_tbl := lw_at lw_m5 33 rfl
theorem q1080 : (Jvm.Cond.declares ({ cls := "CribBooklet$Command", name := "carryOut", desc := "(LCribBooklet$Sheet;)I" } : Jvm.MethodName)) ∈ lw_tbl := lw_at lw_m5 34 rfl

end
section
theorem q1639 : (Jvm.Cond.sameMethod "[B" "java/lang/Object" "clone" "()Ljava/lang/Object;") ∈ lw_all := lw_g (lw_at lw_m7 113 rfl) rfl
set_option maxRecDepth 100000
theorem q1642 : (Jvm.Cond.selects "[B" ({ cls := "[B", name := "clone", desc := "()Ljava/lang/Object;" } : Jvm.MethodName) ({ cls := "java/lang/Object", name := "clone", desc := "()Ljava/lang/Object;" } : Jvm.MethodName)) ∈ lw_all := lw_g (lw_at lw_m7 116 rfl) rfl
theorem q1643 : (Jvm.Cond.castable "[B" "java/lang/Cloneable") ∈ lw_tbl := lw_at lw_m7 117 rfl
theorem q3384 : (Jvm.Cond.castable "[B" "java/lang/Object") ∈ lw_tbl := lw_at lw_m14 178 rfl

end
section
theorem q3380 : (Jvm.Cond.castable "[I" "java/lang/Object") ∈ lw_tbl := lw_at lw_m14 174 rfl
set_option maxRecDepth 100000

end
section
theorem q3386 : (Jvm.Cond.castable "[LCribBooklet$Layer;" "java/lang/Object") ∈ lw_tbl := lw_at lw_m14 180 rfl
set_option maxRecDepth 100000

end
section
theorem q3382 : (Jvm.Cond.castable "[LCribBooklet$Sheet;" "java/lang/Object") ∈ lw_tbl := lw_at lw_m14 176 rfl
set_option maxRecDepth 100000

end
section
theorem q3377 : (Jvm.Cond.sameMethod "[Ljava/lang/Object;" "java/lang/Object" "getClass" "()Ljava/lang/Class;") ∈ lw_all := lw_g (lw_at lw_m14 171 rfl) rfl
set_option maxRecDepth 100000
theorem q3378 : (Jvm.Cond.selects "[Ljava/lang/Object;" ({ cls := "java/lang/Object", name := "getClass", desc := "()Ljava/lang/Class;" } : Jvm.MethodName) ({ cls := "java/lang/Object", name := "getClass", desc := "()Ljava/lang/Class;" } : Jvm.MethodName)) ∈ lw_all := lw_g (lw_at lw_m14 172 rfl) rfl
theorem q3383 : (Jvm.Cond.castable "[Ljava/lang/Object;" "java/lang/Object") ∈ lw_tbl := lw_at lw_m14 177 rfl

end
section
theorem q3387 : (Jvm.Cond.castable "[Ljava/lang/String;" "java/lang/Object") ∈ lw_tbl := lw_at lw_m14 181 rfl
set_option maxRecDepth 100000

end
section
theorem q3381 : (Jvm.Cond.castable "[Z" "java/lang/Object") ∈ lw_tbl := lw_at lw_m14 175 rfl
set_option maxRecDepth 100000

end
section
theorem q3385 : (Jvm.Cond.castable "[[LCribBooklet$Layer;" "java/lang/Object") ∈ lw_tbl := lw_at lw_m14 179 rfl
set_option maxRecDepth 100000

end
section
theorem q2219 : (Jvm.Cond.interfaceMethod "java/lang/Comparable" "java/lang/Comparable" "compareTo" "(Ljava/lang/Object;)I") ∈ lw_tbl := lw_at lw_m9 213 rfl
set_option maxRecDepth 100000
theorem q2220 : (Jvm.Cond.declares ({ cls := "java/lang/Comparable", name := "compareTo", desc := "(Ljava/lang/Object;)I" } : Jvm.MethodName)) ∈ lw_tbl := lw_at lw_m9 214 rfl

end
section
theorem q151 : (Jvm.Cond.initialized "java/lang/Integer$IntegerCache") ∈ lw_all := lw_g (lw_at lw_m1 65 rfl) rfl
set_option maxRecDepth 100000
theorem q2483 : (Jvm.Cond.laysStatic "java/lang/Integer$IntegerCache" "high" "I") ∈ lw_tbl := lw_at lw_m10 237 rfl
theorem q2485 : (Jvm.Cond.laysStatic "java/lang/Integer$IntegerCache" "cache" "[Ljava/lang/Integer;") ∈ lw_tbl := lw_at lw_m10 239 rfl

end
section
theorem q105 : (Jvm.Cond.initialized "java/lang/System") ∈ lw_all := lw_g (lw_at lw_m1 19 rfl) rfl
set_option maxRecDepth 100000
theorem q654 : (Jvm.Cond.static ({ cls := "java/lang/System", name := "arraycopy", desc := "(Ljava/lang/Object;ILjava/lang/Object;II)V" } : Jvm.MethodName)) ∈ lw_all := lw_g (lw_at lw_m3 88 rfl) rfl
theorem q655 : (Jvm.Cond.native ({ cls := "java/lang/System", name := "arraycopy", desc := "(Ljava/lang/Object;ILjava/lang/Object;II)V" } : Jvm.MethodName)) ∈ lw_all := lw_g (lw_at lw_m3 89 rfl) rfl

end
section
theorem q662 : (Jvm.Cond.interfaceMethod "java/util/Collection" "java/util/Collection" "toArray" "()[Ljava/lang/Object;") ∈ lw_tbl := lw_at lw_m3 96 rfl
set_option maxRecDepth 100000
theorem q663 : (Jvm.Cond.declares ({ cls := "java/util/Collection", name := "toArray", desc := "()[Ljava/lang/Object;" } : Jvm.MethodName)) ∈ lw_tbl := lw_at lw_m3 97 rfl

end
section
theorem q2184 : (Jvm.Cond.interfaceMethod "java/util/Comparator" "java/util/Comparator" "compare" "(Ljava/lang/Object;Ljava/lang/Object;)I") ∈ lw_tbl := lw_at lw_m9 178 rfl
set_option maxRecDepth 100000
theorem q2185 : (Jvm.Cond.declares ({ cls := "java/util/Comparator", name := "compare", desc := "(Ljava/lang/Object;Ljava/lang/Object;)I" } : Jvm.MethodName)) ∈ lw_tbl := lw_at lw_m9 179 rfl

end
section
theorem q943 : (Jvm.Cond.interfaceMethod "java/util/Iterator" "java/util/Iterator" "hasNext" "()Z") ∈ lw_tbl := lw_at lw_m4 137 rfl
set_option maxRecDepth 100000
theorem q944 : (Jvm.Cond.declares ({ cls := "java/util/Iterator", name := "hasNext", desc := "()Z" } : Jvm.MethodName)) ∈ lw_tbl := lw_at lw_m4 138 rfl
theorem q976 : (Jvm.Cond.interfaceMethod "java/util/Iterator" "java/util/Iterator" "next" "()Ljava/lang/Object;") ∈ lw_tbl := lw_at lw_m4 170 rfl
theorem q977 : (Jvm.Cond.declares ({ cls := "java/util/Iterator", name := "next", desc := "()Ljava/lang/Object;" } : Jvm.MethodName)) ∈ lw_tbl := lw_at lw_m4 171 rfl

end
section
theorem q777 : (Jvm.Cond.publicMethod ({ cls := "java/util/Map", name := "size", desc := "()I" } : Jvm.MethodName)) ∈ lw_tbl := lw_at lw_m3 211 rfl
set_option maxRecDepth 100000
theorem q778 : (Jvm.Cond.declares ({ cls := "java/util/Map", name := "size", desc := "()I" } : Jvm.MethodName)) ∈ lw_tbl := lw_at lw_m3 212 rfl
theorem q2819 : (Jvm.Cond.publicMethod ({ cls := "java/util/Map", name := "put", desc := "(Ljava/lang/Object;Ljava/lang/Object;)Ljava/lang/Object;" } : Jvm.MethodName)) ∈ lw_tbl := lw_at lw_m12 93 rfl
theorem q2820 : (Jvm.Cond.declares ({ cls := "java/util/Map", name := "put", desc := "(Ljava/lang/Object;Ljava/lang/Object;)Ljava/lang/Object;" } : Jvm.MethodName)) ∈ lw_tbl := lw_at lw_m12 94 rfl

end
section
theorem q909 : (Jvm.Cond.interfaceMethod "java/util/NavigableMap" "java/util/NavigableMap" "navigableKeySet" "()Ljava/util/NavigableSet;") ∈ lw_tbl := lw_at lw_m4 103 rfl
set_option maxRecDepth 100000
theorem q910 : (Jvm.Cond.declares ({ cls := "java/util/NavigableMap", name := "navigableKeySet", desc := "()Ljava/util/NavigableSet;" } : Jvm.MethodName)) ∈ lw_tbl := lw_at lw_m4 104 rfl

end
section
theorem q931 : (Jvm.Cond.interfaceMethod "java/util/NavigableSet" "java/util/NavigableSet" "iterator" "()Ljava/util/Iterator;") ∈ lw_tbl := lw_at lw_m4 125 rfl
set_option maxRecDepth 100000
theorem q932 : (Jvm.Cond.declares ({ cls := "java/util/NavigableSet", name := "iterator", desc := "()Ljava/util/Iterator;" } : Jvm.MethodName)) ∈ lw_tbl := lw_at lw_m4 126 rfl

end
section
theorem q2695 : (Jvm.Cond.interfaceMethod "java/util/Set" "java/util/Set" "iterator" "()Ljava/util/Iterator;") ∈ lw_tbl := lw_at lw_m11 209 rfl
set_option maxRecDepth 100000
theorem q2696 : (Jvm.Cond.declares ({ cls := "java/util/Set", name := "iterator", desc := "()Ljava/util/Iterator;" } : Jvm.MethodName)) ∈ lw_tbl := lw_at lw_m11 210 rfl

end
section
theorem q902 : (Jvm.Cond.declares ({ cls := "java/util/TreeMap$NavigableSubMap", name := "keyIterator", desc := "()Ljava/util/Iterator;" } : Jvm.MethodName)) ∈ lw_tbl := lw_at lw_m4 96 rfl
set_option maxRecDepth 100000
theorem q903 : (Jvm.Cond.selects "java/util/TreeMap$NavigableSubMap" ({ cls := "java/util/TreeMap$NavigableSubMap", name := "keyIterator", desc := "()Ljava/util/Iterator;" } : Jvm.MethodName) ({ cls := "java/util/TreeMap$NavigableSubMap", name := "keyIterator", desc := "()Ljava/util/Iterator;" } : Jvm.MethodName)) ∈ lw_all := lw_g (lw_at lw_m4 97 rfl) rfl

end
section
theorem q1934 : (Jvm.Cond.interfaceMethod "jdk/internal/access/JavaLangAccess" "jdk/internal/access/JavaLangAccess" "getUTF16Char" "([BI)C") ∈ lw_tbl := lw_at lw_m8 168 rfl
set_option maxRecDepth 100000
theorem q1935 : (Jvm.Cond.declares ({ cls := "jdk/internal/access/JavaLangAccess", name := "getUTF16Char", desc := "([BI)C" } : Jvm.MethodName)) ∈ lw_tbl := lw_at lw_m8 169 rfl

end
section
theorem q149 : (Jvm.Cond.initialized "jdk/internal/misc/UnsafeConstants") ∈ lw_all := lw_g (lw_at lw_m1 63 rfl) rfl
set_option maxRecDepth 100000
theorem q2303 : (Jvm.Cond.laysStatic "jdk/internal/misc/UnsafeConstants" "BIG_ENDIAN" "Z") ∈ lw_tbl := lw_at lw_m10 57 rfl

end
section
theorem q204 : (Jvm.Cond.arrayClass Jvm.ClassFile.FieldType.int) ∈ lw_all := lw_g (lw_at lw_m1 118 rfl) rfl
set_option maxRecDepth 100000
theorem q205 : (Jvm.Cond.arrayClass Jvm.ClassFile.FieldType.boolean) ∈ lw_all := lw_g (lw_at lw_m1 119 rfl) rfl
theorem q306 : (Jvm.Cond.arrayOver (Jvm.ClassFile.FieldType.object "CribBooklet$Sheet")) ∈ lw_tbl := lw_at lw_m1 220 rfl
theorem q323 : (Jvm.Cond.arrayOver (Jvm.ClassFile.FieldType.object "java/lang/Object")) ∈ lw_tbl := lw_at lw_m1 237 rfl
theorem q367 : (Jvm.Cond.arrayClass Jvm.ClassFile.FieldType.byte) ∈ lw_all := lw_g (lw_at lw_m2 41 rfl) rfl
theorem q467 : (Jvm.Cond.arrayOver (Jvm.ClassFile.FieldType.array (Jvm.ClassFile.FieldType.object "CribBooklet$Layer"))) ∈ lw_tbl := lw_at lw_m2 141 rfl
theorem q468 : (Jvm.Cond.arrayOver (Jvm.ClassFile.FieldType.object "CribBooklet$Layer")) ∈ lw_tbl := lw_at lw_m2 142 rfl
theorem q469 : (Jvm.Cond.arrayClass (Jvm.ClassFile.FieldType.object "CribBooklet$Layer")) ∈ lw_all := lw_g (lw_at lw_m2 143 rfl) rfl
theorem q3388 : (Jvm.Cond.arrayClass Jvm.ClassFile.FieldType.char) ∈ lw_all := lw_g (lw_at lw_m14 182 rfl) rfl
theorem q3389 : (Jvm.Cond.arrayClass Jvm.ClassFile.FieldType.short) ∈ lw_all := lw_g (lw_at lw_m14 183 rfl) rfl
theorem q3395 : (Jvm.Cond.arrayOver (Jvm.ClassFile.FieldType.object "java/lang/String")) ∈ lw_tbl := lw_at lw_m14 189 rfl

end