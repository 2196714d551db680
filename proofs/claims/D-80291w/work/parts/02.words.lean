set_option maxRecDepth 100000
/-! NetSearch -/
def RX0 : String := "NetSearch"
def TX0 : u_T := fun k => match k with
  | 0 => ("NetSearch", "ways", "[LNetSearch$Way;", true)
  | 1 => ("NetSearch", "firstRight", "[I", true)
  | 2 => ("NetSearch", "firstUp", "[I", true)
  | 3 => ("NetSearch", "cubes", "I", false)
  | 4 => ("NetSearch", "cubeX", "[I", true)
  | 5 => ("NetSearch", "cubeY", "[I", true)
  | 6 => ("NetSearch", "cubeZ", "[I", true)
  | 7 => ("NetSearch", "faces", "I", false)
  | 8 => ("NetSearch", "face", "[LNetSearch$Face;", true)
  | 9 => ("NetSearch", "rows", "[[J", true)
  | 10 => ("NetSearch", "hand", "LNetSearch$Sheet;", true)
  | 11 => ("NetSearch", "sheet", "LNetSearch$Sheet;", true)
  | 12 => ("NetSearch", "choices", "I", false)
  | 13 => ("NetSearch", "choice", "[I", true)
  | 14 => ("NetSearch", "at", "I", false)
  | 15 => ("NetSearch", "nets", "I", false)
  | 16 => ("NetSearch", "work", "I", false)
  | 17 => ("NetSearch", "hasEnded", "Z", false)
  | 18 => ("NetSearch", "bestNet", "I", false)
  | 19 => ("NetSearch", "bestWidth", "I", false)
  | 20 => ("NetSearch", "bestHeight", "I", false)
  | 21 => ("NetSearch", "bestX", "[I", true)
  | 22 => ("NetSearch", "bestY", "[I", true)
  | 23 => ("NetSearch", "kept", "I", false)
  | 24 => ("NetSearch", "shapes", "[[I", true)
  | 25 => ("NetSearch", "sizes", "[I", true)
  | 26 => ("NetSearch", "image", "[I", true)
  | 27 => ("NetSearch", "least", "[I", true)
  | 28 => ("NetSearch", "lain", "[I", true)
  | 29 => ("NetSearch", "lainRight", "[I", true)
  | 30 => ("NetSearch", "lainUp", "[I", true)
  | 31 => ("NetSearch", "beside", "[I", true)
  | _ => ("NetSearch", "queue", "[I", true)
def tyX0 : Nat → FieldType := fun k => match k with
  | 0 => .array (.object "NetSearch$Way")
  | 1 => .array .int
  | 2 => .array .int
  | 3 => .int
  | 4 => .array .int
  | 5 => .array .int
  | 6 => .array .int
  | 7 => .int
  | 8 => .array (.object "NetSearch$Face")
  | 9 => .array (.array .long)
  | 10 => .object "NetSearch$Sheet"
  | 11 => .object "NetSearch$Sheet"
  | 12 => .int
  | 13 => .array .int
  | 14 => .int
  | 15 => .int
  | 16 => .int
  | 17 => .boolean
  | 18 => .int
  | 19 => .int
  | 20 => .int
  | 21 => .array .int
  | 22 => .array .int
  | 23 => .int
  | 24 => .array (.array .int)
  | 25 => .array .int
  | 26 => .array .int
  | 27 => .array .int
  | 28 => .array .int
  | 29 => .array .int
  | 30 => .array .int
  | 31 => .array .int
  | _ => .array .int
abbrev wsX00 : List Cond := u_ws RX0 TX0 33
set_option maxRecDepth 100000 in
theorem nmX0 : ∀ a, a < 33 → ∀ b, b < 33 → a ≠ b → (TX0 a).2.1 ≠ (TX0 b).2.1 := by decide +kernel
set_option maxRecDepth 100000 in
theorem tyX0_ok : ∀ k, k < 33 → parseFieldDescriptor (TX0 k).2.2.1 = some (tyX0 k) := by decide +kernel
abbrev cX0_init : ByteArray := prog_1_method_2_code
def yX0_init : MethodName := ⟨RX0, "<init>", "()V"⟩
abbrev cX0_renew : ByteArray := prog_1_method_6_code
def yX0_renew : MethodName := ⟨RX0, "renew", "()V"⟩
abbrev cX0_cubeBy : ByteArray := prog_1_method_4_code
def yX0_cubeBy : MethodName := ⟨RX0, "cubeBy", "(III)I"⟩
abbrev cX0_cubeAt : ByteArray := prog_1_method_3_code
def yX0_cubeAt : MethodName := ⟨RX0, "cubeAt", "(III)I"⟩
abbrev cX0_findAcross : ByteArray := prog_1_method_7_code
def yX0_findAcross : MethodName := ⟨RX0, "findAcross", "(LNetSearch$Face;I)V"⟩
abbrev cX0_faceAt : ByteArray := prog_1_method_5_code
def yX0_faceAt : MethodName := ⟨RX0, "faceAt", "(II)I"⟩
abbrev cX0_cube : ByteArray := prog_1_method_8_code
def yX0_cube : MethodName := ⟨RX0, "cube", "(III)I"⟩
abbrev cX0_in : ByteArray := prog_1_method_1_code
def yX0_in : MethodName := ⟨RX0, "in", "(III)Z"⟩
abbrev cX0_clear : ByteArray := prog_1_method_9_code
def yX0_clear : MethodName := ⟨RX0, "clear", "()I"⟩
abbrev cX0_face : ByteArray := prog_1_method_11_code
def yX0_face : MethodName := ⟨RX0, "face", "(II)I"⟩
abbrev cX0_isFace : ByteArray := prog_1_method_10_code
def yX0_isFace : MethodName := ⟨RX0, "isFace", "(I)Z"⟩
abbrev cX0_across : ByteArray := prog_1_method_12_code
def yX0_across : MethodName := ⟨RX0, "across", "(II)I"⟩
abbrev cX0_trees : ByteArray := prog_1_method_15_code
def yX0_trees : MethodName := ⟨RX0, "trees", "()J"⟩
abbrev cX0_treesBy : ByteArray := prog_1_method_13_code
def yX0_treesBy : MethodName := ⟨RX0, "treesBy", "(J)J"⟩
abbrev cX0_power : ByteArray := prog_1_method_14_code
def yX0_power : MethodName := ⟨RX0, "power", "(JJJ)J"⟩
abbrev cX0_lay : ByteArray := prog_1_method_16_code
def yX0_lay : MethodName := ⟨RX0, "lay", "(I)I"⟩
abbrev cX0_grow : ByteArray := prog_1_method_17_code
def yX0_grow : MethodName := ⟨RX0, "grow", "(II)I"⟩
abbrev cX0_paper : ByteArray := prog_1_method_18_code
def yX0_paper : MethodName := ⟨RX0, "paper", "(II)I"⟩
abbrev cX0_run : ByteArray := prog_1_method_19_code
def yX0_run : MethodName := ⟨RX0, "run", "(I)I"⟩
abbrev cX0_found : ByteArray := prog_1_method_21_code
def yX0_found : MethodName := ⟨RX0, "found", "()V"⟩
abbrev cX0_keep : ByteArray := prog_1_method_26_code
def yX0_keep : MethodName := ⟨RX0, "keep", "()V"⟩
abbrev cX0_imageBy : ByteArray := prog_1_method_24_code
def yX0_imageBy : MethodName := ⟨RX0, "imageBy", "(I)V"⟩
abbrev cX0_turnedX : ByteArray := prog_1_method_22_code
def yX0_turnedX : MethodName := ⟨RX0, "turnedX", "(III)I"⟩
abbrev cX0_turnedY : ByteArray := prog_1_method_23_code
def yX0_turnedY : MethodName := ⟨RX0, "turnedY", "(III)I"⟩
abbrev cX0_isLess : ByteArray := prog_1_method_25_code
def yX0_isLess : MethodName := ⟨RX0, "isLess", "([I[II)Z"⟩
abbrev cX0_back : ByteArray := prog_1_method_20_code
def yX0_back : MethodName := ⟨RX0, "back", "()V"⟩
abbrev cX0_forget : ByteArray := prog_1_method_27_code
def yX0_forget : MethodName := ⟨RX0, "forget", "()I"⟩
abbrev cX0_told : ByteArray := prog_1_method_28_code
def yX0_told : MethodName := ⟨RX0, "told", "(I)I"⟩
abbrev cX0_best : ByteArray := prog_1_method_29_code
def yX0_best : MethodName := ⟨RX0, "best", "(II)I"⟩
abbrev cX0_size : ByteArray := prog_1_method_30_code
def yX0_size : MethodName := ⟨RX0, "size", "(I)I"⟩
abbrev cX0_shape : ByteArray := prog_1_method_31_code
def yX0_shape : MethodName := ⟨RX0, "shape", "(III)I"⟩
abbrev cX0_wraps : ByteArray := prog_1_method_37_code
def yX0_wraps : MethodName := ⟨RX0, "wraps", "(I)I"⟩
abbrev cX0_findBeside : ByteArray := prog_1_method_35_code
def yX0_findBeside : MethodName := ⟨RX0, "findBeside", "(II)V"⟩
abbrev cX0_imageX : ByteArray := prog_1_method_32_code
def yX0_imageX : MethodName := ⟨RX0, "imageX", "(III)I"⟩
abbrev cX0_imageY : ByteArray := prog_1_method_33_code
def yX0_imageY : MethodName := ⟨RX0, "imageY", "(III)I"⟩
abbrev cX0_isWrapped : ByteArray := prog_1_method_36_code
def yX0_isWrapped : MethodName := ⟨RX0, "isWrapped", "(II)Z"⟩
abbrev cX0_agrees : ByteArray := prog_1_method_34_code
def yX0_agrees : MethodName := ⟨RX0, "agrees", "(III)Z"⟩
theorem q39 : (Jvm.Cond.initialized "NetSearch") ∈ lw_all := lw_g (lw_at lw_m1 1 rfl) rfl
theorem q51 : (Jvm.Cond.instantiable "NetSearch" (33 : Nat)) ∈ lw_all := lw_g (lw_at lw_m1 13 rfl) rfl
theorem q53 : (Jvm.Cond.instanceMethod ({ cls := "NetSearch", name := "<init>", desc := "()V" } : Jvm.MethodName)) ∈ lw_all := lw_g (lw_at lw_m1 15 rfl) rfl
theorem q54 : (Jvm.Cond.code ({ cls := "NetSearch", name := "<init>", desc := "()V" } : Jvm.MethodName) prog_1_method_2_code (2 : Nat) (Option.none : Option Jvm.ClassFile.FieldType)) ∈ lw_all := lw_g (lw_at lw_m1 16 rfl) rfl
theorem q55 : (Jvm.Cond.methodLink "NetSearch" (1 : Nat) ({ cls := "java/lang/Object", name := "<init>", desc := "()V" } : Jvm.MethodName)) ∈ lw_all := lw_g (lw_at lw_m1 17 rfl) rfl
theorem q58 : (Jvm.Cond.methodLink "NetSearch" (7 : Nat) ({ cls := "NetSearch$Way", name := "values", desc := "()[LNetSearch$Way;" } : Jvm.MethodName)) ∈ lw_all := lw_g (lw_at lw_m1 20 rfl) rfl
theorem q71 : (Jvm.Cond.classLink "NetSearch" (35 : Nat) "NetSearch$Face") ∈ lw_all := lw_g (lw_at lw_m1 33 rfl) rfl
theorem q73 : (Jvm.Cond.classLink "NetSearch" (41 : Nat) "[[J") ∈ lw_all := lw_g (lw_at lw_m1 35 rfl) rfl
theorem q75 : (Jvm.Cond.classLink "NetSearch" (46 : Nat) "NetSearch$Sheet") ∈ lw_all := lw_g (lw_at lw_m1 37 rfl) rfl
theorem q77 : (Jvm.Cond.methodLink "NetSearch" (48 : Nat) ({ cls := "NetSearch$Sheet", name := "<init>", desc := "([LNetSearch$Face;[I[I)V" } : Jvm.MethodName)) ∈ lw_all := lw_g (lw_at lw_m1 39 rfl) rfl
theorem q85 : (Jvm.Cond.fieldLinkNest "NetSearch" (229 : Nat) "NetSearch$Sheet" "many" "I" "NetSearch") ∈ lw_tbl := lw_at lw_m1 47 rfl
theorem q87 : (Jvm.Cond.fieldLinkNest "NetSearch" (238 : Nat) "NetSearch$Sheet" "order" "[I" "NetSearch") ∈ lw_tbl := lw_at lw_m1 49 rfl
theorem q89 : (Jvm.Cond.fieldLinkNest "NetSearch" (201 : Nat) "NetSearch$Sheet" "lies" "[Z" "NetSearch") ∈ lw_tbl := lw_at lw_m1 51 rfl
theorem q91 : (Jvm.Cond.fieldLinkNest "NetSearch" (219 : Nat) "NetSearch$Sheet" "x" "[I" "NetSearch") ∈ lw_tbl := lw_at lw_m1 53 rfl
theorem q93 : (Jvm.Cond.fieldLinkNest "NetSearch" (221 : Nat) "NetSearch$Sheet" "y" "[I" "NetSearch") ∈ lw_tbl := lw_at lw_m1 55 rfl
theorem q95 : (Jvm.Cond.fieldLinkNest "NetSearch" (223 : Nat) "NetSearch$Sheet" "right" "[I" "NetSearch") ∈ lw_tbl := lw_at lw_m1 57 rfl
theorem q97 : (Jvm.Cond.fieldLinkNest "NetSearch" (226 : Nat) "NetSearch$Sheet" "up" "[I" "NetSearch") ∈ lw_tbl := lw_at lw_m1 59 rfl
theorem q125 : (Jvm.Cond.classLink "NetSearch" (67 : Nat) "[I") ∈ lw_all := lw_g (lw_at lw_m1 87 rfl) rfl
theorem q128 : (Jvm.Cond.methodLinkNest "NetSearch" (96 : Nat) ({ cls := "NetSearch$Face", name := "<init>", desc := "()V" } : Jvm.MethodName) "NetSearch") ∈ lw_tbl := lw_at lw_m1 90 rfl
theorem q132 : (Jvm.Cond.fieldLinkNest "NetSearch" (117 : Nat) "NetSearch$Face" "cube" "I" "NetSearch") ∈ lw_tbl := lw_at lw_m1 94 rfl
theorem q133 : (Jvm.Cond.fieldLinkNest "NetSearch" (120 : Nat) "NetSearch$Face" "way" "I" "NetSearch") ∈ lw_tbl := lw_at lw_m1 95 rfl
theorem q136 : (Jvm.Cond.fieldLinkNest "NetSearch" (129 : Nat) "NetSearch$Face" "across" "[I" "NetSearch") ∈ lw_tbl := lw_at lw_m1 98 rfl
theorem q139 : (Jvm.Cond.fieldLinkNest "NetSearch" (166 : Nat) "NetSearch$Face" "turned" "[I" "NetSearch") ∈ lw_tbl := lw_at lw_m1 101 rfl
theorem q150 : (Jvm.Cond.methodLink "NetSearch" (97 : Nat) ({ cls := "NetSearch", name := "renew", desc := "()V" } : Jvm.MethodName)) ∈ lw_all := lw_g (lw_at lw_m1 112 rfl) rfl
theorem q151 : (Jvm.Cond.privateMethod ({ cls := "NetSearch", name := "renew", desc := "()V" } : Jvm.MethodName)) ∈ lw_tbl := lw_at lw_m1 113 rfl
theorem q152 : (Jvm.Cond.instanceMethod ({ cls := "NetSearch", name := "renew", desc := "()V" } : Jvm.MethodName)) ∈ lw_all := lw_g (lw_at lw_m1 114 rfl) rfl
theorem q153 : (Jvm.Cond.code ({ cls := "NetSearch", name := "renew", desc := "()V" } : Jvm.MethodName) prog_1_method_6_code (4 : Nat) (Option.none : Option Jvm.ClassFile.FieldType)) ∈ lw_all := lw_g (lw_at lw_m1 115 rfl) rfl
theorem q154 : (Jvm.Cond.methodLink "NetSearch" (126 : Nat) ({ cls := "NetSearch", name := "cubeBy", desc := "(III)I" } : Jvm.MethodName)) ∈ lw_all := lw_g (lw_at lw_m1 116 rfl) rfl
theorem q155 : (Jvm.Cond.privateMethod ({ cls := "NetSearch", name := "cubeBy", desc := "(III)I" } : Jvm.MethodName)) ∈ lw_tbl := lw_at lw_m1 117 rfl
theorem q156 : (Jvm.Cond.instanceMethod ({ cls := "NetSearch", name := "cubeBy", desc := "(III)I" } : Jvm.MethodName)) ∈ lw_all := lw_g (lw_at lw_m1 118 rfl) rfl
theorem q157 : (Jvm.Cond.code ({ cls := "NetSearch", name := "cubeBy", desc := "(III)I" } : Jvm.MethodName) prog_1_method_4_code (7 : Nat) (Option.some Jvm.ClassFile.FieldType.int)) ∈ lw_all := lw_g (lw_at lw_m1 119 rfl) rfl
theorem q158 : (Jvm.Cond.methodLink "NetSearch" (113 : Nat) ({ cls := "NetSearch", name := "cubeAt", desc := "(III)I" } : Jvm.MethodName)) ∈ lw_all := lw_g (lw_at lw_m1 120 rfl) rfl
theorem q159 : (Jvm.Cond.privateMethod ({ cls := "NetSearch", name := "cubeAt", desc := "(III)I" } : Jvm.MethodName)) ∈ lw_tbl := lw_at lw_m1 121 rfl
theorem q160 : (Jvm.Cond.instanceMethod ({ cls := "NetSearch", name := "cubeAt", desc := "(III)I" } : Jvm.MethodName)) ∈ lw_all := lw_g (lw_at lw_m1 122 rfl) rfl
theorem q161 : (Jvm.Cond.code ({ cls := "NetSearch", name := "cubeAt", desc := "(III)I" } : Jvm.MethodName) prog_1_method_3_code (5 : Nat) (Option.some Jvm.ClassFile.FieldType.int)) ∈ lw_all := lw_g (lw_at lw_m1 123 rfl) rfl
theorem q162 : (Jvm.Cond.methodLink "NetSearch" (132 : Nat) ({ cls := "NetSearch", name := "findAcross", desc := "(LNetSearch$Face;I)V" } : Jvm.MethodName)) ∈ lw_all := lw_g (lw_at lw_m1 124 rfl) rfl
theorem q163 : (Jvm.Cond.privateMethod ({ cls := "NetSearch", name := "findAcross", desc := "(LNetSearch$Face;I)V" } : Jvm.MethodName)) ∈ lw_tbl := lw_at lw_m1 125 rfl
theorem q164 : (Jvm.Cond.instanceMethod ({ cls := "NetSearch", name := "findAcross", desc := "(LNetSearch$Face;I)V" } : Jvm.MethodName)) ∈ lw_all := lw_g (lw_at lw_m1 126 rfl) rfl
theorem q165 : (Jvm.Cond.code ({ cls := "NetSearch", name := "findAcross", desc := "(LNetSearch$Face;I)V" } : Jvm.MethodName) prog_1_method_7_code (5 : Nat) (Option.none : Option Jvm.ClassFile.FieldType)) ∈ lw_all := lw_g (lw_at lw_m1 127 rfl) rfl
theorem q166 : (Jvm.Cond.methodLink "NetSearch" (162 : Nat) ({ cls := "NetSearch", name := "faceAt", desc := "(II)I" } : Jvm.MethodName)) ∈ lw_all := lw_g (lw_at lw_m1 128 rfl) rfl
theorem q167 : (Jvm.Cond.privateMethod ({ cls := "NetSearch", name := "faceAt", desc := "(II)I" } : Jvm.MethodName)) ∈ lw_tbl := lw_at lw_m1 129 rfl
theorem q168 : (Jvm.Cond.instanceMethod ({ cls := "NetSearch", name := "faceAt", desc := "(II)I" } : Jvm.MethodName)) ∈ lw_all := lw_g (lw_at lw_m1 130 rfl) rfl
theorem q169 : (Jvm.Cond.code ({ cls := "NetSearch", name := "faceAt", desc := "(II)I" } : Jvm.MethodName) prog_1_method_5_code (4 : Nat) (Option.some Jvm.ClassFile.FieldType.int)) ∈ lw_all := lw_g (lw_at lw_m1 131 rfl) rfl
theorem q170 : (Jvm.Cond.methodLink "NetSearch" (136 : Nat) ({ cls := "NetSearch$Sheet", name := "clear", desc := "()V" } : Jvm.MethodName)) ∈ lw_all := lw_g (lw_at lw_m1 132 rfl) rfl
theorem q182 : (Jvm.Cond.methodLink "NetSearch" (158 : Nat) ({ cls := "NetSearch$Sheet", name := "first", desc := "(I)V" } : Jvm.MethodName)) ∈ lw_all := lw_g (lw_at lw_m1 144 rfl) rfl
theorem q190 : (Jvm.Cond.fieldLink "NetSearch" (13 : Nat) "NetSearch" "ways" "[LNetSearch$Way;") ∈ lw_all := lw_g (lw_at lw_m1 152 rfl) rfl
theorem q191 : (Jvm.Cond.fieldLink "NetSearch" (19 : Nat) "NetSearch" "firstRight" "[I") ∈ lw_all := lw_g (lw_at lw_m1 153 rfl) rfl
theorem q192 : (Jvm.Cond.fieldLink "NetSearch" (23 : Nat) "NetSearch" "firstUp" "[I") ∈ lw_all := lw_g (lw_at lw_m1 154 rfl) rfl
theorem q193 : (Jvm.Cond.fieldLink "NetSearch" (100 : Nat) "NetSearch" "cubes" "I") ∈ lw_all := lw_g (lw_at lw_m1 155 rfl) rfl
theorem q194 : (Jvm.Cond.fieldLink "NetSearch" (26 : Nat) "NetSearch" "cubeX" "[I") ∈ lw_all := lw_g (lw_at lw_m1 156 rfl) rfl
theorem q195 : (Jvm.Cond.fieldLink "NetSearch" (29 : Nat) "NetSearch" "cubeY" "[I") ∈ lw_all := lw_g (lw_at lw_m1 157 rfl) rfl
theorem q196 : (Jvm.Cond.fieldLink "NetSearch" (32 : Nat) "NetSearch" "cubeZ" "[I") ∈ lw_all := lw_g (lw_at lw_m1 158 rfl) rfl
theorem q197 : (Jvm.Cond.fieldLink "NetSearch" (123 : Nat) "NetSearch" "faces" "I") ∈ lw_all := lw_g (lw_at lw_m1 159 rfl) rfl
theorem q198 : (Jvm.Cond.fieldLink "NetSearch" (37 : Nat) "NetSearch" "face" "[LNetSearch$Face;") ∈ lw_all := lw_g (lw_at lw_m1 160 rfl) rfl
theorem q199 : (Jvm.Cond.fieldLink "NetSearch" (43 : Nat) "NetSearch" "rows" "[[J") ∈ lw_all := lw_g (lw_at lw_m1 161 rfl) rfl
theorem q200 : (Jvm.Cond.fieldLink "NetSearch" (51 : Nat) "NetSearch" "hand" "LNetSearch$Sheet;") ∈ lw_all := lw_g (lw_at lw_m1 162 rfl) rfl
theorem q201 : (Jvm.Cond.fieldLink "NetSearch" (55 : Nat) "NetSearch" "sheet" "LNetSearch$Sheet;") ∈ lw_all := lw_g (lw_at lw_m1 163 rfl) rfl
theorem q202 : (Jvm.Cond.fieldLink "NetSearch" (139 : Nat) "NetSearch" "choices" "I") ∈ lw_all := lw_g (lw_at lw_m1 164 rfl) rfl
theorem q203 : (Jvm.Cond.fieldLink "NetSearch" (58 : Nat) "NetSearch" "choice" "[I") ∈ lw_all := lw_g (lw_at lw_m1 165 rfl) rfl
theorem q204 : (Jvm.Cond.fieldLink "NetSearch" (142 : Nat) "NetSearch" "at" "I") ∈ lw_all := lw_g (lw_at lw_m1 166 rfl) rfl
theorem q205 : (Jvm.Cond.fieldLink "NetSearch" (145 : Nat) "NetSearch" "nets" "I") ∈ lw_all := lw_g (lw_at lw_m1 167 rfl) rfl
theorem q206 : (Jvm.Cond.fieldLink "NetSearch" (148 : Nat) "NetSearch" "work" "I") ∈ lw_all := lw_g (lw_at lw_m1 168 rfl) rfl
theorem q207 : (Jvm.Cond.fieldLink "NetSearch" (151 : Nat) "NetSearch" "hasEnded" "Z") ∈ lw_all := lw_g (lw_at lw_m1 169 rfl) rfl
theorem q208 : (Jvm.Cond.fieldLink "NetSearch" (155 : Nat) "NetSearch" "bestNet" "I") ∈ lw_all := lw_g (lw_at lw_m1 170 rfl) rfl
theorem q209 : (Jvm.Cond.fieldLink "NetSearch" (252 : Nat) "NetSearch" "bestWidth" "I") ∈ lw_all := lw_g (lw_at lw_m1 171 rfl) rfl
theorem q210 : (Jvm.Cond.fieldLink "NetSearch" (255 : Nat) "NetSearch" "bestHeight" "I") ∈ lw_all := lw_g (lw_at lw_m1 172 rfl) rfl
theorem q211 : (Jvm.Cond.fieldLink "NetSearch" (61 : Nat) "NetSearch" "bestX" "[I") ∈ lw_all := lw_g (lw_at lw_m1 173 rfl) rfl
theorem q212 : (Jvm.Cond.fieldLink "NetSearch" (64 : Nat) "NetSearch" "bestY" "[I") ∈ lw_all := lw_g (lw_at lw_m1 174 rfl) rfl
theorem q213 : (Jvm.Cond.fieldLink "NetSearch" (284 : Nat) "NetSearch" "kept" "I") ∈ lw_all := lw_g (lw_at lw_m1 175 rfl) rfl
theorem q214 : (Jvm.Cond.fieldLink "NetSearch" (68 : Nat) "NetSearch" "shapes" "[[I") ∈ lw_all := lw_g (lw_at lw_m1 176 rfl) rfl
theorem q215 : (Jvm.Cond.fieldLink "NetSearch" (72 : Nat) "NetSearch" "sizes" "[I") ∈ lw_all := lw_g (lw_at lw_m1 177 rfl) rfl
theorem q216 : (Jvm.Cond.fieldLink "NetSearch" (75 : Nat) "NetSearch" "image" "[I") ∈ lw_all := lw_g (lw_at lw_m1 178 rfl) rfl
theorem q217 : (Jvm.Cond.fieldLink "NetSearch" (78 : Nat) "NetSearch" "least" "[I") ∈ lw_all := lw_g (lw_at lw_m1 179 rfl) rfl
theorem q218 : (Jvm.Cond.fieldLink "NetSearch" (81 : Nat) "NetSearch" "lain" "[I") ∈ lw_all := lw_g (lw_at lw_m1 180 rfl) rfl
theorem q219 : (Jvm.Cond.fieldLink "NetSearch" (84 : Nat) "NetSearch" "lainRight" "[I") ∈ lw_all := lw_g (lw_at lw_m1 181 rfl) rfl
theorem q220 : (Jvm.Cond.fieldLink "NetSearch" (87 : Nat) "NetSearch" "lainUp" "[I") ∈ lw_all := lw_g (lw_at lw_m1 182 rfl) rfl
theorem q221 : (Jvm.Cond.fieldLink "NetSearch" (90 : Nat) "NetSearch" "beside" "[I") ∈ lw_all := lw_g (lw_at lw_m1 183 rfl) rfl
theorem q222 : (Jvm.Cond.fieldLink "NetSearch" (93 : Nat) "NetSearch" "queue" "[I") ∈ lw_all := lw_g (lw_at lw_m1 184 rfl) rfl
theorem q223 : (Jvm.Cond.laysFinal "NetSearch" "NetSearch" "ways" "[LNetSearch$Way;") ∈ lw_all := lw_g (lw_at lw_m1 185 rfl) rfl
theorem q224 : (Jvm.Cond.soleField "NetSearch" "ways") ∈ lw_all := lw_g (lw_at lw_m1 186 rfl) rfl
theorem q225 : (Jvm.Cond.laysFinal "NetSearch" "NetSearch" "firstRight" "[I") ∈ lw_all := lw_g (lw_at lw_m1 187 rfl) rfl
theorem q226 : (Jvm.Cond.soleField "NetSearch" "firstRight") ∈ lw_all := lw_g (lw_at lw_m1 188 rfl) rfl
theorem q227 : (Jvm.Cond.laysFinal "NetSearch" "NetSearch" "firstUp" "[I") ∈ lw_all := lw_g (lw_at lw_m1 189 rfl) rfl
theorem q228 : (Jvm.Cond.soleField "NetSearch" "firstUp") ∈ lw_all := lw_g (lw_at lw_m1 190 rfl) rfl
theorem q229 : (Jvm.Cond.lays "NetSearch" "NetSearch" "cubes" "I") ∈ lw_all := lw_g (lw_at lw_m1 191 rfl) rfl
theorem q230 : (Jvm.Cond.soleField "NetSearch" "cubes") ∈ lw_all := lw_g (lw_at lw_m1 192 rfl) rfl
theorem q231 : (Jvm.Cond.laysFinal "NetSearch" "NetSearch" "cubeX" "[I") ∈ lw_all := lw_g (lw_at lw_m1 193 rfl) rfl
theorem q232 : (Jvm.Cond.soleField "NetSearch" "cubeX") ∈ lw_all := lw_g (lw_at lw_m1 194 rfl) rfl
theorem q233 : (Jvm.Cond.laysFinal "NetSearch" "NetSearch" "cubeY" "[I") ∈ lw_all := lw_g (lw_at lw_m1 195 rfl) rfl
theorem q234 : (Jvm.Cond.soleField "NetSearch" "cubeY") ∈ lw_all := lw_g (lw_at lw_m1 196 rfl) rfl
theorem q235 : (Jvm.Cond.laysFinal "NetSearch" "NetSearch" "cubeZ" "[I") ∈ lw_all := lw_g (lw_at lw_m1 197 rfl) rfl
theorem q236 : (Jvm.Cond.soleField "NetSearch" "cubeZ") ∈ lw_all := lw_g (lw_at lw_m1 198 rfl) rfl
theorem q237 : (Jvm.Cond.lays "NetSearch" "NetSearch" "faces" "I") ∈ lw_all := lw_g (lw_at lw_m1 199 rfl) rfl
theorem q238 : (Jvm.Cond.soleField "NetSearch" "faces") ∈ lw_all := lw_g (lw_at lw_m1 200 rfl) rfl
theorem q239 : (Jvm.Cond.laysFinal "NetSearch" "NetSearch" "face" "[LNetSearch$Face;") ∈ lw_all := lw_g (lw_at lw_m1 201 rfl) rfl
theorem q240 : (Jvm.Cond.soleField "NetSearch" "face") ∈ lw_all := lw_g (lw_at lw_m1 202 rfl) rfl
theorem q241 : (Jvm.Cond.laysFinal "NetSearch" "NetSearch" "rows" "[[J") ∈ lw_all := lw_g (lw_at lw_m1 203 rfl) rfl
theorem q242 : (Jvm.Cond.soleField "NetSearch" "rows") ∈ lw_all := lw_g (lw_at lw_m1 204 rfl) rfl
theorem q243 : (Jvm.Cond.laysFinal "NetSearch" "NetSearch" "hand" "LNetSearch$Sheet;") ∈ lw_all := lw_g (lw_at lw_m1 205 rfl) rfl
theorem q244 : (Jvm.Cond.soleField "NetSearch" "hand") ∈ lw_all := lw_g (lw_at lw_m1 206 rfl) rfl
theorem q245 : (Jvm.Cond.laysFinal "NetSearch" "NetSearch" "sheet" "LNetSearch$Sheet;") ∈ lw_all := lw_g (lw_at lw_m1 207 rfl) rfl
theorem q246 : (Jvm.Cond.soleField "NetSearch" "sheet") ∈ lw_all := lw_g (lw_at lw_m1 208 rfl) rfl
theorem q247 : (Jvm.Cond.lays "NetSearch" "NetSearch" "choices" "I") ∈ lw_all := lw_g (lw_at lw_m1 209 rfl) rfl
theorem q248 : (Jvm.Cond.soleField "NetSearch" "choices") ∈ lw_all := lw_g (lw_at lw_m1 210 rfl) rfl
theorem q249 : (Jvm.Cond.laysFinal "NetSearch" "NetSearch" "choice" "[I") ∈ lw_all := lw_g (lw_at lw_m1 211 rfl) rfl
theorem q250 : (Jvm.Cond.soleField "NetSearch" "choice") ∈ lw_all := lw_g (lw_at lw_m1 212 rfl) rfl
theorem q251 : (Jvm.Cond.lays "NetSearch" "NetSearch" "at" "I") ∈ lw_all := lw_g (lw_at lw_m1 213 rfl) rfl
theorem q252 : (Jvm.Cond.soleField "NetSearch" "at") ∈ lw_all := lw_g (lw_at lw_m1 214 rfl) rfl
theorem q253 : (Jvm.Cond.lays "NetSearch" "NetSearch" "nets" "I") ∈ lw_all := lw_g (lw_at lw_m1 215 rfl) rfl
theorem q254 : (Jvm.Cond.soleField "NetSearch" "nets") ∈ lw_all := lw_g (lw_at lw_m1 216 rfl) rfl
theorem q255 : (Jvm.Cond.lays "NetSearch" "NetSearch" "work" "I") ∈ lw_all := lw_g (lw_at lw_m1 217 rfl) rfl
theorem q256 : (Jvm.Cond.soleField "NetSearch" "work") ∈ lw_all := lw_g (lw_at lw_m1 218 rfl) rfl
theorem q257 : (Jvm.Cond.lays "NetSearch" "NetSearch" "hasEnded" "Z") ∈ lw_all := lw_g (lw_at lw_m1 219 rfl) rfl
theorem q258 : (Jvm.Cond.soleField "NetSearch" "hasEnded") ∈ lw_all := lw_g (lw_at lw_m1 220 rfl) rfl
theorem q259 : (Jvm.Cond.lays "NetSearch" "NetSearch" "bestNet" "I") ∈ lw_all := lw_g (lw_at lw_m1 221 rfl) rfl
theorem q260 : (Jvm.Cond.soleField "NetSearch" "bestNet") ∈ lw_all := lw_g (lw_at lw_m1 222 rfl) rfl
theorem q261 : (Jvm.Cond.lays "NetSearch" "NetSearch" "bestWidth" "I") ∈ lw_all := lw_g (lw_at lw_m1 223 rfl) rfl
theorem q262 : (Jvm.Cond.soleField "NetSearch" "bestWidth") ∈ lw_all := lw_g (lw_at lw_m1 224 rfl) rfl
theorem q263 : (Jvm.Cond.lays "NetSearch" "NetSearch" "bestHeight" "I") ∈ lw_all := lw_g (lw_at lw_m1 225 rfl) rfl
theorem q264 : (Jvm.Cond.soleField "NetSearch" "bestHeight") ∈ lw_all := lw_g (lw_at lw_m1 226 rfl) rfl
theorem q265 : (Jvm.Cond.laysFinal "NetSearch" "NetSearch" "bestX" "[I") ∈ lw_all := lw_g (lw_at lw_m1 227 rfl) rfl
theorem q266 : (Jvm.Cond.soleField "NetSearch" "bestX") ∈ lw_all := lw_g (lw_at lw_m1 228 rfl) rfl
theorem q267 : (Jvm.Cond.laysFinal "NetSearch" "NetSearch" "bestY" "[I") ∈ lw_all := lw_g (lw_at lw_m1 229 rfl) rfl
theorem q268 : (Jvm.Cond.soleField "NetSearch" "bestY") ∈ lw_all := lw_g (lw_at lw_m1 230 rfl) rfl
theorem q269 : (Jvm.Cond.lays "NetSearch" "NetSearch" "kept" "I") ∈ lw_all := lw_g (lw_at lw_m1 231 rfl) rfl
theorem q270 : (Jvm.Cond.soleField "NetSearch" "kept") ∈ lw_all := lw_g (lw_at lw_m1 232 rfl) rfl
theorem q271 : (Jvm.Cond.laysFinal "NetSearch" "NetSearch" "shapes" "[[I") ∈ lw_all := lw_g (lw_at lw_m1 233 rfl) rfl
theorem q272 : (Jvm.Cond.soleField "NetSearch" "shapes") ∈ lw_all := lw_g (lw_at lw_m1 234 rfl) rfl
theorem q273 : (Jvm.Cond.laysFinal "NetSearch" "NetSearch" "sizes" "[I") ∈ lw_all := lw_g (lw_at lw_m1 235 rfl) rfl
theorem q274 : (Jvm.Cond.soleField "NetSearch" "sizes") ∈ lw_all := lw_g (lw_at lw_m1 236 rfl) rfl
theorem q275 : (Jvm.Cond.laysFinal "NetSearch" "NetSearch" "image" "[I") ∈ lw_all := lw_g (lw_at lw_m1 237 rfl) rfl
theorem q276 : (Jvm.Cond.soleField "NetSearch" "image") ∈ lw_all := lw_g (lw_at lw_m1 238 rfl) rfl
theorem q277 : (Jvm.Cond.laysFinal "NetSearch" "NetSearch" "least" "[I") ∈ lw_all := lw_g (lw_at lw_m1 239 rfl) rfl
theorem q278 : (Jvm.Cond.soleField "NetSearch" "least") ∈ lw_all := lw_g (lw_at lw_m2 0 rfl) rfl
theorem q279 : (Jvm.Cond.laysFinal "NetSearch" "NetSearch" "lain" "[I") ∈ lw_all := lw_g (lw_at lw_m2 1 rfl) rfl
theorem q280 : (Jvm.Cond.soleField "NetSearch" "lain") ∈ lw_all := lw_g (lw_at lw_m2 2 rfl) rfl
theorem q281 : (Jvm.Cond.laysFinal "NetSearch" "NetSearch" "lainRight" "[I") ∈ lw_all := lw_g (lw_at lw_m2 3 rfl) rfl
theorem q282 : (Jvm.Cond.soleField "NetSearch" "lainRight") ∈ lw_all := lw_g (lw_at lw_m2 4 rfl) rfl
theorem q283 : (Jvm.Cond.laysFinal "NetSearch" "NetSearch" "lainUp" "[I") ∈ lw_all := lw_g (lw_at lw_m2 5 rfl) rfl
theorem q284 : (Jvm.Cond.soleField "NetSearch" "lainUp") ∈ lw_all := lw_g (lw_at lw_m2 6 rfl) rfl
theorem q285 : (Jvm.Cond.laysFinal "NetSearch" "NetSearch" "beside" "[I") ∈ lw_all := lw_g (lw_at lw_m2 7 rfl) rfl
theorem q286 : (Jvm.Cond.soleField "NetSearch" "beside") ∈ lw_all := lw_g (lw_at lw_m2 8 rfl) rfl
theorem q287 : (Jvm.Cond.laysFinal "NetSearch" "NetSearch" "queue" "[I") ∈ lw_all := lw_g (lw_at lw_m2 9 rfl) rfl
theorem q288 : (Jvm.Cond.soleField "NetSearch" "queue") ∈ lw_all := lw_g (lw_at lw_m2 10 rfl) rfl
theorem q289 : (Jvm.Cond.superclass "NetSearch" "java/lang/Object") ∈ lw_all := lw_g (lw_at lw_m2 11 rfl) rfl
theorem q291 : (Jvm.Cond.instanceMethod ({ cls := "NetSearch", name := "cube", desc := "(III)I" } : Jvm.MethodName)) ∈ lw_all := lw_g (lw_at lw_m2 13 rfl) rfl
theorem q292 : (Jvm.Cond.selects "NetSearch" ({ cls := "NetSearch", name := "cube", desc := "(III)I" } : Jvm.MethodName) ({ cls := "NetSearch", name := "cube", desc := "(III)I" } : Jvm.MethodName)) ∈ lw_all := lw_g (lw_at lw_m2 14 rfl) rfl
theorem q293 : (Jvm.Cond.code ({ cls := "NetSearch", name := "cube", desc := "(III)I" } : Jvm.MethodName) prog_1_method_8_code (9 : Nat) (Option.some Jvm.ClassFile.FieldType.int)) ∈ lw_all := lw_g (lw_at lw_m2 15 rfl) rfl
theorem q294 : (Jvm.Cond.methodLink "NetSearch" (169 : Nat) ({ cls := "NetSearch", name := "in", desc := "(III)Z" } : Jvm.MethodName)) ∈ lw_all := lw_g (lw_at lw_m2 16 rfl) rfl
theorem q295 : (Jvm.Cond.static ({ cls := "NetSearch", name := "in", desc := "(III)Z" } : Jvm.MethodName)) ∈ lw_all := lw_g (lw_at lw_m2 17 rfl) rfl
theorem q296 : (Jvm.Cond.code ({ cls := "NetSearch", name := "in", desc := "(III)Z" } : Jvm.MethodName) prog_1_method_1_code (3 : Nat) (Option.some Jvm.ClassFile.FieldType.boolean)) ∈ lw_all := lw_g (lw_at lw_m2 18 rfl) rfl
theorem q298 : (Jvm.Cond.instanceMethod ({ cls := "NetSearch", name := "clear", desc := "()I" } : Jvm.MethodName)) ∈ lw_all := lw_g (lw_at lw_m2 20 rfl) rfl
theorem q299 : (Jvm.Cond.selects "NetSearch" ({ cls := "NetSearch", name := "clear", desc := "()I" } : Jvm.MethodName) ({ cls := "NetSearch", name := "clear", desc := "()I" } : Jvm.MethodName)) ∈ lw_all := lw_g (lw_at lw_m2 21 rfl) rfl
theorem q300 : (Jvm.Cond.code ({ cls := "NetSearch", name := "clear", desc := "()I" } : Jvm.MethodName) prog_1_method_9_code (2 : Nat) (Option.some Jvm.ClassFile.FieldType.int)) ∈ lw_all := lw_g (lw_at lw_m2 22 rfl) rfl
theorem q302 : (Jvm.Cond.instanceMethod ({ cls := "NetSearch", name := "face", desc := "(II)I" } : Jvm.MethodName)) ∈ lw_all := lw_g (lw_at lw_m2 24 rfl) rfl
theorem q303 : (Jvm.Cond.selects "NetSearch" ({ cls := "NetSearch", name := "face", desc := "(II)I" } : Jvm.MethodName) ({ cls := "NetSearch", name := "face", desc := "(II)I" } : Jvm.MethodName)) ∈ lw_all := lw_g (lw_at lw_m2 25 rfl) rfl
theorem q304 : (Jvm.Cond.code ({ cls := "NetSearch", name := "face", desc := "(II)I" } : Jvm.MethodName) prog_1_method_11_code (3 : Nat) (Option.some Jvm.ClassFile.FieldType.int)) ∈ lw_all := lw_g (lw_at lw_m2 26 rfl) rfl
theorem q305 : (Jvm.Cond.methodLink "NetSearch" (173 : Nat) ({ cls := "NetSearch", name := "isFace", desc := "(I)Z" } : Jvm.MethodName)) ∈ lw_all := lw_g (lw_at lw_m2 27 rfl) rfl
theorem q306 : (Jvm.Cond.privateMethod ({ cls := "NetSearch", name := "isFace", desc := "(I)Z" } : Jvm.MethodName)) ∈ lw_tbl := lw_at lw_m2 28 rfl
theorem q307 : (Jvm.Cond.instanceMethod ({ cls := "NetSearch", name := "isFace", desc := "(I)Z" } : Jvm.MethodName)) ∈ lw_all := lw_g (lw_at lw_m2 29 rfl) rfl
theorem q308 : (Jvm.Cond.code ({ cls := "NetSearch", name := "isFace", desc := "(I)Z" } : Jvm.MethodName) prog_1_method_10_code (2 : Nat) (Option.some Jvm.ClassFile.FieldType.boolean)) ∈ lw_all := lw_g (lw_at lw_m2 30 rfl) rfl
theorem q310 : (Jvm.Cond.instanceMethod ({ cls := "NetSearch", name := "across", desc := "(II)I" } : Jvm.MethodName)) ∈ lw_all := lw_g (lw_at lw_m2 32 rfl) rfl
theorem q311 : (Jvm.Cond.selects "NetSearch" ({ cls := "NetSearch", name := "across", desc := "(II)I" } : Jvm.MethodName) ({ cls := "NetSearch", name := "across", desc := "(II)I" } : Jvm.MethodName)) ∈ lw_all := lw_g (lw_at lw_m2 33 rfl) rfl
theorem q312 : (Jvm.Cond.code ({ cls := "NetSearch", name := "across", desc := "(II)I" } : Jvm.MethodName) prog_1_method_12_code (3 : Nat) (Option.some Jvm.ClassFile.FieldType.int)) ∈ lw_all := lw_g (lw_at lw_m2 34 rfl) rfl
theorem q314 : (Jvm.Cond.instanceMethod ({ cls := "NetSearch", name := "trees", desc := "()J" } : Jvm.MethodName)) ∈ lw_all := lw_g (lw_at lw_m2 36 rfl) rfl
theorem q315 : (Jvm.Cond.selects "NetSearch" ({ cls := "NetSearch", name := "trees", desc := "()J" } : Jvm.MethodName) ({ cls := "NetSearch", name := "trees", desc := "()J" } : Jvm.MethodName)) ∈ lw_all := lw_g (lw_at lw_m2 37 rfl) rfl
theorem q316 : (Jvm.Cond.code ({ cls := "NetSearch", name := "trees", desc := "()J" } : Jvm.MethodName) prog_1_method_15_code (11 : Nat) (Option.some Jvm.ClassFile.FieldType.long)) ∈ lw_all := lw_g (lw_at lw_m2 38 rfl) rfl
theorem q317 : (Jvm.Cond.constantLong "NetSearch" (191 : Nat) (-2 : Int64)) ∈ lw_all := lw_g (lw_at lw_m2 39 rfl) rfl
theorem q318 : (Jvm.Cond.constantLong "NetSearch" (193 : Nat) (2147483647 : Int64)) ∈ lw_all := lw_g (lw_at lw_m2 40 rfl) rfl
theorem q319 : (Jvm.Cond.constantLong "NetSearch" (195 : Nat) (2147483629 : Int64)) ∈ lw_all := lw_g (lw_at lw_m2 41 rfl) rfl
theorem q320 : (Jvm.Cond.methodLink "NetSearch" (197 : Nat) ({ cls := "NetSearch", name := "treesBy", desc := "(J)J" } : Jvm.MethodName)) ∈ lw_all := lw_g (lw_at lw_m2 42 rfl) rfl
theorem q321 : (Jvm.Cond.privateMethod ({ cls := "NetSearch", name := "treesBy", desc := "(J)J" } : Jvm.MethodName)) ∈ lw_tbl := lw_at lw_m2 43 rfl
theorem q322 : (Jvm.Cond.instanceMethod ({ cls := "NetSearch", name := "treesBy", desc := "(J)J" } : Jvm.MethodName)) ∈ lw_all := lw_g (lw_at lw_m2 44 rfl) rfl
theorem q323 : (Jvm.Cond.code ({ cls := "NetSearch", name := "treesBy", desc := "(J)J" } : Jvm.MethodName) prog_1_method_13_code (14 : Nat) (Option.some Jvm.ClassFile.FieldType.long)) ∈ lw_all := lw_g (lw_at lw_m2 45 rfl) rfl
theorem q324 : (Jvm.Cond.methodLink "NetSearch" (177 : Nat) ({ cls := "java/util/Arrays", name := "fill", desc := "([JJ)V" } : Jvm.MethodName)) ∈ lw_all := lw_g (lw_at lw_m2 46 rfl) rfl
theorem q327 : (Jvm.Cond.constantLong "NetSearch" (183 : Nat) (4 : Int64)) ∈ lw_all := lw_g (lw_at lw_m2 49 rfl) rfl
theorem q328 : (Jvm.Cond.constantLong "NetSearch" (185 : Nat) (2 : Int64)) ∈ lw_all := lw_g (lw_at lw_m2 50 rfl) rfl
theorem q329 : (Jvm.Cond.methodLink "NetSearch" (187 : Nat) ({ cls := "NetSearch", name := "power", desc := "(JJJ)J" } : Jvm.MethodName)) ∈ lw_all := lw_g (lw_at lw_m2 51 rfl) rfl
theorem q330 : (Jvm.Cond.static ({ cls := "NetSearch", name := "power", desc := "(JJJ)J" } : Jvm.MethodName)) ∈ lw_all := lw_g (lw_at lw_m2 52 rfl) rfl
theorem q331 : (Jvm.Cond.code ({ cls := "NetSearch", name := "power", desc := "(JJJ)J" } : Jvm.MethodName) prog_1_method_14_code (12 : Nat) (Option.some Jvm.ClassFile.FieldType.long)) ∈ lw_all := lw_g (lw_at lw_m2 53 rfl) rfl
theorem q333 : (Jvm.Cond.instanceMethod ({ cls := "NetSearch", name := "lay", desc := "(I)I" } : Jvm.MethodName)) ∈ lw_all := lw_g (lw_at lw_m2 55 rfl) rfl
theorem q334 : (Jvm.Cond.selects "NetSearch" ({ cls := "NetSearch", name := "lay", desc := "(I)I" } : Jvm.MethodName) ({ cls := "NetSearch", name := "lay", desc := "(I)I" } : Jvm.MethodName)) ∈ lw_all := lw_g (lw_at lw_m2 56 rfl) rfl
theorem q335 : (Jvm.Cond.code ({ cls := "NetSearch", name := "lay", desc := "(I)I" } : Jvm.MethodName) prog_1_method_16_code (2 : Nat) (Option.some Jvm.ClassFile.FieldType.int)) ∈ lw_all := lw_g (lw_at lw_m2 57 rfl) rfl
theorem q337 : (Jvm.Cond.instanceMethod ({ cls := "NetSearch", name := "grow", desc := "(II)I" } : Jvm.MethodName)) ∈ lw_all := lw_g (lw_at lw_m2 59 rfl) rfl
theorem q338 : (Jvm.Cond.selects "NetSearch" ({ cls := "NetSearch", name := "grow", desc := "(II)I" } : Jvm.MethodName) ({ cls := "NetSearch", name := "grow", desc := "(II)I" } : Jvm.MethodName)) ∈ lw_all := lw_g (lw_at lw_m2 60 rfl) rfl
theorem q339 : (Jvm.Cond.code ({ cls := "NetSearch", name := "grow", desc := "(II)I" } : Jvm.MethodName) prog_1_method_17_code (5 : Nat) (Option.some Jvm.ClassFile.FieldType.int)) ∈ lw_all := lw_g (lw_at lw_m2 61 rfl) rfl
theorem q340 : (Jvm.Cond.methodLink "NetSearch" (205 : Nat) ({ cls := "NetSearch$Sheet", name := "across", desc := "(II)I" } : Jvm.MethodName)) ∈ lw_all := lw_g (lw_at lw_m2 62 rfl) rfl
theorem q348 : (Jvm.Cond.methodLink "NetSearch" (207 : Nat) ({ cls := "NetSearch$Sheet", name := "nextX", desc := "(II)I" } : Jvm.MethodName)) ∈ lw_all := lw_g (lw_at lw_m2 70 rfl) rfl
theorem q352 : (Jvm.Cond.methodLink "NetSearch" (210 : Nat) ({ cls := "NetSearch$Sheet", name := "nextY", desc := "(II)I" } : Jvm.MethodName)) ∈ lw_all := lw_g (lw_at lw_m2 74 rfl) rfl
theorem q356 : (Jvm.Cond.methodLink "NetSearch" (213 : Nat) ({ cls := "NetSearch$Sheet", name := "at", desc := "(II)I" } : Jvm.MethodName)) ∈ lw_all := lw_g (lw_at lw_m2 78 rfl) rfl
theorem q360 : (Jvm.Cond.methodLink "NetSearch" (215 : Nat) ({ cls := "NetSearch$Sheet", name := "join", desc := "(II)V" } : Jvm.MethodName)) ∈ lw_all := lw_g (lw_at lw_m2 82 rfl) rfl
theorem q372 : (Jvm.Cond.instanceMethod ({ cls := "NetSearch", name := "paper", desc := "(II)I" } : Jvm.MethodName)) ∈ lw_all := lw_g (lw_at lw_m2 94 rfl) rfl
theorem q373 : (Jvm.Cond.selects "NetSearch" ({ cls := "NetSearch", name := "paper", desc := "(II)I" } : Jvm.MethodName) ({ cls := "NetSearch", name := "paper", desc := "(II)I" } : Jvm.MethodName)) ∈ lw_all := lw_g (lw_at lw_m2 95 rfl) rfl
theorem q374 : (Jvm.Cond.code ({ cls := "NetSearch", name := "paper", desc := "(II)I" } : Jvm.MethodName) prog_1_method_18_code (3 : Nat) (Option.some Jvm.ClassFile.FieldType.int)) ∈ lw_all := lw_g (lw_at lw_m2 96 rfl) rfl
theorem q376 : (Jvm.Cond.instanceMethod ({ cls := "NetSearch", name := "run", desc := "(I)I" } : Jvm.MethodName)) ∈ lw_all := lw_g (lw_at lw_m2 98 rfl) rfl
theorem q377 : (Jvm.Cond.selects "NetSearch" ({ cls := "NetSearch", name := "run", desc := "(I)I" } : Jvm.MethodName) ({ cls := "NetSearch", name := "run", desc := "(I)I" } : Jvm.MethodName)) ∈ lw_all := lw_g (lw_at lw_m2 99 rfl) rfl
theorem q378 : (Jvm.Cond.code ({ cls := "NetSearch", name := "run", desc := "(I)I" } : Jvm.MethodName) prog_1_method_19_code (6 : Nat) (Option.some Jvm.ClassFile.FieldType.int)) ∈ lw_all := lw_g (lw_at lw_m2 100 rfl) rfl
theorem q379 : (Jvm.Cond.methodLink "NetSearch" (232 : Nat) ({ cls := "NetSearch", name := "found", desc := "()V" } : Jvm.MethodName)) ∈ lw_all := lw_g (lw_at lw_m2 101 rfl) rfl
theorem q380 : (Jvm.Cond.privateMethod ({ cls := "NetSearch", name := "found", desc := "()V" } : Jvm.MethodName)) ∈ lw_tbl := lw_at lw_m2 102 rfl
theorem q381 : (Jvm.Cond.instanceMethod ({ cls := "NetSearch", name := "found", desc := "()V" } : Jvm.MethodName)) ∈ lw_all := lw_g (lw_at lw_m2 103 rfl) rfl
theorem q382 : (Jvm.Cond.code ({ cls := "NetSearch", name := "found", desc := "()V" } : Jvm.MethodName) prog_1_method_21_code (7 : Nat) (Option.none : Option Jvm.ClassFile.FieldType)) ∈ lw_all := lw_g (lw_at lw_m2 104 rfl) rfl
theorem q383 : (Jvm.Cond.methodLink "NetSearch" (244 : Nat) ({ cls := "java/lang/Math", name := "min", desc := "(II)I" } : Jvm.MethodName)) ∈ lw_all := lw_g (lw_at lw_m2 105 rfl) rfl
theorem q386 : (Jvm.Cond.methodLink "NetSearch" (249 : Nat) ({ cls := "java/lang/Math", name := "max", desc := "(II)I" } : Jvm.MethodName)) ∈ lw_all := lw_g (lw_at lw_m2 108 rfl) rfl
theorem q389 : (Jvm.Cond.methodLink "NetSearch" (258 : Nat) ({ cls := "java/lang/System", name := "arraycopy", desc := "(Ljava/lang/Object;ILjava/lang/Object;II)V" } : Jvm.MethodName)) ∈ lw_all := lw_g (lw_at lw_m2 111 rfl) rfl
theorem q392 : (Jvm.Cond.methodLink "NetSearch" (264 : Nat) ({ cls := "NetSearch", name := "keep", desc := "()V" } : Jvm.MethodName)) ∈ lw_all := lw_g (lw_at lw_m2 114 rfl) rfl
theorem q393 : (Jvm.Cond.privateMethod ({ cls := "NetSearch", name := "keep", desc := "()V" } : Jvm.MethodName)) ∈ lw_tbl := lw_at lw_m2 115 rfl
theorem q394 : (Jvm.Cond.instanceMethod ({ cls := "NetSearch", name := "keep", desc := "()V" } : Jvm.MethodName)) ∈ lw_all := lw_g (lw_at lw_m2 116 rfl) rfl
theorem q395 : (Jvm.Cond.code ({ cls := "NetSearch", name := "keep", desc := "()V" } : Jvm.MethodName) prog_1_method_26_code (2 : Nat) (Option.none : Option Jvm.ClassFile.FieldType)) ∈ lw_all := lw_g (lw_at lw_m2 117 rfl) rfl
theorem q396 : (Jvm.Cond.methodLink "NetSearch" (277 : Nat) ({ cls := "NetSearch", name := "imageBy", desc := "(I)V" } : Jvm.MethodName)) ∈ lw_all := lw_g (lw_at lw_m2 118 rfl) rfl
theorem q397 : (Jvm.Cond.privateMethod ({ cls := "NetSearch", name := "imageBy", desc := "(I)V" } : Jvm.MethodName)) ∈ lw_tbl := lw_at lw_m2 119 rfl
theorem q398 : (Jvm.Cond.instanceMethod ({ cls := "NetSearch", name := "imageBy", desc := "(I)V" } : Jvm.MethodName)) ∈ lw_all := lw_g (lw_at lw_m2 120 rfl) rfl
theorem q399 : (Jvm.Cond.code ({ cls := "NetSearch", name := "imageBy", desc := "(I)V" } : Jvm.MethodName) prog_1_method_24_code (7 : Nat) (Option.none : Option Jvm.ClassFile.FieldType)) ∈ lw_all := lw_g (lw_at lw_m2 121 rfl) rfl
theorem q400 : (Jvm.Cond.methodLink "NetSearch" (267 : Nat) ({ cls := "NetSearch", name := "turnedX", desc := "(III)I" } : Jvm.MethodName)) ∈ lw_all := lw_g (lw_at lw_m2 122 rfl) rfl
theorem q401 : (Jvm.Cond.static ({ cls := "NetSearch", name := "turnedX", desc := "(III)I" } : Jvm.MethodName)) ∈ lw_all := lw_g (lw_at lw_m2 123 rfl) rfl
theorem q402 : (Jvm.Cond.code ({ cls := "NetSearch", name := "turnedX", desc := "(III)I" } : Jvm.MethodName) prog_1_method_22_code (4 : Nat) (Option.some Jvm.ClassFile.FieldType.int)) ∈ lw_all := lw_g (lw_at lw_m2 124 rfl) rfl
theorem q403 : (Jvm.Cond.methodLink "NetSearch" (270 : Nat) ({ cls := "NetSearch", name := "turnedY", desc := "(III)I" } : Jvm.MethodName)) ∈ lw_all := lw_g (lw_at lw_m2 125 rfl) rfl
theorem q404 : (Jvm.Cond.static ({ cls := "NetSearch", name := "turnedY", desc := "(III)I" } : Jvm.MethodName)) ∈ lw_all := lw_g (lw_at lw_m2 126 rfl) rfl
theorem q405 : (Jvm.Cond.code ({ cls := "NetSearch", name := "turnedY", desc := "(III)I" } : Jvm.MethodName) prog_1_method_23_code (4 : Nat) (Option.some Jvm.ClassFile.FieldType.int)) ∈ lw_all := lw_g (lw_at lw_m2 127 rfl) rfl
theorem q406 : (Jvm.Cond.methodLink "NetSearch" (273 : Nat) ({ cls := "java/util/Arrays", name := "sort", desc := "([III)V" } : Jvm.MethodName)) ∈ lw_all := lw_g (lw_at lw_m2 128 rfl) rfl
theorem q450 : (Jvm.Cond.methodLink "NetSearch" (280 : Nat) ({ cls := "NetSearch", name := "isLess", desc := "([I[II)Z" } : Jvm.MethodName)) ∈ lw_all := lw_g (lw_at lw_m2 172 rfl) rfl
theorem q451 : (Jvm.Cond.static ({ cls := "NetSearch", name := "isLess", desc := "([I[II)Z" } : Jvm.MethodName)) ∈ lw_all := lw_g (lw_at lw_m2 173 rfl) rfl
theorem q452 : (Jvm.Cond.code ({ cls := "NetSearch", name := "isLess", desc := "([I[II)Z" } : Jvm.MethodName) prog_1_method_25_code (4 : Nat) (Option.some Jvm.ClassFile.FieldType.boolean)) ∈ lw_all := lw_g (lw_at lw_m2 174 rfl) rfl
theorem q453 : (Jvm.Cond.methodLink "NetSearch" (235 : Nat) ({ cls := "NetSearch", name := "back", desc := "()V" } : Jvm.MethodName)) ∈ lw_all := lw_g (lw_at lw_m2 175 rfl) rfl
theorem q454 : (Jvm.Cond.privateMethod ({ cls := "NetSearch", name := "back", desc := "()V" } : Jvm.MethodName)) ∈ lw_tbl := lw_at lw_m2 176 rfl
theorem q455 : (Jvm.Cond.instanceMethod ({ cls := "NetSearch", name := "back", desc := "()V" } : Jvm.MethodName)) ∈ lw_all := lw_g (lw_at lw_m2 177 rfl) rfl
theorem q456 : (Jvm.Cond.code ({ cls := "NetSearch", name := "back", desc := "()V" } : Jvm.MethodName) prog_1_method_20_code (1 : Nat) (Option.none : Option Jvm.ClassFile.FieldType)) ∈ lw_all := lw_g (lw_at lw_m2 178 rfl) rfl
theorem q457 : (Jvm.Cond.methodLink "NetSearch" (241 : Nat) ({ cls := "NetSearch$Sheet", name := "drop", desc := "()V" } : Jvm.MethodName)) ∈ lw_all := lw_g (lw_at lw_m2 179 rfl) rfl
theorem q459 : (Jvm.Cond.instanceMethod ({ cls := "NetSearch", name := "forget", desc := "()I" } : Jvm.MethodName)) ∈ lw_all := lw_g (lw_at lw_m2 181 rfl) rfl
theorem q460 : (Jvm.Cond.selects "NetSearch" ({ cls := "NetSearch", name := "forget", desc := "()I" } : Jvm.MethodName) ({ cls := "NetSearch", name := "forget", desc := "()I" } : Jvm.MethodName)) ∈ lw_all := lw_g (lw_at lw_m2 182 rfl) rfl
theorem q461 : (Jvm.Cond.code ({ cls := "NetSearch", name := "forget", desc := "()I" } : Jvm.MethodName) prog_1_method_27_code (2 : Nat) (Option.some Jvm.ClassFile.FieldType.int)) ∈ lw_all := lw_g (lw_at lw_m2 183 rfl) rfl
theorem q463 : (Jvm.Cond.instanceMethod ({ cls := "NetSearch", name := "told", desc := "(I)I" } : Jvm.MethodName)) ∈ lw_all := lw_g (lw_at lw_m2 185 rfl) rfl
theorem q464 : (Jvm.Cond.selects "NetSearch" ({ cls := "NetSearch", name := "told", desc := "(I)I" } : Jvm.MethodName) ({ cls := "NetSearch", name := "told", desc := "(I)I" } : Jvm.MethodName)) ∈ lw_all := lw_g (lw_at lw_m2 186 rfl) rfl
theorem q465 : (Jvm.Cond.code ({ cls := "NetSearch", name := "told", desc := "(I)I" } : Jvm.MethodName) prog_1_method_28_code (2 : Nat) (Option.some Jvm.ClassFile.FieldType.int)) ∈ lw_all := lw_g (lw_at lw_m2 187 rfl) rfl
theorem q467 : (Jvm.Cond.instanceMethod ({ cls := "NetSearch", name := "best", desc := "(II)I" } : Jvm.MethodName)) ∈ lw_all := lw_g (lw_at lw_m2 189 rfl) rfl
theorem q468 : (Jvm.Cond.selects "NetSearch" ({ cls := "NetSearch", name := "best", desc := "(II)I" } : Jvm.MethodName) ({ cls := "NetSearch", name := "best", desc := "(II)I" } : Jvm.MethodName)) ∈ lw_all := lw_g (lw_at lw_m2 190 rfl) rfl
theorem q469 : (Jvm.Cond.code ({ cls := "NetSearch", name := "best", desc := "(II)I" } : Jvm.MethodName) prog_1_method_29_code (3 : Nat) (Option.some Jvm.ClassFile.FieldType.int)) ∈ lw_all := lw_g (lw_at lw_m2 191 rfl) rfl
theorem q471 : (Jvm.Cond.instanceMethod ({ cls := "NetSearch", name := "size", desc := "(I)I" } : Jvm.MethodName)) ∈ lw_all := lw_g (lw_at lw_m2 193 rfl) rfl
theorem q472 : (Jvm.Cond.selects "NetSearch" ({ cls := "NetSearch", name := "size", desc := "(I)I" } : Jvm.MethodName) ({ cls := "NetSearch", name := "size", desc := "(I)I" } : Jvm.MethodName)) ∈ lw_all := lw_g (lw_at lw_m2 194 rfl) rfl
theorem q473 : (Jvm.Cond.code ({ cls := "NetSearch", name := "size", desc := "(I)I" } : Jvm.MethodName) prog_1_method_30_code (2 : Nat) (Option.some Jvm.ClassFile.FieldType.int)) ∈ lw_all := lw_g (lw_at lw_m2 195 rfl) rfl
theorem q475 : (Jvm.Cond.instanceMethod ({ cls := "NetSearch", name := "shape", desc := "(III)I" } : Jvm.MethodName)) ∈ lw_all := lw_g (lw_at lw_m2 197 rfl) rfl
theorem q476 : (Jvm.Cond.selects "NetSearch" ({ cls := "NetSearch", name := "shape", desc := "(III)I" } : Jvm.MethodName) ({ cls := "NetSearch", name := "shape", desc := "(III)I" } : Jvm.MethodName)) ∈ lw_all := lw_g (lw_at lw_m2 198 rfl) rfl
theorem q477 : (Jvm.Cond.code ({ cls := "NetSearch", name := "shape", desc := "(III)I" } : Jvm.MethodName) prog_1_method_31_code (4 : Nat) (Option.some Jvm.ClassFile.FieldType.int)) ∈ lw_all := lw_g (lw_at lw_m2 199 rfl) rfl
theorem q479 : (Jvm.Cond.instanceMethod ({ cls := "NetSearch", name := "wraps", desc := "(I)I" } : Jvm.MethodName)) ∈ lw_all := lw_g (lw_at lw_m2 201 rfl) rfl
theorem q480 : (Jvm.Cond.selects "NetSearch" ({ cls := "NetSearch", name := "wraps", desc := "(I)I" } : Jvm.MethodName) ({ cls := "NetSearch", name := "wraps", desc := "(I)I" } : Jvm.MethodName)) ∈ lw_all := lw_g (lw_at lw_m2 202 rfl) rfl
theorem q481 : (Jvm.Cond.code ({ cls := "NetSearch", name := "wraps", desc := "(I)I" } : Jvm.MethodName) prog_1_method_37_code (5 : Nat) (Option.some Jvm.ClassFile.FieldType.int)) ∈ lw_all := lw_g (lw_at lw_m2 203 rfl) rfl
theorem q482 : (Jvm.Cond.methodLink "NetSearch" (305 : Nat) ({ cls := "NetSearch", name := "findBeside", desc := "(II)V" } : Jvm.MethodName)) ∈ lw_all := lw_g (lw_at lw_m2 204 rfl) rfl
theorem q483 : (Jvm.Cond.privateMethod ({ cls := "NetSearch", name := "findBeside", desc := "(II)V" } : Jvm.MethodName)) ∈ lw_tbl := lw_at lw_m2 205 rfl
theorem q484 : (Jvm.Cond.instanceMethod ({ cls := "NetSearch", name := "findBeside", desc := "(II)V" } : Jvm.MethodName)) ∈ lw_all := lw_g (lw_at lw_m2 206 rfl) rfl
theorem q485 : (Jvm.Cond.code ({ cls := "NetSearch", name := "findBeside", desc := "(II)V" } : Jvm.MethodName) prog_1_method_35_code (7 : Nat) (Option.none : Option Jvm.ClassFile.FieldType)) ∈ lw_all := lw_g (lw_at lw_m2 207 rfl) rfl
theorem q486 : (Jvm.Cond.methodLink "NetSearch" (287 : Nat) ({ cls := "java/util/Arrays", name := "fill", desc := "([II)V" } : Jvm.MethodName)) ∈ lw_all := lw_g (lw_at lw_m2 208 rfl) rfl
theorem q489 : (Jvm.Cond.methodLink "NetSearch" (290 : Nat) ({ cls := "NetSearch", name := "imageX", desc := "(III)I" } : Jvm.MethodName)) ∈ lw_all := lw_g (lw_at lw_m2 211 rfl) rfl
theorem q490 : (Jvm.Cond.privateMethod ({ cls := "NetSearch", name := "imageX", desc := "(III)I" } : Jvm.MethodName)) ∈ lw_tbl := lw_at lw_m2 212 rfl
theorem q491 : (Jvm.Cond.instanceMethod ({ cls := "NetSearch", name := "imageX", desc := "(III)I" } : Jvm.MethodName)) ∈ lw_all := lw_g (lw_at lw_m2 213 rfl) rfl
theorem q492 : (Jvm.Cond.code ({ cls := "NetSearch", name := "imageX", desc := "(III)I" } : Jvm.MethodName) prog_1_method_32_code (4 : Nat) (Option.some Jvm.ClassFile.FieldType.int)) ∈ lw_all := lw_g (lw_at lw_m2 214 rfl) rfl
theorem q493 : (Jvm.Cond.methodLink "NetSearch" (293 : Nat) ({ cls := "NetSearch", name := "imageY", desc := "(III)I" } : Jvm.MethodName)) ∈ lw_all := lw_g (lw_at lw_m2 215 rfl) rfl
theorem q494 : (Jvm.Cond.privateMethod ({ cls := "NetSearch", name := "imageY", desc := "(III)I" } : Jvm.MethodName)) ∈ lw_tbl := lw_at lw_m2 216 rfl
theorem q495 : (Jvm.Cond.instanceMethod ({ cls := "NetSearch", name := "imageY", desc := "(III)I" } : Jvm.MethodName)) ∈ lw_all := lw_g (lw_at lw_m2 217 rfl) rfl
theorem q496 : (Jvm.Cond.code ({ cls := "NetSearch", name := "imageY", desc := "(III)I" } : Jvm.MethodName) prog_1_method_33_code (4 : Nat) (Option.some Jvm.ClassFile.FieldType.int)) ∈ lw_all := lw_g (lw_at lw_m2 218 rfl) rfl
theorem q497 : (Jvm.Cond.methodLink "NetSearch" (308 : Nat) ({ cls := "NetSearch", name := "isWrapped", desc := "(II)Z" } : Jvm.MethodName)) ∈ lw_all := lw_g (lw_at lw_m2 219 rfl) rfl
theorem q498 : (Jvm.Cond.privateMethod ({ cls := "NetSearch", name := "isWrapped", desc := "(II)Z" } : Jvm.MethodName)) ∈ lw_tbl := lw_at lw_m2 220 rfl
theorem q499 : (Jvm.Cond.instanceMethod ({ cls := "NetSearch", name := "isWrapped", desc := "(II)Z" } : Jvm.MethodName)) ∈ lw_all := lw_g (lw_at lw_m2 221 rfl) rfl
theorem q500 : (Jvm.Cond.code ({ cls := "NetSearch", name := "isWrapped", desc := "(II)Z" } : Jvm.MethodName) prog_1_method_36_code (11 : Nat) (Option.some Jvm.ClassFile.FieldType.boolean)) ∈ lw_all := lw_g (lw_at lw_m2 222 rfl) rfl
theorem q501 : (Jvm.Cond.methodLink "NetSearch" (296 : Nat) ({ cls := "NetSearch", name := "agrees", desc := "(III)Z" } : Jvm.MethodName)) ∈ lw_all := lw_g (lw_at lw_m2 223 rfl) rfl
theorem q502 : (Jvm.Cond.privateMethod ({ cls := "NetSearch", name := "agrees", desc := "(III)Z" } : Jvm.MethodName)) ∈ lw_tbl := lw_at lw_m2 224 rfl
theorem q503 : (Jvm.Cond.instanceMethod ({ cls := "NetSearch", name := "agrees", desc := "(III)Z" } : Jvm.MethodName)) ∈ lw_all := lw_g (lw_at lw_m2 225 rfl) rfl
theorem q504 : (Jvm.Cond.code ({ cls := "NetSearch", name := "agrees", desc := "(III)Z" } : Jvm.MethodName) prog_1_method_34_code (9 : Nat) (Option.some Jvm.ClassFile.FieldType.boolean)) ∈ lw_all := lw_g (lw_at lw_m2 226 rfl) rfl
theorem q505 : (Jvm.Cond.methodLink "NetSearch" (299 : Nat) ({ cls := "java/lang/Integer", name := "bitCount", desc := "(I)I" } : Jvm.MethodName)) ∈ lw_all := lw_g (lw_at lw_m2 227 rfl) rfl
theorem q831 : (Jvm.Cond.fieldLinkNest "NetSearch" (104 : Nat) "NetSearch$Way" "x" "I" "NetSearch") ∈ lw_tbl := lw_at lw_m4 73 rfl
theorem q832 : (Jvm.Cond.fieldLinkNest "NetSearch" (107 : Nat) "NetSearch$Way" "y" "I" "NetSearch") ∈ lw_tbl := lw_at lw_m4 74 rfl
theorem q833 : (Jvm.Cond.fieldLinkNest "NetSearch" (110 : Nat) "NetSearch$Way" "z" "I" "NetSearch") ∈ lw_tbl := lw_at lw_m4 75 rfl
theorem in_X0 : ∀ w ∈ wsX00, w ∈ lw_all := lw_in wsX00 [223, 225, 227, 229, 231, 233, 235, 237, 239, 241, 243, 245, 247, 249, 251, 253, 255, 257, 259, 261, 263, 265, 267, 269, 271, 273, 275, 277, 279, 281, 283, 285, 287] (by decide +kernel) (by decide +kernel)

/-! NetSearch$Way -/
def RX1 : String := "NetSearch$Way"
abbrev cX1_values : ByteArray := prog_4_method_1_code
def yX1_values : MethodName := ⟨RX1, "values", "()[LNetSearch$Way;"⟩
theorem q41 : (Jvm.Cond.initialized "NetSearch$Way") ∈ lw_all := lw_g (lw_at lw_m1 3 rfl) rfl
theorem q59 : (Jvm.Cond.static ({ cls := "NetSearch$Way", name := "values", desc := "()[LNetSearch$Way;" } : Jvm.MethodName)) ∈ lw_all := lw_g (lw_at lw_m1 21 rfl) rfl
theorem q60 : (Jvm.Cond.code ({ cls := "NetSearch$Way", name := "values", desc := "()[LNetSearch$Way;" } : Jvm.MethodName) prog_4_method_1_code (0 : Nat) (Option.some (Jvm.ClassFile.FieldType.array (Jvm.ClassFile.FieldType.object "NetSearch$Way")))) ∈ lw_all := lw_g (lw_at lw_m1 22 rfl) rfl
theorem q61 : (Jvm.Cond.fieldLink "NetSearch$Way" (22 : Nat) "NetSearch$Way" "$VALUES" "[LNetSearch$Way;") ∈ lw_all := lw_g (lw_at lw_m1 23 rfl) rfl
theorem q62 : (Jvm.Cond.laysStatic "NetSearch$Way" "$VALUES" "[LNetSearch$Way;") ∈ lw_tbl := lw_at lw_m1 24 rfl
theorem q63 : (Jvm.Cond.methodLink "NetSearch$Way" (26 : Nat) ({ cls := "[LNetSearch$Way;", name := "clone", desc := "()Ljava/lang/Object;" } : Jvm.MethodName)) ∈ lw_all := lw_g (lw_at lw_m1 25 rfl) rfl
theorem q70 : (Jvm.Cond.classLink "NetSearch$Way" (27 : Nat) "[LNetSearch$Way;") ∈ lw_all := lw_g (lw_at lw_m1 32 rfl) rfl
theorem q834 : (Jvm.Cond.laysStatic "NetSearch$Way" "EAST" "LNetSearch$Way;") ∈ lw_tbl := lw_at lw_m4 76 rfl
theorem q835 : (Jvm.Cond.laysStatic "NetSearch$Way" "WEST" "LNetSearch$Way;") ∈ lw_tbl := lw_at lw_m4 77 rfl
theorem q836 : (Jvm.Cond.laysStatic "NetSearch$Way" "NORTH" "LNetSearch$Way;") ∈ lw_tbl := lw_at lw_m4 78 rfl
theorem q837 : (Jvm.Cond.laysStatic "NetSearch$Way" "SOUTH" "LNetSearch$Way;") ∈ lw_tbl := lw_at lw_m4 79 rfl
theorem q838 : (Jvm.Cond.laysStatic "NetSearch$Way" "TOP" "LNetSearch$Way;") ∈ lw_tbl := lw_at lw_m4 80 rfl
theorem q839 : (Jvm.Cond.laysStatic "NetSearch$Way" "GROUND" "LNetSearch$Way;") ∈ lw_tbl := lw_at lw_m4 81 rfl

/-! NetSearch$Sheet -/
def RX2 : String := "NetSearch$Sheet"
def TX2 : u_T := fun k => match k with
  | 0 => ("NetSearch$Sheet", "face", "[LNetSearch$Face;", true)
  | 1 => ("NetSearch$Sheet", "firstRight", "[I", true)
  | 2 => ("NetSearch$Sheet", "firstUp", "[I", true)
  | 3 => ("NetSearch$Sheet", "many", "I", false)
  | 4 => ("NetSearch$Sheet", "order", "[I", true)
  | 5 => ("NetSearch$Sheet", "lies", "[Z", true)
  | 6 => ("NetSearch$Sheet", "x", "[I", true)
  | 7 => ("NetSearch$Sheet", "y", "[I", true)
  | 8 => ("NetSearch$Sheet", "right", "[I", true)
  | 9 => ("NetSearch$Sheet", "up", "[I", true)
  | _ => ("NetSearch$Sheet", "place", "[I", true)
def tyX2 : Nat → FieldType := fun k => match k with
  | 0 => .array (.object "NetSearch$Face")
  | 1 => .array .int
  | 2 => .array .int
  | 3 => .int
  | 4 => .array .int
  | 5 => .array .boolean
  | 6 => .array .int
  | 7 => .array .int
  | 8 => .array .int
  | 9 => .array .int
  | _ => .array .int
abbrev wsX20 : List Cond := u_ws RX2 TX2 11
theorem nmX2 : ∀ a, a < 11 → ∀ b, b < 11 → a ≠ b → (TX2 a).2.1 ≠ (TX2 b).2.1 := by decide +kernel
theorem tyX2_ok : ∀ k, k < 11 → parseFieldDescriptor (TX2 k).2.2.1 = some (tyX2 k) := by decide +kernel
abbrev cX2_init : ByteArray := prog_3_method_1_code
def yX2_init : MethodName := ⟨RX2, "<init>", "([LNetSearch$Face;[I[I)V"⟩
abbrev cX2_clear : ByteArray := prog_3_method_2_code
def yX2_clear : MethodName := ⟨RX2, "clear", "()V"⟩
abbrev cX2_drop : ByteArray := prog_3_method_6_code
def yX2_drop : MethodName := ⟨RX2, "drop", "()V"⟩
abbrev cX2_placeOf : ByteArray := prog_3_method_3_code
def yX2_placeOf : MethodName := ⟨RX2, "placeOf", "(II)I"⟩
abbrev cX2_first : ByteArray := prog_3_method_7_code
def yX2_first : MethodName := ⟨RX2, "first", "(I)V"⟩
abbrev cX2_put : ByteArray := prog_3_method_5_code
def yX2_put : MethodName := ⟨RX2, "put", "(IIIII)V"⟩
abbrev cX2_across : ByteArray := prog_3_method_11_code
def yX2_across : MethodName := ⟨RX2, "across", "(II)I"⟩
abbrev cX2_direction : ByteArray := prog_3_method_8_code
def yX2_direction : MethodName := ⟨RX2, "direction", "(II)I"⟩
abbrev cX2_nextX : ByteArray := prog_3_method_9_code
def yX2_nextX : MethodName := ⟨RX2, "nextX", "(II)I"⟩
abbrev cX2_nextY : ByteArray := prog_3_method_10_code
def yX2_nextY : MethodName := ⟨RX2, "nextY", "(II)I"⟩
abbrev cX2_at : ByteArray := prog_3_method_4_code
def yX2_at : MethodName := ⟨RX2, "at", "(II)I"⟩
abbrev cX2_join : ByteArray := prog_3_method_13_code
def yX2_join : MethodName := ⟨RX2, "join", "(II)V"⟩
abbrev cX2_turned : ByteArray := prog_3_method_12_code
def yX2_turned : MethodName := ⟨RX2, "turned", "(II)I"⟩
theorem q42 : (Jvm.Cond.initialized "NetSearch$Sheet") ∈ lw_all := lw_g (lw_at lw_m1 4 rfl) rfl
theorem q76 : (Jvm.Cond.instantiable "NetSearch$Sheet" (11 : Nat)) ∈ lw_all := lw_g (lw_at lw_m1 38 rfl) rfl
theorem q78 : (Jvm.Cond.instanceMethod ({ cls := "NetSearch$Sheet", name := "<init>", desc := "([LNetSearch$Face;[I[I)V" } : Jvm.MethodName)) ∈ lw_all := lw_g (lw_at lw_m1 40 rfl) rfl
theorem q79 : (Jvm.Cond.code ({ cls := "NetSearch$Sheet", name := "<init>", desc := "([LNetSearch$Face;[I[I)V" } : Jvm.MethodName) prog_3_method_1_code (4 : Nat) (Option.none : Option Jvm.ClassFile.FieldType)) ∈ lw_all := lw_g (lw_at lw_m1 41 rfl) rfl
theorem q80 : (Jvm.Cond.methodLink "NetSearch$Sheet" (3 : Nat) ({ cls := "java/lang/Object", name := "<init>", desc := "()V" } : Jvm.MethodName)) ∈ lw_all := lw_g (lw_at lw_m1 42 rfl) rfl
theorem q81 : (Jvm.Cond.fieldLink "NetSearch$Sheet" (34 : Nat) "NetSearch$Sheet" "face" "[LNetSearch$Face;") ∈ lw_all := lw_g (lw_at lw_m1 43 rfl) rfl
theorem q82 : (Jvm.Cond.fieldLink "NetSearch$Sheet" (38 : Nat) "NetSearch$Sheet" "firstRight" "[I") ∈ lw_all := lw_g (lw_at lw_m1 44 rfl) rfl
theorem q83 : (Jvm.Cond.fieldLink "NetSearch$Sheet" (41 : Nat) "NetSearch$Sheet" "firstUp" "[I") ∈ lw_all := lw_g (lw_at lw_m1 45 rfl) rfl
theorem q84 : (Jvm.Cond.fieldLink "NetSearch$Sheet" (44 : Nat) "NetSearch$Sheet" "many" "I") ∈ lw_all := lw_g (lw_at lw_m1 46 rfl) rfl
theorem q86 : (Jvm.Cond.fieldLink "NetSearch$Sheet" (9 : Nat) "NetSearch$Sheet" "order" "[I") ∈ lw_all := lw_g (lw_at lw_m1 48 rfl) rfl
theorem q88 : (Jvm.Cond.fieldLink "NetSearch$Sheet" (15 : Nat) "NetSearch$Sheet" "lies" "[Z") ∈ lw_all := lw_g (lw_at lw_m1 50 rfl) rfl
theorem q90 : (Jvm.Cond.fieldLink "NetSearch$Sheet" (19 : Nat) "NetSearch$Sheet" "x" "[I") ∈ lw_all := lw_g (lw_at lw_m1 52 rfl) rfl
theorem q92 : (Jvm.Cond.fieldLink "NetSearch$Sheet" (22 : Nat) "NetSearch$Sheet" "y" "[I") ∈ lw_all := lw_g (lw_at lw_m1 54 rfl) rfl
theorem q94 : (Jvm.Cond.fieldLink "NetSearch$Sheet" (25 : Nat) "NetSearch$Sheet" "right" "[I") ∈ lw_all := lw_g (lw_at lw_m1 56 rfl) rfl
theorem q96 : (Jvm.Cond.fieldLink "NetSearch$Sheet" (28 : Nat) "NetSearch$Sheet" "up" "[I") ∈ lw_all := lw_g (lw_at lw_m1 58 rfl) rfl
theorem q98 : (Jvm.Cond.fieldLink "NetSearch$Sheet" (31 : Nat) "NetSearch$Sheet" "place" "[I") ∈ lw_all := lw_g (lw_at lw_m1 60 rfl) rfl
theorem q99 : (Jvm.Cond.laysFinal "NetSearch$Sheet" "NetSearch$Sheet" "face" "[LNetSearch$Face;") ∈ lw_all := lw_g (lw_at lw_m1 61 rfl) rfl
theorem q100 : (Jvm.Cond.soleField "NetSearch$Sheet" "face") ∈ lw_all := lw_g (lw_at lw_m1 62 rfl) rfl
theorem q101 : (Jvm.Cond.laysFinal "NetSearch$Sheet" "NetSearch$Sheet" "firstRight" "[I") ∈ lw_all := lw_g (lw_at lw_m1 63 rfl) rfl
theorem q102 : (Jvm.Cond.soleField "NetSearch$Sheet" "firstRight") ∈ lw_all := lw_g (lw_at lw_m1 64 rfl) rfl
theorem q103 : (Jvm.Cond.laysFinal "NetSearch$Sheet" "NetSearch$Sheet" "firstUp" "[I") ∈ lw_all := lw_g (lw_at lw_m1 65 rfl) rfl
theorem q104 : (Jvm.Cond.soleField "NetSearch$Sheet" "firstUp") ∈ lw_all := lw_g (lw_at lw_m1 66 rfl) rfl
theorem q105 : (Jvm.Cond.lays "NetSearch$Sheet" "NetSearch$Sheet" "many" "I") ∈ lw_all := lw_g (lw_at lw_m1 67 rfl) rfl
theorem q106 : (Jvm.Cond.soleField "NetSearch$Sheet" "many") ∈ lw_all := lw_g (lw_at lw_m1 68 rfl) rfl
theorem q107 : (Jvm.Cond.laysFinal "NetSearch$Sheet" "NetSearch$Sheet" "order" "[I") ∈ lw_all := lw_g (lw_at lw_m1 69 rfl) rfl
theorem q108 : (Jvm.Cond.soleField "NetSearch$Sheet" "order") ∈ lw_all := lw_g (lw_at lw_m1 70 rfl) rfl
theorem q109 : (Jvm.Cond.laysFinal "NetSearch$Sheet" "NetSearch$Sheet" "lies" "[Z") ∈ lw_all := lw_g (lw_at lw_m1 71 rfl) rfl
theorem q110 : (Jvm.Cond.soleField "NetSearch$Sheet" "lies") ∈ lw_all := lw_g (lw_at lw_m1 72 rfl) rfl
theorem q111 : (Jvm.Cond.laysFinal "NetSearch$Sheet" "NetSearch$Sheet" "x" "[I") ∈ lw_all := lw_g (lw_at lw_m1 73 rfl) rfl
theorem q112 : (Jvm.Cond.soleField "NetSearch$Sheet" "x") ∈ lw_all := lw_g (lw_at lw_m1 74 rfl) rfl
theorem q113 : (Jvm.Cond.laysFinal "NetSearch$Sheet" "NetSearch$Sheet" "y" "[I") ∈ lw_all := lw_g (lw_at lw_m1 75 rfl) rfl
theorem q114 : (Jvm.Cond.soleField "NetSearch$Sheet" "y") ∈ lw_all := lw_g (lw_at lw_m1 76 rfl) rfl
theorem q115 : (Jvm.Cond.laysFinal "NetSearch$Sheet" "NetSearch$Sheet" "right" "[I") ∈ lw_all := lw_g (lw_at lw_m1 77 rfl) rfl
theorem q116 : (Jvm.Cond.soleField "NetSearch$Sheet" "right") ∈ lw_all := lw_g (lw_at lw_m1 78 rfl) rfl
theorem q117 : (Jvm.Cond.laysFinal "NetSearch$Sheet" "NetSearch$Sheet" "up" "[I") ∈ lw_all := lw_g (lw_at lw_m1 79 rfl) rfl
theorem q118 : (Jvm.Cond.soleField "NetSearch$Sheet" "up") ∈ lw_all := lw_g (lw_at lw_m1 80 rfl) rfl
theorem q119 : (Jvm.Cond.laysFinal "NetSearch$Sheet" "NetSearch$Sheet" "place" "[I") ∈ lw_all := lw_g (lw_at lw_m1 81 rfl) rfl
theorem q120 : (Jvm.Cond.soleField "NetSearch$Sheet" "place") ∈ lw_all := lw_g (lw_at lw_m1 82 rfl) rfl
theorem q121 : (Jvm.Cond.superclass "NetSearch$Sheet" "java/lang/Object") ∈ lw_all := lw_g (lw_at lw_m1 83 rfl) rfl
theorem q134 : (Jvm.Cond.fieldLinkNest "NetSearch$Sheet" (55 : Nat) "NetSearch$Face" "way" "I" "NetSearch") ∈ lw_tbl := lw_at lw_m1 96 rfl
theorem q137 : (Jvm.Cond.fieldLinkNest "NetSearch$Sheet" (64 : Nat) "NetSearch$Face" "across" "[I" "NetSearch") ∈ lw_tbl := lw_at lw_m1 99 rfl
theorem q140 : (Jvm.Cond.fieldLinkNest "NetSearch$Sheet" (70 : Nat) "NetSearch$Face" "turned" "[I" "NetSearch") ∈ lw_tbl := lw_at lw_m1 102 rfl
theorem q171 : (Jvm.Cond.instanceMethod ({ cls := "NetSearch$Sheet", name := "clear", desc := "()V" } : Jvm.MethodName)) ∈ lw_all := lw_g (lw_at lw_m1 133 rfl) rfl
theorem q172 : (Jvm.Cond.selects "NetSearch$Sheet" ({ cls := "NetSearch$Sheet", name := "clear", desc := "()V" } : Jvm.MethodName) ({ cls := "NetSearch$Sheet", name := "clear", desc := "()V" } : Jvm.MethodName)) ∈ lw_all := lw_g (lw_at lw_m1 134 rfl) rfl
theorem q173 : (Jvm.Cond.code ({ cls := "NetSearch$Sheet", name := "clear", desc := "()V" } : Jvm.MethodName) prog_3_method_2_code (1 : Nat) (Option.none : Option Jvm.ClassFile.FieldType)) ∈ lw_all := lw_g (lw_at lw_m1 135 rfl) rfl
theorem q174 : (Jvm.Cond.methodLink "NetSearch$Sheet" (48 : Nat) ({ cls := "NetSearch$Sheet", name := "drop", desc := "()V" } : Jvm.MethodName)) ∈ lw_all := lw_g (lw_at lw_m1 136 rfl) rfl
theorem q175 : (Jvm.Cond.instanceMethod ({ cls := "NetSearch$Sheet", name := "drop", desc := "()V" } : Jvm.MethodName)) ∈ lw_all := lw_g (lw_at lw_m1 137 rfl) rfl
theorem q176 : (Jvm.Cond.selects "NetSearch$Sheet" ({ cls := "NetSearch$Sheet", name := "drop", desc := "()V" } : Jvm.MethodName) ({ cls := "NetSearch$Sheet", name := "drop", desc := "()V" } : Jvm.MethodName)) ∈ lw_all := lw_g (lw_at lw_m1 138 rfl) rfl
theorem q177 : (Jvm.Cond.code ({ cls := "NetSearch$Sheet", name := "drop", desc := "()V" } : Jvm.MethodName) prog_3_method_6_code (2 : Nat) (Option.none : Option Jvm.ClassFile.FieldType)) ∈ lw_all := lw_g (lw_at lw_m1 139 rfl) rfl
theorem q178 : (Jvm.Cond.methodLink "NetSearch$Sheet" (51 : Nat) ({ cls := "NetSearch$Sheet", name := "placeOf", desc := "(II)I" } : Jvm.MethodName)) ∈ lw_all := lw_g (lw_at lw_m1 140 rfl) rfl
theorem q179 : (Jvm.Cond.privateMethod ({ cls := "NetSearch$Sheet", name := "placeOf", desc := "(II)I" } : Jvm.MethodName)) ∈ lw_tbl := lw_at lw_m1 141 rfl
theorem q180 : (Jvm.Cond.instanceMethod ({ cls := "NetSearch$Sheet", name := "placeOf", desc := "(II)I" } : Jvm.MethodName)) ∈ lw_all := lw_g (lw_at lw_m1 142 rfl) rfl
theorem q181 : (Jvm.Cond.code ({ cls := "NetSearch$Sheet", name := "placeOf", desc := "(II)I" } : Jvm.MethodName) prog_3_method_3_code (3 : Nat) (Option.some Jvm.ClassFile.FieldType.int)) ∈ lw_all := lw_g (lw_at lw_m1 143 rfl) rfl
theorem q183 : (Jvm.Cond.instanceMethod ({ cls := "NetSearch$Sheet", name := "first", desc := "(I)V" } : Jvm.MethodName)) ∈ lw_all := lw_g (lw_at lw_m1 145 rfl) rfl
theorem q184 : (Jvm.Cond.selects "NetSearch$Sheet" ({ cls := "NetSearch$Sheet", name := "first", desc := "(I)V" } : Jvm.MethodName) ({ cls := "NetSearch$Sheet", name := "first", desc := "(I)V" } : Jvm.MethodName)) ∈ lw_all := lw_g (lw_at lw_m1 146 rfl) rfl
theorem q185 : (Jvm.Cond.code ({ cls := "NetSearch$Sheet", name := "first", desc := "(I)V" } : Jvm.MethodName) prog_3_method_7_code (2 : Nat) (Option.none : Option Jvm.ClassFile.FieldType)) ∈ lw_all := lw_g (lw_at lw_m1 147 rfl) rfl
theorem q186 : (Jvm.Cond.methodLink "NetSearch$Sheet" (60 : Nat) ({ cls := "NetSearch$Sheet", name := "put", desc := "(IIIII)V" } : Jvm.MethodName)) ∈ lw_all := lw_g (lw_at lw_m1 148 rfl) rfl
theorem q187 : (Jvm.Cond.instanceMethod ({ cls := "NetSearch$Sheet", name := "put", desc := "(IIIII)V" } : Jvm.MethodName)) ∈ lw_all := lw_g (lw_at lw_m1 149 rfl) rfl
theorem q188 : (Jvm.Cond.selects "NetSearch$Sheet" ({ cls := "NetSearch$Sheet", name := "put", desc := "(IIIII)V" } : Jvm.MethodName) ({ cls := "NetSearch$Sheet", name := "put", desc := "(IIIII)V" } : Jvm.MethodName)) ∈ lw_all := lw_g (lw_at lw_m1 150 rfl) rfl
theorem q189 : (Jvm.Cond.code ({ cls := "NetSearch$Sheet", name := "put", desc := "(IIIII)V" } : Jvm.MethodName) prog_3_method_5_code (6 : Nat) (Option.none : Option Jvm.ClassFile.FieldType)) ∈ lw_all := lw_g (lw_at lw_m1 151 rfl) rfl
theorem q341 : (Jvm.Cond.instanceMethod ({ cls := "NetSearch$Sheet", name := "across", desc := "(II)I" } : Jvm.MethodName)) ∈ lw_all := lw_g (lw_at lw_m2 63 rfl) rfl
theorem q342 : (Jvm.Cond.selects "NetSearch$Sheet" ({ cls := "NetSearch$Sheet", name := "across", desc := "(II)I" } : Jvm.MethodName) ({ cls := "NetSearch$Sheet", name := "across", desc := "(II)I" } : Jvm.MethodName)) ∈ lw_all := lw_g (lw_at lw_m2 64 rfl) rfl
theorem q343 : (Jvm.Cond.code ({ cls := "NetSearch$Sheet", name := "across", desc := "(II)I" } : Jvm.MethodName) prog_3_method_11_code (3 : Nat) (Option.some Jvm.ClassFile.FieldType.int)) ∈ lw_all := lw_g (lw_at lw_m2 65 rfl) rfl
theorem q344 : (Jvm.Cond.methodLink "NetSearch$Sheet" (67 : Nat) ({ cls := "NetSearch$Sheet", name := "direction", desc := "(II)I" } : Jvm.MethodName)) ∈ lw_all := lw_g (lw_at lw_m2 66 rfl) rfl
theorem q345 : (Jvm.Cond.instanceMethod ({ cls := "NetSearch$Sheet", name := "direction", desc := "(II)I" } : Jvm.MethodName)) ∈ lw_all := lw_g (lw_at lw_m2 67 rfl) rfl
theorem q346 : (Jvm.Cond.selects "NetSearch$Sheet" ({ cls := "NetSearch$Sheet", name := "direction", desc := "(II)I" } : Jvm.MethodName) ({ cls := "NetSearch$Sheet", name := "direction", desc := "(II)I" } : Jvm.MethodName)) ∈ lw_all := lw_g (lw_at lw_m2 68 rfl) rfl
theorem q347 : (Jvm.Cond.code ({ cls := "NetSearch$Sheet", name := "direction", desc := "(II)I" } : Jvm.MethodName) prog_3_method_8_code (3 : Nat) (Option.some Jvm.ClassFile.FieldType.int)) ∈ lw_all := lw_g (lw_at lw_m2 69 rfl) rfl
theorem q349 : (Jvm.Cond.instanceMethod ({ cls := "NetSearch$Sheet", name := "nextX", desc := "(II)I" } : Jvm.MethodName)) ∈ lw_all := lw_g (lw_at lw_m2 71 rfl) rfl
theorem q350 : (Jvm.Cond.selects "NetSearch$Sheet" ({ cls := "NetSearch$Sheet", name := "nextX", desc := "(II)I" } : Jvm.MethodName) ({ cls := "NetSearch$Sheet", name := "nextX", desc := "(II)I" } : Jvm.MethodName)) ∈ lw_all := lw_g (lw_at lw_m2 72 rfl) rfl
theorem q351 : (Jvm.Cond.code ({ cls := "NetSearch$Sheet", name := "nextX", desc := "(II)I" } : Jvm.MethodName) prog_3_method_9_code (3 : Nat) (Option.some Jvm.ClassFile.FieldType.int)) ∈ lw_all := lw_g (lw_at lw_m2 73 rfl) rfl
theorem q353 : (Jvm.Cond.instanceMethod ({ cls := "NetSearch$Sheet", name := "nextY", desc := "(II)I" } : Jvm.MethodName)) ∈ lw_all := lw_g (lw_at lw_m2 75 rfl) rfl
theorem q354 : (Jvm.Cond.selects "NetSearch$Sheet" ({ cls := "NetSearch$Sheet", name := "nextY", desc := "(II)I" } : Jvm.MethodName) ({ cls := "NetSearch$Sheet", name := "nextY", desc := "(II)I" } : Jvm.MethodName)) ∈ lw_all := lw_g (lw_at lw_m2 76 rfl) rfl
theorem q355 : (Jvm.Cond.code ({ cls := "NetSearch$Sheet", name := "nextY", desc := "(II)I" } : Jvm.MethodName) prog_3_method_10_code (3 : Nat) (Option.some Jvm.ClassFile.FieldType.int)) ∈ lw_all := lw_g (lw_at lw_m2 77 rfl) rfl
theorem q357 : (Jvm.Cond.instanceMethod ({ cls := "NetSearch$Sheet", name := "at", desc := "(II)I" } : Jvm.MethodName)) ∈ lw_all := lw_g (lw_at lw_m2 79 rfl) rfl
theorem q358 : (Jvm.Cond.selects "NetSearch$Sheet" ({ cls := "NetSearch$Sheet", name := "at", desc := "(II)I" } : Jvm.MethodName) ({ cls := "NetSearch$Sheet", name := "at", desc := "(II)I" } : Jvm.MethodName)) ∈ lw_all := lw_g (lw_at lw_m2 80 rfl) rfl
theorem q359 : (Jvm.Cond.code ({ cls := "NetSearch$Sheet", name := "at", desc := "(II)I" } : Jvm.MethodName) prog_3_method_4_code (3 : Nat) (Option.some Jvm.ClassFile.FieldType.int)) ∈ lw_all := lw_g (lw_at lw_m2 81 rfl) rfl
theorem q361 : (Jvm.Cond.instanceMethod ({ cls := "NetSearch$Sheet", name := "join", desc := "(II)V" } : Jvm.MethodName)) ∈ lw_all := lw_g (lw_at lw_m2 83 rfl) rfl
theorem q362 : (Jvm.Cond.selects "NetSearch$Sheet" ({ cls := "NetSearch$Sheet", name := "join", desc := "(II)V" } : Jvm.MethodName) ({ cls := "NetSearch$Sheet", name := "join", desc := "(II)V" } : Jvm.MethodName)) ∈ lw_all := lw_g (lw_at lw_m2 84 rfl) rfl
theorem q363 : (Jvm.Cond.code ({ cls := "NetSearch$Sheet", name := "join", desc := "(II)V" } : Jvm.MethodName) prog_3_method_13_code (5 : Nat) (Option.none : Option Jvm.ClassFile.FieldType)) ∈ lw_all := lw_g (lw_at lw_m2 85 rfl) rfl
theorem q364 : (Jvm.Cond.methodLink "NetSearch$Sheet" (73 : Nat) ({ cls := "NetSearch$Sheet", name := "turned", desc := "(II)I" } : Jvm.MethodName)) ∈ lw_all := lw_g (lw_at lw_m2 86 rfl) rfl
theorem q365 : (Jvm.Cond.instanceMethod ({ cls := "NetSearch$Sheet", name := "turned", desc := "(II)I" } : Jvm.MethodName)) ∈ lw_all := lw_g (lw_at lw_m2 87 rfl) rfl
theorem q366 : (Jvm.Cond.selects "NetSearch$Sheet" ({ cls := "NetSearch$Sheet", name := "turned", desc := "(II)I" } : Jvm.MethodName) ({ cls := "NetSearch$Sheet", name := "turned", desc := "(II)I" } : Jvm.MethodName)) ∈ lw_all := lw_g (lw_at lw_m2 88 rfl) rfl
theorem q367 : (Jvm.Cond.code ({ cls := "NetSearch$Sheet", name := "turned", desc := "(II)I" } : Jvm.MethodName) prog_3_method_12_code (3 : Nat) (Option.some Jvm.ClassFile.FieldType.int)) ∈ lw_all := lw_g (lw_at lw_m2 89 rfl) rfl
theorem q368 : (Jvm.Cond.methodLink "NetSearch$Sheet" (75 : Nat) ({ cls := "NetSearch$Sheet", name := "across", desc := "(II)I" } : Jvm.MethodName)) ∈ lw_all := lw_g (lw_at lw_m2 90 rfl) rfl
theorem q369 : (Jvm.Cond.methodLink "NetSearch$Sheet" (77 : Nat) ({ cls := "NetSearch$Sheet", name := "nextX", desc := "(II)I" } : Jvm.MethodName)) ∈ lw_all := lw_g (lw_at lw_m2 91 rfl) rfl
theorem q370 : (Jvm.Cond.methodLink "NetSearch$Sheet" (80 : Nat) ({ cls := "NetSearch$Sheet", name := "nextY", desc := "(II)I" } : Jvm.MethodName)) ∈ lw_all := lw_g (lw_at lw_m2 92 rfl) rfl
theorem in_X2 : ∀ w ∈ wsX20, w ∈ lw_all := lw_in wsX20 [99, 101, 103, 105, 107, 109, 111, 113, 115, 117, 119] (by decide +kernel) (by decide +kernel)

/-! NetSearch$Face -/
def RX3 : String := "NetSearch$Face"
def TX3 : u_T := fun k => match k with
  | 0 => ("NetSearch$Face", "cube", "I", false)
  | 1 => ("NetSearch$Face", "way", "I", false)
  | 2 => ("NetSearch$Face", "across", "[I", true)
  | _ => ("NetSearch$Face", "turned", "[I", true)
def tyX3 : Nat → FieldType := fun k => match k with
  | 0 => .int
  | 1 => .int
  | 2 => .array .int
  | _ => .array .int
abbrev wsX30 : List Cond := u_ws RX3 TX3 4
theorem nmX3 : ∀ a, a < 4 → ∀ b, b < 4 → a ≠ b → (TX3 a).2.1 ≠ (TX3 b).2.1 := by decide +kernel
theorem tyX3_ok : ∀ k, k < 4 → parseFieldDescriptor (TX3 k).2.2.1 = some (tyX3 k) := by decide +kernel
abbrev cX3_init : ByteArray := prog_2_method_1_code
def yX3_init : MethodName := ⟨RX3, "<init>", "()V"⟩
theorem q43 : (Jvm.Cond.initialized "NetSearch$Face") ∈ lw_all := lw_g (lw_at lw_m1 5 rfl) rfl
theorem q127 : (Jvm.Cond.instantiable "NetSearch$Face" (4 : Nat)) ∈ lw_all := lw_g (lw_at lw_m1 89 rfl) rfl
theorem q129 : (Jvm.Cond.instanceMethod ({ cls := "NetSearch$Face", name := "<init>", desc := "()V" } : Jvm.MethodName)) ∈ lw_all := lw_g (lw_at lw_m1 91 rfl) rfl
theorem q130 : (Jvm.Cond.code ({ cls := "NetSearch$Face", name := "<init>", desc := "()V" } : Jvm.MethodName) prog_2_method_1_code (1 : Nat) (Option.none : Option Jvm.ClassFile.FieldType)) ∈ lw_all := lw_g (lw_at lw_m1 92 rfl) rfl
theorem q131 : (Jvm.Cond.methodLink "NetSearch$Face" (1 : Nat) ({ cls := "java/lang/Object", name := "<init>", desc := "()V" } : Jvm.MethodName)) ∈ lw_all := lw_g (lw_at lw_m1 93 rfl) rfl
theorem q135 : (Jvm.Cond.fieldLink "NetSearch$Face" (7 : Nat) "NetSearch$Face" "across" "[I") ∈ lw_all := lw_g (lw_at lw_m1 97 rfl) rfl
theorem q138 : (Jvm.Cond.fieldLink "NetSearch$Face" (13 : Nat) "NetSearch$Face" "turned" "[I") ∈ lw_all := lw_g (lw_at lw_m1 100 rfl) rfl
theorem q141 : (Jvm.Cond.lays "NetSearch$Face" "NetSearch$Face" "cube" "I") ∈ lw_all := lw_g (lw_at lw_m1 103 rfl) rfl
theorem q142 : (Jvm.Cond.soleField "NetSearch$Face" "cube") ∈ lw_all := lw_g (lw_at lw_m1 104 rfl) rfl
theorem q143 : (Jvm.Cond.lays "NetSearch$Face" "NetSearch$Face" "way" "I") ∈ lw_all := lw_g (lw_at lw_m1 105 rfl) rfl
theorem q144 : (Jvm.Cond.soleField "NetSearch$Face" "way") ∈ lw_all := lw_g (lw_at lw_m1 106 rfl) rfl
theorem q145 : (Jvm.Cond.laysFinal "NetSearch$Face" "NetSearch$Face" "across" "[I") ∈ lw_all := lw_g (lw_at lw_m1 107 rfl) rfl
theorem q146 : (Jvm.Cond.soleField "NetSearch$Face" "across") ∈ lw_all := lw_g (lw_at lw_m1 108 rfl) rfl
theorem q147 : (Jvm.Cond.laysFinal "NetSearch$Face" "NetSearch$Face" "turned" "[I") ∈ lw_all := lw_g (lw_at lw_m1 109 rfl) rfl
theorem q148 : (Jvm.Cond.soleField "NetSearch$Face" "turned") ∈ lw_all := lw_g (lw_at lw_m1 110 rfl) rfl
theorem q149 : (Jvm.Cond.superclass "NetSearch$Face" "java/lang/Object") ∈ lw_all := lw_g (lw_at lw_m1 111 rfl) rfl
theorem in_X3 : ∀ w ∈ wsX30, w ∈ lw_all := lw_in wsX30 [141, 143, 145, 147] (by decide +kernel) (by decide +kernel)

/-! NetSearchModel -/
def RX4 : String := "NetSearchModel"
def TX4 : u_T := fun k => match k with
  | 0 => ("NetSearchModel", "cubes", "I", false)
  | 1 => ("NetSearchModel", "cubeX", "[I", true)
  | 2 => ("NetSearchModel", "cubeY", "[I", true)
  | 3 => ("NetSearchModel", "cubeZ", "[I", true)
  | 4 => ("NetSearchModel", "faces", "I", false)
  | 5 => ("NetSearchModel", "cubeOf", "[I", true)
  | 6 => ("NetSearchModel", "looks", "[I", true)
  | 7 => ("NetSearchModel", "laid", "I", false)
  | 8 => ("NetSearchModel", "lies", "[Z", true)
  | 9 => ("NetSearchModel", "handX", "[I", true)
  | 10 => ("NetSearchModel", "handY", "[I", true)
  | 11 => ("NetSearchModel", "handRight", "[I", true)
  | 12 => ("NetSearchModel", "handUp", "[I", true)
  | 13 => ("NetSearchModel", "count", "I", false)
  | 14 => ("NetSearchModel", "order", "[I", true)
  | 15 => ("NetSearchModel", "choice", "[I", true)
  | 16 => ("NetSearchModel", "has", "[Z", true)
  | 17 => ("NetSearchModel", "atX", "[I", true)
  | 18 => ("NetSearchModel", "atY", "[I", true)
  | 19 => ("NetSearchModel", "right", "[I", true)
  | 20 => ("NetSearchModel", "up", "[I", true)
  | 21 => ("NetSearchModel", "step", "I", false)
  | 22 => ("NetSearchModel", "ended", "Z", false)
  | 23 => ("NetSearchModel", "nets", "I", false)
  | 24 => ("NetSearchModel", "work", "I", false)
  | 25 => ("NetSearchModel", "bestWidth", "I", false)
  | 26 => ("NetSearchModel", "bestHeight", "I", false)
  | 27 => ("NetSearchModel", "bestNet", "I", false)
  | 28 => ("NetSearchModel", "bestX", "[I", true)
  | 29 => ("NetSearchModel", "bestY", "[I", true)
  | 30 => ("NetSearchModel", "shapes", "I", false)
  | 31 => ("NetSearchModel", "shapeSize", "[I", true)
  | 32 => ("NetSearchModel", "shapeRow", "[I", true)
  | 33 => ("NetSearchModel", "nextFace", "[I", true)
  | 34 => ("NetSearchModel", "leads", "[I", true)
  | 35 => ("NetSearchModel", "grid", "[J", true)
  | 36 => ("NetSearchModel", "imageX", "[I", true)
  | 37 => ("NetSearchModel", "imageY", "[I", true)
  | 38 => ("NetSearchModel", "row", "[I", true)
  | 39 => ("NetSearchModel", "bestRow", "[I", true)
  | 40 => ("NetSearchModel", "on", "[I", true)
  | 41 => ("NetSearchModel", "onRight", "[I", true)
  | 42 => ("NetSearchModel", "onUp", "[I", true)
  | _ => ("NetSearchModel", "queue", "[I", true)
def tyX4 : Nat → FieldType := fun k => match k with
  | 0 => .int
  | 1 => .array .int
  | 2 => .array .int
  | 3 => .array .int
  | 4 => .int
  | 5 => .array .int
  | 6 => .array .int
  | 7 => .int
  | 8 => .array .boolean
  | 9 => .array .int
  | 10 => .array .int
  | 11 => .array .int
  | 12 => .array .int
  | 13 => .int
  | 14 => .array .int
  | 15 => .array .int
  | 16 => .array .boolean
  | 17 => .array .int
  | 18 => .array .int
  | 19 => .array .int
  | 20 => .array .int
  | 21 => .int
  | 22 => .boolean
  | 23 => .int
  | 24 => .int
  | 25 => .int
  | 26 => .int
  | 27 => .int
  | 28 => .array .int
  | 29 => .array .int
  | 30 => .int
  | 31 => .array .int
  | 32 => .array .int
  | 33 => .array .int
  | 34 => .array .int
  | 35 => .array .long
  | 36 => .array .int
  | 37 => .array .int
  | 38 => .array .int
  | 39 => .array .int
  | 40 => .array .int
  | 41 => .array .int
  | 42 => .array .int
  | _ => .array .int
abbrev wsX40 : List Cond := u_ws RX4 TX4 44
set_option maxRecDepth 100000 in
theorem nmX4 : ∀ a, a < 44 → ∀ b, b < 44 → a ≠ b → (TX4 a).2.1 ≠ (TX4 b).2.1 := by decide +kernel
set_option maxRecDepth 100000 in
theorem tyX4_ok : ∀ k, k < 44 → parseFieldDescriptor (TX4 k).2.2.1 = some (tyX4 k) := by decide +kernel
abbrev cX4_init : ByteArray := prog_6_method_1_code
def yX4_init : MethodName := ⟨RX4, "<init>", "()V"⟩
abbrev cX4_anew : ByteArray := prog_6_method_2_code
def yX4_anew : MethodName := ⟨RX4, "anew", "()V"⟩
abbrev cX4_cubeBeside : ByteArray := prog_6_method_7_code
def yX4_cubeBeside : MethodName := ⟨RX4, "cubeBeside", "(II)I"⟩
abbrev cX4_stepX : ByteArray := prog_6_method_3_code
def yX4_stepX : MethodName := ⟨RX4, "stepX", "(I)I"⟩
abbrev cX4_stepY : ByteArray := prog_6_method_4_code
def yX4_stepY : MethodName := ⟨RX4, "stepY", "(I)I"⟩
abbrev cX4_stepZ : ByteArray := prog_6_method_5_code
def yX4_stepZ : MethodName := ⟨RX4, "stepZ", "(I)I"⟩
abbrev cX4_cubeAt : ByteArray := prog_6_method_6_code
def yX4_cubeAt : MethodName := ⟨RX4, "cubeAt", "(III)I"⟩
abbrev cX4_found : ByteArray := prog_6_method_14_code
def yX4_found : MethodName := ⟨RX4, "found", "(II)I"⟩
abbrev cX4_edge : ByteArray := prog_6_method_11_code
def yX4_edge : MethodName := ⟨RX4, "edge", "(II)I"⟩
abbrev cX4_faceOf : ByteArray := prog_6_method_10_code
def yX4_faceOf : MethodName := ⟨RX4, "faceOf", "(II)I"⟩
abbrev cX4_led : ByteArray := prog_6_method_15_code
def yX4_led : MethodName := ⟨RX4, "led", "(II)I"⟩
abbrev cX4_firstRight : ByteArray := prog_6_method_8_code
def yX4_firstRight : MethodName := ⟨RX4, "firstRight", "(I)I"⟩
abbrev cX4_firstUp : ByteArray := prog_6_method_9_code
def yX4_firstUp : MethodName := ⟨RX4, "firstUp", "(I)I"⟩
abbrev cX4_cube : ByteArray := prog_6_method_21_code
def yX4_cube : MethodName := ⟨RX4, "cube", "(III)I"⟩
abbrev cX4_clear : ByteArray := prog_6_method_22_code
def yX4_clear : MethodName := ⟨RX4, "clear", "()I"⟩
abbrev cX4_forget : ByteArray := prog_6_method_23_code
def yX4_forget : MethodName := ⟨RX4, "forget", "()I"⟩
abbrev cX4_face : ByteArray := prog_6_method_25_code
def yX4_face : MethodName := ⟨RX4, "face", "(II)I"⟩
abbrev cX4_isFace : ByteArray := prog_6_method_24_code
def yX4_isFace : MethodName := ⟨RX4, "isFace", "(I)Z"⟩
abbrev cX4_across : ByteArray := prog_6_method_26_code
def yX4_across : MethodName := ⟨RX4, "across", "(II)I"⟩
abbrev cX4_beside : ByteArray := prog_6_method_12_code
def yX4_beside : MethodName := ⟨RX4, "beside", "(II)I"⟩
abbrev cX4_trees : ByteArray := prog_6_method_29_code
def yX4_trees : MethodName := ⟨RX4, "trees", "()J"⟩
abbrev cX4_treesBy : ByteArray := prog_6_method_28_code
def yX4_treesBy : MethodName := ⟨RX4, "treesBy", "(J)J"⟩
abbrev cX4_power : ByteArray := prog_6_method_27_code
def yX4_power : MethodName := ⟨RX4, "power", "(JJJ)J"⟩
abbrev cX4_lay : ByteArray := prog_6_method_30_code
def yX4_lay : MethodName := ⟨RX4, "lay", "(I)I"⟩
abbrev cX4_grow : ByteArray := prog_6_method_31_code
def yX4_grow : MethodName := ⟨RX4, "grow", "(II)I"⟩
abbrev cX4_sideOf : ByteArray := prog_6_method_16_code
def yX4_sideOf : MethodName := ⟨RX4, "sideOf", "(III)I"⟩
abbrev cX4_sideX : ByteArray := prog_6_method_17_code
def yX4_sideX : MethodName := ⟨RX4, "sideX", "(I)I"⟩
abbrev cX4_sideY : ByteArray := prog_6_method_18_code
def yX4_sideY : MethodName := ⟨RX4, "sideY", "(I)I"⟩
abbrev cX4_nextRight : ByteArray := prog_6_method_19_code
def yX4_nextRight : MethodName := ⟨RX4, "nextRight", "(IIII)I"⟩
abbrev cX4_lead : ByteArray := prog_6_method_13_code
def yX4_lead : MethodName := ⟨RX4, "lead", "(II)I"⟩
abbrev cX4_nextUp : ByteArray := prog_6_method_20_code
def yX4_nextUp : MethodName := ⟨RX4, "nextUp", "(IIII)I"⟩
abbrev cX4_paper : ByteArray := prog_6_method_32_code
def yX4_paper : MethodName := ⟨RX4, "paper", "(II)I"⟩
abbrev cX4_run : ByteArray := prog_6_method_34_code
def yX4_run : MethodName := ⟨RX4, "run", "(I)I"⟩
abbrev cX4_net : ByteArray := prog_6_method_39_code
def yX4_net : MethodName := ⟨RX4, "net", "()V"⟩
abbrev cX4_most : ByteArray := prog_6_method_36_code
def yX4_most : MethodName := ⟨RX4, "most", "([I)I"⟩
abbrev cX4_least : ByteArray := prog_6_method_35_code
def yX4_least : MethodName := ⟨RX4, "least", "([I)I"⟩
abbrev cX4_imageOfX : ByteArray := prog_6_method_37_code
def yX4_imageOfX : MethodName := ⟨RX4, "imageOfX", "(III)I"⟩
abbrev cX4_imageOfY : ByteArray := prog_6_method_38_code
def yX4_imageOfY : MethodName := ⟨RX4, "imageOfY", "(III)I"⟩
abbrev cX4_keep : ByteArray := prog_6_method_40_code
def yX4_keep : MethodName := ⟨RX4, "keep", "()V"⟩
abbrev cX4_isEmpty : ByteArray := prog_6_method_33_code
def yX4_isEmpty : MethodName := ⟨RX4, "isEmpty", "(II)Z"⟩
abbrev cX4_told : ByteArray := prog_6_method_41_code
def yX4_told : MethodName := ⟨RX4, "told", "(I)I"⟩
abbrev cX4_best : ByteArray := prog_6_method_42_code
def yX4_best : MethodName := ⟨RX4, "best", "(II)I"⟩
abbrev cX4_shape : ByteArray := prog_6_method_44_code
def yX4_shape : MethodName := ⟨RX4, "shape", "(III)I"⟩
abbrev cX4_isShape : ByteArray := prog_6_method_43_code
def yX4_isShape : MethodName := ⟨RX4, "isShape", "(I)Z"⟩
abbrev cX4_size : ByteArray := prog_6_method_45_code
def yX4_size : MethodName := ⟨RX4, "size", "(I)I"⟩
abbrev cX4_wraps : ByteArray := prog_6_method_48_code
def yX4_wraps : MethodName := ⟨RX4, "wraps", "(I)I"⟩
abbrev cX4_isWrapped : ByteArray := prog_6_method_47_code
def yX4_isWrapped : MethodName := ⟨RX4, "isWrapped", "(III)Z"⟩
abbrev cX4_placeAt : ByteArray := prog_6_method_46_code
def yX4_placeAt : MethodName := ⟨RX4, "placeAt", "(III)I"⟩
theorem q44 : (Jvm.Cond.initialized "NetSearchModel") ∈ lw_all := lw_g (lw_at lw_m1 6 rfl) rfl
theorem q512 : (Jvm.Cond.instantiable "NetSearchModel" (44 : Nat)) ∈ lw_all := lw_g (lw_at lw_m2 234 rfl) rfl
theorem q514 : (Jvm.Cond.instanceMethod ({ cls := "NetSearchModel", name := "<init>", desc := "()V" } : Jvm.MethodName)) ∈ lw_all := lw_g (lw_at lw_m2 236 rfl) rfl
theorem q515 : (Jvm.Cond.code ({ cls := "NetSearchModel", name := "<init>", desc := "()V" } : Jvm.MethodName) prog_6_method_1_code (1 : Nat) (Option.none : Option Jvm.ClassFile.FieldType)) ∈ lw_all := lw_g (lw_at lw_m2 237 rfl) rfl
theorem q516 : (Jvm.Cond.methodLink "NetSearchModel" (1 : Nat) ({ cls := "java/lang/Object", name := "<init>", desc := "()V" } : Jvm.MethodName)) ∈ lw_all := lw_g (lw_at lw_m2 238 rfl) rfl
theorem q517 : (Jvm.Cond.methodLink "NetSearchModel" (108 : Nat) ({ cls := "NetSearchModel", name := "anew", desc := "()V" } : Jvm.MethodName)) ∈ lw_all := lw_g (lw_at lw_m2 239 rfl) rfl
theorem q518 : (Jvm.Cond.privateMethod ({ cls := "NetSearchModel", name := "anew", desc := "()V" } : Jvm.MethodName)) ∈ lw_tbl := lw_at lw_m3 0 rfl
theorem q519 : (Jvm.Cond.instanceMethod ({ cls := "NetSearchModel", name := "anew", desc := "()V" } : Jvm.MethodName)) ∈ lw_all := lw_g (lw_at lw_m3 1 rfl) rfl
theorem q520 : (Jvm.Cond.code ({ cls := "NetSearchModel", name := "anew", desc := "()V" } : Jvm.MethodName) prog_6_method_2_code (3 : Nat) (Option.none : Option Jvm.ClassFile.FieldType)) ∈ lw_all := lw_g (lw_at lw_m3 2 rfl) rfl
theorem q521 : (Jvm.Cond.methodLink "NetSearchModel" (121 : Nat) ({ cls := "NetSearchModel", name := "cubeBeside", desc := "(II)I" } : Jvm.MethodName)) ∈ lw_all := lw_g (lw_at lw_m3 3 rfl) rfl
theorem q522 : (Jvm.Cond.privateMethod ({ cls := "NetSearchModel", name := "cubeBeside", desc := "(II)I" } : Jvm.MethodName)) ∈ lw_tbl := lw_at lw_m3 4 rfl
theorem q523 : (Jvm.Cond.instanceMethod ({ cls := "NetSearchModel", name := "cubeBeside", desc := "(II)I" } : Jvm.MethodName)) ∈ lw_all := lw_g (lw_at lw_m3 5 rfl) rfl
theorem q524 : (Jvm.Cond.code ({ cls := "NetSearchModel", name := "cubeBeside", desc := "(II)I" } : Jvm.MethodName) prog_6_method_7_code (3 : Nat) (Option.some Jvm.ClassFile.FieldType.int)) ∈ lw_all := lw_g (lw_at lw_m3 6 rfl) rfl
theorem q525 : (Jvm.Cond.methodLink "NetSearchModel" (157 : Nat) ({ cls := "NetSearchModel", name := "stepX", desc := "(I)I" } : Jvm.MethodName)) ∈ lw_all := lw_g (lw_at lw_m3 7 rfl) rfl
theorem q526 : (Jvm.Cond.static ({ cls := "NetSearchModel", name := "stepX", desc := "(I)I" } : Jvm.MethodName)) ∈ lw_all := lw_g (lw_at lw_m3 8 rfl) rfl
theorem q527 : (Jvm.Cond.code ({ cls := "NetSearchModel", name := "stepX", desc := "(I)I" } : Jvm.MethodName) prog_6_method_3_code (1 : Nat) (Option.some Jvm.ClassFile.FieldType.int)) ∈ lw_all := lw_g (lw_at lw_m3 9 rfl) rfl
theorem q528 : (Jvm.Cond.methodLink "NetSearchModel" (160 : Nat) ({ cls := "NetSearchModel", name := "stepY", desc := "(I)I" } : Jvm.MethodName)) ∈ lw_all := lw_g (lw_at lw_m3 10 rfl) rfl
theorem q529 : (Jvm.Cond.static ({ cls := "NetSearchModel", name := "stepY", desc := "(I)I" } : Jvm.MethodName)) ∈ lw_all := lw_g (lw_at lw_m3 11 rfl) rfl
theorem q530 : (Jvm.Cond.code ({ cls := "NetSearchModel", name := "stepY", desc := "(I)I" } : Jvm.MethodName) prog_6_method_4_code (1 : Nat) (Option.some Jvm.ClassFile.FieldType.int)) ∈ lw_all := lw_g (lw_at lw_m3 12 rfl) rfl
theorem q531 : (Jvm.Cond.methodLink "NetSearchModel" (163 : Nat) ({ cls := "NetSearchModel", name := "stepZ", desc := "(I)I" } : Jvm.MethodName)) ∈ lw_all := lw_g (lw_at lw_m3 13 rfl) rfl
theorem q532 : (Jvm.Cond.static ({ cls := "NetSearchModel", name := "stepZ", desc := "(I)I" } : Jvm.MethodName)) ∈ lw_all := lw_g (lw_at lw_m3 14 rfl) rfl
theorem q533 : (Jvm.Cond.code ({ cls := "NetSearchModel", name := "stepZ", desc := "(I)I" } : Jvm.MethodName) prog_6_method_5_code (1 : Nat) (Option.some Jvm.ClassFile.FieldType.int)) ∈ lw_all := lw_g (lw_at lw_m3 15 rfl) rfl
theorem q534 : (Jvm.Cond.methodLink "NetSearchModel" (166 : Nat) ({ cls := "NetSearchModel", name := "cubeAt", desc := "(III)I" } : Jvm.MethodName)) ∈ lw_all := lw_g (lw_at lw_m3 16 rfl) rfl
theorem q535 : (Jvm.Cond.privateMethod ({ cls := "NetSearchModel", name := "cubeAt", desc := "(III)I" } : Jvm.MethodName)) ∈ lw_tbl := lw_at lw_m3 17 rfl
theorem q536 : (Jvm.Cond.instanceMethod ({ cls := "NetSearchModel", name := "cubeAt", desc := "(III)I" } : Jvm.MethodName)) ∈ lw_all := lw_g (lw_at lw_m3 18 rfl) rfl
theorem q537 : (Jvm.Cond.code ({ cls := "NetSearchModel", name := "cubeAt", desc := "(III)I" } : Jvm.MethodName) prog_6_method_6_code (5 : Nat) (Option.some Jvm.ClassFile.FieldType.int)) ∈ lw_all := lw_g (lw_at lw_m3 19 rfl) rfl
theorem q538 : (Jvm.Cond.methodLink "NetSearchModel" (125 : Nat) ({ cls := "NetSearchModel", name := "found", desc := "(II)I" } : Jvm.MethodName)) ∈ lw_all := lw_g (lw_at lw_m3 20 rfl) rfl
theorem q539 : (Jvm.Cond.privateMethod ({ cls := "NetSearchModel", name := "found", desc := "(II)I" } : Jvm.MethodName)) ∈ lw_tbl := lw_at lw_m3 21 rfl
theorem q540 : (Jvm.Cond.instanceMethod ({ cls := "NetSearchModel", name := "found", desc := "(II)I" } : Jvm.MethodName)) ∈ lw_all := lw_g (lw_at lw_m3 22 rfl) rfl
theorem q541 : (Jvm.Cond.code ({ cls := "NetSearchModel", name := "found", desc := "(II)I" } : Jvm.MethodName) prog_6_method_14_code (6 : Nat) (Option.some Jvm.ClassFile.FieldType.int)) ∈ lw_all := lw_g (lw_at lw_m3 23 rfl) rfl
theorem q542 : (Jvm.Cond.methodLink "NetSearchModel" (170 : Nat) ({ cls := "NetSearchModel", name := "edge", desc := "(II)I" } : Jvm.MethodName)) ∈ lw_all := lw_g (lw_at lw_m3 24 rfl) rfl
theorem q543 : (Jvm.Cond.privateMethod ({ cls := "NetSearchModel", name := "edge", desc := "(II)I" } : Jvm.MethodName)) ∈ lw_tbl := lw_at lw_m3 25 rfl
theorem q544 : (Jvm.Cond.instanceMethod ({ cls := "NetSearchModel", name := "edge", desc := "(II)I" } : Jvm.MethodName)) ∈ lw_all := lw_g (lw_at lw_m3 26 rfl) rfl
theorem q545 : (Jvm.Cond.code ({ cls := "NetSearchModel", name := "edge", desc := "(II)I" } : Jvm.MethodName) prog_6_method_11_code (5 : Nat) (Option.some Jvm.ClassFile.FieldType.int)) ∈ lw_all := lw_g (lw_at lw_m3 27 rfl) rfl
theorem q546 : (Jvm.Cond.methodLink "NetSearchModel" (173 : Nat) ({ cls := "NetSearchModel", name := "faceOf", desc := "(II)I" } : Jvm.MethodName)) ∈ lw_all := lw_g (lw_at lw_m3 28 rfl) rfl
theorem q547 : (Jvm.Cond.privateMethod ({ cls := "NetSearchModel", name := "faceOf", desc := "(II)I" } : Jvm.MethodName)) ∈ lw_tbl := lw_at lw_m3 29 rfl
theorem q548 : (Jvm.Cond.instanceMethod ({ cls := "NetSearchModel", name := "faceOf", desc := "(II)I" } : Jvm.MethodName)) ∈ lw_all := lw_g (lw_at lw_m3 30 rfl) rfl
theorem q549 : (Jvm.Cond.code ({ cls := "NetSearchModel", name := "faceOf", desc := "(II)I" } : Jvm.MethodName) prog_6_method_10_code (4 : Nat) (Option.some Jvm.ClassFile.FieldType.int)) ∈ lw_all := lw_g (lw_at lw_m3 31 rfl) rfl
theorem q550 : (Jvm.Cond.methodLink "NetSearchModel" (128 : Nat) ({ cls := "NetSearchModel", name := "led", desc := "(II)I" } : Jvm.MethodName)) ∈ lw_all := lw_g (lw_at lw_m3 32 rfl) rfl
theorem q551 : (Jvm.Cond.privateMethod ({ cls := "NetSearchModel", name := "led", desc := "(II)I" } : Jvm.MethodName)) ∈ lw_tbl := lw_at lw_m3 33 rfl
theorem q552 : (Jvm.Cond.instanceMethod ({ cls := "NetSearchModel", name := "led", desc := "(II)I" } : Jvm.MethodName)) ∈ lw_all := lw_g (lw_at lw_m3 34 rfl) rfl
theorem q553 : (Jvm.Cond.code ({ cls := "NetSearchModel", name := "led", desc := "(II)I" } : Jvm.MethodName) prog_6_method_15_code (4 : Nat) (Option.some Jvm.ClassFile.FieldType.int)) ∈ lw_all := lw_g (lw_at lw_m3 35 rfl) rfl
theorem q554 : (Jvm.Cond.methodLink "NetSearchModel" (150 : Nat) ({ cls := "NetSearchModel", name := "firstRight", desc := "(I)I" } : Jvm.MethodName)) ∈ lw_all := lw_g (lw_at lw_m3 36 rfl) rfl
theorem q555 : (Jvm.Cond.static ({ cls := "NetSearchModel", name := "firstRight", desc := "(I)I" } : Jvm.MethodName)) ∈ lw_all := lw_g (lw_at lw_m3 37 rfl) rfl
theorem q556 : (Jvm.Cond.code ({ cls := "NetSearchModel", name := "firstRight", desc := "(I)I" } : Jvm.MethodName) prog_6_method_8_code (1 : Nat) (Option.some Jvm.ClassFile.FieldType.int)) ∈ lw_all := lw_g (lw_at lw_m3 38 rfl) rfl
theorem q557 : (Jvm.Cond.methodLink "NetSearchModel" (154 : Nat) ({ cls := "NetSearchModel", name := "firstUp", desc := "(I)I" } : Jvm.MethodName)) ∈ lw_all := lw_g (lw_at lw_m3 39 rfl) rfl
theorem q558 : (Jvm.Cond.static ({ cls := "NetSearchModel", name := "firstUp", desc := "(I)I" } : Jvm.MethodName)) ∈ lw_all := lw_g (lw_at lw_m3 40 rfl) rfl
theorem q559 : (Jvm.Cond.code ({ cls := "NetSearchModel", name := "firstUp", desc := "(I)I" } : Jvm.MethodName) prog_6_method_9_code (1 : Nat) (Option.some Jvm.ClassFile.FieldType.int)) ∈ lw_all := lw_g (lw_at lw_m3 41 rfl) rfl
theorem q560 : (Jvm.Cond.fieldLink "NetSearchModel" (118 : Nat) "NetSearchModel" "cubes" "I") ∈ lw_all := lw_g (lw_at lw_m3 42 rfl) rfl
theorem q561 : (Jvm.Cond.fieldLink "NetSearchModel" (7 : Nat) "NetSearchModel" "cubeX" "[I") ∈ lw_all := lw_g (lw_at lw_m3 43 rfl) rfl
theorem q562 : (Jvm.Cond.fieldLink "NetSearchModel" (13 : Nat) "NetSearchModel" "cubeY" "[I") ∈ lw_all := lw_g (lw_at lw_m3 44 rfl) rfl
theorem q563 : (Jvm.Cond.fieldLink "NetSearchModel" (16 : Nat) "NetSearchModel" "cubeZ" "[I") ∈ lw_all := lw_g (lw_at lw_m3 45 rfl) rfl
theorem q564 : (Jvm.Cond.fieldLink "NetSearchModel" (115 : Nat) "NetSearchModel" "faces" "I") ∈ lw_all := lw_g (lw_at lw_m3 46 rfl) rfl
theorem q565 : (Jvm.Cond.fieldLink "NetSearchModel" (19 : Nat) "NetSearchModel" "cubeOf" "[I") ∈ lw_all := lw_g (lw_at lw_m3 47 rfl) rfl
theorem q566 : (Jvm.Cond.fieldLink "NetSearchModel" (22 : Nat) "NetSearchModel" "looks" "[I") ∈ lw_all := lw_g (lw_at lw_m3 48 rfl) rfl
theorem q567 : (Jvm.Cond.fieldLink "NetSearchModel" (111 : Nat) "NetSearchModel" "laid" "I") ∈ lw_all := lw_g (lw_at lw_m3 49 rfl) rfl
theorem q568 : (Jvm.Cond.fieldLink "NetSearchModel" (25 : Nat) "NetSearchModel" "lies" "[Z") ∈ lw_all := lw_g (lw_at lw_m3 50 rfl) rfl
theorem q569 : (Jvm.Cond.fieldLink "NetSearchModel" (29 : Nat) "NetSearchModel" "handX" "[I") ∈ lw_all := lw_g (lw_at lw_m3 51 rfl) rfl
theorem q570 : (Jvm.Cond.fieldLink "NetSearchModel" (32 : Nat) "NetSearchModel" "handY" "[I") ∈ lw_all := lw_g (lw_at lw_m3 52 rfl) rfl
theorem q571 : (Jvm.Cond.fieldLink "NetSearchModel" (35 : Nat) "NetSearchModel" "handRight" "[I") ∈ lw_all := lw_g (lw_at lw_m3 53 rfl) rfl
theorem q572 : (Jvm.Cond.fieldLink "NetSearchModel" (38 : Nat) "NetSearchModel" "handUp" "[I") ∈ lw_all := lw_g (lw_at lw_m3 54 rfl) rfl
theorem q573 : (Jvm.Cond.fieldLink "NetSearchModel" (144 : Nat) "NetSearchModel" "count" "I") ∈ lw_all := lw_g (lw_at lw_m3 55 rfl) rfl
theorem q574 : (Jvm.Cond.fieldLink "NetSearchModel" (41 : Nat) "NetSearchModel" "order" "[I") ∈ lw_all := lw_g (lw_at lw_m3 56 rfl) rfl
theorem q575 : (Jvm.Cond.fieldLink "NetSearchModel" (44 : Nat) "NetSearchModel" "choice" "[I") ∈ lw_all := lw_g (lw_at lw_m3 57 rfl) rfl
theorem q576 : (Jvm.Cond.fieldLink "NetSearchModel" (47 : Nat) "NetSearchModel" "has" "[Z") ∈ lw_all := lw_g (lw_at lw_m3 58 rfl) rfl
theorem q577 : (Jvm.Cond.fieldLink "NetSearchModel" (50 : Nat) "NetSearchModel" "atX" "[I") ∈ lw_all := lw_g (lw_at lw_m3 59 rfl) rfl
theorem q578 : (Jvm.Cond.fieldLink "NetSearchModel" (53 : Nat) "NetSearchModel" "atY" "[I") ∈ lw_all := lw_g (lw_at lw_m3 60 rfl) rfl
theorem q579 : (Jvm.Cond.fieldLink "NetSearchModel" (56 : Nat) "NetSearchModel" "right" "[I") ∈ lw_all := lw_g (lw_at lw_m3 61 rfl) rfl
theorem q580 : (Jvm.Cond.fieldLink "NetSearchModel" (59 : Nat) "NetSearchModel" "up" "[I") ∈ lw_all := lw_g (lw_at lw_m3 62 rfl) rfl
theorem q581 : (Jvm.Cond.fieldLink "NetSearchModel" (147 : Nat) "NetSearchModel" "step" "I") ∈ lw_all := lw_g (lw_at lw_m3 63 rfl) rfl
theorem q582 : (Jvm.Cond.fieldLink "NetSearchModel" (140 : Nat) "NetSearchModel" "ended" "Z") ∈ lw_all := lw_g (lw_at lw_m3 64 rfl) rfl
theorem q583 : (Jvm.Cond.fieldLink "NetSearchModel" (131 : Nat) "NetSearchModel" "nets" "I") ∈ lw_all := lw_g (lw_at lw_m3 65 rfl) rfl
theorem q584 : (Jvm.Cond.fieldLink "NetSearchModel" (134 : Nat) "NetSearchModel" "work" "I") ∈ lw_all := lw_g (lw_at lw_m3 66 rfl) rfl
theorem q585 : (Jvm.Cond.fieldLink "NetSearchModel" (235 : Nat) "NetSearchModel" "bestWidth" "I") ∈ lw_all := lw_g (lw_at lw_m3 67 rfl) rfl
theorem q586 : (Jvm.Cond.fieldLink "NetSearchModel" (238 : Nat) "NetSearchModel" "bestHeight" "I") ∈ lw_all := lw_g (lw_at lw_m3 68 rfl) rfl
theorem q587 : (Jvm.Cond.fieldLink "NetSearchModel" (137 : Nat) "NetSearchModel" "bestNet" "I") ∈ lw_all := lw_g (lw_at lw_m3 69 rfl) rfl
theorem q588 : (Jvm.Cond.fieldLink "NetSearchModel" (62 : Nat) "NetSearchModel" "bestX" "[I") ∈ lw_all := lw_g (lw_at lw_m3 70 rfl) rfl
theorem q589 : (Jvm.Cond.fieldLink "NetSearchModel" (65 : Nat) "NetSearchModel" "bestY" "[I") ∈ lw_all := lw_g (lw_at lw_m3 71 rfl) rfl
theorem q590 : (Jvm.Cond.fieldLink "NetSearchModel" (182 : Nat) "NetSearchModel" "shapes" "I") ∈ lw_all := lw_g (lw_at lw_m3 72 rfl) rfl
theorem q591 : (Jvm.Cond.fieldLink "NetSearchModel" (68 : Nat) "NetSearchModel" "shapeSize" "[I") ∈ lw_all := lw_g (lw_at lw_m3 73 rfl) rfl
theorem q592 : (Jvm.Cond.fieldLink "NetSearchModel" (71 : Nat) "NetSearchModel" "shapeRow" "[I") ∈ lw_all := lw_g (lw_at lw_m3 74 rfl) rfl
theorem q593 : (Jvm.Cond.fieldLink "NetSearchModel" (74 : Nat) "NetSearchModel" "nextFace" "[I") ∈ lw_all := lw_g (lw_at lw_m3 75 rfl) rfl
theorem q594 : (Jvm.Cond.fieldLink "NetSearchModel" (77 : Nat) "NetSearchModel" "leads" "[I") ∈ lw_all := lw_g (lw_at lw_m3 76 rfl) rfl
theorem q595 : (Jvm.Cond.fieldLink "NetSearchModel" (80 : Nat) "NetSearchModel" "grid" "[J") ∈ lw_all := lw_g (lw_at lw_m3 77 rfl) rfl
theorem q596 : (Jvm.Cond.fieldLink "NetSearchModel" (84 : Nat) "NetSearchModel" "imageX" "[I") ∈ lw_all := lw_g (lw_at lw_m3 78 rfl) rfl
theorem q597 : (Jvm.Cond.fieldLink "NetSearchModel" (87 : Nat) "NetSearchModel" "imageY" "[I") ∈ lw_all := lw_g (lw_at lw_m3 79 rfl) rfl
theorem q598 : (Jvm.Cond.fieldLink "NetSearchModel" (90 : Nat) "NetSearchModel" "row" "[I") ∈ lw_all := lw_g (lw_at lw_m3 80 rfl) rfl
theorem q599 : (Jvm.Cond.fieldLink "NetSearchModel" (93 : Nat) "NetSearchModel" "bestRow" "[I") ∈ lw_all := lw_g (lw_at lw_m3 81 rfl) rfl
theorem q600 : (Jvm.Cond.fieldLink "NetSearchModel" (96 : Nat) "NetSearchModel" "on" "[I") ∈ lw_all := lw_g (lw_at lw_m3 82 rfl) rfl
theorem q601 : (Jvm.Cond.fieldLink "NetSearchModel" (99 : Nat) "NetSearchModel" "onRight" "[I") ∈ lw_all := lw_g (lw_at lw_m3 83 rfl) rfl
theorem q602 : (Jvm.Cond.fieldLink "NetSearchModel" (102 : Nat) "NetSearchModel" "onUp" "[I") ∈ lw_all := lw_g (lw_at lw_m3 84 rfl) rfl
theorem q603 : (Jvm.Cond.fieldLink "NetSearchModel" (105 : Nat) "NetSearchModel" "queue" "[I") ∈ lw_all := lw_g (lw_at lw_m3 85 rfl) rfl
theorem q604 : (Jvm.Cond.lays "NetSearchModel" "NetSearchModel" "cubes" "I") ∈ lw_all := lw_g (lw_at lw_m3 86 rfl) rfl
theorem q605 : (Jvm.Cond.soleField "NetSearchModel" "cubes") ∈ lw_all := lw_g (lw_at lw_m3 87 rfl) rfl
theorem q606 : (Jvm.Cond.laysFinal "NetSearchModel" "NetSearchModel" "cubeX" "[I") ∈ lw_all := lw_g (lw_at lw_m3 88 rfl) rfl
theorem q607 : (Jvm.Cond.soleField "NetSearchModel" "cubeX") ∈ lw_all := lw_g (lw_at lw_m3 89 rfl) rfl
theorem q608 : (Jvm.Cond.laysFinal "NetSearchModel" "NetSearchModel" "cubeY" "[I") ∈ lw_all := lw_g (lw_at lw_m3 90 rfl) rfl
theorem q609 : (Jvm.Cond.soleField "NetSearchModel" "cubeY") ∈ lw_all := lw_g (lw_at lw_m3 91 rfl) rfl
theorem q610 : (Jvm.Cond.laysFinal "NetSearchModel" "NetSearchModel" "cubeZ" "[I") ∈ lw_all := lw_g (lw_at lw_m3 92 rfl) rfl
theorem q611 : (Jvm.Cond.soleField "NetSearchModel" "cubeZ") ∈ lw_all := lw_g (lw_at lw_m3 93 rfl) rfl
theorem q612 : (Jvm.Cond.lays "NetSearchModel" "NetSearchModel" "faces" "I") ∈ lw_all := lw_g (lw_at lw_m3 94 rfl) rfl
theorem q613 : (Jvm.Cond.soleField "NetSearchModel" "faces") ∈ lw_all := lw_g (lw_at lw_m3 95 rfl) rfl
theorem q614 : (Jvm.Cond.laysFinal "NetSearchModel" "NetSearchModel" "cubeOf" "[I") ∈ lw_all := lw_g (lw_at lw_m3 96 rfl) rfl
theorem q615 : (Jvm.Cond.soleField "NetSearchModel" "cubeOf") ∈ lw_all := lw_g (lw_at lw_m3 97 rfl) rfl
theorem q616 : (Jvm.Cond.laysFinal "NetSearchModel" "NetSearchModel" "looks" "[I") ∈ lw_all := lw_g (lw_at lw_m3 98 rfl) rfl
theorem q617 : (Jvm.Cond.soleField "NetSearchModel" "looks") ∈ lw_all := lw_g (lw_at lw_m3 99 rfl) rfl
theorem q618 : (Jvm.Cond.lays "NetSearchModel" "NetSearchModel" "laid" "I") ∈ lw_all := lw_g (lw_at lw_m3 100 rfl) rfl
theorem q619 : (Jvm.Cond.soleField "NetSearchModel" "laid") ∈ lw_all := lw_g (lw_at lw_m3 101 rfl) rfl
theorem q620 : (Jvm.Cond.laysFinal "NetSearchModel" "NetSearchModel" "lies" "[Z") ∈ lw_all := lw_g (lw_at lw_m3 102 rfl) rfl
theorem q621 : (Jvm.Cond.soleField "NetSearchModel" "lies") ∈ lw_all := lw_g (lw_at lw_m3 103 rfl) rfl
theorem q622 : (Jvm.Cond.laysFinal "NetSearchModel" "NetSearchModel" "handX" "[I") ∈ lw_all := lw_g (lw_at lw_m3 104 rfl) rfl
theorem q623 : (Jvm.Cond.soleField "NetSearchModel" "handX") ∈ lw_all := lw_g (lw_at lw_m3 105 rfl) rfl
theorem q624 : (Jvm.Cond.laysFinal "NetSearchModel" "NetSearchModel" "handY" "[I") ∈ lw_all := lw_g (lw_at lw_m3 106 rfl) rfl
theorem q625 : (Jvm.Cond.soleField "NetSearchModel" "handY") ∈ lw_all := lw_g (lw_at lw_m3 107 rfl) rfl
theorem q626 : (Jvm.Cond.laysFinal "NetSearchModel" "NetSearchModel" "handRight" "[I") ∈ lw_all := lw_g (lw_at lw_m3 108 rfl) rfl
theorem q627 : (Jvm.Cond.soleField "NetSearchModel" "handRight") ∈ lw_all := lw_g (lw_at lw_m3 109 rfl) rfl
theorem q628 : (Jvm.Cond.laysFinal "NetSearchModel" "NetSearchModel" "handUp" "[I") ∈ lw_all := lw_g (lw_at lw_m3 110 rfl) rfl
theorem q629 : (Jvm.Cond.soleField "NetSearchModel" "handUp") ∈ lw_all := lw_g (lw_at lw_m3 111 rfl) rfl
theorem q630 : (Jvm.Cond.lays "NetSearchModel" "NetSearchModel" "count" "I") ∈ lw_all := lw_g (lw_at lw_m3 112 rfl) rfl
theorem q631 : (Jvm.Cond.soleField "NetSearchModel" "count") ∈ lw_all := lw_g (lw_at lw_m3 113 rfl) rfl
theorem q632 : (Jvm.Cond.laysFinal "NetSearchModel" "NetSearchModel" "order" "[I") ∈ lw_all := lw_g (lw_at lw_m3 114 rfl) rfl
theorem q633 : (Jvm.Cond.soleField "NetSearchModel" "order") ∈ lw_all := lw_g (lw_at lw_m3 115 rfl) rfl
theorem q634 : (Jvm.Cond.laysFinal "NetSearchModel" "NetSearchModel" "choice" "[I") ∈ lw_all := lw_g (lw_at lw_m3 116 rfl) rfl
theorem q635 : (Jvm.Cond.soleField "NetSearchModel" "choice") ∈ lw_all := lw_g (lw_at lw_m3 117 rfl) rfl
theorem q636 : (Jvm.Cond.laysFinal "NetSearchModel" "NetSearchModel" "has" "[Z") ∈ lw_all := lw_g (lw_at lw_m3 118 rfl) rfl
theorem q637 : (Jvm.Cond.soleField "NetSearchModel" "has") ∈ lw_all := lw_g (lw_at lw_m3 119 rfl) rfl
theorem q638 : (Jvm.Cond.laysFinal "NetSearchModel" "NetSearchModel" "atX" "[I") ∈ lw_all := lw_g (lw_at lw_m3 120 rfl) rfl
theorem q639 : (Jvm.Cond.soleField "NetSearchModel" "atX") ∈ lw_all := lw_g (lw_at lw_m3 121 rfl) rfl
theorem q640 : (Jvm.Cond.laysFinal "NetSearchModel" "NetSearchModel" "atY" "[I") ∈ lw_all := lw_g (lw_at lw_m3 122 rfl) rfl
theorem q641 : (Jvm.Cond.soleField "NetSearchModel" "atY") ∈ lw_all := lw_g (lw_at lw_m3 123 rfl) rfl
theorem q642 : (Jvm.Cond.laysFinal "NetSearchModel" "NetSearchModel" "right" "[I") ∈ lw_all := lw_g (lw_at lw_m3 124 rfl) rfl
theorem q643 : (Jvm.Cond.soleField "NetSearchModel" "right") ∈ lw_all := lw_g (lw_at lw_m3 125 rfl) rfl
theorem q644 : (Jvm.Cond.laysFinal "NetSearchModel" "NetSearchModel" "up" "[I") ∈ lw_all := lw_g (lw_at lw_m3 126 rfl) rfl
theorem q645 : (Jvm.Cond.soleField "NetSearchModel" "up") ∈ lw_all := lw_g (lw_at lw_m3 127 rfl) rfl
theorem q646 : (Jvm.Cond.lays "NetSearchModel" "NetSearchModel" "step" "I") ∈ lw_all := lw_g (lw_at lw_m3 128 rfl) rfl
theorem q647 : (Jvm.Cond.soleField "NetSearchModel" "step") ∈ lw_all := lw_g (lw_at lw_m3 129 rfl) rfl
theorem q648 : (Jvm.Cond.lays "NetSearchModel" "NetSearchModel" "ended" "Z") ∈ lw_all := lw_g (lw_at lw_m3 130 rfl) rfl
theorem q649 : (Jvm.Cond.soleField "NetSearchModel" "ended") ∈ lw_all := lw_g (lw_at lw_m3 131 rfl) rfl
theorem q650 : (Jvm.Cond.lays "NetSearchModel" "NetSearchModel" "nets" "I") ∈ lw_all := lw_g (lw_at lw_m3 132 rfl) rfl
theorem q651 : (Jvm.Cond.soleField "NetSearchModel" "nets") ∈ lw_all := lw_g (lw_at lw_m3 133 rfl) rfl
theorem q652 : (Jvm.Cond.lays "NetSearchModel" "NetSearchModel" "work" "I") ∈ lw_all := lw_g (lw_at lw_m3 134 rfl) rfl
theorem q653 : (Jvm.Cond.soleField "NetSearchModel" "work") ∈ lw_all := lw_g (lw_at lw_m3 135 rfl) rfl
theorem q654 : (Jvm.Cond.lays "NetSearchModel" "NetSearchModel" "bestWidth" "I") ∈ lw_all := lw_g (lw_at lw_m3 136 rfl) rfl
theorem q655 : (Jvm.Cond.soleField "NetSearchModel" "bestWidth") ∈ lw_all := lw_g (lw_at lw_m3 137 rfl) rfl
theorem q656 : (Jvm.Cond.lays "NetSearchModel" "NetSearchModel" "bestHeight" "I") ∈ lw_all := lw_g (lw_at lw_m3 138 rfl) rfl
theorem q657 : (Jvm.Cond.soleField "NetSearchModel" "bestHeight") ∈ lw_all := lw_g (lw_at lw_m3 139 rfl) rfl
theorem q658 : (Jvm.Cond.lays "NetSearchModel" "NetSearchModel" "bestNet" "I") ∈ lw_all := lw_g (lw_at lw_m3 140 rfl) rfl
theorem q659 : (Jvm.Cond.soleField "NetSearchModel" "bestNet") ∈ lw_all := lw_g (lw_at lw_m3 141 rfl) rfl
theorem q660 : (Jvm.Cond.laysFinal "NetSearchModel" "NetSearchModel" "bestX" "[I") ∈ lw_all := lw_g (lw_at lw_m3 142 rfl) rfl
theorem q661 : (Jvm.Cond.soleField "NetSearchModel" "bestX") ∈ lw_all := lw_g (lw_at lw_m3 143 rfl) rfl
theorem q662 : (Jvm.Cond.laysFinal "NetSearchModel" "NetSearchModel" "bestY" "[I") ∈ lw_all := lw_g (lw_at lw_m3 144 rfl) rfl
theorem q663 : (Jvm.Cond.soleField "NetSearchModel" "bestY") ∈ lw_all := lw_g (lw_at lw_m3 145 rfl) rfl
theorem q664 : (Jvm.Cond.lays "NetSearchModel" "NetSearchModel" "shapes" "I") ∈ lw_all := lw_g (lw_at lw_m3 146 rfl) rfl
theorem q665 : (Jvm.Cond.soleField "NetSearchModel" "shapes") ∈ lw_all := lw_g (lw_at lw_m3 147 rfl) rfl
theorem q666 : (Jvm.Cond.laysFinal "NetSearchModel" "NetSearchModel" "shapeSize" "[I") ∈ lw_all := lw_g (lw_at lw_m3 148 rfl) rfl
theorem q667 : (Jvm.Cond.soleField "NetSearchModel" "shapeSize") ∈ lw_all := lw_g (lw_at lw_m3 149 rfl) rfl
theorem q668 : (Jvm.Cond.laysFinal "NetSearchModel" "NetSearchModel" "shapeRow" "[I") ∈ lw_all := lw_g (lw_at lw_m3 150 rfl) rfl
theorem q669 : (Jvm.Cond.soleField "NetSearchModel" "shapeRow") ∈ lw_all := lw_g (lw_at lw_m3 151 rfl) rfl
theorem q670 : (Jvm.Cond.laysFinal "NetSearchModel" "NetSearchModel" "nextFace" "[I") ∈ lw_all := lw_g (lw_at lw_m3 152 rfl) rfl
theorem q671 : (Jvm.Cond.soleField "NetSearchModel" "nextFace") ∈ lw_all := lw_g (lw_at lw_m3 153 rfl) rfl
theorem q672 : (Jvm.Cond.laysFinal "NetSearchModel" "NetSearchModel" "leads" "[I") ∈ lw_all := lw_g (lw_at lw_m3 154 rfl) rfl
theorem q673 : (Jvm.Cond.soleField "NetSearchModel" "leads") ∈ lw_all := lw_g (lw_at lw_m3 155 rfl) rfl
theorem q674 : (Jvm.Cond.laysFinal "NetSearchModel" "NetSearchModel" "grid" "[J") ∈ lw_all := lw_g (lw_at lw_m3 156 rfl) rfl
theorem q675 : (Jvm.Cond.soleField "NetSearchModel" "grid") ∈ lw_all := lw_g (lw_at lw_m3 157 rfl) rfl
theorem q676 : (Jvm.Cond.laysFinal "NetSearchModel" "NetSearchModel" "imageX" "[I") ∈ lw_all := lw_g (lw_at lw_m3 158 rfl) rfl
theorem q677 : (Jvm.Cond.soleField "NetSearchModel" "imageX") ∈ lw_all := lw_g (lw_at lw_m3 159 rfl) rfl
theorem q678 : (Jvm.Cond.laysFinal "NetSearchModel" "NetSearchModel" "imageY" "[I") ∈ lw_all := lw_g (lw_at lw_m3 160 rfl) rfl
theorem q679 : (Jvm.Cond.soleField "NetSearchModel" "imageY") ∈ lw_all := lw_g (lw_at lw_m3 161 rfl) rfl
theorem q680 : (Jvm.Cond.laysFinal "NetSearchModel" "NetSearchModel" "row" "[I") ∈ lw_all := lw_g (lw_at lw_m3 162 rfl) rfl
theorem q681 : (Jvm.Cond.soleField "NetSearchModel" "row") ∈ lw_all := lw_g (lw_at lw_m3 163 rfl) rfl
theorem q682 : (Jvm.Cond.laysFinal "NetSearchModel" "NetSearchModel" "bestRow" "[I") ∈ lw_all := lw_g (lw_at lw_m3 164 rfl) rfl
theorem q683 : (Jvm.Cond.soleField "NetSearchModel" "bestRow") ∈ lw_all := lw_g (lw_at lw_m3 165 rfl) rfl
theorem q684 : (Jvm.Cond.laysFinal "NetSearchModel" "NetSearchModel" "on" "[I") ∈ lw_all := lw_g (lw_at lw_m3 166 rfl) rfl
theorem q685 : (Jvm.Cond.soleField "NetSearchModel" "on") ∈ lw_all := lw_g (lw_at lw_m3 167 rfl) rfl
theorem q686 : (Jvm.Cond.laysFinal "NetSearchModel" "NetSearchModel" "onRight" "[I") ∈ lw_all := lw_g (lw_at lw_m3 168 rfl) rfl
theorem q687 : (Jvm.Cond.soleField "NetSearchModel" "onRight") ∈ lw_all := lw_g (lw_at lw_m3 169 rfl) rfl
theorem q688 : (Jvm.Cond.laysFinal "NetSearchModel" "NetSearchModel" "onUp" "[I") ∈ lw_all := lw_g (lw_at lw_m3 170 rfl) rfl
theorem q689 : (Jvm.Cond.soleField "NetSearchModel" "onUp") ∈ lw_all := lw_g (lw_at lw_m3 171 rfl) rfl
theorem q690 : (Jvm.Cond.laysFinal "NetSearchModel" "NetSearchModel" "queue" "[I") ∈ lw_all := lw_g (lw_at lw_m3 172 rfl) rfl
theorem q691 : (Jvm.Cond.soleField "NetSearchModel" "queue") ∈ lw_all := lw_g (lw_at lw_m3 173 rfl) rfl
theorem q692 : (Jvm.Cond.superclass "NetSearchModel" "java/lang/Object") ∈ lw_all := lw_g (lw_at lw_m3 174 rfl) rfl
theorem q694 : (Jvm.Cond.instanceMethod ({ cls := "NetSearchModel", name := "cube", desc := "(III)I" } : Jvm.MethodName)) ∈ lw_all := lw_g (lw_at lw_m3 176 rfl) rfl
theorem q695 : (Jvm.Cond.selects "NetSearchModel" ({ cls := "NetSearchModel", name := "cube", desc := "(III)I" } : Jvm.MethodName) ({ cls := "NetSearchModel", name := "cube", desc := "(III)I" } : Jvm.MethodName)) ∈ lw_all := lw_g (lw_at lw_m3 177 rfl) rfl
theorem q696 : (Jvm.Cond.code ({ cls := "NetSearchModel", name := "cube", desc := "(III)I" } : Jvm.MethodName) prog_6_method_21_code (6 : Nat) (Option.some Jvm.ClassFile.FieldType.int)) ∈ lw_all := lw_g (lw_at lw_m3 178 rfl) rfl
theorem q698 : (Jvm.Cond.instanceMethod ({ cls := "NetSearchModel", name := "clear", desc := "()I" } : Jvm.MethodName)) ∈ lw_all := lw_g (lw_at lw_m3 180 rfl) rfl
theorem q699 : (Jvm.Cond.selects "NetSearchModel" ({ cls := "NetSearchModel", name := "clear", desc := "()I" } : Jvm.MethodName) ({ cls := "NetSearchModel", name := "clear", desc := "()I" } : Jvm.MethodName)) ∈ lw_all := lw_g (lw_at lw_m3 181 rfl) rfl
theorem q700 : (Jvm.Cond.code ({ cls := "NetSearchModel", name := "clear", desc := "()I" } : Jvm.MethodName) prog_6_method_22_code (2 : Nat) (Option.some Jvm.ClassFile.FieldType.int)) ∈ lw_all := lw_g (lw_at lw_m3 182 rfl) rfl
theorem q702 : (Jvm.Cond.instanceMethod ({ cls := "NetSearchModel", name := "forget", desc := "()I" } : Jvm.MethodName)) ∈ lw_all := lw_g (lw_at lw_m3 184 rfl) rfl
theorem q703 : (Jvm.Cond.selects "NetSearchModel" ({ cls := "NetSearchModel", name := "forget", desc := "()I" } : Jvm.MethodName) ({ cls := "NetSearchModel", name := "forget", desc := "()I" } : Jvm.MethodName)) ∈ lw_all := lw_g (lw_at lw_m3 185 rfl) rfl
theorem q704 : (Jvm.Cond.code ({ cls := "NetSearchModel", name := "forget", desc := "()I" } : Jvm.MethodName) prog_6_method_23_code (2 : Nat) (Option.some Jvm.ClassFile.FieldType.int)) ∈ lw_all := lw_g (lw_at lw_m3 186 rfl) rfl
theorem q706 : (Jvm.Cond.instanceMethod ({ cls := "NetSearchModel", name := "face", desc := "(II)I" } : Jvm.MethodName)) ∈ lw_all := lw_g (lw_at lw_m3 188 rfl) rfl
theorem q707 : (Jvm.Cond.selects "NetSearchModel" ({ cls := "NetSearchModel", name := "face", desc := "(II)I" } : Jvm.MethodName) ({ cls := "NetSearchModel", name := "face", desc := "(II)I" } : Jvm.MethodName)) ∈ lw_all := lw_g (lw_at lw_m3 189 rfl) rfl
theorem q708 : (Jvm.Cond.code ({ cls := "NetSearchModel", name := "face", desc := "(II)I" } : Jvm.MethodName) prog_6_method_25_code (3 : Nat) (Option.some Jvm.ClassFile.FieldType.int)) ∈ lw_all := lw_g (lw_at lw_m3 190 rfl) rfl
theorem q709 : (Jvm.Cond.methodLink "NetSearchModel" (185 : Nat) ({ cls := "NetSearchModel", name := "isFace", desc := "(I)Z" } : Jvm.MethodName)) ∈ lw_all := lw_g (lw_at lw_m3 191 rfl) rfl
theorem q710 : (Jvm.Cond.privateMethod ({ cls := "NetSearchModel", name := "isFace", desc := "(I)Z" } : Jvm.MethodName)) ∈ lw_tbl := lw_at lw_m3 192 rfl
theorem q711 : (Jvm.Cond.instanceMethod ({ cls := "NetSearchModel", name := "isFace", desc := "(I)Z" } : Jvm.MethodName)) ∈ lw_all := lw_g (lw_at lw_m3 193 rfl) rfl
theorem q712 : (Jvm.Cond.code ({ cls := "NetSearchModel", name := "isFace", desc := "(I)Z" } : Jvm.MethodName) prog_6_method_24_code (2 : Nat) (Option.some Jvm.ClassFile.FieldType.boolean)) ∈ lw_all := lw_g (lw_at lw_m3 194 rfl) rfl
theorem q714 : (Jvm.Cond.instanceMethod ({ cls := "NetSearchModel", name := "across", desc := "(II)I" } : Jvm.MethodName)) ∈ lw_all := lw_g (lw_at lw_m3 196 rfl) rfl
theorem q715 : (Jvm.Cond.selects "NetSearchModel" ({ cls := "NetSearchModel", name := "across", desc := "(II)I" } : Jvm.MethodName) ({ cls := "NetSearchModel", name := "across", desc := "(II)I" } : Jvm.MethodName)) ∈ lw_all := lw_g (lw_at lw_m3 197 rfl) rfl
theorem q716 : (Jvm.Cond.code ({ cls := "NetSearchModel", name := "across", desc := "(II)I" } : Jvm.MethodName) prog_6_method_26_code (3 : Nat) (Option.some Jvm.ClassFile.FieldType.int)) ∈ lw_all := lw_g (lw_at lw_m3 198 rfl) rfl
theorem q717 : (Jvm.Cond.methodLink "NetSearchModel" (189 : Nat) ({ cls := "NetSearchModel", name := "beside", desc := "(II)I" } : Jvm.MethodName)) ∈ lw_all := lw_g (lw_at lw_m3 199 rfl) rfl
theorem q718 : (Jvm.Cond.privateMethod ({ cls := "NetSearchModel", name := "beside", desc := "(II)I" } : Jvm.MethodName)) ∈ lw_tbl := lw_at lw_m3 200 rfl
theorem q719 : (Jvm.Cond.instanceMethod ({ cls := "NetSearchModel", name := "beside", desc := "(II)I" } : Jvm.MethodName)) ∈ lw_all := lw_g (lw_at lw_m3 201 rfl) rfl
theorem q720 : (Jvm.Cond.code ({ cls := "NetSearchModel", name := "beside", desc := "(II)I" } : Jvm.MethodName) prog_6_method_12_code (3 : Nat) (Option.some Jvm.ClassFile.FieldType.int)) ∈ lw_all := lw_g (lw_at lw_m3 202 rfl) rfl
theorem q722 : (Jvm.Cond.instanceMethod ({ cls := "NetSearchModel", name := "trees", desc := "()J" } : Jvm.MethodName)) ∈ lw_all := lw_g (lw_at lw_m3 204 rfl) rfl
theorem q723 : (Jvm.Cond.selects "NetSearchModel" ({ cls := "NetSearchModel", name := "trees", desc := "()J" } : Jvm.MethodName) ({ cls := "NetSearchModel", name := "trees", desc := "()J" } : Jvm.MethodName)) ∈ lw_all := lw_g (lw_at lw_m3 205 rfl) rfl
theorem q724 : (Jvm.Cond.code ({ cls := "NetSearchModel", name := "trees", desc := "()J" } : Jvm.MethodName) prog_6_method_29_code (11 : Nat) (Option.some Jvm.ClassFile.FieldType.long)) ∈ lw_all := lw_g (lw_at lw_m3 206 rfl) rfl
theorem q725 : (Jvm.Cond.constantLong "NetSearchModel" (198 : Nat) (-2 : Int64)) ∈ lw_all := lw_g (lw_at lw_m3 207 rfl) rfl
theorem q726 : (Jvm.Cond.constantLong "NetSearchModel" (200 : Nat) (2147483647 : Int64)) ∈ lw_all := lw_g (lw_at lw_m3 208 rfl) rfl
theorem q727 : (Jvm.Cond.constantLong "NetSearchModel" (202 : Nat) (2147483629 : Int64)) ∈ lw_all := lw_g (lw_at lw_m3 209 rfl) rfl
theorem q728 : (Jvm.Cond.methodLink "NetSearchModel" (204 : Nat) ({ cls := "NetSearchModel", name := "treesBy", desc := "(J)J" } : Jvm.MethodName)) ∈ lw_all := lw_g (lw_at lw_m3 210 rfl) rfl
theorem q729 : (Jvm.Cond.privateMethod ({ cls := "NetSearchModel", name := "treesBy", desc := "(J)J" } : Jvm.MethodName)) ∈ lw_tbl := lw_at lw_m3 211 rfl
theorem q730 : (Jvm.Cond.instanceMethod ({ cls := "NetSearchModel", name := "treesBy", desc := "(J)J" } : Jvm.MethodName)) ∈ lw_all := lw_g (lw_at lw_m3 212 rfl) rfl
theorem q731 : (Jvm.Cond.code ({ cls := "NetSearchModel", name := "treesBy", desc := "(J)J" } : Jvm.MethodName) prog_6_method_28_code (16 : Nat) (Option.some Jvm.ClassFile.FieldType.long)) ∈ lw_all := lw_g (lw_at lw_m3 213 rfl) rfl
theorem q732 : (Jvm.Cond.constantLong "NetSearchModel" (192 : Nat) (2 : Int64)) ∈ lw_all := lw_g (lw_at lw_m3 214 rfl) rfl
theorem q733 : (Jvm.Cond.methodLink "NetSearchModel" (194 : Nat) ({ cls := "NetSearchModel", name := "power", desc := "(JJJ)J" } : Jvm.MethodName)) ∈ lw_all := lw_g (lw_at lw_m3 215 rfl) rfl
theorem q734 : (Jvm.Cond.static ({ cls := "NetSearchModel", name := "power", desc := "(JJJ)J" } : Jvm.MethodName)) ∈ lw_all := lw_g (lw_at lw_m3 216 rfl) rfl
theorem q735 : (Jvm.Cond.code ({ cls := "NetSearchModel", name := "power", desc := "(JJJ)J" } : Jvm.MethodName) prog_6_method_27_code (12 : Nat) (Option.some Jvm.ClassFile.FieldType.long)) ∈ lw_all := lw_g (lw_at lw_m3 217 rfl) rfl
theorem q737 : (Jvm.Cond.instanceMethod ({ cls := "NetSearchModel", name := "lay", desc := "(I)I" } : Jvm.MethodName)) ∈ lw_all := lw_g (lw_at lw_m3 219 rfl) rfl
theorem q738 : (Jvm.Cond.selects "NetSearchModel" ({ cls := "NetSearchModel", name := "lay", desc := "(I)I" } : Jvm.MethodName) ({ cls := "NetSearchModel", name := "lay", desc := "(I)I" } : Jvm.MethodName)) ∈ lw_all := lw_g (lw_at lw_m3 220 rfl) rfl
theorem q739 : (Jvm.Cond.code ({ cls := "NetSearchModel", name := "lay", desc := "(I)I" } : Jvm.MethodName) prog_6_method_30_code (3 : Nat) (Option.some Jvm.ClassFile.FieldType.int)) ∈ lw_all := lw_g (lw_at lw_m3 221 rfl) rfl
theorem q741 : (Jvm.Cond.instanceMethod ({ cls := "NetSearchModel", name := "grow", desc := "(II)I" } : Jvm.MethodName)) ∈ lw_all := lw_g (lw_at lw_m3 223 rfl) rfl
theorem q742 : (Jvm.Cond.selects "NetSearchModel" ({ cls := "NetSearchModel", name := "grow", desc := "(II)I" } : Jvm.MethodName) ({ cls := "NetSearchModel", name := "grow", desc := "(II)I" } : Jvm.MethodName)) ∈ lw_all := lw_g (lw_at lw_m3 224 rfl) rfl
theorem q743 : (Jvm.Cond.code ({ cls := "NetSearchModel", name := "grow", desc := "(II)I" } : Jvm.MethodName) prog_6_method_31_code (7 : Nat) (Option.some Jvm.ClassFile.FieldType.int)) ∈ lw_all := lw_g (lw_at lw_m3 225 rfl) rfl
theorem q744 : (Jvm.Cond.methodLink "NetSearchModel" (176 : Nat) ({ cls := "NetSearchModel", name := "sideOf", desc := "(III)I" } : Jvm.MethodName)) ∈ lw_all := lw_g (lw_at lw_m3 226 rfl) rfl
theorem q745 : (Jvm.Cond.static ({ cls := "NetSearchModel", name := "sideOf", desc := "(III)I" } : Jvm.MethodName)) ∈ lw_all := lw_g (lw_at lw_m3 227 rfl) rfl
theorem q746 : (Jvm.Cond.code ({ cls := "NetSearchModel", name := "sideOf", desc := "(III)I" } : Jvm.MethodName) prog_6_method_16_code (3 : Nat) (Option.some Jvm.ClassFile.FieldType.int)) ∈ lw_all := lw_g (lw_at lw_m3 228 rfl) rfl
theorem q747 : (Jvm.Cond.methodLink "NetSearchModel" (208 : Nat) ({ cls := "NetSearchModel", name := "sideX", desc := "(I)I" } : Jvm.MethodName)) ∈ lw_all := lw_g (lw_at lw_m3 229 rfl) rfl
theorem q748 : (Jvm.Cond.static ({ cls := "NetSearchModel", name := "sideX", desc := "(I)I" } : Jvm.MethodName)) ∈ lw_all := lw_g (lw_at lw_m3 230 rfl) rfl
theorem q749 : (Jvm.Cond.code ({ cls := "NetSearchModel", name := "sideX", desc := "(I)I" } : Jvm.MethodName) prog_6_method_17_code (1 : Nat) (Option.some Jvm.ClassFile.FieldType.int)) ∈ lw_all := lw_g (lw_at lw_m3 231 rfl) rfl
theorem q750 : (Jvm.Cond.methodLink "NetSearchModel" (211 : Nat) ({ cls := "NetSearchModel", name := "sideY", desc := "(I)I" } : Jvm.MethodName)) ∈ lw_all := lw_g (lw_at lw_m3 232 rfl) rfl
theorem q751 : (Jvm.Cond.static ({ cls := "NetSearchModel", name := "sideY", desc := "(I)I" } : Jvm.MethodName)) ∈ lw_all := lw_g (lw_at lw_m3 233 rfl) rfl
theorem q752 : (Jvm.Cond.code ({ cls := "NetSearchModel", name := "sideY", desc := "(I)I" } : Jvm.MethodName) prog_6_method_18_code (1 : Nat) (Option.some Jvm.ClassFile.FieldType.int)) ∈ lw_all := lw_g (lw_at lw_m3 234 rfl) rfl
theorem q753 : (Jvm.Cond.methodLink "NetSearchModel" (214 : Nat) ({ cls := "NetSearchModel", name := "nextRight", desc := "(IIII)I" } : Jvm.MethodName)) ∈ lw_all := lw_g (lw_at lw_m3 235 rfl) rfl
theorem q754 : (Jvm.Cond.privateMethod ({ cls := "NetSearchModel", name := "nextRight", desc := "(IIII)I" } : Jvm.MethodName)) ∈ lw_tbl := lw_at lw_m3 236 rfl
theorem q755 : (Jvm.Cond.instanceMethod ({ cls := "NetSearchModel", name := "nextRight", desc := "(IIII)I" } : Jvm.MethodName)) ∈ lw_all := lw_g (lw_at lw_m3 237 rfl) rfl
theorem q756 : (Jvm.Cond.code ({ cls := "NetSearchModel", name := "nextRight", desc := "(IIII)I" } : Jvm.MethodName) prog_6_method_19_code (6 : Nat) (Option.some Jvm.ClassFile.FieldType.int)) ∈ lw_all := lw_g (lw_at lw_m3 238 rfl) rfl
theorem q757 : (Jvm.Cond.methodLink "NetSearchModel" (179 : Nat) ({ cls := "NetSearchModel", name := "lead", desc := "(II)I" } : Jvm.MethodName)) ∈ lw_all := lw_g (lw_at lw_m3 239 rfl) rfl
theorem q758 : (Jvm.Cond.privateMethod ({ cls := "NetSearchModel", name := "lead", desc := "(II)I" } : Jvm.MethodName)) ∈ lw_tbl := lw_at lw_m4 0 rfl
theorem q759 : (Jvm.Cond.instanceMethod ({ cls := "NetSearchModel", name := "lead", desc := "(II)I" } : Jvm.MethodName)) ∈ lw_all := lw_g (lw_at lw_m4 1 rfl) rfl
theorem q760 : (Jvm.Cond.code ({ cls := "NetSearchModel", name := "lead", desc := "(II)I" } : Jvm.MethodName) prog_6_method_13_code (3 : Nat) (Option.some Jvm.ClassFile.FieldType.int)) ∈ lw_all := lw_g (lw_at lw_m4 2 rfl) rfl
theorem q761 : (Jvm.Cond.methodLink "NetSearchModel" (218 : Nat) ({ cls := "NetSearchModel", name := "nextUp", desc := "(IIII)I" } : Jvm.MethodName)) ∈ lw_all := lw_g (lw_at lw_m4 3 rfl) rfl
theorem q762 : (Jvm.Cond.privateMethod ({ cls := "NetSearchModel", name := "nextUp", desc := "(IIII)I" } : Jvm.MethodName)) ∈ lw_tbl := lw_at lw_m4 4 rfl
theorem q763 : (Jvm.Cond.instanceMethod ({ cls := "NetSearchModel", name := "nextUp", desc := "(IIII)I" } : Jvm.MethodName)) ∈ lw_all := lw_g (lw_at lw_m4 5 rfl) rfl
theorem q764 : (Jvm.Cond.code ({ cls := "NetSearchModel", name := "nextUp", desc := "(IIII)I" } : Jvm.MethodName) prog_6_method_20_code (6 : Nat) (Option.some Jvm.ClassFile.FieldType.int)) ∈ lw_all := lw_g (lw_at lw_m4 6 rfl) rfl
theorem q766 : (Jvm.Cond.instanceMethod ({ cls := "NetSearchModel", name := "paper", desc := "(II)I" } : Jvm.MethodName)) ∈ lw_all := lw_g (lw_at lw_m4 8 rfl) rfl
theorem q767 : (Jvm.Cond.selects "NetSearchModel" ({ cls := "NetSearchModel", name := "paper", desc := "(II)I" } : Jvm.MethodName) ({ cls := "NetSearchModel", name := "paper", desc := "(II)I" } : Jvm.MethodName)) ∈ lw_all := lw_g (lw_at lw_m4 9 rfl) rfl
theorem q768 : (Jvm.Cond.code ({ cls := "NetSearchModel", name := "paper", desc := "(II)I" } : Jvm.MethodName) prog_6_method_32_code (3 : Nat) (Option.some Jvm.ClassFile.FieldType.int)) ∈ lw_all := lw_g (lw_at lw_m4 10 rfl) rfl
theorem q770 : (Jvm.Cond.instanceMethod ({ cls := "NetSearchModel", name := "run", desc := "(I)I" } : Jvm.MethodName)) ∈ lw_all := lw_g (lw_at lw_m4 12 rfl) rfl
theorem q771 : (Jvm.Cond.selects "NetSearchModel" ({ cls := "NetSearchModel", name := "run", desc := "(I)I" } : Jvm.MethodName) ({ cls := "NetSearchModel", name := "run", desc := "(I)I" } : Jvm.MethodName)) ∈ lw_all := lw_g (lw_at lw_m4 13 rfl) rfl
theorem q772 : (Jvm.Cond.code ({ cls := "NetSearchModel", name := "run", desc := "(I)I" } : Jvm.MethodName) prog_6_method_34_code (8 : Nat) (Option.some Jvm.ClassFile.FieldType.int)) ∈ lw_all := lw_g (lw_at lw_m4 14 rfl) rfl
theorem q773 : (Jvm.Cond.methodLink "NetSearchModel" (221 : Nat) ({ cls := "NetSearchModel", name := "net", desc := "()V" } : Jvm.MethodName)) ∈ lw_all := lw_g (lw_at lw_m4 15 rfl) rfl
theorem q774 : (Jvm.Cond.privateMethod ({ cls := "NetSearchModel", name := "net", desc := "()V" } : Jvm.MethodName)) ∈ lw_tbl := lw_at lw_m4 16 rfl
theorem q775 : (Jvm.Cond.instanceMethod ({ cls := "NetSearchModel", name := "net", desc := "()V" } : Jvm.MethodName)) ∈ lw_all := lw_g (lw_at lw_m4 17 rfl) rfl
theorem q776 : (Jvm.Cond.code ({ cls := "NetSearchModel", name := "net", desc := "()V" } : Jvm.MethodName) prog_6_method_39_code (9 : Nat) (Option.none : Option Jvm.ClassFile.FieldType)) ∈ lw_all := lw_g (lw_at lw_m4 18 rfl) rfl
theorem q777 : (Jvm.Cond.methodLink "NetSearchModel" (228 : Nat) ({ cls := "NetSearchModel", name := "most", desc := "([I)I" } : Jvm.MethodName)) ∈ lw_all := lw_g (lw_at lw_m4 19 rfl) rfl
theorem q778 : (Jvm.Cond.privateMethod ({ cls := "NetSearchModel", name := "most", desc := "([I)I" } : Jvm.MethodName)) ∈ lw_tbl := lw_at lw_m4 20 rfl
theorem q779 : (Jvm.Cond.instanceMethod ({ cls := "NetSearchModel", name := "most", desc := "([I)I" } : Jvm.MethodName)) ∈ lw_all := lw_g (lw_at lw_m4 21 rfl) rfl
theorem q780 : (Jvm.Cond.code ({ cls := "NetSearchModel", name := "most", desc := "([I)I" } : Jvm.MethodName) prog_6_method_36_code (4 : Nat) (Option.some Jvm.ClassFile.FieldType.int)) ∈ lw_all := lw_g (lw_at lw_m4 22 rfl) rfl
theorem q781 : (Jvm.Cond.methodLink "NetSearchModel" (232 : Nat) ({ cls := "NetSearchModel", name := "least", desc := "([I)I" } : Jvm.MethodName)) ∈ lw_all := lw_g (lw_at lw_m4 23 rfl) rfl
theorem q782 : (Jvm.Cond.privateMethod ({ cls := "NetSearchModel", name := "least", desc := "([I)I" } : Jvm.MethodName)) ∈ lw_tbl := lw_at lw_m4 24 rfl
theorem q783 : (Jvm.Cond.instanceMethod ({ cls := "NetSearchModel", name := "least", desc := "([I)I" } : Jvm.MethodName)) ∈ lw_all := lw_g (lw_at lw_m4 25 rfl) rfl
theorem q784 : (Jvm.Cond.code ({ cls := "NetSearchModel", name := "least", desc := "([I)I" } : Jvm.MethodName) prog_6_method_35_code (4 : Nat) (Option.some Jvm.ClassFile.FieldType.int)) ∈ lw_all := lw_g (lw_at lw_m4 26 rfl) rfl
theorem q785 : (Jvm.Cond.methodLink "NetSearchModel" (241 : Nat) ({ cls := "NetSearchModel", name := "imageOfX", desc := "(III)I" } : Jvm.MethodName)) ∈ lw_all := lw_g (lw_at lw_m4 27 rfl) rfl
theorem q786 : (Jvm.Cond.static ({ cls := "NetSearchModel", name := "imageOfX", desc := "(III)I" } : Jvm.MethodName)) ∈ lw_all := lw_g (lw_at lw_m4 28 rfl) rfl
theorem q787 : (Jvm.Cond.code ({ cls := "NetSearchModel", name := "imageOfX", desc := "(III)I" } : Jvm.MethodName) prog_6_method_37_code (4 : Nat) (Option.some Jvm.ClassFile.FieldType.int)) ∈ lw_all := lw_g (lw_at lw_m4 29 rfl) rfl
theorem q788 : (Jvm.Cond.methodLink "NetSearchModel" (244 : Nat) ({ cls := "NetSearchModel", name := "imageOfY", desc := "(III)I" } : Jvm.MethodName)) ∈ lw_all := lw_g (lw_at lw_m4 30 rfl) rfl
theorem q789 : (Jvm.Cond.static ({ cls := "NetSearchModel", name := "imageOfY", desc := "(III)I" } : Jvm.MethodName)) ∈ lw_all := lw_g (lw_at lw_m4 31 rfl) rfl
theorem q790 : (Jvm.Cond.code ({ cls := "NetSearchModel", name := "imageOfY", desc := "(III)I" } : Jvm.MethodName) prog_6_method_38_code (4 : Nat) (Option.some Jvm.ClassFile.FieldType.int)) ∈ lw_all := lw_g (lw_at lw_m4 32 rfl) rfl
theorem q791 : (Jvm.Cond.methodLink "NetSearchModel" (247 : Nat) ({ cls := "NetSearchModel", name := "keep", desc := "()V" } : Jvm.MethodName)) ∈ lw_all := lw_g (lw_at lw_m4 33 rfl) rfl
theorem q792 : (Jvm.Cond.privateMethod ({ cls := "NetSearchModel", name := "keep", desc := "()V" } : Jvm.MethodName)) ∈ lw_tbl := lw_at lw_m4 34 rfl
theorem q793 : (Jvm.Cond.instanceMethod ({ cls := "NetSearchModel", name := "keep", desc := "()V" } : Jvm.MethodName)) ∈ lw_all := lw_g (lw_at lw_m4 35 rfl) rfl
theorem q794 : (Jvm.Cond.code ({ cls := "NetSearchModel", name := "keep", desc := "()V" } : Jvm.MethodName) prog_6_method_40_code (4 : Nat) (Option.none : Option Jvm.ClassFile.FieldType)) ∈ lw_all := lw_g (lw_at lw_m4 36 rfl) rfl
theorem q795 : (Jvm.Cond.methodLink "NetSearchModel" (224 : Nat) ({ cls := "NetSearchModel", name := "isEmpty", desc := "(II)Z" } : Jvm.MethodName)) ∈ lw_all := lw_g (lw_at lw_m4 37 rfl) rfl
theorem q796 : (Jvm.Cond.privateMethod ({ cls := "NetSearchModel", name := "isEmpty", desc := "(II)Z" } : Jvm.MethodName)) ∈ lw_tbl := lw_at lw_m4 38 rfl
theorem q797 : (Jvm.Cond.instanceMethod ({ cls := "NetSearchModel", name := "isEmpty", desc := "(II)Z" } : Jvm.MethodName)) ∈ lw_all := lw_g (lw_at lw_m4 39 rfl) rfl
theorem q798 : (Jvm.Cond.code ({ cls := "NetSearchModel", name := "isEmpty", desc := "(II)Z" } : Jvm.MethodName) prog_6_method_33_code (5 : Nat) (Option.some Jvm.ClassFile.FieldType.boolean)) ∈ lw_all := lw_g (lw_at lw_m4 40 rfl) rfl
theorem q800 : (Jvm.Cond.instanceMethod ({ cls := "NetSearchModel", name := "told", desc := "(I)I" } : Jvm.MethodName)) ∈ lw_all := lw_g (lw_at lw_m4 42 rfl) rfl
theorem q801 : (Jvm.Cond.selects "NetSearchModel" ({ cls := "NetSearchModel", name := "told", desc := "(I)I" } : Jvm.MethodName) ({ cls := "NetSearchModel", name := "told", desc := "(I)I" } : Jvm.MethodName)) ∈ lw_all := lw_g (lw_at lw_m4 43 rfl) rfl
theorem q802 : (Jvm.Cond.code ({ cls := "NetSearchModel", name := "told", desc := "(I)I" } : Jvm.MethodName) prog_6_method_41_code (2 : Nat) (Option.some Jvm.ClassFile.FieldType.int)) ∈ lw_all := lw_g (lw_at lw_m4 44 rfl) rfl
theorem q804 : (Jvm.Cond.instanceMethod ({ cls := "NetSearchModel", name := "best", desc := "(II)I" } : Jvm.MethodName)) ∈ lw_all := lw_g (lw_at lw_m4 46 rfl) rfl
theorem q805 : (Jvm.Cond.selects "NetSearchModel" ({ cls := "NetSearchModel", name := "best", desc := "(II)I" } : Jvm.MethodName) ({ cls := "NetSearchModel", name := "best", desc := "(II)I" } : Jvm.MethodName)) ∈ lw_all := lw_g (lw_at lw_m4 47 rfl) rfl
theorem q806 : (Jvm.Cond.code ({ cls := "NetSearchModel", name := "best", desc := "(II)I" } : Jvm.MethodName) prog_6_method_42_code (3 : Nat) (Option.some Jvm.ClassFile.FieldType.int)) ∈ lw_all := lw_g (lw_at lw_m4 48 rfl) rfl
theorem q808 : (Jvm.Cond.instanceMethod ({ cls := "NetSearchModel", name := "shape", desc := "(III)I" } : Jvm.MethodName)) ∈ lw_all := lw_g (lw_at lw_m4 50 rfl) rfl
theorem q809 : (Jvm.Cond.selects "NetSearchModel" ({ cls := "NetSearchModel", name := "shape", desc := "(III)I" } : Jvm.MethodName) ({ cls := "NetSearchModel", name := "shape", desc := "(III)I" } : Jvm.MethodName)) ∈ lw_all := lw_g (lw_at lw_m4 51 rfl) rfl
theorem q810 : (Jvm.Cond.code ({ cls := "NetSearchModel", name := "shape", desc := "(III)I" } : Jvm.MethodName) prog_6_method_44_code (4 : Nat) (Option.some Jvm.ClassFile.FieldType.int)) ∈ lw_all := lw_g (lw_at lw_m4 52 rfl) rfl
theorem q811 : (Jvm.Cond.methodLink "NetSearchModel" (250 : Nat) ({ cls := "NetSearchModel", name := "isShape", desc := "(I)Z" } : Jvm.MethodName)) ∈ lw_all := lw_g (lw_at lw_m4 53 rfl) rfl
theorem q812 : (Jvm.Cond.privateMethod ({ cls := "NetSearchModel", name := "isShape", desc := "(I)Z" } : Jvm.MethodName)) ∈ lw_tbl := lw_at lw_m4 54 rfl
theorem q813 : (Jvm.Cond.instanceMethod ({ cls := "NetSearchModel", name := "isShape", desc := "(I)Z" } : Jvm.MethodName)) ∈ lw_all := lw_g (lw_at lw_m4 55 rfl) rfl
theorem q814 : (Jvm.Cond.code ({ cls := "NetSearchModel", name := "isShape", desc := "(I)Z" } : Jvm.MethodName) prog_6_method_43_code (2 : Nat) (Option.some Jvm.ClassFile.FieldType.boolean)) ∈ lw_all := lw_g (lw_at lw_m4 56 rfl) rfl
theorem q816 : (Jvm.Cond.instanceMethod ({ cls := "NetSearchModel", name := "size", desc := "(I)I" } : Jvm.MethodName)) ∈ lw_all := lw_g (lw_at lw_m4 58 rfl) rfl
theorem q817 : (Jvm.Cond.selects "NetSearchModel" ({ cls := "NetSearchModel", name := "size", desc := "(I)I" } : Jvm.MethodName) ({ cls := "NetSearchModel", name := "size", desc := "(I)I" } : Jvm.MethodName)) ∈ lw_all := lw_g (lw_at lw_m4 59 rfl) rfl
theorem q818 : (Jvm.Cond.code ({ cls := "NetSearchModel", name := "size", desc := "(I)I" } : Jvm.MethodName) prog_6_method_45_code (2 : Nat) (Option.some Jvm.ClassFile.FieldType.int)) ∈ lw_all := lw_g (lw_at lw_m4 60 rfl) rfl
theorem q820 : (Jvm.Cond.instanceMethod ({ cls := "NetSearchModel", name := "wraps", desc := "(I)I" } : Jvm.MethodName)) ∈ lw_all := lw_g (lw_at lw_m4 62 rfl) rfl
theorem q821 : (Jvm.Cond.selects "NetSearchModel" ({ cls := "NetSearchModel", name := "wraps", desc := "(I)I" } : Jvm.MethodName) ({ cls := "NetSearchModel", name := "wraps", desc := "(I)I" } : Jvm.MethodName)) ∈ lw_all := lw_g (lw_at lw_m4 63 rfl) rfl
theorem q822 : (Jvm.Cond.code ({ cls := "NetSearchModel", name := "wraps", desc := "(I)I" } : Jvm.MethodName) prog_6_method_48_code (5 : Nat) (Option.some Jvm.ClassFile.FieldType.int)) ∈ lw_all := lw_g (lw_at lw_m4 64 rfl) rfl
theorem q823 : (Jvm.Cond.methodLink "NetSearchModel" (256 : Nat) ({ cls := "NetSearchModel", name := "isWrapped", desc := "(III)Z" } : Jvm.MethodName)) ∈ lw_all := lw_g (lw_at lw_m4 65 rfl) rfl
theorem q824 : (Jvm.Cond.privateMethod ({ cls := "NetSearchModel", name := "isWrapped", desc := "(III)Z" } : Jvm.MethodName)) ∈ lw_tbl := lw_at lw_m4 66 rfl
theorem q825 : (Jvm.Cond.instanceMethod ({ cls := "NetSearchModel", name := "isWrapped", desc := "(III)Z" } : Jvm.MethodName)) ∈ lw_all := lw_g (lw_at lw_m4 67 rfl) rfl
theorem q826 : (Jvm.Cond.code ({ cls := "NetSearchModel", name := "isWrapped", desc := "(III)Z" } : Jvm.MethodName) prog_6_method_47_code (13 : Nat) (Option.some Jvm.ClassFile.FieldType.boolean)) ∈ lw_all := lw_g (lw_at lw_m4 68 rfl) rfl
theorem q827 : (Jvm.Cond.methodLink "NetSearchModel" (253 : Nat) ({ cls := "NetSearchModel", name := "placeAt", desc := "(III)I" } : Jvm.MethodName)) ∈ lw_all := lw_g (lw_at lw_m4 69 rfl) rfl
theorem q828 : (Jvm.Cond.privateMethod ({ cls := "NetSearchModel", name := "placeAt", desc := "(III)I" } : Jvm.MethodName)) ∈ lw_tbl := lw_at lw_m4 70 rfl
theorem q829 : (Jvm.Cond.instanceMethod ({ cls := "NetSearchModel", name := "placeAt", desc := "(III)I" } : Jvm.MethodName)) ∈ lw_all := lw_g (lw_at lw_m4 71 rfl) rfl
theorem q830 : (Jvm.Cond.code ({ cls := "NetSearchModel", name := "placeAt", desc := "(III)I" } : Jvm.MethodName) prog_6_method_46_code (5 : Nat) (Option.some Jvm.ClassFile.FieldType.int)) ∈ lw_all := lw_g (lw_at lw_m4 72 rfl) rfl
theorem in_X4 : ∀ w ∈ wsX40, w ∈ lw_all := lw_in wsX40 [604, 606, 608, 610, 612, 614, 616, 618, 620, 622, 624, 626, 628, 630, 632, 634, 636, 638, 640, 642, 644, 646, 648, 650, 652, 654, 656, 658, 660, 662, 664, 666, 668, 670, 672, 674, 676, 678, 680, 682, 684, 686, 688, 690] (by decide +kernel) (by decide +kernel)

/-! java/util/Arrays -/
def RJ0 : String := "java/util/Arrays"
abbrev cJ0_fill : ByteArray := prog_12_method_101_code
def yJ0_fill : MethodName := ⟨RJ0, "fill", "([JJ)V"⟩
abbrev cJ0_sort : ByteArray := prog_12_method_3_code
def yJ0_sort : MethodName := ⟨RJ0, "sort", "([III)V"⟩
abbrev cJ0_rangeCheck : ByteArray := prog_12_method_30_code
def yJ0_rangeCheck : MethodName := ⟨RJ0, "rangeCheck", "(III)V"⟩
abbrev cJ0_copyOf : ByteArray := prog_12_method_123_code
def yJ0_copyOf : MethodName := ⟨RJ0, "copyOf", "([II)[I"⟩
abbrev cJ0_fill_2 : ByteArray := prog_12_method_103_code
def yJ0_fill_2 : MethodName := ⟨RJ0, "fill", "([II)V"⟩
theorem q45 : (Jvm.Cond.initialized "java/util/Arrays") ∈ lw_all := lw_g (lw_at lw_m1 7 rfl) rfl
theorem q325 : (Jvm.Cond.static ({ cls := "java/util/Arrays", name := "fill", desc := "([JJ)V" } : Jvm.MethodName)) ∈ lw_all := lw_g (lw_at lw_m2 47 rfl) rfl
theorem q326 : (Jvm.Cond.code ({ cls := "java/util/Arrays", name := "fill", desc := "([JJ)V" } : Jvm.MethodName) prog_12_method_101_code (5 : Nat) (Option.none : Option Jvm.ClassFile.FieldType)) ∈ lw_all := lw_g (lw_at lw_m2 48 rfl) rfl
theorem q407 : (Jvm.Cond.static ({ cls := "java/util/Arrays", name := "sort", desc := "([III)V" } : Jvm.MethodName)) ∈ lw_all := lw_g (lw_at lw_m2 129 rfl) rfl
theorem q408 : (Jvm.Cond.code ({ cls := "java/util/Arrays", name := "sort", desc := "([III)V" } : Jvm.MethodName) prog_12_method_3_code (3 : Nat) (Option.none : Option Jvm.ClassFile.FieldType)) ∈ lw_all := lw_g (lw_at lw_m2 130 rfl) rfl
theorem q409 : (Jvm.Cond.methodLink "java/util/Arrays" (13 : Nat) ({ cls := "java/util/Arrays", name := "rangeCheck", desc := "(III)V" } : Jvm.MethodName)) ∈ lw_all := lw_g (lw_at lw_m2 131 rfl) rfl
theorem q410 : (Jvm.Cond.static ({ cls := "java/util/Arrays", name := "rangeCheck", desc := "(III)V" } : Jvm.MethodName)) ∈ lw_all := lw_g (lw_at lw_m2 132 rfl) rfl
theorem q411 : (Jvm.Cond.code ({ cls := "java/util/Arrays", name := "rangeCheck", desc := "(III)V" } : Jvm.MethodName) prog_12_method_30_code (3 : Nat) (Option.none : Option Jvm.ClassFile.FieldType)) ∈ lw_all := lw_g (lw_at lw_m2 133 rfl) rfl
theorem q412 : (Jvm.Cond.methodLink "java/util/Arrays" (7 : Nat) ({ cls := "java/util/DualPivotQuicksort", name := "sort", desc := "([IIII)V" } : Jvm.MethodName)) ∈ lw_all := lw_g (lw_at lw_m2 134 rfl) rfl
theorem q428 : (Jvm.Cond.static ({ cls := "java/util/Arrays", name := "copyOf", desc := "([II)[I" } : Jvm.MethodName)) ∈ lw_all := lw_g (lw_at lw_m2 150 rfl) rfl
theorem q429 : (Jvm.Cond.code ({ cls := "java/util/Arrays", name := "copyOf", desc := "([II)[I" } : Jvm.MethodName) prog_12_method_123_code (3 : Nat) (Option.some (Jvm.ClassFile.FieldType.array Jvm.ClassFile.FieldType.int))) ∈ lw_all := lw_g (lw_at lw_m2 151 rfl) rfl
theorem q430 : (Jvm.Cond.methodLink "java/util/Arrays" (316 : Nat) ({ cls := "[I", name := "clone", desc := "()Ljava/lang/Object;" } : Jvm.MethodName)) ∈ lw_all := lw_g (lw_at lw_m2 152 rfl) rfl
theorem q434 : (Jvm.Cond.classLink "java/util/Arrays" (317 : Nat) "[I") ∈ lw_all := lw_g (lw_at lw_m2 156 rfl) rfl
theorem q435 : (Jvm.Cond.methodLink "java/util/Arrays" (304 : Nat) ({ cls := "java/lang/Math", name := "min", desc := "(II)I" } : Jvm.MethodName)) ∈ lw_all := lw_g (lw_at lw_m2 157 rfl) rfl
theorem q436 : (Jvm.Cond.methodLink "java/util/Arrays" (150 : Nat) ({ cls := "java/lang/System", name := "arraycopy", desc := "(Ljava/lang/Object;ILjava/lang/Object;II)V" } : Jvm.MethodName)) ∈ lw_all := lw_g (lw_at lw_m2 158 rfl) rfl
theorem q487 : (Jvm.Cond.static ({ cls := "java/util/Arrays", name := "fill", desc := "([II)V" } : Jvm.MethodName)) ∈ lw_all := lw_g (lw_at lw_m2 209 rfl) rfl
theorem q488 : (Jvm.Cond.code ({ cls := "java/util/Arrays", name := "fill", desc := "([II)V" } : Jvm.MethodName) prog_12_method_103_code (4 : Nat) (Option.none : Option Jvm.ClassFile.FieldType)) ∈ lw_all := lw_g (lw_at lw_m2 210 rfl) rfl

/-! java/lang/Math -/
def RJ1 : String := "java/lang/Math"
abbrev cJ1_min : ByteArray := prog_10_method_69_code
def yJ1_min : MethodName := ⟨RJ1, "min", "(II)I"⟩
abbrev cJ1_max : ByteArray := prog_10_method_65_code
def yJ1_max : MethodName := ⟨RJ1, "max", "(II)I"⟩
theorem q46 : (Jvm.Cond.initialized "java/lang/Math") ∈ lw_all := lw_g (lw_at lw_m1 8 rfl) rfl
theorem q384 : (Jvm.Cond.static ({ cls := "java/lang/Math", name := "min", desc := "(II)I" } : Jvm.MethodName)) ∈ lw_all := lw_g (lw_at lw_m2 106 rfl) rfl
theorem q385 : (Jvm.Cond.code ({ cls := "java/lang/Math", name := "min", desc := "(II)I" } : Jvm.MethodName) prog_10_method_69_code (2 : Nat) (Option.some Jvm.ClassFile.FieldType.int)) ∈ lw_all := lw_g (lw_at lw_m2 107 rfl) rfl
theorem q387 : (Jvm.Cond.static ({ cls := "java/lang/Math", name := "max", desc := "(II)I" } : Jvm.MethodName)) ∈ lw_all := lw_g (lw_at lw_m2 109 rfl) rfl
theorem q388 : (Jvm.Cond.code ({ cls := "java/lang/Math", name := "max", desc := "(II)I" } : Jvm.MethodName) prog_10_method_65_code (2 : Nat) (Option.some Jvm.ClassFile.FieldType.int)) ∈ lw_all := lw_g (lw_at lw_m2 110 rfl) rfl

/-! java/util/DualPivotQuicksort -/
def RJ2 : String := "java/util/DualPivotQuicksort"
abbrev cJ2_sort : ByteArray := prog_13_method_3_code
def yJ2_sort : MethodName := ⟨RJ2, "sort", "([IIII)V"⟩
abbrev cJ2_sort_2 : ByteArray := prog_13_method_4_code
def yJ2_sort_2 : MethodName := ⟨RJ2, "sort", "(Ljava/util/DualPivotQuicksort$Sorter;[IIII)V"⟩
abbrev cJ2_mixedInsertionSort : ByteArray := prog_13_method_5_code
def yJ2_mixedInsertionSort : MethodName := ⟨RJ2, "mixedInsertionSort", "([IIII)V"⟩
abbrev cJ2_insertionSort : ByteArray := prog_13_method_6_code
def yJ2_insertionSort : MethodName := ⟨RJ2, "insertionSort", "([III)V"⟩
abbrev cJ2_tryMergeRuns : ByteArray := prog_13_method_9_code
def yJ2_tryMergeRuns : MethodName := ⟨RJ2, "tryMergeRuns", "(Ljava/util/DualPivotQuicksort$Sorter;[III)Z"⟩
abbrev cJ2_mergeRuns : ByteArray := prog_13_method_10_code
def yJ2_mergeRuns : MethodName := ⟨RJ2, "mergeRuns", "([I[IIIZ[III)[I"⟩
abbrev cJ2_mergeParts : ByteArray := prog_13_method_11_code
def yJ2_mergeParts : MethodName := ⟨RJ2, "mergeParts", "(Ljava/util/DualPivotQuicksort$Merger;[II[III[III)V"⟩
abbrev cJ2_heapSort : ByteArray := prog_13_method_7_code
def yJ2_heapSort : MethodName := ⟨RJ2, "heapSort", "([III)V"⟩
abbrev cJ2_pushDown : ByteArray := prog_13_method_8_code
def yJ2_pushDown : MethodName := ⟨RJ2, "pushDown", "([IIIII)V"⟩
theorem q48 : (Jvm.Cond.initialized "java/util/DualPivotQuicksort") ∈ lw_all := lw_g (lw_at lw_m1 10 rfl) rfl
theorem q413 : (Jvm.Cond.static ({ cls := "java/util/DualPivotQuicksort", name := "sort", desc := "([IIII)V" } : Jvm.MethodName)) ∈ lw_all := lw_g (lw_at lw_m2 135 rfl) rfl
theorem q414 : (Jvm.Cond.code ({ cls := "java/util/DualPivotQuicksort", name := "sort", desc := "([IIII)V" } : Jvm.MethodName) prog_13_method_3_code (7 : Nat) (Option.none : Option Jvm.ClassFile.FieldType)) ∈ lw_all := lw_g (lw_at lw_m2 136 rfl) rfl
theorem q415 : (Jvm.Cond.methodLink "java/util/DualPivotQuicksort" (26 : Nat) ({ cls := "java/util/DualPivotQuicksort", name := "sort", desc := "(Ljava/util/DualPivotQuicksort$Sorter;[IIII)V" } : Jvm.MethodName)) ∈ lw_all := lw_g (lw_at lw_m2 137 rfl) rfl
theorem q416 : (Jvm.Cond.static ({ cls := "java/util/DualPivotQuicksort", name := "sort", desc := "(Ljava/util/DualPivotQuicksort$Sorter;[IIII)V" } : Jvm.MethodName)) ∈ lw_all := lw_g (lw_at lw_m2 138 rfl) rfl
theorem q417 : (Jvm.Cond.code ({ cls := "java/util/DualPivotQuicksort", name := "sort", desc := "(Ljava/util/DualPivotQuicksort$Sorter;[IIII)V" } : Jvm.MethodName) prog_13_method_4_code (21 : Nat) (Option.none : Option Jvm.ClassFile.FieldType)) ∈ lw_all := lw_g (lw_at lw_m2 139 rfl) rfl
theorem q418 : (Jvm.Cond.methodLink "java/util/DualPivotQuicksort" (30 : Nat) ({ cls := "java/util/DualPivotQuicksort", name := "mixedInsertionSort", desc := "([IIII)V" } : Jvm.MethodName)) ∈ lw_all := lw_g (lw_at lw_m2 140 rfl) rfl
theorem q419 : (Jvm.Cond.static ({ cls := "java/util/DualPivotQuicksort", name := "mixedInsertionSort", desc := "([IIII)V" } : Jvm.MethodName)) ∈ lw_all := lw_g (lw_at lw_m2 141 rfl) rfl
theorem q420 : (Jvm.Cond.code ({ cls := "java/util/DualPivotQuicksort", name := "mixedInsertionSort", desc := "([IIII)V" } : Jvm.MethodName) prog_13_method_5_code (8 : Nat) (Option.none : Option Jvm.ClassFile.FieldType)) ∈ lw_all := lw_g (lw_at lw_m2 142 rfl) rfl
theorem q421 : (Jvm.Cond.methodLink "java/util/DualPivotQuicksort" (34 : Nat) ({ cls := "java/util/DualPivotQuicksort", name := "insertionSort", desc := "([III)V" } : Jvm.MethodName)) ∈ lw_all := lw_g (lw_at lw_m2 143 rfl) rfl
theorem q422 : (Jvm.Cond.static ({ cls := "java/util/DualPivotQuicksort", name := "insertionSort", desc := "([III)V" } : Jvm.MethodName)) ∈ lw_all := lw_g (lw_at lw_m2 144 rfl) rfl
theorem q423 : (Jvm.Cond.code ({ cls := "java/util/DualPivotQuicksort", name := "insertionSort", desc := "([III)V" } : Jvm.MethodName) prog_13_method_6_code (6 : Nat) (Option.none : Option Jvm.ClassFile.FieldType)) ∈ lw_all := lw_g (lw_at lw_m2 145 rfl) rfl
theorem q424 : (Jvm.Cond.methodLink "java/util/DualPivotQuicksort" (38 : Nat) ({ cls := "java/util/DualPivotQuicksort", name := "tryMergeRuns", desc := "(Ljava/util/DualPivotQuicksort$Sorter;[III)Z" } : Jvm.MethodName)) ∈ lw_all := lw_g (lw_at lw_m2 146 rfl) rfl
theorem q425 : (Jvm.Cond.static ({ cls := "java/util/DualPivotQuicksort", name := "tryMergeRuns", desc := "(Ljava/util/DualPivotQuicksort$Sorter;[III)Z" } : Jvm.MethodName)) ∈ lw_all := lw_g (lw_at lw_m2 147 rfl) rfl
theorem q426 : (Jvm.Cond.code ({ cls := "java/util/DualPivotQuicksort", name := "tryMergeRuns", desc := "(Ljava/util/DualPivotQuicksort$Sorter;[III)Z" } : Jvm.MethodName) prog_13_method_9_code (12 : Nat) (Option.some Jvm.ClassFile.FieldType.boolean)) ∈ lw_all := lw_g (lw_at lw_m2 148 rfl) rfl
theorem q427 : (Jvm.Cond.methodLink "java/util/DualPivotQuicksort" (53 : Nat) ({ cls := "java/util/Arrays", name := "copyOf", desc := "([II)[I" } : Jvm.MethodName)) ∈ lw_all := lw_g (lw_at lw_m2 149 rfl) rfl
theorem q437 : (Jvm.Cond.classLink "java/util/DualPivotQuicksort" (63 : Nat) "[I") ∈ lw_all := lw_g (lw_at lw_m2 159 rfl) rfl
theorem q438 : (Jvm.Cond.methodLink "java/util/DualPivotQuicksort" (69 : Nat) ({ cls := "java/util/DualPivotQuicksort", name := "mergeRuns", desc := "([I[IIIZ[III)[I" } : Jvm.MethodName)) ∈ lw_all := lw_g (lw_at lw_m2 160 rfl) rfl
theorem q439 : (Jvm.Cond.static ({ cls := "java/util/DualPivotQuicksort", name := "mergeRuns", desc := "([I[IIIZ[III)[I" } : Jvm.MethodName)) ∈ lw_all := lw_g (lw_at lw_m2 161 rfl) rfl
theorem q440 : (Jvm.Cond.code ({ cls := "java/util/DualPivotQuicksort", name := "mergeRuns", desc := "([I[IIIZ[III)[I" } : Jvm.MethodName) prog_13_method_10_code (18 : Nat) (Option.some (Jvm.ClassFile.FieldType.array Jvm.ClassFile.FieldType.int))) ∈ lw_all := lw_g (lw_at lw_m2 162 rfl) rfl
theorem q441 : (Jvm.Cond.methodLink "java/util/DualPivotQuicksort" (91 : Nat) ({ cls := "java/util/DualPivotQuicksort", name := "mergeParts", desc := "(Ljava/util/DualPivotQuicksort$Merger;[II[III[III)V" } : Jvm.MethodName)) ∈ lw_all := lw_g (lw_at lw_m2 163 rfl) rfl
theorem q442 : (Jvm.Cond.static ({ cls := "java/util/DualPivotQuicksort", name := "mergeParts", desc := "(Ljava/util/DualPivotQuicksort$Merger;[II[III[III)V" } : Jvm.MethodName)) ∈ lw_all := lw_g (lw_at lw_m2 164 rfl) rfl
theorem q443 : (Jvm.Cond.code ({ cls := "java/util/DualPivotQuicksort", name := "mergeParts", desc := "(Ljava/util/DualPivotQuicksort$Merger;[II[III[III)V" } : Jvm.MethodName) prog_13_method_11_code (14 : Nat) (Option.none : Option Jvm.ClassFile.FieldType)) ∈ lw_all := lw_g (lw_at lw_m2 165 rfl) rfl
theorem q444 : (Jvm.Cond.methodLink "java/util/DualPivotQuicksort" (42 : Nat) ({ cls := "java/util/DualPivotQuicksort", name := "heapSort", desc := "([III)V" } : Jvm.MethodName)) ∈ lw_all := lw_g (lw_at lw_m2 166 rfl) rfl
theorem q445 : (Jvm.Cond.static ({ cls := "java/util/DualPivotQuicksort", name := "heapSort", desc := "([III)V" } : Jvm.MethodName)) ∈ lw_all := lw_g (lw_at lw_m2 167 rfl) rfl
theorem q446 : (Jvm.Cond.code ({ cls := "java/util/DualPivotQuicksort", name := "heapSort", desc := "([III)V" } : Jvm.MethodName) prog_13_method_7_code (4 : Nat) (Option.none : Option Jvm.ClassFile.FieldType)) ∈ lw_all := lw_g (lw_at lw_m2 168 rfl) rfl
theorem q447 : (Jvm.Cond.methodLink "java/util/DualPivotQuicksort" (49 : Nat) ({ cls := "java/util/DualPivotQuicksort", name := "pushDown", desc := "([IIIII)V" } : Jvm.MethodName)) ∈ lw_all := lw_g (lw_at lw_m2 169 rfl) rfl
theorem q448 : (Jvm.Cond.static ({ cls := "java/util/DualPivotQuicksort", name := "pushDown", desc := "([IIIII)V" } : Jvm.MethodName)) ∈ lw_all := lw_g (lw_at lw_m2 170 rfl) rfl
theorem q449 : (Jvm.Cond.code ({ cls := "java/util/DualPivotQuicksort", name := "pushDown", desc := "([IIIII)V" } : Jvm.MethodName) prog_13_method_8_code (6 : Nat) (Option.none : Option Jvm.ClassFile.FieldType)) ∈ lw_all := lw_g (lw_at lw_m2 171 rfl) rfl

/-! java/lang/Integer -/
def RJ3 : String := "java/lang/Integer"
abbrev cJ3_bitCount : ByteArray := prog_9_method_49_code
def yJ3_bitCount : MethodName := ⟨RJ3, "bitCount", "(I)I"⟩
theorem q49 : (Jvm.Cond.initialized "java/lang/Integer") ∈ lw_all := lw_g (lw_at lw_m1 11 rfl) rfl
theorem q506 : (Jvm.Cond.static ({ cls := "java/lang/Integer", name := "bitCount", desc := "(I)I" } : Jvm.MethodName)) ∈ lw_all := lw_g (lw_at lw_m2 228 rfl) rfl
theorem q507 : (Jvm.Cond.code ({ cls := "java/lang/Integer", name := "bitCount", desc := "(I)I" } : Jvm.MethodName) prog_9_method_49_code (1 : Nat) (Option.some Jvm.ClassFile.FieldType.int)) ∈ lw_all := lw_g (lw_at lw_m2 229 rfl) rfl
theorem q508 : (Jvm.Cond.constant "java/lang/Integer" (265 : Nat) (1431655765 : Int32)) ∈ lw_all := lw_g (lw_at lw_m2 230 rfl) rfl
theorem q509 : (Jvm.Cond.constant "java/lang/Integer" (266 : Nat) (858993459 : Int32)) ∈ lw_all := lw_g (lw_at lw_m2 231 rfl) rfl
theorem q510 : (Jvm.Cond.constant "java/lang/Integer" (267 : Nat) (252645135 : Int32)) ∈ lw_all := lw_g (lw_at lw_m2 232 rfl) rfl

/-! java/lang/Object -/
def RJ4 : String := "java/lang/Object"
abbrev cJ4_init : ByteArray := object_method_1_code
def yJ4_init : MethodName := ⟨RJ4, "<init>", "()V"⟩
theorem q56 : (Jvm.Cond.instanceMethod ({ cls := "java/lang/Object", name := "<init>", desc := "()V" } : Jvm.MethodName)) ∈ lw_all := lw_g (lw_at lw_m1 18 rfl) rfl
theorem q57 : (Jvm.Cond.code ({ cls := "java/lang/Object", name := "<init>", desc := "()V" } : Jvm.MethodName) object_method_1_code (1 : Nat) (Option.none : Option Jvm.ClassFile.FieldType)) ∈ lw_all := lw_g (lw_at lw_m1 19 rfl) rfl
theorem q65 : (Jvm.Cond.native ({ cls := "java/lang/Object", name := "clone", desc := "()Ljava/lang/Object;" } : Jvm.MethodName)) ∈ lw_all := lw_g (lw_at lw_m1 27 rfl) rfl
theorem q66 : (Jvm.Cond.instanceMethod ({ cls := "java/lang/Object", name := "clone", desc := "()Ljava/lang/Object;" } : Jvm.MethodName)) ∈ lw_all := lw_g (lw_at lw_m1 28 rfl) rfl

/-! the law's own entry -/
abbrev cL_law : ByteArray := code

theorem q38 : (Jvm.Cond.initialized "NetSearchLaw") ∈ lw_all := lw_g (lw_at lw_m1 0 rfl) rfl
theorem q50 : (Jvm.Cond.classLink "NetSearchLaw" (7 : Nat) "NetSearch") ∈ lw_all := lw_g (lw_at lw_m1 12 rfl) rfl
theorem q52 : (Jvm.Cond.methodLink "NetSearchLaw" (9 : Nat) ({ cls := "NetSearch", name := "<init>", desc := "()V" } : Jvm.MethodName)) ∈ lw_all := lw_g (lw_at lw_m1 14 rfl) rfl
theorem q290 : (Jvm.Cond.methodLink "NetSearchLaw" (13 : Nat) ({ cls := "NetSearch", name := "cube", desc := "(III)I" } : Jvm.MethodName)) ∈ lw_all := lw_g (lw_at lw_m2 12 rfl) rfl
theorem q297 : (Jvm.Cond.methodLink "NetSearchLaw" (18 : Nat) ({ cls := "NetSearch", name := "clear", desc := "()I" } : Jvm.MethodName)) ∈ lw_all := lw_g (lw_at lw_m2 19 rfl) rfl
theorem q301 : (Jvm.Cond.methodLink "NetSearchLaw" (27 : Nat) ({ cls := "NetSearch", name := "face", desc := "(II)I" } : Jvm.MethodName)) ∈ lw_all := lw_g (lw_at lw_m2 23 rfl) rfl
theorem q309 : (Jvm.Cond.methodLink "NetSearchLaw" (32 : Nat) ({ cls := "NetSearch", name := "across", desc := "(II)I" } : Jvm.MethodName)) ∈ lw_all := lw_g (lw_at lw_m2 31 rfl) rfl
theorem q313 : (Jvm.Cond.methodLink "NetSearchLaw" (36 : Nat) ({ cls := "NetSearch", name := "trees", desc := "()J" } : Jvm.MethodName)) ∈ lw_all := lw_g (lw_at lw_m2 35 rfl) rfl
theorem q332 : (Jvm.Cond.methodLink "NetSearchLaw" (41 : Nat) ({ cls := "NetSearch", name := "lay", desc := "(I)I" } : Jvm.MethodName)) ∈ lw_all := lw_g (lw_at lw_m2 54 rfl) rfl
theorem q336 : (Jvm.Cond.methodLink "NetSearchLaw" (46 : Nat) ({ cls := "NetSearch", name := "grow", desc := "(II)I" } : Jvm.MethodName)) ∈ lw_all := lw_g (lw_at lw_m2 58 rfl) rfl
theorem q371 : (Jvm.Cond.methodLink "NetSearchLaw" (50 : Nat) ({ cls := "NetSearch", name := "paper", desc := "(II)I" } : Jvm.MethodName)) ∈ lw_all := lw_g (lw_at lw_m2 93 rfl) rfl
theorem q375 : (Jvm.Cond.methodLink "NetSearchLaw" (54 : Nat) ({ cls := "NetSearch", name := "run", desc := "(I)I" } : Jvm.MethodName)) ∈ lw_all := lw_g (lw_at lw_m2 97 rfl) rfl
theorem q458 : (Jvm.Cond.methodLink "NetSearchLaw" (23 : Nat) ({ cls := "NetSearch", name := "forget", desc := "()I" } : Jvm.MethodName)) ∈ lw_all := lw_g (lw_at lw_m2 180 rfl) rfl
theorem q462 : (Jvm.Cond.methodLink "NetSearchLaw" (58 : Nat) ({ cls := "NetSearch", name := "told", desc := "(I)I" } : Jvm.MethodName)) ∈ lw_all := lw_g (lw_at lw_m2 184 rfl) rfl
theorem q466 : (Jvm.Cond.methodLink "NetSearchLaw" (62 : Nat) ({ cls := "NetSearch", name := "best", desc := "(II)I" } : Jvm.MethodName)) ∈ lw_all := lw_g (lw_at lw_m2 188 rfl) rfl
theorem q470 : (Jvm.Cond.methodLink "NetSearchLaw" (70 : Nat) ({ cls := "NetSearch", name := "size", desc := "(I)I" } : Jvm.MethodName)) ∈ lw_all := lw_g (lw_at lw_m2 192 rfl) rfl
theorem q474 : (Jvm.Cond.methodLink "NetSearchLaw" (66 : Nat) ({ cls := "NetSearch", name := "shape", desc := "(III)I" } : Jvm.MethodName)) ∈ lw_all := lw_g (lw_at lw_m2 196 rfl) rfl
theorem q478 : (Jvm.Cond.methodLink "NetSearchLaw" (74 : Nat) ({ cls := "NetSearch", name := "wraps", desc := "(I)I" } : Jvm.MethodName)) ∈ lw_all := lw_g (lw_at lw_m2 200 rfl) rfl
theorem q511 : (Jvm.Cond.classLink "NetSearchLaw" (10 : Nat) "NetSearchModel") ∈ lw_all := lw_g (lw_at lw_m2 233 rfl) rfl
theorem q513 : (Jvm.Cond.methodLink "NetSearchLaw" (12 : Nat) ({ cls := "NetSearchModel", name := "<init>", desc := "()V" } : Jvm.MethodName)) ∈ lw_all := lw_g (lw_at lw_m2 235 rfl) rfl
theorem q693 : (Jvm.Cond.methodLink "NetSearchLaw" (17 : Nat) ({ cls := "NetSearchModel", name := "cube", desc := "(III)I" } : Jvm.MethodName)) ∈ lw_all := lw_g (lw_at lw_m3 175 rfl) rfl
theorem q697 : (Jvm.Cond.methodLink "NetSearchLaw" (22 : Nat) ({ cls := "NetSearchModel", name := "clear", desc := "()I" } : Jvm.MethodName)) ∈ lw_all := lw_g (lw_at lw_m3 179 rfl) rfl
theorem q701 : (Jvm.Cond.methodLink "NetSearchLaw" (26 : Nat) ({ cls := "NetSearchModel", name := "forget", desc := "()I" } : Jvm.MethodName)) ∈ lw_all := lw_g (lw_at lw_m3 183 rfl) rfl
theorem q705 : (Jvm.Cond.methodLink "NetSearchLaw" (31 : Nat) ({ cls := "NetSearchModel", name := "face", desc := "(II)I" } : Jvm.MethodName)) ∈ lw_all := lw_g (lw_at lw_m3 187 rfl) rfl
theorem q713 : (Jvm.Cond.methodLink "NetSearchLaw" (35 : Nat) ({ cls := "NetSearchModel", name := "across", desc := "(II)I" } : Jvm.MethodName)) ∈ lw_all := lw_g (lw_at lw_m3 195 rfl) rfl
theorem q721 : (Jvm.Cond.methodLink "NetSearchLaw" (40 : Nat) ({ cls := "NetSearchModel", name := "trees", desc := "()J" } : Jvm.MethodName)) ∈ lw_all := lw_g (lw_at lw_m3 203 rfl) rfl
theorem q736 : (Jvm.Cond.methodLink "NetSearchLaw" (45 : Nat) ({ cls := "NetSearchModel", name := "lay", desc := "(I)I" } : Jvm.MethodName)) ∈ lw_all := lw_g (lw_at lw_m3 218 rfl) rfl
theorem q740 : (Jvm.Cond.methodLink "NetSearchLaw" (49 : Nat) ({ cls := "NetSearchModel", name := "grow", desc := "(II)I" } : Jvm.MethodName)) ∈ lw_all := lw_g (lw_at lw_m3 222 rfl) rfl
theorem q765 : (Jvm.Cond.methodLink "NetSearchLaw" (53 : Nat) ({ cls := "NetSearchModel", name := "paper", desc := "(II)I" } : Jvm.MethodName)) ∈ lw_all := lw_g (lw_at lw_m4 7 rfl) rfl
theorem q769 : (Jvm.Cond.methodLink "NetSearchLaw" (57 : Nat) ({ cls := "NetSearchModel", name := "run", desc := "(I)I" } : Jvm.MethodName)) ∈ lw_all := lw_g (lw_at lw_m4 11 rfl) rfl
theorem q799 : (Jvm.Cond.methodLink "NetSearchLaw" (61 : Nat) ({ cls := "NetSearchModel", name := "told", desc := "(I)I" } : Jvm.MethodName)) ∈ lw_all := lw_g (lw_at lw_m4 41 rfl) rfl
theorem q803 : (Jvm.Cond.methodLink "NetSearchLaw" (65 : Nat) ({ cls := "NetSearchModel", name := "best", desc := "(II)I" } : Jvm.MethodName)) ∈ lw_all := lw_g (lw_at lw_m4 45 rfl) rfl
theorem q807 : (Jvm.Cond.methodLink "NetSearchLaw" (69 : Nat) ({ cls := "NetSearchModel", name := "shape", desc := "(III)I" } : Jvm.MethodName)) ∈ lw_all := lw_g (lw_at lw_m4 49 rfl) rfl
theorem q815 : (Jvm.Cond.methodLink "NetSearchLaw" (73 : Nat) ({ cls := "NetSearchModel", name := "size", desc := "(I)I" } : Jvm.MethodName)) ∈ lw_all := lw_g (lw_at lw_m4 57 rfl) rfl
theorem q819 : (Jvm.Cond.methodLink "NetSearchLaw" (77 : Nat) ({ cls := "NetSearchModel", name := "wraps", desc := "(I)I" } : Jvm.MethodName)) ∈ lw_all := lw_g (lw_at lw_m4 61 rfl) rfl

theorem q431 : (Jvm.Cond.sameMethod "[I" "java/lang/Object" "clone" "()Ljava/lang/Object;") ∈ lw_all := lw_g (lw_at lw_m2 153 rfl) rfl
theorem q432 : (Jvm.Cond.selects "[I" ({ cls := "[I", name := "clone", desc := "()Ljava/lang/Object;" } : Jvm.MethodName) ({ cls := "java/lang/Object", name := "clone", desc := "()Ljava/lang/Object;" } : Jvm.MethodName)) ∈ lw_all := lw_g (lw_at lw_m2 154 rfl) rfl
theorem q433 : (Jvm.Cond.castable "[I" "java/lang/Cloneable") ∈ lw_tbl := lw_at lw_m2 155 rfl

theorem q64 : (Jvm.Cond.sameMethod "[LNetSearch$Way;" "java/lang/Object" "clone" "()Ljava/lang/Object;") ∈ lw_all := lw_g (lw_at lw_m1 26 rfl) rfl
theorem q67 : (Jvm.Cond.selects "[LNetSearch$Way;" ({ cls := "[LNetSearch$Way;", name := "clone", desc := "()Ljava/lang/Object;" } : Jvm.MethodName) ({ cls := "java/lang/Object", name := "clone", desc := "()Ljava/lang/Object;" } : Jvm.MethodName)) ∈ lw_all := lw_g (lw_at lw_m1 29 rfl) rfl
theorem q68 : (Jvm.Cond.castable "[LNetSearch$Way;" "java/lang/Cloneable") ∈ lw_tbl := lw_at lw_m1 30 rfl

theorem q40 : (Jvm.Cond.initialized "java/lang/Enum") ∈ lw_all := lw_g (lw_at lw_m1 2 rfl) rfl

theorem q47 : (Jvm.Cond.initialized "java/lang/System") ∈ lw_all := lw_g (lw_at lw_m1 9 rfl) rfl
theorem q390 : (Jvm.Cond.static ({ cls := "java/lang/System", name := "arraycopy", desc := "(Ljava/lang/Object;ILjava/lang/Object;II)V" } : Jvm.MethodName)) ∈ lw_all := lw_g (lw_at lw_m2 112 rfl) rfl
theorem q391 : (Jvm.Cond.native ({ cls := "java/lang/System", name := "arraycopy", desc := "(Ljava/lang/Object;ILjava/lang/Object;II)V" } : Jvm.MethodName)) ∈ lw_all := lw_g (lw_at lw_m2 113 rfl) rfl

theorem q69 : (Jvm.Cond.arrayOver (Jvm.ClassFile.FieldType.object "NetSearch$Way")) ∈ lw_tbl := lw_at lw_m1 31 rfl
theorem q72 : (Jvm.Cond.arrayOver (Jvm.ClassFile.FieldType.object "NetSearch$Face")) ∈ lw_tbl := lw_at lw_m1 34 rfl
theorem q74 : (Jvm.Cond.arrayOver (Jvm.ClassFile.FieldType.array Jvm.ClassFile.FieldType.long)) ∈ lw_tbl := lw_at lw_m1 36 rfl
theorem q122 : (Jvm.Cond.arrayClass Jvm.ClassFile.FieldType.int) ∈ lw_all := lw_g (lw_at lw_m1 84 rfl) rfl
theorem q123 : (Jvm.Cond.arrayClass Jvm.ClassFile.FieldType.long) ∈ lw_all := lw_g (lw_at lw_m1 85 rfl) rfl
theorem q124 : (Jvm.Cond.arrayClass Jvm.ClassFile.FieldType.boolean) ∈ lw_all := lw_g (lw_at lw_m1 86 rfl) rfl
theorem q126 : (Jvm.Cond.arrayOver (Jvm.ClassFile.FieldType.array Jvm.ClassFile.FieldType.int)) ∈ lw_tbl := lw_at lw_m1 88 rfl

