/-! PatternPairsLaw -/
set_option maxRecDepth 100000
def RX0 : String := "PatternPairsLaw"
abbrev cX0_feed : ByteArray := method_3_code
def yX0_feed : MethodName := ⟨RX0, "feed", "(LPatternPairs;IIIII[J)I"⟩
abbrev cX0_end : ByteArray := method_4_code
def yX0_end : MethodName := ⟨RX0, "end", "(LPatternPairs;I[J)I"⟩
abbrev cX0_set : ByteArray := method_5_code
def yX0_set : MethodName := ⟨RX0, "set", "(LPatternPairs;I[J)I"⟩
abbrev cX0_empty : ByteArray := method_6_code
def yX0_empty : MethodName := ⟨RX0, "empty", "(LPatternPairs;I[J)I"⟩
abbrev cX0_fits : ByteArray := method_7_code
def yX0_fits : MethodName := ⟨RX0, "fits", "(LPatternPairs;I[J)I"⟩
abbrev cX0_first : ByteArray := method_8_code
def yX0_first : MethodName := ⟨RX0, "first", "(LPatternPairs;I[J)I"⟩
abbrev cX0_octet : ByteArray := method_9_code
def yX0_octet : MethodName := ⟨RX0, "octet", "(LPatternPairs;I[J)I"⟩
abbrev cX0_count : ByteArray := method_10_code
def yX0_count : MethodName := ⟨RX0, "count", "(LPatternPairs;II[J)I"⟩
theorem q58 : (Jvm.Cond.initialized "PatternPairsLaw") ∈ lw_all := lw_g (lw_at lw_m1 0 rfl) rfl
theorem q83 : (Jvm.Cond.classLink "PatternPairsLaw" (8 : Nat) "PatternPairs") ∈ lw_all := lw_g (lw_at lw_m1 25 rfl) rfl
theorem q85 : (Jvm.Cond.methodLink "PatternPairsLaw" (45 : Nat) ({ cls := "PatternPairs", name := "<init>", desc := "()V" } : Jvm.MethodName)) ∈ lw_all := lw_g (lw_at lw_m1 27 rfl) rfl
theorem q573 : (Jvm.Cond.methodLink "PatternPairsLaw" (82 : Nat) ({ cls := "PatternPairs", name := "place", desc := "()I" } : Jvm.MethodName)) ∈ lw_all := lw_g (lw_at lw_m3 35 rfl) rfl
theorem q577 : (Jvm.Cond.methodLink "PatternPairsLaw" (49 : Nat) ({ cls := "PatternPairsLaw", name := "feed", desc := "(LPatternPairs;IIIII[J)I" } : Jvm.MethodName)) ∈ lw_all := lw_g (lw_at lw_m3 39 rfl) rfl
theorem q578 : (Jvm.Cond.static ({ cls := "PatternPairsLaw", name := "feed", desc := "(LPatternPairs;IIIII[J)I" } : Jvm.MethodName)) ∈ lw_all := lw_g (lw_at lw_m3 40 rfl) rfl
theorem q579 : (Jvm.Cond.codeWith ({ cls := "PatternPairsLaw", name := "feed", desc := "(LPatternPairs;IIIII[J)I" } : Jvm.MethodName) method_3_code (8 : Nat) (Option.some Jvm.ClassFile.FieldType.int) [((0 : Nat), (16 : Nat), (19 : Nat), (13 : Nat))]) ∈ lw_all := lw_g (lw_at lw_m3 41 rfl) rfl
theorem q580 : (Jvm.Cond.classLink "PatternPairsLaw" (13 : Nat) "java/lang/IndexOutOfBoundsException") ∈ lw_all := lw_g (lw_at lw_m3 42 rfl) rfl
theorem q612 : (Jvm.Cond.methodLink "PatternPairsLaw" (7 : Nat) ({ cls := "PatternPairs", name := "feed", desc := "(IIIII)I" } : Jvm.MethodName)) ∈ lw_all := lw_g (lw_at lw_m3 74 rfl) rfl
theorem q644 : (Jvm.Cond.methodLink "PatternPairsLaw" (59 : Nat) ({ cls := "PatternPairsLaw", name := "end", desc := "(LPatternPairs;I[J)I" } : Jvm.MethodName)) ∈ lw_all := lw_g (lw_at lw_m3 106 rfl) rfl
theorem q645 : (Jvm.Cond.static ({ cls := "PatternPairsLaw", name := "end", desc := "(LPatternPairs;I[J)I" } : Jvm.MethodName)) ∈ lw_all := lw_g (lw_at lw_m3 107 rfl) rfl
theorem q646 : (Jvm.Cond.codeWith ({ cls := "PatternPairsLaw", name := "end", desc := "(LPatternPairs;I[J)I" } : Jvm.MethodName) method_4_code (4 : Nat) (Option.some Jvm.ClassFile.FieldType.int) [((0 : Nat), (9 : Nat), (12 : Nat), (19 : Nat))]) ∈ lw_all := lw_g (lw_at lw_m3 108 rfl) rfl
theorem q647 : (Jvm.Cond.classLink "PatternPairsLaw" (19 : Nat) "java/lang/IllegalArgumentException") ∈ lw_all := lw_g (lw_at lw_m3 109 rfl) rfl
theorem q648 : (Jvm.Cond.methodLink "PatternPairsLaw" (15 : Nat) ({ cls := "PatternPairs", name := "end", desc := "(I)I" } : Jvm.MethodName)) ∈ lw_all := lw_g (lw_at lw_m3 110 rfl) rfl
theorem q670 : (Jvm.Cond.methodLink "PatternPairsLaw" (63 : Nat) ({ cls := "PatternPairsLaw", name := "set", desc := "(LPatternPairs;I[J)I" } : Jvm.MethodName)) ∈ lw_all := lw_g (lw_at lw_m3 132 rfl) rfl
theorem q671 : (Jvm.Cond.static ({ cls := "PatternPairsLaw", name := "set", desc := "(LPatternPairs;I[J)I" } : Jvm.MethodName)) ∈ lw_all := lw_g (lw_at lw_m3 133 rfl) rfl
theorem q672 : (Jvm.Cond.codeWith ({ cls := "PatternPairsLaw", name := "set", desc := "(LPatternPairs;I[J)I" } : Jvm.MethodName) method_5_code (4 : Nat) (Option.some Jvm.ClassFile.FieldType.int) [((0 : Nat), (9 : Nat), (12 : Nat), (19 : Nat)), ((0 : Nat), (9 : Nat), (15 : Nat), (24 : Nat)), ((0 : Nat), (9 : Nat), (18 : Nat), (13 : Nat))]) ∈ lw_all := lw_g (lw_at lw_m3 134 rfl) rfl
theorem q673 : (Jvm.Cond.classLink "PatternPairsLaw" (24 : Nat) "java/lang/UnsupportedOperationException") ∈ lw_all := lw_g (lw_at lw_m3 135 rfl) rfl
theorem q674 : (Jvm.Cond.methodLink "PatternPairsLaw" (21 : Nat) ({ cls := "PatternPairs", name := "set", desc := "(I)I" } : Jvm.MethodName)) ∈ lw_all := lw_g (lw_at lw_m3 136 rfl) rfl
theorem q710 : (Jvm.Cond.methodLink "PatternPairsLaw" (66 : Nat) ({ cls := "PatternPairsLaw", name := "empty", desc := "(LPatternPairs;I[J)I" } : Jvm.MethodName)) ∈ lw_all := lw_g (lw_at lw_m3 172 rfl) rfl
theorem q711 : (Jvm.Cond.static ({ cls := "PatternPairsLaw", name := "empty", desc := "(LPatternPairs;I[J)I" } : Jvm.MethodName)) ∈ lw_all := lw_g (lw_at lw_m3 173 rfl) rfl
theorem q712 : (Jvm.Cond.codeWith ({ cls := "PatternPairsLaw", name := "empty", desc := "(LPatternPairs;I[J)I" } : Jvm.MethodName) method_6_code (4 : Nat) (Option.some Jvm.ClassFile.FieldType.int) [((0 : Nat), (16 : Nat), (19 : Nat), (19 : Nat))]) ∈ lw_all := lw_g (lw_at lw_m3 174 rfl) rfl
theorem q713 : (Jvm.Cond.methodLink "PatternPairsLaw" (26 : Nat) ({ cls := "PatternPairs", name := "empty", desc := "(I)Z" } : Jvm.MethodName)) ∈ lw_all := lw_g (lw_at lw_m3 175 rfl) rfl
theorem q717 : (Jvm.Cond.methodLink "PatternPairsLaw" (69 : Nat) ({ cls := "PatternPairsLaw", name := "fits", desc := "(LPatternPairs;I[J)I" } : Jvm.MethodName)) ∈ lw_all := lw_g (lw_at lw_m3 179 rfl) rfl
theorem q718 : (Jvm.Cond.static ({ cls := "PatternPairsLaw", name := "fits", desc := "(LPatternPairs;I[J)I" } : Jvm.MethodName)) ∈ lw_all := lw_g (lw_at lw_m3 180 rfl) rfl
theorem q719 : (Jvm.Cond.codeWith ({ cls := "PatternPairsLaw", name := "fits", desc := "(LPatternPairs;I[J)I" } : Jvm.MethodName) method_7_code (4 : Nat) (Option.some Jvm.ClassFile.FieldType.int) [((0 : Nat), (16 : Nat), (19 : Nat), (19 : Nat))]) ∈ lw_all := lw_g (lw_at lw_m3 181 rfl) rfl
theorem q720 : (Jvm.Cond.methodLink "PatternPairsLaw" (30 : Nat) ({ cls := "PatternPairs", name := "fits", desc := "(I)Z" } : Jvm.MethodName)) ∈ lw_all := lw_g (lw_at lw_m3 182 rfl) rfl
theorem q744 : (Jvm.Cond.methodLink "PatternPairsLaw" (72 : Nat) ({ cls := "PatternPairsLaw", name := "first", desc := "(LPatternPairs;I[J)I" } : Jvm.MethodName)) ∈ lw_all := lw_g (lw_at lw_m3 206 rfl) rfl
theorem q745 : (Jvm.Cond.static ({ cls := "PatternPairsLaw", name := "first", desc := "(LPatternPairs;I[J)I" } : Jvm.MethodName)) ∈ lw_all := lw_g (lw_at lw_m3 207 rfl) rfl
theorem q746 : (Jvm.Cond.codeWith ({ cls := "PatternPairsLaw", name := "first", desc := "(LPatternPairs;I[J)I" } : Jvm.MethodName) method_8_code (4 : Nat) (Option.some Jvm.ClassFile.FieldType.int) [((0 : Nat), (9 : Nat), (12 : Nat), (19 : Nat))]) ∈ lw_all := lw_g (lw_at lw_m3 208 rfl) rfl
theorem q747 : (Jvm.Cond.methodLink "PatternPairsLaw" (33 : Nat) ({ cls := "PatternPairs", name := "first", desc := "(I)I" } : Jvm.MethodName)) ∈ lw_all := lw_g (lw_at lw_m3 209 rfl) rfl
theorem q761 : (Jvm.Cond.methodLink "PatternPairsLaw" (75 : Nat) ({ cls := "PatternPairsLaw", name := "octet", desc := "(LPatternPairs;I[J)I" } : Jvm.MethodName)) ∈ lw_all := lw_g (lw_at lw_m3 223 rfl) rfl
theorem q762 : (Jvm.Cond.static ({ cls := "PatternPairsLaw", name := "octet", desc := "(LPatternPairs;I[J)I" } : Jvm.MethodName)) ∈ lw_all := lw_g (lw_at lw_m3 224 rfl) rfl
theorem q763 : (Jvm.Cond.codeWith ({ cls := "PatternPairsLaw", name := "octet", desc := "(LPatternPairs;I[J)I" } : Jvm.MethodName) method_9_code (4 : Nat) (Option.some Jvm.ClassFile.FieldType.int) [((0 : Nat), (9 : Nat), (12 : Nat), (39 : Nat))]) ∈ lw_all := lw_g (lw_at lw_m3 225 rfl) rfl
theorem q764 : (Jvm.Cond.classLink "PatternPairsLaw" (39 : Nat) "java/util/NoSuchElementException") ∈ lw_all := lw_g (lw_at lw_m3 226 rfl) rfl
theorem q765 : (Jvm.Cond.methodLink "PatternPairsLaw" (36 : Nat) ({ cls := "PatternPairs", name := "octet", desc := "(I)I" } : Jvm.MethodName)) ∈ lw_all := lw_g (lw_at lw_m3 227 rfl) rfl
theorem q784 : (Jvm.Cond.methodLink "PatternPairsLaw" (78 : Nat) ({ cls := "PatternPairsLaw", name := "count", desc := "(LPatternPairs;II[J)I" } : Jvm.MethodName)) ∈ lw_all := lw_g (lw_at lw_m4 6 rfl) rfl
theorem q785 : (Jvm.Cond.static ({ cls := "PatternPairsLaw", name := "count", desc := "(LPatternPairs;II[J)I" } : Jvm.MethodName)) ∈ lw_all := lw_g (lw_at lw_m4 7 rfl) rfl
theorem q786 : (Jvm.Cond.codeWith ({ cls := "PatternPairsLaw", name := "count", desc := "(LPatternPairs;II[J)I" } : Jvm.MethodName) method_10_code (5 : Nat) (Option.some Jvm.ClassFile.FieldType.int) [((0 : Nat), (9 : Nat), (12 : Nat), (19 : Nat))]) ∈ lw_all := lw_g (lw_at lw_m4 8 rfl) rfl
theorem q787 : (Jvm.Cond.methodLink "PatternPairsLaw" (41 : Nat) ({ cls := "PatternPairs", name := "count", desc := "(II)J" } : Jvm.MethodName)) ∈ lw_all := lw_g (lw_at lw_m4 9 rfl) rfl
theorem q792 : (Jvm.Cond.methodLink "PatternPairsLaw" (55 : Nat) ({ cls := "PatternPairsModel", name := "thrown", desc := "()I" } : Jvm.MethodName)) ∈ lw_all := lw_g (lw_at lw_m4 14 rfl) rfl
theorem q796 : (Jvm.Cond.classLink "PatternPairsLaw" (46 : Nat) "PatternPairsModel") ∈ lw_all := lw_g (lw_at lw_m4 18 rfl) rfl
theorem q798 : (Jvm.Cond.methodLink "PatternPairsLaw" (48 : Nat) ({ cls := "PatternPairsModel", name := "<init>", desc := "()V" } : Jvm.MethodName)) ∈ lw_all := lw_g (lw_at lw_m4 20 rfl) rfl
theorem q1068 : (Jvm.Cond.methodLink "PatternPairsLaw" (54 : Nat) ({ cls := "PatternPairsModel", name := "feed", desc := "(IIIII)I" } : Jvm.MethodName)) ∈ lw_all := lw_g (lw_at lw_m5 50 rfl) rfl
theorem q1080 : (Jvm.Cond.methodLink "PatternPairsLaw" (62 : Nat) ({ cls := "PatternPairsModel", name := "end", desc := "(I)I" } : Jvm.MethodName)) ∈ lw_all := lw_g (lw_at lw_m5 62 rfl) rfl
theorem q1084 : (Jvm.Cond.methodLink "PatternPairsLaw" (65 : Nat) ({ cls := "PatternPairsModel", name := "set", desc := "(I)I" } : Jvm.MethodName)) ∈ lw_all := lw_g (lw_at lw_m5 66 rfl) rfl
theorem q1092 : (Jvm.Cond.methodLink "PatternPairsLaw" (68 : Nat) ({ cls := "PatternPairsModel", name := "empty", desc := "(I)Z" } : Jvm.MethodName)) ∈ lw_all := lw_g (lw_at lw_m5 74 rfl) rfl
theorem q1096 : (Jvm.Cond.methodLink "PatternPairsLaw" (71 : Nat) ({ cls := "PatternPairsModel", name := "fits", desc := "(I)Z" } : Jvm.MethodName)) ∈ lw_all := lw_g (lw_at lw_m5 78 rfl) rfl
theorem q1100 : (Jvm.Cond.methodLink "PatternPairsLaw" (74 : Nat) ({ cls := "PatternPairsModel", name := "first", desc := "(I)I" } : Jvm.MethodName)) ∈ lw_all := lw_g (lw_at lw_m5 82 rfl) rfl
theorem q1112 : (Jvm.Cond.methodLink "PatternPairsLaw" (77 : Nat) ({ cls := "PatternPairsModel", name := "octet", desc := "(I)I" } : Jvm.MethodName)) ∈ lw_all := lw_g (lw_at lw_m5 94 rfl) rfl
theorem q1116 : (Jvm.Cond.methodLink "PatternPairsLaw" (81 : Nat) ({ cls := "PatternPairsModel", name := "count", desc := "(II)J" } : Jvm.MethodName)) ∈ lw_all := lw_g (lw_at lw_m5 98 rfl) rfl
theorem q1120 : (Jvm.Cond.methodLink "PatternPairsLaw" (85 : Nat) ({ cls := "PatternPairsModel", name := "place", desc := "()I" } : Jvm.MethodName)) ∈ lw_all := lw_g (lw_at lw_m5 102 rfl) rfl

/-! PatternPairs -/
set_option maxRecDepth 100000
def RX1 : String := "PatternPairs"
def TX1 : u_T := fun k => match k with
  | 0 => ("PatternPairs", "tape", "[B", true)
  | 1 => ("PatternPairs", "first", "LPatternPairs$Pattern;", false)
  | 2 => ("PatternPairs", "second", "LPatternPairs$Pattern;", false)
  | 3 => ("PatternPairs", "spare", "LPatternPairs$Pattern;", false)
  | 4 => ("PatternPairs", "seen", "[Z", true)
  | 5 => ("PatternPairs", "queue", "[I", true)
  | 6 => ("PatternPairs", "before", "[I", true)
  | 7 => ("PatternPairs", "by", "[B", true)
  | 8 => ("PatternPairs", "text", "[B", true)
  | 9 => ("PatternPairs", "ways", "[J", true)
  | 10 => ("PatternPairs", "next", "[J", true)
  | 11 => ("PatternPairs", "length", "I", false)
  | 12 => ("PatternPairs", "taped", "I", false)
  | _ => ("PatternPairs", "place", "I", false)
def tyX1 : Nat → FieldType := fun k => match k with
  | 0 => .array .byte
  | 1 => .object "PatternPairs$Pattern"
  | 2 => .object "PatternPairs$Pattern"
  | 3 => .object "PatternPairs$Pattern"
  | 4 => .array .boolean
  | 5 => .array .int
  | 6 => .array .int
  | 7 => .array .byte
  | 8 => .array .byte
  | 9 => .array .long
  | 10 => .array .long
  | 11 => .int
  | 12 => .int
  | _ => .int
abbrev wsX10 : List Cond := u_ws RX1 TX1 14
set_option maxRecDepth 100000 in
theorem nmX1 : ∀ a, a < 14 → ∀ b, b < 14 → a ≠ b → (TX1 a).2.1 ≠ (TX1 b).2.1 := by decide +kernel
set_option maxRecDepth 100000 in
theorem tyX1_ok : ∀ k, k < 14 → parseFieldDescriptor (TX1 k).2.2.1 = some (tyX1 k) := by decide +kernel
abbrev cX1_init : ByteArray := prog_1_method_1_code
def yX1_init : MethodName := ⟨RX1, "<init>", "()V"⟩
abbrev cX1_place : ByteArray := prog_1_method_17_code
def yX1_place : MethodName := ⟨RX1, "place", "()I"⟩
abbrev cX1_feed : ByteArray := prog_1_method_4_code
def yX1_feed : MethodName := ⟨RX1, "feed", "(IIIII)I"⟩
abbrev cX1_room : ByteArray := prog_1_method_3_code
def yX1_room : MethodName := ⟨RX1, "room", "(Z)V"⟩
abbrev cX1_put : ByteArray := prog_1_method_5_code
def yX1_put : MethodName := ⟨RX1, "put", "(I)V"⟩
abbrev cX1_end : ByteArray := prog_1_method_6_code
def yX1_end : MethodName := ⟨RX1, "end", "(I)I"⟩
abbrev cX1_in : ByteArray := prog_1_method_2_code
def yX1_in : MethodName := ⟨RX1, "in", "(Z)V"⟩
abbrev cX1_set : ByteArray := prog_1_method_8_code
def yX1_set : MethodName := ⟨RX1, "set", "(I)I"⟩
abbrev cX1_pattern : ByteArray := prog_1_method_7_code
def yX1_pattern : MethodName := ⟨RX1, "pattern", "(I)LPatternPairs$Pattern;"⟩
abbrev cX1_empty : ByteArray := prog_1_method_9_code
def yX1_empty : MethodName := ⟨RX1, "empty", "(I)Z"⟩
abbrev cX1_fits : ByteArray := prog_1_method_10_code
def yX1_fits : MethodName := ⟨RX1, "fits", "(I)Z"⟩
abbrev cX1_first : ByteArray := prog_1_method_12_code
def yX1_first : MethodName := ⟨RX1, "first", "(I)I"⟩
abbrev cX1_wanted : ByteArray := prog_1_method_11_code
def yX1_wanted : MethodName := ⟨RX1, "wanted", "(IZZ)Z"⟩
abbrev cX1_pair : ByteArray := prog_1_method_13_code
def yX1_pair : MethodName := ⟨RX1, "pair", "(II)I"⟩
abbrev cX1_tell : ByteArray := prog_1_method_14_code
def yX1_tell : MethodName := ⟨RX1, "tell", "(I)I"⟩
abbrev cX1_octet : ByteArray := prog_1_method_15_code
def yX1_octet : MethodName := ⟨RX1, "octet", "(I)I"⟩
abbrev cX1_count : ByteArray := prog_1_method_16_code
def yX1_count : MethodName := ⟨RX1, "count", "(II)J"⟩
theorem q59 : (Jvm.Cond.initialized "PatternPairs") ∈ lw_all := lw_g (lw_at lw_m1 1 rfl) rfl
theorem q84 : (Jvm.Cond.instantiable "PatternPairs" (14 : Nat)) ∈ lw_all := lw_g (lw_at lw_m1 26 rfl) rfl
theorem q86 : (Jvm.Cond.instanceMethod ({ cls := "PatternPairs", name := "<init>", desc := "()V" } : Jvm.MethodName)) ∈ lw_all := lw_g (lw_at lw_m1 28 rfl) rfl
theorem q87 : (Jvm.Cond.code ({ cls := "PatternPairs", name := "<init>", desc := "()V" } : Jvm.MethodName) prog_1_method_1_code (1 : Nat) (Option.none : Option Jvm.ClassFile.FieldType)) ∈ lw_all := lw_g (lw_at lw_m1 29 rfl) rfl
theorem q88 : (Jvm.Cond.methodLink "PatternPairs" (3 : Nat) ({ cls := "java/lang/Object", name := "<init>", desc := "()V" } : Jvm.MethodName)) ∈ lw_all := lw_g (lw_at lw_m1 30 rfl) rfl
theorem q91 : (Jvm.Cond.classLink "PatternPairs" (13 : Nat) "PatternPairs$Pattern") ∈ lw_all := lw_g (lw_at lw_m1 33 rfl) rfl
theorem q93 : (Jvm.Cond.methodLinkNest "PatternPairs" (15 : Nat) ({ cls := "PatternPairs$Pattern", name := "<init>", desc := "()V" } : Jvm.MethodName) "PatternPairs") ∈ lw_tbl := lw_at lw_m1 35 rfl
theorem q288 : (Jvm.Cond.fieldLinkNest "PatternPairs" (93 : Nat) "PatternPairs$Pattern" "automaton" "LPatternPairs$Automaton;" "PatternPairs") ∈ lw_tbl := lw_at lw_m1 230 rfl
theorem q290 : (Jvm.Cond.fieldLinkNest "PatternPairs" (102 : Nat) "PatternPairs$Pattern" "isEmpty" "Z" "PatternPairs") ∈ lw_tbl := lw_at lw_m1 232 rfl
theorem q298 : (Jvm.Cond.constant "PatternPairs" (26 : Nat) (40401 : Int32)) ∈ lw_all := lw_g (lw_at lw_m2 0 rfl) rfl
theorem q299 : (Jvm.Cond.constant "PatternPairs" (31 : Nat) (40402 : Int32)) ∈ lw_all := lw_g (lw_at lw_m2 1 rfl) rfl
theorem q300 : (Jvm.Cond.methodLink "PatternPairs" (56 : Nat) ({ cls := "PatternPairs$Pattern", name := "make", desc := "([BI)Z" } : Jvm.MethodName)) ∈ lw_all := lw_g (lw_at lw_m2 2 rfl) rfl
theorem q530 : (Jvm.Cond.fieldLink "PatternPairs" (9 : Nat) "PatternPairs" "tape" "[B") ∈ lw_all := lw_g (lw_at lw_m2 232 rfl) rfl
theorem q531 : (Jvm.Cond.fieldLink "PatternPairs" (16 : Nat) "PatternPairs" "first" "LPatternPairs$Pattern;") ∈ lw_all := lw_g (lw_at lw_m2 233 rfl) rfl
theorem q532 : (Jvm.Cond.fieldLink "PatternPairs" (20 : Nat) "PatternPairs" "second" "LPatternPairs$Pattern;") ∈ lw_all := lw_g (lw_at lw_m2 234 rfl) rfl
theorem q533 : (Jvm.Cond.fieldLink "PatternPairs" (23 : Nat) "PatternPairs" "spare" "LPatternPairs$Pattern;") ∈ lw_all := lw_g (lw_at lw_m2 235 rfl) rfl
theorem q534 : (Jvm.Cond.fieldLink "PatternPairs" (27 : Nat) "PatternPairs" "seen" "[Z") ∈ lw_all := lw_g (lw_at lw_m2 236 rfl) rfl
theorem q535 : (Jvm.Cond.fieldLink "PatternPairs" (32 : Nat) "PatternPairs" "queue" "[I") ∈ lw_all := lw_g (lw_at lw_m2 237 rfl) rfl
theorem q536 : (Jvm.Cond.fieldLink "PatternPairs" (36 : Nat) "PatternPairs" "before" "[I") ∈ lw_all := lw_g (lw_at lw_m2 238 rfl) rfl
theorem q537 : (Jvm.Cond.fieldLink "PatternPairs" (39 : Nat) "PatternPairs" "by" "[B") ∈ lw_all := lw_g (lw_at lw_m2 239 rfl) rfl
theorem q538 : (Jvm.Cond.fieldLink "PatternPairs" (42 : Nat) "PatternPairs" "text" "[B") ∈ lw_all := lw_g (lw_at lw_m3 0 rfl) rfl
theorem q539 : (Jvm.Cond.fieldLink "PatternPairs" (45 : Nat) "PatternPairs" "ways" "[J") ∈ lw_all := lw_g (lw_at lw_m3 1 rfl) rfl
theorem q540 : (Jvm.Cond.fieldLink "PatternPairs" (49 : Nat) "PatternPairs" "next" "[J") ∈ lw_all := lw_g (lw_at lw_m3 2 rfl) rfl
theorem q541 : (Jvm.Cond.fieldLink "PatternPairs" (117 : Nat) "PatternPairs" "length" "I") ∈ lw_all := lw_g (lw_at lw_m3 3 rfl) rfl
theorem q542 : (Jvm.Cond.fieldLink "PatternPairs" (66 : Nat) "PatternPairs" "taped" "I") ∈ lw_all := lw_g (lw_at lw_m3 4 rfl) rfl
theorem q543 : (Jvm.Cond.fieldLink "PatternPairs" (52 : Nat) "PatternPairs" "place" "I") ∈ lw_all := lw_g (lw_at lw_m3 5 rfl) rfl
theorem q544 : (Jvm.Cond.laysFinal "PatternPairs" "PatternPairs" "tape" "[B") ∈ lw_all := lw_g (lw_at lw_m3 6 rfl) rfl
theorem q545 : (Jvm.Cond.soleField "PatternPairs" "tape") ∈ lw_all := lw_g (lw_at lw_m3 7 rfl) rfl
theorem q546 : (Jvm.Cond.lays "PatternPairs" "PatternPairs" "first" "LPatternPairs$Pattern;") ∈ lw_all := lw_g (lw_at lw_m3 8 rfl) rfl
theorem q547 : (Jvm.Cond.soleField "PatternPairs" "first") ∈ lw_all := lw_g (lw_at lw_m3 9 rfl) rfl
theorem q548 : (Jvm.Cond.lays "PatternPairs" "PatternPairs" "second" "LPatternPairs$Pattern;") ∈ lw_all := lw_g (lw_at lw_m3 10 rfl) rfl
theorem q549 : (Jvm.Cond.soleField "PatternPairs" "second") ∈ lw_all := lw_g (lw_at lw_m3 11 rfl) rfl
theorem q550 : (Jvm.Cond.lays "PatternPairs" "PatternPairs" "spare" "LPatternPairs$Pattern;") ∈ lw_all := lw_g (lw_at lw_m3 12 rfl) rfl
theorem q551 : (Jvm.Cond.soleField "PatternPairs" "spare") ∈ lw_all := lw_g (lw_at lw_m3 13 rfl) rfl
theorem q552 : (Jvm.Cond.laysFinal "PatternPairs" "PatternPairs" "seen" "[Z") ∈ lw_all := lw_g (lw_at lw_m3 14 rfl) rfl
theorem q553 : (Jvm.Cond.soleField "PatternPairs" "seen") ∈ lw_all := lw_g (lw_at lw_m3 15 rfl) rfl
theorem q554 : (Jvm.Cond.laysFinal "PatternPairs" "PatternPairs" "queue" "[I") ∈ lw_all := lw_g (lw_at lw_m3 16 rfl) rfl
theorem q555 : (Jvm.Cond.soleField "PatternPairs" "queue") ∈ lw_all := lw_g (lw_at lw_m3 17 rfl) rfl
theorem q556 : (Jvm.Cond.laysFinal "PatternPairs" "PatternPairs" "before" "[I") ∈ lw_all := lw_g (lw_at lw_m3 18 rfl) rfl
theorem q557 : (Jvm.Cond.soleField "PatternPairs" "before") ∈ lw_all := lw_g (lw_at lw_m3 19 rfl) rfl
theorem q558 : (Jvm.Cond.laysFinal "PatternPairs" "PatternPairs" "by" "[B") ∈ lw_all := lw_g (lw_at lw_m3 20 rfl) rfl
theorem q559 : (Jvm.Cond.soleField "PatternPairs" "by") ∈ lw_all := lw_g (lw_at lw_m3 21 rfl) rfl
theorem q560 : (Jvm.Cond.laysFinal "PatternPairs" "PatternPairs" "text" "[B") ∈ lw_all := lw_g (lw_at lw_m3 22 rfl) rfl
theorem q561 : (Jvm.Cond.soleField "PatternPairs" "text") ∈ lw_all := lw_g (lw_at lw_m3 23 rfl) rfl
theorem q562 : (Jvm.Cond.laysFinal "PatternPairs" "PatternPairs" "ways" "[J") ∈ lw_all := lw_g (lw_at lw_m3 24 rfl) rfl
theorem q563 : (Jvm.Cond.soleField "PatternPairs" "ways") ∈ lw_all := lw_g (lw_at lw_m3 25 rfl) rfl
theorem q564 : (Jvm.Cond.laysFinal "PatternPairs" "PatternPairs" "next" "[J") ∈ lw_all := lw_g (lw_at lw_m3 26 rfl) rfl
theorem q565 : (Jvm.Cond.soleField "PatternPairs" "next") ∈ lw_all := lw_g (lw_at lw_m3 27 rfl) rfl
theorem q566 : (Jvm.Cond.lays "PatternPairs" "PatternPairs" "length" "I") ∈ lw_all := lw_g (lw_at lw_m3 28 rfl) rfl
theorem q567 : (Jvm.Cond.soleField "PatternPairs" "length") ∈ lw_all := lw_g (lw_at lw_m3 29 rfl) rfl
theorem q568 : (Jvm.Cond.lays "PatternPairs" "PatternPairs" "taped" "I") ∈ lw_all := lw_g (lw_at lw_m3 30 rfl) rfl
theorem q569 : (Jvm.Cond.soleField "PatternPairs" "taped") ∈ lw_all := lw_g (lw_at lw_m3 31 rfl) rfl
theorem q570 : (Jvm.Cond.lays "PatternPairs" "PatternPairs" "place" "I") ∈ lw_all := lw_g (lw_at lw_m3 32 rfl) rfl
theorem q571 : (Jvm.Cond.soleField "PatternPairs" "place") ∈ lw_all := lw_g (lw_at lw_m3 33 rfl) rfl
theorem q572 : (Jvm.Cond.superclass "PatternPairs" "java/lang/Object") ∈ lw_all := lw_g (lw_at lw_m3 34 rfl) rfl
theorem q574 : (Jvm.Cond.instanceMethod ({ cls := "PatternPairs", name := "place", desc := "()I" } : Jvm.MethodName)) ∈ lw_all := lw_g (lw_at lw_m3 36 rfl) rfl
theorem q575 : (Jvm.Cond.selects "PatternPairs" ({ cls := "PatternPairs", name := "place", desc := "()I" } : Jvm.MethodName) ({ cls := "PatternPairs", name := "place", desc := "()I" } : Jvm.MethodName)) ∈ lw_all := lw_g (lw_at lw_m3 37 rfl) rfl
theorem q576 : (Jvm.Cond.code ({ cls := "PatternPairs", name := "place", desc := "()I" } : Jvm.MethodName) prog_1_method_17_code (1 : Nat) (Option.some Jvm.ClassFile.FieldType.int)) ∈ lw_all := lw_g (lw_at lw_m3 38 rfl) rfl
theorem q613 : (Jvm.Cond.instanceMethod ({ cls := "PatternPairs", name := "feed", desc := "(IIIII)I" } : Jvm.MethodName)) ∈ lw_all := lw_g (lw_at lw_m3 75 rfl) rfl
theorem q614 : (Jvm.Cond.selects "PatternPairs" ({ cls := "PatternPairs", name := "feed", desc := "(IIIII)I" } : Jvm.MethodName) ({ cls := "PatternPairs", name := "feed", desc := "(IIIII)I" } : Jvm.MethodName)) ∈ lw_all := lw_g (lw_at lw_m3 76 rfl) rfl
theorem q615 : (Jvm.Cond.code ({ cls := "PatternPairs", name := "feed", desc := "(IIIII)I" } : Jvm.MethodName) prog_1_method_4_code (6 : Nat) (Option.some Jvm.ClassFile.FieldType.int)) ∈ lw_all := lw_g (lw_at lw_m3 77 rfl) rfl
theorem q616 : (Jvm.Cond.methodLink "PatternPairs" (69 : Nat) ({ cls := "PatternPairs", name := "room", desc := "(Z)V" } : Jvm.MethodName)) ∈ lw_all := lw_g (lw_at lw_m3 78 rfl) rfl
theorem q617 : (Jvm.Cond.static ({ cls := "PatternPairs", name := "room", desc := "(Z)V" } : Jvm.MethodName)) ∈ lw_all := lw_g (lw_at lw_m3 79 rfl) rfl
theorem q618 : (Jvm.Cond.code ({ cls := "PatternPairs", name := "room", desc := "(Z)V" } : Jvm.MethodName) prog_1_method_3_code (1 : Nat) (Option.none : Option Jvm.ClassFile.FieldType)) ∈ lw_all := lw_g (lw_at lw_m3 80 rfl) rfl
theorem q619 : (Jvm.Cond.classLink "PatternPairs" (63 : Nat) "java/lang/IndexOutOfBoundsException") ∈ lw_all := lw_g (lw_at lw_m3 81 rfl) rfl
theorem q628 : (Jvm.Cond.methodLink "PatternPairs" (65 : Nat) ({ cls := "java/lang/IndexOutOfBoundsException", name := "<init>", desc := "()V" } : Jvm.MethodName)) ∈ lw_all := lw_g (lw_at lw_m3 90 rfl) rfl
theorem q640 : (Jvm.Cond.methodLink "PatternPairs" (73 : Nat) ({ cls := "PatternPairs", name := "put", desc := "(I)V" } : Jvm.MethodName)) ∈ lw_all := lw_g (lw_at lw_m3 102 rfl) rfl
theorem q641 : (Jvm.Cond.privateMethod ({ cls := "PatternPairs", name := "put", desc := "(I)V" } : Jvm.MethodName)) ∈ lw_tbl := lw_at lw_m3 103 rfl
theorem q642 : (Jvm.Cond.instanceMethod ({ cls := "PatternPairs", name := "put", desc := "(I)V" } : Jvm.MethodName)) ∈ lw_all := lw_g (lw_at lw_m3 104 rfl) rfl
theorem q643 : (Jvm.Cond.code ({ cls := "PatternPairs", name := "put", desc := "(I)V" } : Jvm.MethodName) prog_1_method_5_code (3 : Nat) (Option.none : Option Jvm.ClassFile.FieldType)) ∈ lw_all := lw_g (lw_at lw_m3 105 rfl) rfl
theorem q649 : (Jvm.Cond.instanceMethod ({ cls := "PatternPairs", name := "end", desc := "(I)I" } : Jvm.MethodName)) ∈ lw_all := lw_g (lw_at lw_m3 111 rfl) rfl
theorem q650 : (Jvm.Cond.selects "PatternPairs" ({ cls := "PatternPairs", name := "end", desc := "(I)I" } : Jvm.MethodName) ({ cls := "PatternPairs", name := "end", desc := "(I)I" } : Jvm.MethodName)) ∈ lw_all := lw_g (lw_at lw_m3 112 rfl) rfl
theorem q651 : (Jvm.Cond.code ({ cls := "PatternPairs", name := "end", desc := "(I)I" } : Jvm.MethodName) prog_1_method_6_code (2 : Nat) (Option.some Jvm.ClassFile.FieldType.int)) ∈ lw_all := lw_g (lw_at lw_m3 113 rfl) rfl
theorem q652 : (Jvm.Cond.methodLink "PatternPairs" (77 : Nat) ({ cls := "PatternPairs", name := "in", desc := "(Z)V" } : Jvm.MethodName)) ∈ lw_all := lw_g (lw_at lw_m3 114 rfl) rfl
theorem q653 : (Jvm.Cond.static ({ cls := "PatternPairs", name := "in", desc := "(Z)V" } : Jvm.MethodName)) ∈ lw_all := lw_g (lw_at lw_m3 115 rfl) rfl
theorem q654 : (Jvm.Cond.code ({ cls := "PatternPairs", name := "in", desc := "(Z)V" } : Jvm.MethodName) prog_1_method_2_code (1 : Nat) (Option.none : Option Jvm.ClassFile.FieldType)) ∈ lw_all := lw_g (lw_at lw_m3 116 rfl) rfl
theorem q655 : (Jvm.Cond.classLink "PatternPairs" (60 : Nat) "java/lang/IllegalArgumentException") ∈ lw_all := lw_g (lw_at lw_m3 117 rfl) rfl
theorem q664 : (Jvm.Cond.methodLink "PatternPairs" (62 : Nat) ({ cls := "java/lang/IllegalArgumentException", name := "<init>", desc := "()V" } : Jvm.MethodName)) ∈ lw_all := lw_g (lw_at lw_m3 126 rfl) rfl
theorem q675 : (Jvm.Cond.instanceMethod ({ cls := "PatternPairs", name := "set", desc := "(I)I" } : Jvm.MethodName)) ∈ lw_all := lw_g (lw_at lw_m3 137 rfl) rfl
theorem q676 : (Jvm.Cond.selects "PatternPairs" ({ cls := "PatternPairs", name := "set", desc := "(I)I" } : Jvm.MethodName) ({ cls := "PatternPairs", name := "set", desc := "(I)I" } : Jvm.MethodName)) ∈ lw_all := lw_g (lw_at lw_m3 138 rfl) rfl
theorem q677 : (Jvm.Cond.codeWith ({ cls := "PatternPairs", name := "set", desc := "(I)I" } : Jvm.MethodName) prog_1_method_8_code (6 : Nat) (Option.some Jvm.ClassFile.FieldType.int) [((21 : Nat), (35 : Nat), (38 : Nat), (84 : Nat))]) ∈ lw_all := lw_g (lw_at lw_m3 139 rfl) rfl
theorem q678 : (Jvm.Cond.classLink "PatternPairs" (84 : Nat) "PatternPairs$Broken") ∈ lw_all := lw_g (lw_at lw_m3 140 rfl) rfl
theorem q679 : (Jvm.Cond.methodLink "PatternPairs" (80 : Nat) ({ cls := "PatternPairs", name := "pattern", desc := "(I)LPatternPairs$Pattern;" } : Jvm.MethodName)) ∈ lw_all := lw_g (lw_at lw_m3 141 rfl) rfl
theorem q680 : (Jvm.Cond.privateMethod ({ cls := "PatternPairs", name := "pattern", desc := "(I)LPatternPairs$Pattern;" } : Jvm.MethodName)) ∈ lw_tbl := lw_at lw_m3 142 rfl
theorem q681 : (Jvm.Cond.instanceMethod ({ cls := "PatternPairs", name := "pattern", desc := "(I)LPatternPairs$Pattern;" } : Jvm.MethodName)) ∈ lw_all := lw_g (lw_at lw_m3 143 rfl) rfl
theorem q682 : (Jvm.Cond.code ({ cls := "PatternPairs", name := "pattern", desc := "(I)LPatternPairs$Pattern;" } : Jvm.MethodName) prog_1_method_7_code (2 : Nat) (Option.some (Jvm.ClassFile.FieldType.object "PatternPairs$Pattern"))) ∈ lw_all := lw_g (lw_at lw_m3 144 rfl) rfl
theorem q683 : (Jvm.Cond.methodLink "PatternPairs" (86 : Nat) ({ cls := "PatternPairs$Pattern", name := "wrong", desc := "()I" } : Jvm.MethodName)) ∈ lw_all := lw_g (lw_at lw_m3 145 rfl) rfl
theorem q691 : (Jvm.Cond.classLink "PatternPairs" (90 : Nat) "java/lang/UnsupportedOperationException") ∈ lw_all := lw_g (lw_at lw_m3 153 rfl) rfl
theorem q700 : (Jvm.Cond.methodLink "PatternPairs" (92 : Nat) ({ cls := "java/lang/UnsupportedOperationException", name := "<init>", desc := "()V" } : Jvm.MethodName)) ∈ lw_all := lw_g (lw_at lw_m3 162 rfl) rfl
theorem q706 : (Jvm.Cond.methodLink "PatternPairs" (97 : Nat) ({ cls := "PatternPairs$Automaton", name := "states", desc := "()I" } : Jvm.MethodName)) ∈ lw_all := lw_g (lw_at lw_m3 168 rfl) rfl
theorem q714 : (Jvm.Cond.instanceMethod ({ cls := "PatternPairs", name := "empty", desc := "(I)Z" } : Jvm.MethodName)) ∈ lw_all := lw_g (lw_at lw_m3 176 rfl) rfl
theorem q715 : (Jvm.Cond.selects "PatternPairs" ({ cls := "PatternPairs", name := "empty", desc := "(I)Z" } : Jvm.MethodName) ({ cls := "PatternPairs", name := "empty", desc := "(I)Z" } : Jvm.MethodName)) ∈ lw_all := lw_g (lw_at lw_m3 177 rfl) rfl
theorem q716 : (Jvm.Cond.code ({ cls := "PatternPairs", name := "empty", desc := "(I)Z" } : Jvm.MethodName) prog_1_method_9_code (2 : Nat) (Option.some Jvm.ClassFile.FieldType.boolean)) ∈ lw_all := lw_g (lw_at lw_m3 178 rfl) rfl
theorem q721 : (Jvm.Cond.instanceMethod ({ cls := "PatternPairs", name := "fits", desc := "(I)Z" } : Jvm.MethodName)) ∈ lw_all := lw_g (lw_at lw_m3 183 rfl) rfl
theorem q722 : (Jvm.Cond.selects "PatternPairs" ({ cls := "PatternPairs", name := "fits", desc := "(I)Z" } : Jvm.MethodName) ({ cls := "PatternPairs", name := "fits", desc := "(I)Z" } : Jvm.MethodName)) ∈ lw_all := lw_g (lw_at lw_m3 184 rfl) rfl
theorem q723 : (Jvm.Cond.code ({ cls := "PatternPairs", name := "fits", desc := "(I)Z" } : Jvm.MethodName) prog_1_method_10_code (6 : Nat) (Option.some Jvm.ClassFile.FieldType.boolean)) ∈ lw_all := lw_g (lw_at lw_m3 185 rfl) rfl
theorem q724 : (Jvm.Cond.methodLink "PatternPairs" (106 : Nat) ({ cls := "PatternPairs$Automaton", name := "start", desc := "()I" } : Jvm.MethodName)) ∈ lw_all := lw_g (lw_at lw_m3 186 rfl) rfl
theorem q728 : (Jvm.Cond.methodLink "PatternPairs" (109 : Nat) ({ cls := "PatternPairs$Pattern", name := "move", desc := "(II)I" } : Jvm.MethodName)) ∈ lw_all := lw_g (lw_at lw_m3 190 rfl) rfl
theorem q736 : (Jvm.Cond.methodLink "PatternPairs" (113 : Nat) ({ cls := "PatternPairs$Pattern", name := "has", desc := "(IZ)Z" } : Jvm.MethodName)) ∈ lw_all := lw_g (lw_at lw_m3 198 rfl) rfl
theorem q748 : (Jvm.Cond.instanceMethod ({ cls := "PatternPairs", name := "first", desc := "(I)I" } : Jvm.MethodName)) ∈ lw_all := lw_g (lw_at lw_m3 210 rfl) rfl
theorem q749 : (Jvm.Cond.selects "PatternPairs" ({ cls := "PatternPairs", name := "first", desc := "(I)I" } : Jvm.MethodName) ({ cls := "PatternPairs", name := "first", desc := "(I)I" } : Jvm.MethodName)) ∈ lw_all := lw_g (lw_at lw_m3 211 rfl) rfl
theorem q750 : (Jvm.Cond.code ({ cls := "PatternPairs", name := "first", desc := "(I)I" } : Jvm.MethodName) prog_1_method_12_code (10 : Nat) (Option.some Jvm.ClassFile.FieldType.int)) ∈ lw_all := lw_g (lw_at lw_m3 212 rfl) rfl
theorem q751 : (Jvm.Cond.methodLink "PatternPairs" (120 : Nat) ({ cls := "PatternPairs", name := "wanted", desc := "(IZZ)Z" } : Jvm.MethodName)) ∈ lw_all := lw_g (lw_at lw_m3 213 rfl) rfl
theorem q752 : (Jvm.Cond.static ({ cls := "PatternPairs", name := "wanted", desc := "(IZZ)Z" } : Jvm.MethodName)) ∈ lw_all := lw_g (lw_at lw_m3 214 rfl) rfl
theorem q753 : (Jvm.Cond.code ({ cls := "PatternPairs", name := "wanted", desc := "(IZZ)Z" } : Jvm.MethodName) prog_1_method_11_code (3 : Nat) (Option.some Jvm.ClassFile.FieldType.boolean)) ∈ lw_all := lw_g (lw_at lw_m3 215 rfl) rfl
theorem q754 : (Jvm.Cond.methodLink "PatternPairs" (124 : Nat) ({ cls := "PatternPairs", name := "pair", desc := "(II)I" } : Jvm.MethodName)) ∈ lw_all := lw_g (lw_at lw_m3 216 rfl) rfl
theorem q755 : (Jvm.Cond.static ({ cls := "PatternPairs", name := "pair", desc := "(II)I" } : Jvm.MethodName)) ∈ lw_all := lw_g (lw_at lw_m3 217 rfl) rfl
theorem q756 : (Jvm.Cond.code ({ cls := "PatternPairs", name := "pair", desc := "(II)I" } : Jvm.MethodName) prog_1_method_13_code (2 : Nat) (Option.some Jvm.ClassFile.FieldType.int)) ∈ lw_all := lw_g (lw_at lw_m3 218 rfl) rfl
theorem q757 : (Jvm.Cond.methodLink "PatternPairs" (127 : Nat) ({ cls := "PatternPairs", name := "tell", desc := "(I)I" } : Jvm.MethodName)) ∈ lw_all := lw_g (lw_at lw_m3 219 rfl) rfl
theorem q758 : (Jvm.Cond.privateMethod ({ cls := "PatternPairs", name := "tell", desc := "(I)I" } : Jvm.MethodName)) ∈ lw_tbl := lw_at lw_m3 220 rfl
theorem q759 : (Jvm.Cond.instanceMethod ({ cls := "PatternPairs", name := "tell", desc := "(I)I" } : Jvm.MethodName)) ∈ lw_all := lw_g (lw_at lw_m3 221 rfl) rfl
theorem q760 : (Jvm.Cond.code ({ cls := "PatternPairs", name := "tell", desc := "(I)I" } : Jvm.MethodName) prog_1_method_14_code (4 : Nat) (Option.some Jvm.ClassFile.FieldType.int)) ∈ lw_all := lw_g (lw_at lw_m3 222 rfl) rfl
theorem q766 : (Jvm.Cond.instanceMethod ({ cls := "PatternPairs", name := "octet", desc := "(I)I" } : Jvm.MethodName)) ∈ lw_all := lw_g (lw_at lw_m3 228 rfl) rfl
theorem q767 : (Jvm.Cond.selects "PatternPairs" ({ cls := "PatternPairs", name := "octet", desc := "(I)I" } : Jvm.MethodName) ({ cls := "PatternPairs", name := "octet", desc := "(I)I" } : Jvm.MethodName)) ∈ lw_all := lw_g (lw_at lw_m3 229 rfl) rfl
theorem q768 : (Jvm.Cond.code ({ cls := "PatternPairs", name := "octet", desc := "(I)I" } : Jvm.MethodName) prog_1_method_15_code (2 : Nat) (Option.some Jvm.ClassFile.FieldType.int)) ∈ lw_all := lw_g (lw_at lw_m3 230 rfl) rfl
theorem q769 : (Jvm.Cond.classLink "PatternPairs" (131 : Nat) "java/util/NoSuchElementException") ∈ lw_all := lw_g (lw_at lw_m3 231 rfl) rfl
theorem q778 : (Jvm.Cond.methodLink "PatternPairs" (133 : Nat) ({ cls := "java/util/NoSuchElementException", name := "<init>", desc := "()V" } : Jvm.MethodName)) ∈ lw_all := lw_g (lw_at lw_m4 0 rfl) rfl
theorem q788 : (Jvm.Cond.instanceMethod ({ cls := "PatternPairs", name := "count", desc := "(II)J" } : Jvm.MethodName)) ∈ lw_all := lw_g (lw_at lw_m4 10 rfl) rfl
theorem q789 : (Jvm.Cond.selects "PatternPairs" ({ cls := "PatternPairs", name := "count", desc := "(II)J" } : Jvm.MethodName) ({ cls := "PatternPairs", name := "count", desc := "(II)J" } : Jvm.MethodName)) ∈ lw_all := lw_g (lw_at lw_m4 11 rfl) rfl
theorem q790 : (Jvm.Cond.code ({ cls := "PatternPairs", name := "count", desc := "(II)J" } : Jvm.MethodName) prog_1_method_16_code (9 : Nat) (Option.some Jvm.ClassFile.FieldType.long)) ∈ lw_all := lw_g (lw_at lw_m4 12 rfl) rfl
theorem q791 : (Jvm.Cond.methodLink "PatternPairs" (134 : Nat) ({ cls := "PatternPairs$Automaton", name := "tells", desc := "(I)I" } : Jvm.MethodName)) ∈ lw_all := lw_g (lw_at lw_m4 13 rfl) rfl
theorem in_X1 : ∀ w ∈ wsX10, w ∈ lw_all := lw_in wsX10 [544, 546, 548, 550, 552, 554, 556, 558, 560, 562, 564, 566, 568, 570] (by decide +kernel) (by decide +kernel)

/-! PatternPairs$Pattern -/
set_option maxRecDepth 100000
def RX2 : String := "PatternPairs$Pattern"
def TX2 : u_T := fun k => match k with
  | 0 => ("PatternPairs$Pattern", "patterns", "LPatternPairs$Patterns;", true)
  | 1 => ("PatternPairs$Pattern", "automaton", "LPatternPairs$Automaton;", true)
  | _ => ("PatternPairs$Pattern", "isEmpty", "Z", false)
def tyX2 : Nat → FieldType := fun k => match k with
  | 0 => .object "PatternPairs$Patterns"
  | 1 => .object "PatternPairs$Automaton"
  | _ => .boolean
abbrev wsX20 : List Cond := u_ws RX2 TX2 3
theorem nmX2 : ∀ a, a < 3 → ∀ b, b < 3 → a ≠ b → (TX2 a).2.1 ≠ (TX2 b).2.1 := by decide +kernel
theorem tyX2_ok : ∀ k, k < 3 → parseFieldDescriptor (TX2 k).2.2.1 = some (tyX2 k) := by decide +kernel
abbrev cX2_init : ByteArray := prog_4_method_1_code
def yX2_init : MethodName := ⟨RX2, "<init>", "()V"⟩
abbrev cX2_make : ByteArray := prog_4_method_2_code
def yX2_make : MethodName := ⟨RX2, "make", "([BI)Z"⟩
abbrev cX2_wrong : ByteArray := prog_4_method_3_code
def yX2_wrong : MethodName := ⟨RX2, "wrong", "()I"⟩
abbrev cX2_move : ByteArray := prog_4_method_5_code
def yX2_move : MethodName := ⟨RX2, "move", "(II)I"⟩
abbrev cX2_has : ByteArray := prog_4_method_4_code
def yX2_has : MethodName := ⟨RX2, "has", "(IZ)Z"⟩
theorem q60 : (Jvm.Cond.initialized "PatternPairs$Pattern") ∈ lw_all := lw_g (lw_at lw_m1 2 rfl) rfl
theorem q92 : (Jvm.Cond.instantiable "PatternPairs$Pattern" (3 : Nat)) ∈ lw_all := lw_g (lw_at lw_m1 34 rfl) rfl
theorem q94 : (Jvm.Cond.instanceMethod ({ cls := "PatternPairs$Pattern", name := "<init>", desc := "()V" } : Jvm.MethodName)) ∈ lw_all := lw_g (lw_at lw_m1 36 rfl) rfl
theorem q95 : (Jvm.Cond.code ({ cls := "PatternPairs$Pattern", name := "<init>", desc := "()V" } : Jvm.MethodName) prog_4_method_1_code (1 : Nat) (Option.none : Option Jvm.ClassFile.FieldType)) ∈ lw_all := lw_g (lw_at lw_m1 37 rfl) rfl
theorem q96 : (Jvm.Cond.methodLink "PatternPairs$Pattern" (1 : Nat) ({ cls := "java/lang/Object", name := "<init>", desc := "()V" } : Jvm.MethodName)) ∈ lw_all := lw_g (lw_at lw_m1 38 rfl) rfl
theorem q97 : (Jvm.Cond.classLink "PatternPairs$Pattern" (7 : Nat) "PatternPairs$Patterns") ∈ lw_all := lw_g (lw_at lw_m1 39 rfl) rfl
theorem q99 : (Jvm.Cond.methodLinkNest "PatternPairs$Pattern" (9 : Nat) ({ cls := "PatternPairs$Patterns", name := "<init>", desc := "()V" } : Jvm.MethodName) "PatternPairs") ∈ lw_tbl := lw_at lw_m1 41 rfl
theorem q236 : (Jvm.Cond.classLink "PatternPairs$Pattern" (16 : Nat) "PatternPairs$Automaton") ∈ lw_all := lw_g (lw_at lw_m1 178 rfl) rfl
theorem q238 : (Jvm.Cond.methodLink "PatternPairs$Pattern" (18 : Nat) ({ cls := "PatternPairs$Automaton", name := "<init>", desc := "(LPatternPairs$Patterns;)V" } : Jvm.MethodName)) ∈ lw_all := lw_g (lw_at lw_m1 180 rfl) rfl
theorem q286 : (Jvm.Cond.fieldLink "PatternPairs$Pattern" (10 : Nat) "PatternPairs$Pattern" "patterns" "LPatternPairs$Patterns;") ∈ lw_all := lw_g (lw_at lw_m1 228 rfl) rfl
theorem q287 : (Jvm.Cond.fieldLink "PatternPairs$Pattern" (21 : Nat) "PatternPairs$Pattern" "automaton" "LPatternPairs$Automaton;") ∈ lw_all := lw_g (lw_at lw_m1 229 rfl) rfl
theorem q289 : (Jvm.Cond.fieldLink "PatternPairs$Pattern" (36 : Nat) "PatternPairs$Pattern" "isEmpty" "Z") ∈ lw_all := lw_g (lw_at lw_m1 231 rfl) rfl
theorem q291 : (Jvm.Cond.laysFinal "PatternPairs$Pattern" "PatternPairs$Pattern" "patterns" "LPatternPairs$Patterns;") ∈ lw_all := lw_g (lw_at lw_m1 233 rfl) rfl
theorem q292 : (Jvm.Cond.soleField "PatternPairs$Pattern" "patterns") ∈ lw_all := lw_g (lw_at lw_m1 234 rfl) rfl
theorem q293 : (Jvm.Cond.laysFinal "PatternPairs$Pattern" "PatternPairs$Pattern" "automaton" "LPatternPairs$Automaton;") ∈ lw_all := lw_g (lw_at lw_m1 235 rfl) rfl
theorem q294 : (Jvm.Cond.soleField "PatternPairs$Pattern" "automaton") ∈ lw_all := lw_g (lw_at lw_m1 236 rfl) rfl
theorem q295 : (Jvm.Cond.lays "PatternPairs$Pattern" "PatternPairs$Pattern" "isEmpty" "Z") ∈ lw_all := lw_g (lw_at lw_m1 237 rfl) rfl
theorem q296 : (Jvm.Cond.soleField "PatternPairs$Pattern" "isEmpty") ∈ lw_all := lw_g (lw_at lw_m1 238 rfl) rfl
theorem q297 : (Jvm.Cond.superclass "PatternPairs$Pattern" "java/lang/Object") ∈ lw_all := lw_g (lw_at lw_m1 239 rfl) rfl
theorem q301 : (Jvm.Cond.instanceMethod ({ cls := "PatternPairs$Pattern", name := "make", desc := "([BI)Z" } : Jvm.MethodName)) ∈ lw_all := lw_g (lw_at lw_m2 3 rfl) rfl
theorem q302 : (Jvm.Cond.selects "PatternPairs$Pattern" ({ cls := "PatternPairs$Pattern", name := "make", desc := "([BI)Z" } : Jvm.MethodName) ({ cls := "PatternPairs$Pattern", name := "make", desc := "([BI)Z" } : Jvm.MethodName)) ∈ lw_all := lw_g (lw_at lw_m2 4 rfl) rfl
theorem q303 : (Jvm.Cond.code ({ cls := "PatternPairs$Pattern", name := "make", desc := "([BI)Z" } : Jvm.MethodName) prog_4_method_2_code (3 : Nat) (Option.some Jvm.ClassFile.FieldType.boolean)) ∈ lw_all := lw_g (lw_at lw_m2 5 rfl) rfl
theorem q304 : (Jvm.Cond.methodLink "PatternPairs$Pattern" (25 : Nat) ({ cls := "PatternPairs$Patterns", name := "clear", desc := "()V" } : Jvm.MethodName)) ∈ lw_all := lw_g (lw_at lw_m2 6 rfl) rfl
theorem q308 : (Jvm.Cond.methodLink "PatternPairs$Pattern" (28 : Nat) ({ cls := "PatternPairs$Patterns", name := "read", desc := "([BI)V" } : Jvm.MethodName)) ∈ lw_all := lw_g (lw_at lw_m2 10 rfl) rfl
theorem q473 : (Jvm.Cond.methodLink "PatternPairs$Pattern" (32 : Nat) ({ cls := "PatternPairs$Patterns", name := "isEmpty", desc := "()Z" } : Jvm.MethodName)) ∈ lw_all := lw_g (lw_at lw_m2 175 rfl) rfl
theorem q477 : (Jvm.Cond.methodLink "PatternPairs$Pattern" (39 : Nat) ({ cls := "PatternPairs$Automaton", name := "make", desc := "()Z" } : Jvm.MethodName)) ∈ lw_all := lw_g (lw_at lw_m2 179 rfl) rfl
theorem q684 : (Jvm.Cond.instanceMethod ({ cls := "PatternPairs$Pattern", name := "wrong", desc := "()I" } : Jvm.MethodName)) ∈ lw_all := lw_g (lw_at lw_m3 146 rfl) rfl
theorem q685 : (Jvm.Cond.selects "PatternPairs$Pattern" ({ cls := "PatternPairs$Pattern", name := "wrong", desc := "()I" } : Jvm.MethodName) ({ cls := "PatternPairs$Pattern", name := "wrong", desc := "()I" } : Jvm.MethodName)) ∈ lw_all := lw_g (lw_at lw_m3 147 rfl) rfl
theorem q686 : (Jvm.Cond.code ({ cls := "PatternPairs$Pattern", name := "wrong", desc := "()I" } : Jvm.MethodName) prog_4_method_3_code (1 : Nat) (Option.some Jvm.ClassFile.FieldType.int)) ∈ lw_all := lw_g (lw_at lw_m3 148 rfl) rfl
theorem q687 : (Jvm.Cond.methodLink "PatternPairs$Pattern" (42 : Nat) ({ cls := "PatternPairs$Patterns", name := "wrong", desc := "()I" } : Jvm.MethodName)) ∈ lw_all := lw_g (lw_at lw_m3 149 rfl) rfl
theorem q729 : (Jvm.Cond.instanceMethod ({ cls := "PatternPairs$Pattern", name := "move", desc := "(II)I" } : Jvm.MethodName)) ∈ lw_all := lw_g (lw_at lw_m3 191 rfl) rfl
theorem q730 : (Jvm.Cond.selects "PatternPairs$Pattern" ({ cls := "PatternPairs$Pattern", name := "move", desc := "(II)I" } : Jvm.MethodName) ({ cls := "PatternPairs$Pattern", name := "move", desc := "(II)I" } : Jvm.MethodName)) ∈ lw_all := lw_g (lw_at lw_m3 192 rfl) rfl
theorem q731 : (Jvm.Cond.code ({ cls := "PatternPairs$Pattern", name := "move", desc := "(II)I" } : Jvm.MethodName) prog_4_method_5_code (3 : Nat) (Option.some Jvm.ClassFile.FieldType.int)) ∈ lw_all := lw_g (lw_at lw_m3 193 rfl) rfl
theorem q732 : (Jvm.Cond.methodLink "PatternPairs$Pattern" (50 : Nat) ({ cls := "PatternPairs$Automaton", name := "move", desc := "(II)I" } : Jvm.MethodName)) ∈ lw_all := lw_g (lw_at lw_m3 194 rfl) rfl
theorem q737 : (Jvm.Cond.instanceMethod ({ cls := "PatternPairs$Pattern", name := "has", desc := "(IZ)Z" } : Jvm.MethodName)) ∈ lw_all := lw_g (lw_at lw_m3 199 rfl) rfl
theorem q738 : (Jvm.Cond.selects "PatternPairs$Pattern" ({ cls := "PatternPairs$Pattern", name := "has", desc := "(IZ)Z" } : Jvm.MethodName) ({ cls := "PatternPairs$Pattern", name := "has", desc := "(IZ)Z" } : Jvm.MethodName)) ∈ lw_all := lw_g (lw_at lw_m3 200 rfl) rfl
theorem q739 : (Jvm.Cond.code ({ cls := "PatternPairs$Pattern", name := "has", desc := "(IZ)Z" } : Jvm.MethodName) prog_4_method_4_code (3 : Nat) (Option.some Jvm.ClassFile.FieldType.boolean)) ∈ lw_all := lw_g (lw_at lw_m3 201 rfl) rfl
theorem q740 : (Jvm.Cond.methodLink "PatternPairs$Pattern" (46 : Nat) ({ cls := "PatternPairs$Automaton", name := "tells", desc := "(I)I" } : Jvm.MethodName)) ∈ lw_all := lw_g (lw_at lw_m3 202 rfl) rfl
theorem in_X2 : ∀ w ∈ wsX20, w ∈ lw_all := lw_in wsX20 [291, 293, 295] (by decide +kernel) (by decide +kernel)

/-! PatternPairs$Patterns -/
set_option maxRecDepth 100000
def RX3 : String := "PatternPairs$Patterns"
def TX3 : u_T := fun k => match k with
  | 0 => ("PatternPairs$Patterns", "broken", "LPatternPairs$Broken;", true)
  | 1 => ("PatternPairs$Patterns", "text", "[B", false)
  | 2 => ("PatternPairs$Patterns", "length", "I", false)
  | 3 => ("PatternPairs$Patterns", "wrong", "I", false)
  | 4 => ("PatternPairs$Patterns", "low", "[J", true)
  | 5 => ("PatternPairs$Patterns", "high", "[J", true)
  | 6 => ("PatternPairs$Patterns", "owners", "[I", true)
  | 7 => ("PatternPairs$Patterns", "follows", "[J", true)
  | 8 => ("PatternPairs$Patterns", "isLast", "[Z", true)
  | 9 => ("PatternPairs$Patterns", "start", "[J", true)
  | 10 => ("PatternPairs$Patterns", "places", "I", false)
  | 11 => ("PatternPairs$Patterns", "count", "I", false)
  | 12 => ("PatternPairs$Patterns", "empty", "[Z", true)
  | 13 => ("PatternPairs$Patterns", "firsts", "[J", true)
  | 14 => ("PatternPairs$Patterns", "lasts", "[J", true)
  | 15 => ("PatternPairs$Patterns", "top", "I", false)
  | 16 => ("PatternPairs$Patterns", "open", "I", false)
  | _ => ("PatternPairs$Patterns", "at", "I", false)
def tyX3 : Nat → FieldType := fun k => match k with
  | 0 => .object "PatternPairs$Broken"
  | 1 => .array .byte
  | 2 => .int
  | 3 => .int
  | 4 => .array .long
  | 5 => .array .long
  | 6 => .array .int
  | 7 => .array .long
  | 8 => .array .boolean
  | 9 => .array .long
  | 10 => .int
  | 11 => .int
  | 12 => .array .boolean
  | 13 => .array .long
  | 14 => .array .long
  | 15 => .int
  | 16 => .int
  | _ => .int
abbrev wsX30 : List Cond := u_ws RX3 TX3 18
set_option maxRecDepth 100000 in
theorem nmX3 : ∀ a, a < 18 → ∀ b, b < 18 → a ≠ b → (TX3 a).2.1 ≠ (TX3 b).2.1 := by decide +kernel
set_option maxRecDepth 100000 in
theorem tyX3_ok : ∀ k, k < 18 → parseFieldDescriptor (TX3 k).2.2.1 = some (tyX3 k) := by decide +kernel
abbrev cX3_init : ByteArray := prog_5_method_1_code
def yX3_init : MethodName := ⟨RX3, "<init>", "()V"⟩
abbrev cX3_clear : ByteArray := prog_5_method_2_code
def yX3_clear : MethodName := ⟨RX3, "clear", "()V"⟩
abbrev cX3_read : ByteArray := prog_5_method_9_code
def yX3_read : MethodName := ⟨RX3, "read", "([BI)V"⟩
abbrev cX3_whole : ByteArray := prog_5_method_10_code
def yX3_whole : MethodName := ⟨RX3, "whole", "()V"⟩
abbrev cX3_either : ByteArray := prog_5_method_13_code
def yX3_either : MethodName := ⟨RX3, "either", "()V"⟩
abbrev cX3_several : ByteArray := prog_5_method_15_code
def yX3_several : MethodName := ⟨RX3, "several", "()V"⟩
abbrev cX3_push : ByteArray := prog_5_method_12_code
def yX3_push : MethodName := ⟨RX3, "push", "(Z)I"⟩
abbrev cX3_ends : ByteArray := prog_5_method_14_code
def yX3_ends : MethodName := ⟨RX3, "ends", "()Z"⟩
abbrev cX3_c : ByteArray := prog_5_method_5_code
def yX3_c : MethodName := ⟨RX3, "c", "()I"⟩
abbrev cX3_repeated : ByteArray := prog_5_method_18_code
def yX3_repeated : MethodName := ⟨RX3, "repeated", "()V"⟩
abbrev cX3_one : ByteArray := prog_5_method_19_code
def yX3_one : MethodName := ⟨RX3, "one", "()V"⟩
abbrev cX3_fail : ByteArray := prog_5_method_7_code
def yX3_fail : MethodName := ⟨RX3, "fail", "()LPatternPairs$Broken;"⟩
abbrev cX3_fail_2 : ByteArray := prog_5_method_8_code
def yX3_fail_2 : MethodName := ⟨RX3, "fail", "(I)LPatternPairs$Broken;"⟩
abbrev cX3_place : ByteArray := prog_5_method_20_code
def yX3_place : MethodName := ⟨RX3, "place", "()I"⟩
abbrev cX3_plain : ByteArray := prog_5_method_22_code
def yX3_plain : MethodName := ⟨RX3, "plain", "(IZ)Z"⟩
abbrev cX3_choice : ByteArray := prog_5_method_24_code
def yX3_choice : MethodName := ⟨RX3, "choice", "(I)V"⟩
abbrev cX3_character : ByteArray := prog_5_method_23_code
def yX3_character : MethodName := ⟨RX3, "character", "(Z)I"⟩
abbrev cX3_set : ByteArray := prog_5_method_21_code
def yX3_set : MethodName := ⟨RX3, "set", "(III)V"⟩
abbrev cX3_link : ByteArray := prog_5_method_17_code
def yX3_link : MethodName := ⟨RX3, "link", "(II)V"⟩
abbrev cX3_has : ByteArray := prog_5_method_11_code
def yX3_has : MethodName := ⟨RX3, "has", "([JII)Z"⟩
abbrev cX3_behind : ByteArray := prog_5_method_16_code
def yX3_behind : MethodName := ⟨RX3, "behind", "(II)V"⟩
abbrev cX3_isEmpty : ByteArray := prog_5_method_4_code
def yX3_isEmpty : MethodName := ⟨RX3, "isEmpty", "()Z"⟩
abbrev cX3_takes : ByteArray := prog_5_method_25_code
def yX3_takes : MethodName := ⟨RX3, "takes", "(II)Z"⟩
abbrev cX3_wrong : ByteArray := prog_5_method_6_code
def yX3_wrong : MethodName := ⟨RX3, "wrong", "()I"⟩
theorem q61 : (Jvm.Cond.initialized "PatternPairs$Patterns") ∈ lw_all := lw_g (lw_at lw_m1 3 rfl) rfl
theorem q98 : (Jvm.Cond.instantiable "PatternPairs$Patterns" (18 : Nat)) ∈ lw_all := lw_g (lw_at lw_m1 40 rfl) rfl
theorem q100 : (Jvm.Cond.instanceMethod ({ cls := "PatternPairs$Patterns", name := "<init>", desc := "()V" } : Jvm.MethodName)) ∈ lw_all := lw_g (lw_at lw_m1 42 rfl) rfl
theorem q101 : (Jvm.Cond.code ({ cls := "PatternPairs$Patterns", name := "<init>", desc := "()V" } : Jvm.MethodName) prog_5_method_1_code (1 : Nat) (Option.none : Option Jvm.ClassFile.FieldType)) ∈ lw_all := lw_g (lw_at lw_m1 43 rfl) rfl
theorem q102 : (Jvm.Cond.methodLink "PatternPairs$Patterns" (3 : Nat) ({ cls := "java/lang/Object", name := "<init>", desc := "()V" } : Jvm.MethodName)) ∈ lw_all := lw_g (lw_at lw_m1 44 rfl) rfl
theorem q103 : (Jvm.Cond.classLink "PatternPairs$Patterns" (9 : Nat) "PatternPairs$Broken") ∈ lw_all := lw_g (lw_at lw_m1 45 rfl) rfl
theorem q147 : (Jvm.Cond.methodLink "PatternPairs$Patterns" (11 : Nat) ({ cls := "PatternPairs$Broken", name := "<init>", desc := "()V" } : Jvm.MethodName)) ∈ lw_all := lw_g (lw_at lw_m1 89 rfl) rfl
theorem q173 : (Jvm.Cond.fieldLink "PatternPairs$Patterns" (12 : Nat) "PatternPairs$Patterns" "broken" "LPatternPairs$Broken;") ∈ lw_all := lw_g (lw_at lw_m1 115 rfl) rfl
theorem q174 : (Jvm.Cond.fieldLink "PatternPairs$Patterns" (61 : Nat) "PatternPairs$Patterns" "text" "[B") ∈ lw_all := lw_g (lw_at lw_m1 116 rfl) rfl
theorem q175 : (Jvm.Cond.fieldLink "PatternPairs$Patterns" (58 : Nat) "PatternPairs$Patterns" "length" "I") ∈ lw_all := lw_g (lw_at lw_m1 117 rfl) rfl
theorem q176 : (Jvm.Cond.fieldLink "PatternPairs$Patterns" (65 : Nat) "PatternPairs$Patterns" "wrong" "I") ∈ lw_all := lw_g (lw_at lw_m1 118 rfl) rfl
theorem q177 : (Jvm.Cond.fieldLink "PatternPairs$Patterns" (18 : Nat) "PatternPairs$Patterns" "low" "[J") ∈ lw_all := lw_g (lw_at lw_m1 119 rfl) rfl
theorem q178 : (Jvm.Cond.fieldLink "PatternPairs$Patterns" (22 : Nat) "PatternPairs$Patterns" "high" "[J") ∈ lw_all := lw_g (lw_at lw_m1 120 rfl) rfl
theorem q179 : (Jvm.Cond.fieldLink "PatternPairs$Patterns" (25 : Nat) "PatternPairs$Patterns" "owners" "[I") ∈ lw_all := lw_g (lw_at lw_m1 121 rfl) rfl
theorem q181 : (Jvm.Cond.fieldLink "PatternPairs$Patterns" (29 : Nat) "PatternPairs$Patterns" "follows" "[J") ∈ lw_all := lw_g (lw_at lw_m1 123 rfl) rfl
theorem q183 : (Jvm.Cond.fieldLink "PatternPairs$Patterns" (32 : Nat) "PatternPairs$Patterns" "isLast" "[Z") ∈ lw_all := lw_g (lw_at lw_m1 125 rfl) rfl
theorem q185 : (Jvm.Cond.fieldLink "PatternPairs$Patterns" (36 : Nat) "PatternPairs$Patterns" "start" "[J") ∈ lw_all := lw_g (lw_at lw_m1 127 rfl) rfl
theorem q187 : (Jvm.Cond.fieldLink "PatternPairs$Patterns" (48 : Nat) "PatternPairs$Patterns" "places" "I") ∈ lw_all := lw_g (lw_at lw_m1 129 rfl) rfl
theorem q189 : (Jvm.Cond.fieldLink "PatternPairs$Patterns" (52 : Nat) "PatternPairs$Patterns" "count" "I") ∈ lw_all := lw_g (lw_at lw_m1 131 rfl) rfl
theorem q190 : (Jvm.Cond.fieldLink "PatternPairs$Patterns" (39 : Nat) "PatternPairs$Patterns" "empty" "[Z") ∈ lw_all := lw_g (lw_at lw_m1 132 rfl) rfl
theorem q191 : (Jvm.Cond.fieldLink "PatternPairs$Patterns" (42 : Nat) "PatternPairs$Patterns" "firsts" "[J") ∈ lw_all := lw_g (lw_at lw_m1 133 rfl) rfl
theorem q192 : (Jvm.Cond.fieldLink "PatternPairs$Patterns" (45 : Nat) "PatternPairs$Patterns" "lasts" "[J") ∈ lw_all := lw_g (lw_at lw_m1 134 rfl) rfl
theorem q193 : (Jvm.Cond.fieldLink "PatternPairs$Patterns" (75 : Nat) "PatternPairs$Patterns" "top" "I") ∈ lw_all := lw_g (lw_at lw_m1 135 rfl) rfl
theorem q194 : (Jvm.Cond.fieldLink "PatternPairs$Patterns" (78 : Nat) "PatternPairs$Patterns" "open" "I") ∈ lw_all := lw_g (lw_at lw_m1 136 rfl) rfl
theorem q195 : (Jvm.Cond.fieldLink "PatternPairs$Patterns" (55 : Nat) "PatternPairs$Patterns" "at" "I") ∈ lw_all := lw_g (lw_at lw_m1 137 rfl) rfl
theorem q196 : (Jvm.Cond.laysFinal "PatternPairs$Patterns" "PatternPairs$Patterns" "broken" "LPatternPairs$Broken;") ∈ lw_all := lw_g (lw_at lw_m1 138 rfl) rfl
theorem q197 : (Jvm.Cond.soleField "PatternPairs$Patterns" "broken") ∈ lw_all := lw_g (lw_at lw_m1 139 rfl) rfl
theorem q198 : (Jvm.Cond.lays "PatternPairs$Patterns" "PatternPairs$Patterns" "text" "[B") ∈ lw_all := lw_g (lw_at lw_m1 140 rfl) rfl
theorem q199 : (Jvm.Cond.soleField "PatternPairs$Patterns" "text") ∈ lw_all := lw_g (lw_at lw_m1 141 rfl) rfl
theorem q200 : (Jvm.Cond.lays "PatternPairs$Patterns" "PatternPairs$Patterns" "length" "I") ∈ lw_all := lw_g (lw_at lw_m1 142 rfl) rfl
theorem q201 : (Jvm.Cond.soleField "PatternPairs$Patterns" "length") ∈ lw_all := lw_g (lw_at lw_m1 143 rfl) rfl
theorem q202 : (Jvm.Cond.lays "PatternPairs$Patterns" "PatternPairs$Patterns" "wrong" "I") ∈ lw_all := lw_g (lw_at lw_m1 144 rfl) rfl
theorem q203 : (Jvm.Cond.soleField "PatternPairs$Patterns" "wrong") ∈ lw_all := lw_g (lw_at lw_m1 145 rfl) rfl
theorem q204 : (Jvm.Cond.laysFinal "PatternPairs$Patterns" "PatternPairs$Patterns" "low" "[J") ∈ lw_all := lw_g (lw_at lw_m1 146 rfl) rfl
theorem q205 : (Jvm.Cond.soleField "PatternPairs$Patterns" "low") ∈ lw_all := lw_g (lw_at lw_m1 147 rfl) rfl
theorem q206 : (Jvm.Cond.laysFinal "PatternPairs$Patterns" "PatternPairs$Patterns" "high" "[J") ∈ lw_all := lw_g (lw_at lw_m1 148 rfl) rfl
theorem q207 : (Jvm.Cond.soleField "PatternPairs$Patterns" "high") ∈ lw_all := lw_g (lw_at lw_m1 149 rfl) rfl
theorem q208 : (Jvm.Cond.laysFinal "PatternPairs$Patterns" "PatternPairs$Patterns" "owners" "[I") ∈ lw_all := lw_g (lw_at lw_m1 150 rfl) rfl
theorem q209 : (Jvm.Cond.soleField "PatternPairs$Patterns" "owners") ∈ lw_all := lw_g (lw_at lw_m1 151 rfl) rfl
theorem q210 : (Jvm.Cond.laysFinal "PatternPairs$Patterns" "PatternPairs$Patterns" "follows" "[J") ∈ lw_all := lw_g (lw_at lw_m1 152 rfl) rfl
theorem q211 : (Jvm.Cond.soleField "PatternPairs$Patterns" "follows") ∈ lw_all := lw_g (lw_at lw_m1 153 rfl) rfl
theorem q212 : (Jvm.Cond.laysFinal "PatternPairs$Patterns" "PatternPairs$Patterns" "isLast" "[Z") ∈ lw_all := lw_g (lw_at lw_m1 154 rfl) rfl
theorem q213 : (Jvm.Cond.soleField "PatternPairs$Patterns" "isLast") ∈ lw_all := lw_g (lw_at lw_m1 155 rfl) rfl
theorem q214 : (Jvm.Cond.laysFinal "PatternPairs$Patterns" "PatternPairs$Patterns" "start" "[J") ∈ lw_all := lw_g (lw_at lw_m1 156 rfl) rfl
theorem q215 : (Jvm.Cond.soleField "PatternPairs$Patterns" "start") ∈ lw_all := lw_g (lw_at lw_m1 157 rfl) rfl
theorem q216 : (Jvm.Cond.lays "PatternPairs$Patterns" "PatternPairs$Patterns" "places" "I") ∈ lw_all := lw_g (lw_at lw_m1 158 rfl) rfl
theorem q217 : (Jvm.Cond.soleField "PatternPairs$Patterns" "places") ∈ lw_all := lw_g (lw_at lw_m1 159 rfl) rfl
theorem q218 : (Jvm.Cond.lays "PatternPairs$Patterns" "PatternPairs$Patterns" "count" "I") ∈ lw_all := lw_g (lw_at lw_m1 160 rfl) rfl
theorem q219 : (Jvm.Cond.soleField "PatternPairs$Patterns" "count") ∈ lw_all := lw_g (lw_at lw_m1 161 rfl) rfl
theorem q220 : (Jvm.Cond.laysFinal "PatternPairs$Patterns" "PatternPairs$Patterns" "empty" "[Z") ∈ lw_all := lw_g (lw_at lw_m1 162 rfl) rfl
theorem q221 : (Jvm.Cond.soleField "PatternPairs$Patterns" "empty") ∈ lw_all := lw_g (lw_at lw_m1 163 rfl) rfl
theorem q222 : (Jvm.Cond.laysFinal "PatternPairs$Patterns" "PatternPairs$Patterns" "firsts" "[J") ∈ lw_all := lw_g (lw_at lw_m1 164 rfl) rfl
theorem q223 : (Jvm.Cond.soleField "PatternPairs$Patterns" "firsts") ∈ lw_all := lw_g (lw_at lw_m1 165 rfl) rfl
theorem q224 : (Jvm.Cond.laysFinal "PatternPairs$Patterns" "PatternPairs$Patterns" "lasts" "[J") ∈ lw_all := lw_g (lw_at lw_m1 166 rfl) rfl
theorem q225 : (Jvm.Cond.soleField "PatternPairs$Patterns" "lasts") ∈ lw_all := lw_g (lw_at lw_m1 167 rfl) rfl
theorem q226 : (Jvm.Cond.lays "PatternPairs$Patterns" "PatternPairs$Patterns" "top" "I") ∈ lw_all := lw_g (lw_at lw_m1 168 rfl) rfl
theorem q227 : (Jvm.Cond.soleField "PatternPairs$Patterns" "top") ∈ lw_all := lw_g (lw_at lw_m1 169 rfl) rfl
theorem q228 : (Jvm.Cond.lays "PatternPairs$Patterns" "PatternPairs$Patterns" "open" "I") ∈ lw_all := lw_g (lw_at lw_m1 170 rfl) rfl
theorem q229 : (Jvm.Cond.soleField "PatternPairs$Patterns" "open") ∈ lw_all := lw_g (lw_at lw_m1 171 rfl) rfl
theorem q230 : (Jvm.Cond.lays "PatternPairs$Patterns" "PatternPairs$Patterns" "at" "I") ∈ lw_all := lw_g (lw_at lw_m1 172 rfl) rfl
theorem q231 : (Jvm.Cond.soleField "PatternPairs$Patterns" "at") ∈ lw_all := lw_g (lw_at lw_m1 173 rfl) rfl
theorem q232 : (Jvm.Cond.superclass "PatternPairs$Patterns" "java/lang/Object") ∈ lw_all := lw_g (lw_at lw_m1 174 rfl) rfl
theorem q305 : (Jvm.Cond.instanceMethod ({ cls := "PatternPairs$Patterns", name := "clear", desc := "()V" } : Jvm.MethodName)) ∈ lw_all := lw_g (lw_at lw_m2 7 rfl) rfl
theorem q306 : (Jvm.Cond.selects "PatternPairs$Patterns" ({ cls := "PatternPairs$Patterns", name := "clear", desc := "()V" } : Jvm.MethodName) ({ cls := "PatternPairs$Patterns", name := "clear", desc := "()V" } : Jvm.MethodName)) ∈ lw_all := lw_g (lw_at lw_m2 8 rfl) rfl
theorem q307 : (Jvm.Cond.code ({ cls := "PatternPairs$Patterns", name := "clear", desc := "()V" } : Jvm.MethodName) prog_5_method_2_code (2 : Nat) (Option.none : Option Jvm.ClassFile.FieldType)) ∈ lw_all := lw_g (lw_at lw_m2 9 rfl) rfl
theorem q309 : (Jvm.Cond.instanceMethod ({ cls := "PatternPairs$Patterns", name := "read", desc := "([BI)V" } : Jvm.MethodName)) ∈ lw_all := lw_g (lw_at lw_m2 11 rfl) rfl
theorem q310 : (Jvm.Cond.selects "PatternPairs$Patterns" ({ cls := "PatternPairs$Patterns", name := "read", desc := "([BI)V" } : Jvm.MethodName) ({ cls := "PatternPairs$Patterns", name := "read", desc := "([BI)V" } : Jvm.MethodName)) ∈ lw_all := lw_g (lw_at lw_m2 12 rfl) rfl
theorem q311 : (Jvm.Cond.codeWith ({ cls := "PatternPairs$Patterns", name := "read", desc := "([BI)V" } : Jvm.MethodName) prog_5_method_9_code (5 : Nat) (Option.none : Option Jvm.ClassFile.FieldType) [((20 : Nat), (24 : Nat), (27 : Nat), (9 : Nat))]) ∈ lw_all := lw_g (lw_at lw_m2 13 rfl) rfl
theorem q312 : (Jvm.Cond.methodLink "PatternPairs$Patterns" (72 : Nat) ({ cls := "PatternPairs$Patterns", name := "whole", desc := "()V" } : Jvm.MethodName)) ∈ lw_all := lw_g (lw_at lw_m2 14 rfl) rfl
theorem q313 : (Jvm.Cond.privateMethod ({ cls := "PatternPairs$Patterns", name := "whole", desc := "()V" } : Jvm.MethodName)) ∈ lw_tbl := lw_at lw_m2 15 rfl
theorem q314 : (Jvm.Cond.instanceMethod ({ cls := "PatternPairs$Patterns", name := "whole", desc := "()V" } : Jvm.MethodName)) ∈ lw_all := lw_g (lw_at lw_m2 16 rfl) rfl
theorem q315 : (Jvm.Cond.code ({ cls := "PatternPairs$Patterns", name := "whole", desc := "()V" } : Jvm.MethodName) prog_5_method_10_code (2 : Nat) (Option.none : Option Jvm.ClassFile.FieldType)) ∈ lw_all := lw_g (lw_at lw_m2 17 rfl) rfl
theorem q316 : (Jvm.Cond.methodLink "PatternPairs$Patterns" (81 : Nat) ({ cls := "PatternPairs$Patterns", name := "either", desc := "()V" } : Jvm.MethodName)) ∈ lw_all := lw_g (lw_at lw_m2 18 rfl) rfl
theorem q317 : (Jvm.Cond.privateMethod ({ cls := "PatternPairs$Patterns", name := "either", desc := "()V" } : Jvm.MethodName)) ∈ lw_tbl := lw_at lw_m2 19 rfl
theorem q318 : (Jvm.Cond.instanceMethod ({ cls := "PatternPairs$Patterns", name := "either", desc := "()V" } : Jvm.MethodName)) ∈ lw_all := lw_g (lw_at lw_m2 20 rfl) rfl
theorem q319 : (Jvm.Cond.code ({ cls := "PatternPairs$Patterns", name := "either", desc := "()V" } : Jvm.MethodName) prog_5_method_13_code (3 : Nat) (Option.none : Option Jvm.ClassFile.FieldType)) ∈ lw_all := lw_g (lw_at lw_m2 21 rfl) rfl
theorem q320 : (Jvm.Cond.methodLink "PatternPairs$Patterns" (95 : Nat) ({ cls := "PatternPairs$Patterns", name := "several", desc := "()V" } : Jvm.MethodName)) ∈ lw_all := lw_g (lw_at lw_m2 22 rfl) rfl
theorem q321 : (Jvm.Cond.privateMethod ({ cls := "PatternPairs$Patterns", name := "several", desc := "()V" } : Jvm.MethodName)) ∈ lw_tbl := lw_at lw_m2 23 rfl
theorem q322 : (Jvm.Cond.instanceMethod ({ cls := "PatternPairs$Patterns", name := "several", desc := "()V" } : Jvm.MethodName)) ∈ lw_all := lw_g (lw_at lw_m2 24 rfl) rfl
theorem q323 : (Jvm.Cond.code ({ cls := "PatternPairs$Patterns", name := "several", desc := "()V" } : Jvm.MethodName) prog_5_method_15_code (1 : Nat) (Option.none : Option Jvm.ClassFile.FieldType)) ∈ lw_all := lw_g (lw_at lw_m2 25 rfl) rfl
theorem q324 : (Jvm.Cond.methodLink "PatternPairs$Patterns" (98 : Nat) ({ cls := "PatternPairs$Patterns", name := "push", desc := "(Z)I" } : Jvm.MethodName)) ∈ lw_all := lw_g (lw_at lw_m2 26 rfl) rfl
theorem q325 : (Jvm.Cond.privateMethod ({ cls := "PatternPairs$Patterns", name := "push", desc := "(Z)I" } : Jvm.MethodName)) ∈ lw_tbl := lw_at lw_m2 27 rfl
theorem q326 : (Jvm.Cond.instanceMethod ({ cls := "PatternPairs$Patterns", name := "push", desc := "(Z)I" } : Jvm.MethodName)) ∈ lw_all := lw_g (lw_at lw_m2 28 rfl) rfl
theorem q327 : (Jvm.Cond.code ({ cls := "PatternPairs$Patterns", name := "push", desc := "(Z)I" } : Jvm.MethodName) prog_5_method_12_code (3 : Nat) (Option.some Jvm.ClassFile.FieldType.int)) ∈ lw_all := lw_g (lw_at lw_m2 29 rfl) rfl
theorem q328 : (Jvm.Cond.methodLink "PatternPairs$Patterns" (102 : Nat) ({ cls := "PatternPairs$Patterns", name := "ends", desc := "()Z" } : Jvm.MethodName)) ∈ lw_all := lw_g (lw_at lw_m2 30 rfl) rfl
theorem q329 : (Jvm.Cond.privateMethod ({ cls := "PatternPairs$Patterns", name := "ends", desc := "()Z" } : Jvm.MethodName)) ∈ lw_tbl := lw_at lw_m2 31 rfl
theorem q330 : (Jvm.Cond.instanceMethod ({ cls := "PatternPairs$Patterns", name := "ends", desc := "()Z" } : Jvm.MethodName)) ∈ lw_all := lw_g (lw_at lw_m2 32 rfl) rfl
theorem q331 : (Jvm.Cond.code ({ cls := "PatternPairs$Patterns", name := "ends", desc := "()Z" } : Jvm.MethodName) prog_5_method_14_code (1 : Nat) (Option.some Jvm.ClassFile.FieldType.boolean)) ∈ lw_all := lw_g (lw_at lw_m2 33 rfl) rfl
theorem q332 : (Jvm.Cond.methodLink "PatternPairs$Patterns" (84 : Nat) ({ cls := "PatternPairs$Patterns", name := "c", desc := "()I" } : Jvm.MethodName)) ∈ lw_all := lw_g (lw_at lw_m2 34 rfl) rfl
theorem q333 : (Jvm.Cond.privateMethod ({ cls := "PatternPairs$Patterns", name := "c", desc := "()I" } : Jvm.MethodName)) ∈ lw_tbl := lw_at lw_m2 35 rfl
theorem q334 : (Jvm.Cond.instanceMethod ({ cls := "PatternPairs$Patterns", name := "c", desc := "()I" } : Jvm.MethodName)) ∈ lw_all := lw_g (lw_at lw_m2 36 rfl) rfl
theorem q335 : (Jvm.Cond.code ({ cls := "PatternPairs$Patterns", name := "c", desc := "()I" } : Jvm.MethodName) prog_5_method_5_code (1 : Nat) (Option.some Jvm.ClassFile.FieldType.int)) ∈ lw_all := lw_g (lw_at lw_m2 37 rfl) rfl
theorem q336 : (Jvm.Cond.methodLink "PatternPairs$Patterns" (106 : Nat) ({ cls := "PatternPairs$Patterns", name := "repeated", desc := "()V" } : Jvm.MethodName)) ∈ lw_all := lw_g (lw_at lw_m2 38 rfl) rfl
theorem q337 : (Jvm.Cond.privateMethod ({ cls := "PatternPairs$Patterns", name := "repeated", desc := "()V" } : Jvm.MethodName)) ∈ lw_tbl := lw_at lw_m2 39 rfl
theorem q338 : (Jvm.Cond.instanceMethod ({ cls := "PatternPairs$Patterns", name := "repeated", desc := "()V" } : Jvm.MethodName)) ∈ lw_all := lw_g (lw_at lw_m2 40 rfl) rfl
theorem q339 : (Jvm.Cond.code ({ cls := "PatternPairs$Patterns", name := "repeated", desc := "()V" } : Jvm.MethodName) prog_5_method_18_code (1 : Nat) (Option.none : Option Jvm.ClassFile.FieldType)) ∈ lw_all := lw_g (lw_at lw_m2 41 rfl) rfl
theorem q340 : (Jvm.Cond.methodLink "PatternPairs$Patterns" (116 : Nat) ({ cls := "PatternPairs$Patterns", name := "one", desc := "()V" } : Jvm.MethodName)) ∈ lw_all := lw_g (lw_at lw_m2 42 rfl) rfl
theorem q341 : (Jvm.Cond.privateMethod ({ cls := "PatternPairs$Patterns", name := "one", desc := "()V" } : Jvm.MethodName)) ∈ lw_tbl := lw_at lw_m2 43 rfl
theorem q342 : (Jvm.Cond.instanceMethod ({ cls := "PatternPairs$Patterns", name := "one", desc := "()V" } : Jvm.MethodName)) ∈ lw_all := lw_g (lw_at lw_m2 44 rfl) rfl
theorem q343 : (Jvm.Cond.code ({ cls := "PatternPairs$Patterns", name := "one", desc := "()V" } : Jvm.MethodName) prog_5_method_19_code (3 : Nat) (Option.none : Option Jvm.ClassFile.FieldType)) ∈ lw_all := lw_g (lw_at lw_m2 45 rfl) rfl
theorem q344 : (Jvm.Cond.methodLink "PatternPairs$Patterns" (88 : Nat) ({ cls := "PatternPairs$Patterns", name := "fail", desc := "()LPatternPairs$Broken;" } : Jvm.MethodName)) ∈ lw_all := lw_g (lw_at lw_m2 46 rfl) rfl
theorem q345 : (Jvm.Cond.privateMethod ({ cls := "PatternPairs$Patterns", name := "fail", desc := "()LPatternPairs$Broken;" } : Jvm.MethodName)) ∈ lw_tbl := lw_at lw_m2 47 rfl
theorem q346 : (Jvm.Cond.instanceMethod ({ cls := "PatternPairs$Patterns", name := "fail", desc := "()LPatternPairs$Broken;" } : Jvm.MethodName)) ∈ lw_all := lw_g (lw_at lw_m2 48 rfl) rfl
theorem q347 : (Jvm.Cond.code ({ cls := "PatternPairs$Patterns", name := "fail", desc := "()LPatternPairs$Broken;" } : Jvm.MethodName) prog_5_method_7_code (1 : Nat) (Option.some (Jvm.ClassFile.FieldType.object "PatternPairs$Broken"))) ∈ lw_all := lw_g (lw_at lw_m2 49 rfl) rfl
theorem q348 : (Jvm.Cond.methodLink "PatternPairs$Patterns" (68 : Nat) ({ cls := "PatternPairs$Patterns", name := "fail", desc := "(I)LPatternPairs$Broken;" } : Jvm.MethodName)) ∈ lw_all := lw_g (lw_at lw_m2 50 rfl) rfl
theorem q349 : (Jvm.Cond.privateMethod ({ cls := "PatternPairs$Patterns", name := "fail", desc := "(I)LPatternPairs$Broken;" } : Jvm.MethodName)) ∈ lw_tbl := lw_at lw_m2 51 rfl
theorem q350 : (Jvm.Cond.instanceMethod ({ cls := "PatternPairs$Patterns", name := "fail", desc := "(I)LPatternPairs$Broken;" } : Jvm.MethodName)) ∈ lw_all := lw_g (lw_at lw_m2 52 rfl) rfl
theorem q351 : (Jvm.Cond.code ({ cls := "PatternPairs$Patterns", name := "fail", desc := "(I)LPatternPairs$Broken;" } : Jvm.MethodName) prog_5_method_8_code (2 : Nat) (Option.some (Jvm.ClassFile.FieldType.object "PatternPairs$Broken"))) ∈ lw_all := lw_g (lw_at lw_m2 53 rfl) rfl
theorem q352 : (Jvm.Cond.methodLink "PatternPairs$Patterns" (119 : Nat) ({ cls := "PatternPairs$Patterns", name := "place", desc := "()I" } : Jvm.MethodName)) ∈ lw_all := lw_g (lw_at lw_m2 54 rfl) rfl
theorem q353 : (Jvm.Cond.privateMethod ({ cls := "PatternPairs$Patterns", name := "place", desc := "()I" } : Jvm.MethodName)) ∈ lw_tbl := lw_at lw_m2 55 rfl
theorem q354 : (Jvm.Cond.instanceMethod ({ cls := "PatternPairs$Patterns", name := "place", desc := "()I" } : Jvm.MethodName)) ∈ lw_all := lw_g (lw_at lw_m2 56 rfl) rfl
theorem q355 : (Jvm.Cond.code ({ cls := "PatternPairs$Patterns", name := "place", desc := "()I" } : Jvm.MethodName) prog_5_method_20_code (5 : Nat) (Option.some Jvm.ClassFile.FieldType.int)) ∈ lw_all := lw_g (lw_at lw_m2 57 rfl) rfl
theorem q356 : (Jvm.Cond.methodLink "PatternPairs$Patterns" (137 : Nat) ({ cls := "PatternPairs$Patterns", name := "plain", desc := "(IZ)Z" } : Jvm.MethodName)) ∈ lw_all := lw_g (lw_at lw_m2 58 rfl) rfl
theorem q357 : (Jvm.Cond.static ({ cls := "PatternPairs$Patterns", name := "plain", desc := "(IZ)Z" } : Jvm.MethodName)) ∈ lw_all := lw_g (lw_at lw_m2 59 rfl) rfl
theorem q358 : (Jvm.Cond.code ({ cls := "PatternPairs$Patterns", name := "plain", desc := "(IZ)Z" } : Jvm.MethodName) prog_5_method_22_code (2 : Nat) (Option.some Jvm.ClassFile.FieldType.boolean)) ∈ lw_all := lw_g (lw_at lw_m2 60 rfl) rfl
theorem q359 : (Jvm.Cond.stringRef "PatternPairs$Patterns" (141 : Nat) "/\\]-") ∈ lw_tbl := lw_at lw_m2 61 rfl
theorem q360 : (Jvm.Cond.stringRef "PatternPairs$Patterns" (143 : Nat) "/\\|*+?()[.") ∈ lw_tbl := lw_at lw_m2 62 rfl
theorem q361 : (Jvm.Cond.methodLink "PatternPairs$Patterns" (145 : Nat) ({ cls := "java/lang/String", name := "indexOf", desc := "(I)I" } : Jvm.MethodName)) ∈ lw_all := lw_g (lw_at lw_m2 63 rfl) rfl
theorem q447 : (Jvm.Cond.methodLink "PatternPairs$Patterns" (122 : Nat) ({ cls := "PatternPairs$Patterns", name := "choice", desc := "(I)V" } : Jvm.MethodName)) ∈ lw_all := lw_g (lw_at lw_m2 149 rfl) rfl
theorem q448 : (Jvm.Cond.privateMethod ({ cls := "PatternPairs$Patterns", name := "choice", desc := "(I)V" } : Jvm.MethodName)) ∈ lw_tbl := lw_at lw_m2 150 rfl
theorem q449 : (Jvm.Cond.instanceMethod ({ cls := "PatternPairs$Patterns", name := "choice", desc := "(I)V" } : Jvm.MethodName)) ∈ lw_all := lw_g (lw_at lw_m2 151 rfl) rfl
theorem q450 : (Jvm.Cond.code ({ cls := "PatternPairs$Patterns", name := "choice", desc := "(I)V" } : Jvm.MethodName) prog_5_method_24_code (6 : Nat) (Option.none : Option Jvm.ClassFile.FieldType)) ∈ lw_all := lw_g (lw_at lw_m2 152 rfl) rfl
theorem q451 : (Jvm.Cond.methodLink "PatternPairs$Patterns" (130 : Nat) ({ cls := "PatternPairs$Patterns", name := "character", desc := "(Z)I" } : Jvm.MethodName)) ∈ lw_all := lw_g (lw_at lw_m2 153 rfl) rfl
theorem q452 : (Jvm.Cond.privateMethod ({ cls := "PatternPairs$Patterns", name := "character", desc := "(Z)I" } : Jvm.MethodName)) ∈ lw_tbl := lw_at lw_m2 154 rfl
theorem q453 : (Jvm.Cond.instanceMethod ({ cls := "PatternPairs$Patterns", name := "character", desc := "(Z)I" } : Jvm.MethodName)) ∈ lw_all := lw_g (lw_at lw_m2 155 rfl) rfl
theorem q454 : (Jvm.Cond.code ({ cls := "PatternPairs$Patterns", name := "character", desc := "(Z)I" } : Jvm.MethodName) prog_5_method_23_code (5 : Nat) (Option.some Jvm.ClassFile.FieldType.int)) ∈ lw_all := lw_g (lw_at lw_m2 156 rfl) rfl
theorem q455 : (Jvm.Cond.stringRef "PatternPairs$Patterns" (151 : Nat) "/\\|*+?()[.]-^") ∈ lw_tbl := lw_at lw_m2 157 rfl
theorem q456 : (Jvm.Cond.methodLink "PatternPairs$Patterns" (133 : Nat) ({ cls := "PatternPairs$Patterns", name := "set", desc := "(III)V" } : Jvm.MethodName)) ∈ lw_all := lw_g (lw_at lw_m2 158 rfl) rfl
theorem q457 : (Jvm.Cond.privateMethod ({ cls := "PatternPairs$Patterns", name := "set", desc := "(III)V" } : Jvm.MethodName)) ∈ lw_tbl := lw_at lw_m2 159 rfl
theorem q458 : (Jvm.Cond.instanceMethod ({ cls := "PatternPairs$Patterns", name := "set", desc := "(III)V" } : Jvm.MethodName)) ∈ lw_all := lw_g (lw_at lw_m2 160 rfl) rfl
theorem q459 : (Jvm.Cond.code ({ cls := "PatternPairs$Patterns", name := "set", desc := "(III)V" } : Jvm.MethodName) prog_5_method_21_code (5 : Nat) (Option.none : Option Jvm.ClassFile.FieldType)) ∈ lw_all := lw_g (lw_at lw_m2 161 rfl) rfl
theorem q460 : (Jvm.Cond.constantLong "PatternPairs$Patterns" (128 : Nat) (-1 : Int64)) ∈ lw_all := lw_g (lw_at lw_m2 162 rfl) rfl
theorem q461 : (Jvm.Cond.constantLong "PatternPairs$Patterns" (126 : Nat) (-1025 : Int64)) ∈ lw_all := lw_g (lw_at lw_m2 163 rfl) rfl
theorem q462 : (Jvm.Cond.methodLink "PatternPairs$Patterns" (113 : Nat) ({ cls := "PatternPairs$Patterns", name := "link", desc := "(II)V" } : Jvm.MethodName)) ∈ lw_all := lw_g (lw_at lw_m2 164 rfl) rfl
theorem q463 : (Jvm.Cond.privateMethod ({ cls := "PatternPairs$Patterns", name := "link", desc := "(II)V" } : Jvm.MethodName)) ∈ lw_tbl := lw_at lw_m2 165 rfl
theorem q464 : (Jvm.Cond.instanceMethod ({ cls := "PatternPairs$Patterns", name := "link", desc := "(II)V" } : Jvm.MethodName)) ∈ lw_all := lw_g (lw_at lw_m2 166 rfl) rfl
theorem q465 : (Jvm.Cond.code ({ cls := "PatternPairs$Patterns", name := "link", desc := "(II)V" } : Jvm.MethodName) prog_5_method_17_code (5 : Nat) (Option.none : Option Jvm.ClassFile.FieldType)) ∈ lw_all := lw_g (lw_at lw_m2 167 rfl) rfl
theorem q466 : (Jvm.Cond.methodLink "PatternPairs$Patterns" (91 : Nat) ({ cls := "PatternPairs$Patterns", name := "has", desc := "([JII)Z" } : Jvm.MethodName)) ∈ lw_all := lw_g (lw_at lw_m2 168 rfl) rfl
theorem q467 : (Jvm.Cond.static ({ cls := "PatternPairs$Patterns", name := "has", desc := "([JII)Z" } : Jvm.MethodName)) ∈ lw_all := lw_g (lw_at lw_m2 169 rfl) rfl
theorem q468 : (Jvm.Cond.code ({ cls := "PatternPairs$Patterns", name := "has", desc := "([JII)Z" } : Jvm.MethodName) prog_5_method_11_code (3 : Nat) (Option.some Jvm.ClassFile.FieldType.boolean)) ∈ lw_all := lw_g (lw_at lw_m2 170 rfl) rfl
theorem q469 : (Jvm.Cond.methodLink "PatternPairs$Patterns" (109 : Nat) ({ cls := "PatternPairs$Patterns", name := "behind", desc := "(II)V" } : Jvm.MethodName)) ∈ lw_all := lw_g (lw_at lw_m2 171 rfl) rfl
theorem q470 : (Jvm.Cond.privateMethod ({ cls := "PatternPairs$Patterns", name := "behind", desc := "(II)V" } : Jvm.MethodName)) ∈ lw_tbl := lw_at lw_m2 172 rfl
theorem q471 : (Jvm.Cond.instanceMethod ({ cls := "PatternPairs$Patterns", name := "behind", desc := "(II)V" } : Jvm.MethodName)) ∈ lw_all := lw_g (lw_at lw_m2 173 rfl) rfl
theorem q472 : (Jvm.Cond.code ({ cls := "PatternPairs$Patterns", name := "behind", desc := "(II)V" } : Jvm.MethodName) prog_5_method_16_code (4 : Nat) (Option.none : Option Jvm.ClassFile.FieldType)) ∈ lw_all := lw_g (lw_at lw_m2 174 rfl) rfl
theorem q474 : (Jvm.Cond.instanceMethod ({ cls := "PatternPairs$Patterns", name := "isEmpty", desc := "()Z" } : Jvm.MethodName)) ∈ lw_all := lw_g (lw_at lw_m2 176 rfl) rfl
theorem q475 : (Jvm.Cond.selects "PatternPairs$Patterns" ({ cls := "PatternPairs$Patterns", name := "isEmpty", desc := "()Z" } : Jvm.MethodName) ({ cls := "PatternPairs$Patterns", name := "isEmpty", desc := "()Z" } : Jvm.MethodName)) ∈ lw_all := lw_g (lw_at lw_m2 177 rfl) rfl
theorem q476 : (Jvm.Cond.code ({ cls := "PatternPairs$Patterns", name := "isEmpty", desc := "()Z" } : Jvm.MethodName) prog_5_method_4_code (1 : Nat) (Option.some Jvm.ClassFile.FieldType.boolean)) ∈ lw_all := lw_g (lw_at lw_m2 178 rfl) rfl
theorem q497 : (Jvm.Cond.instanceMethod ({ cls := "PatternPairs$Patterns", name := "takes", desc := "(II)Z" } : Jvm.MethodName)) ∈ lw_all := lw_g (lw_at lw_m2 199 rfl) rfl
theorem q498 : (Jvm.Cond.selects "PatternPairs$Patterns" ({ cls := "PatternPairs$Patterns", name := "takes", desc := "(II)Z" } : Jvm.MethodName) ({ cls := "PatternPairs$Patterns", name := "takes", desc := "(II)Z" } : Jvm.MethodName)) ∈ lw_all := lw_g (lw_at lw_m2 200 rfl) rfl
theorem q499 : (Jvm.Cond.code ({ cls := "PatternPairs$Patterns", name := "takes", desc := "(II)Z" } : Jvm.MethodName) prog_5_method_25_code (3 : Nat) (Option.some Jvm.ClassFile.FieldType.boolean)) ∈ lw_all := lw_g (lw_at lw_m2 201 rfl) rfl
theorem q688 : (Jvm.Cond.instanceMethod ({ cls := "PatternPairs$Patterns", name := "wrong", desc := "()I" } : Jvm.MethodName)) ∈ lw_all := lw_g (lw_at lw_m3 150 rfl) rfl
theorem q689 : (Jvm.Cond.selects "PatternPairs$Patterns" ({ cls := "PatternPairs$Patterns", name := "wrong", desc := "()I" } : Jvm.MethodName) ({ cls := "PatternPairs$Patterns", name := "wrong", desc := "()I" } : Jvm.MethodName)) ∈ lw_all := lw_g (lw_at lw_m3 151 rfl) rfl
theorem q690 : (Jvm.Cond.code ({ cls := "PatternPairs$Patterns", name := "wrong", desc := "()I" } : Jvm.MethodName) prog_5_method_6_code (1 : Nat) (Option.some Jvm.ClassFile.FieldType.int)) ∈ lw_all := lw_g (lw_at lw_m3 152 rfl) rfl
theorem in_X3 : ∀ w ∈ wsX30, w ∈ lw_all := lw_in wsX30 [196, 198, 200, 202, 204, 206, 208, 210, 212, 214, 216, 218, 220, 222, 224, 226, 228, 230] (by decide +kernel) (by decide +kernel)

/-! java/lang/Throwable -/
set_option maxRecDepth 100000
def RJ0 : String := "java/lang/Throwable"
def TJ0 : u_T := fun k => match k with
  | 0 => ("java/lang/Throwable", "cause", "Ljava/lang/Throwable;", false)
  | 1 => ("java/lang/Throwable", "stackTrace", "[Ljava/lang/StackTraceElement;", false)
  | 2 => ("java/lang/Throwable", "suppressedExceptions", "Ljava/util/List;", false)
  | 3 => ("java/lang/Throwable", "detailMessage", "Ljava/lang/String;", false)
  | _ => ("java/lang/Throwable", "backtrace", "Ljava/lang/Object;", false)
def tyJ0 : Nat → FieldType := fun k => match k with
  | 0 => .object "java/lang/Throwable"
  | 1 => .array (.object "java/lang/StackTraceElement")
  | 2 => .object "java/util/List"
  | 3 => .object "java/lang/String"
  | _ => .object "java/lang/Object"
abbrev wsJ00 : List Cond := u_ws RJ0 TJ0 5
theorem nmJ0 : ∀ a, a < 5 → ∀ b, b < 5 → a ≠ b → (TJ0 a).2.1 ≠ (TJ0 b).2.1 := by decide +kernel
theorem tyJ0_ok : ∀ k, k < 5 → parseFieldDescriptor (TJ0 k).2.2.1 = some (tyJ0 k) := by decide +kernel
abbrev cJ0_init : ByteArray := prog_22_method_1_code
def yJ0_init : MethodName := ⟨RJ0, "<init>", "()V"⟩
abbrev cJ0_init_2 : ByteArray := prog_22_method_5_code
def yJ0_init_2 : MethodName := ⟨RJ0, "<init>", "(Ljava/lang/String;Ljava/lang/Throwable;ZZ)V"⟩
abbrev cJ0_init_3 : ByteArray := prog_22_method_2_code
def yJ0_init_3 : MethodName := ⟨RJ0, "<init>", "(Ljava/lang/String;)V"⟩
theorem q62 : (Jvm.Cond.initialized "java/lang/Throwable") ∈ lw_all := lw_g (lw_at lw_m1 4 rfl) rfl
theorem q110 : (Jvm.Cond.declares ({ cls := "java/lang/Throwable", name := "<init>", desc := "()V" } : Jvm.MethodName)) ∈ lw_tbl := lw_at lw_m1 52 rfl
theorem q111 : (Jvm.Cond.declares ({ cls := "java/lang/Throwable", name := "<init>", desc := "(Ljava/lang/String;)V" } : Jvm.MethodName)) ∈ lw_tbl := lw_at lw_m1 53 rfl
theorem q115 : (Jvm.Cond.lays "java/lang/Throwable" "java/lang/Throwable" "cause" "Ljava/lang/Throwable;") ∈ lw_all := lw_g (lw_at lw_m1 57 rfl) rfl
theorem q117 : (Jvm.Cond.lays "java/lang/Throwable" "java/lang/Throwable" "stackTrace" "[Ljava/lang/StackTraceElement;") ∈ lw_all := lw_g (lw_at lw_m1 59 rfl) rfl
theorem q119 : (Jvm.Cond.lays "java/lang/Throwable" "java/lang/Throwable" "suppressedExceptions" "Ljava/util/List;") ∈ lw_all := lw_g (lw_at lw_m1 61 rfl) rfl
theorem q121 : (Jvm.Cond.lays "java/lang/Throwable" "java/lang/Throwable" "detailMessage" "Ljava/lang/String;") ∈ lw_all := lw_g (lw_at lw_m1 63 rfl) rfl
theorem q123 : (Jvm.Cond.lays "java/lang/Throwable" "java/lang/Throwable" "backtrace" "Ljava/lang/Object;") ∈ lw_all := lw_g (lw_at lw_m1 65 rfl) rfl
theorem q124 : (Jvm.Cond.fieldLink "java/lang/Throwable" (198 : Nat) "java/lang/Throwable" "backtrace" "Ljava/lang/Object;") ∈ lw_all := lw_g (lw_at lw_m1 66 rfl) rfl
theorem q125 : (Jvm.Cond.superclass "java/lang/Throwable" "java/lang/Object") ∈ lw_all := lw_g (lw_at lw_m1 67 rfl) rfl
theorem q126 : (Jvm.Cond.instanceMethod ({ cls := "java/lang/Throwable", name := "<init>", desc := "()V" } : Jvm.MethodName)) ∈ lw_all := lw_g (lw_at lw_m1 68 rfl) rfl
theorem q127 : (Jvm.Cond.code ({ cls := "java/lang/Throwable", name := "<init>", desc := "()V" } : Jvm.MethodName) prog_22_method_1_code (1 : Nat) (Option.none : Option Jvm.ClassFile.FieldType)) ∈ lw_all := lw_g (lw_at lw_m1 69 rfl) rfl
theorem q128 : (Jvm.Cond.methodLink "java/lang/Throwable" (1 : Nat) ({ cls := "java/lang/Object", name := "<init>", desc := "()V" } : Jvm.MethodName)) ∈ lw_all := lw_g (lw_at lw_m1 70 rfl) rfl
theorem q129 : (Jvm.Cond.fieldLink "java/lang/Throwable" (13 : Nat) "java/lang/Throwable" "UNASSIGNED_STACK" "[Ljava/lang/StackTraceElement;") ∈ lw_all := lw_g (lw_at lw_m1 71 rfl) rfl
theorem q130 : (Jvm.Cond.laysStatic "java/lang/Throwable" "UNASSIGNED_STACK" "[Ljava/lang/StackTraceElement;") ∈ lw_tbl := lw_at lw_m1 72 rfl
theorem q131 : (Jvm.Cond.fieldLink "java/lang/Throwable" (20 : Nat) "java/lang/Throwable" "SUPPRESSED_SENTINEL" "Ljava/util/List;") ∈ lw_all := lw_g (lw_at lw_m1 73 rfl) rfl
theorem q132 : (Jvm.Cond.laysStatic "java/lang/Throwable" "SUPPRESSED_SENTINEL" "Ljava/util/List;") ∈ lw_tbl := lw_at lw_m1 74 rfl
theorem q133 : (Jvm.Cond.methodLink "java/lang/Throwable" (27 : Nat) ({ cls := "java/lang/Throwable", name := "fillInStackTrace", desc := "()Ljava/lang/Throwable;" } : Jvm.MethodName)) ∈ lw_all := lw_g (lw_at lw_m1 75 rfl) rfl
theorem q134 : (Jvm.Cond.instanceMethod ({ cls := "java/lang/Throwable", name := "fillInStackTrace", desc := "()Ljava/lang/Throwable;" } : Jvm.MethodName)) ∈ lw_all := lw_g (lw_at lw_m1 76 rfl) rfl
theorem q135 : (Jvm.Cond.sameMethod "java/lang/Throwable" "java/lang/Throwable" "fillInStackTrace" "()Ljava/lang/Throwable;") ∈ lw_all := lw_g (lw_at lw_m1 77 rfl) rfl
theorem q141 : (Jvm.Cond.codeSync ({ cls := "java/lang/Throwable", name := "fillInStackTrace", desc := "()Ljava/lang/Throwable;" } : Jvm.MethodName) prog_22_method_18_code (1 : Nat) (Option.some (Jvm.ClassFile.FieldType.object "java/lang/Throwable"))) ∈ lw_all := lw_g (lw_at lw_m1 83 rfl) rfl
theorem q142 : (Jvm.Cond.methodLink "java/lang/Throwable" (202 : Nat) ({ cls := "java/lang/Throwable", name := "fillInStackTrace", desc := "(I)Ljava/lang/Throwable;" } : Jvm.MethodName)) ∈ lw_all := lw_g (lw_at lw_m1 84 rfl) rfl
theorem q143 : (Jvm.Cond.privateMethod ({ cls := "java/lang/Throwable", name := "fillInStackTrace", desc := "(I)Ljava/lang/Throwable;" } : Jvm.MethodName)) ∈ lw_tbl := lw_at lw_m1 85 rfl
theorem q144 : (Jvm.Cond.instanceMethod ({ cls := "java/lang/Throwable", name := "fillInStackTrace", desc := "(I)Ljava/lang/Throwable;" } : Jvm.MethodName)) ∈ lw_all := lw_g (lw_at lw_m1 86 rfl) rfl
theorem q145 : (Jvm.Cond.instantiable "java/lang/Throwable" (6 : Nat)) ∈ lw_all := lw_g (lw_at lw_m1 87 rfl) rfl
theorem q146 : (Jvm.Cond.native ({ cls := "java/lang/Throwable", name := "fillInStackTrace", desc := "(I)Ljava/lang/Throwable;" } : Jvm.MethodName)) ∈ lw_all := lw_g (lw_at lw_m1 88 rfl) rfl
theorem q157 : (Jvm.Cond.instanceMethod ({ cls := "java/lang/Throwable", name := "<init>", desc := "(Ljava/lang/String;Ljava/lang/Throwable;ZZ)V" } : Jvm.MethodName)) ∈ lw_all := lw_g (lw_at lw_m1 99 rfl) rfl
theorem q158 : (Jvm.Cond.code ({ cls := "java/lang/Throwable", name := "<init>", desc := "(Ljava/lang/String;Ljava/lang/Throwable;ZZ)V" } : Jvm.MethodName) prog_22_method_5_code (5 : Nat) (Option.none : Option Jvm.ClassFile.FieldType)) ∈ lw_all := lw_g (lw_at lw_m1 100 rfl) rfl
theorem q159 : (Jvm.Cond.fieldLink "java/lang/Throwable" (198 : Nat) "java/lang/Throwable" "backtrace" "Ljava/lang/Object;") ∈ lw_all := lw_g (lw_at lw_m1 101 rfl) rfl
theorem q160 : (Jvm.Cond.fieldLink "java/lang/Throwable" (31 : Nat) "java/lang/Throwable" "detailMessage" "Ljava/lang/String;") ∈ lw_all := lw_g (lw_at lw_m1 102 rfl) rfl
theorem q161 : (Jvm.Cond.fieldLink "java/lang/Throwable" (7 : Nat) "java/lang/Throwable" "cause" "Ljava/lang/Throwable;") ∈ lw_all := lw_g (lw_at lw_m1 103 rfl) rfl
theorem q162 : (Jvm.Cond.fieldLink "java/lang/Throwable" (17 : Nat) "java/lang/Throwable" "stackTrace" "[Ljava/lang/StackTraceElement;") ∈ lw_all := lw_g (lw_at lw_m1 104 rfl) rfl
theorem q163 : (Jvm.Cond.fieldLink "java/lang/Throwable" (24 : Nat) "java/lang/Throwable" "suppressedExceptions" "Ljava/util/List;") ∈ lw_all := lw_g (lw_at lw_m1 105 rfl) rfl
theorem q164 : (Jvm.Cond.soleField "java/lang/Throwable" "backtrace") ∈ lw_all := lw_g (lw_at lw_m1 106 rfl) rfl
theorem q165 : (Jvm.Cond.soleField "java/lang/Throwable" "detailMessage") ∈ lw_all := lw_g (lw_at lw_m1 107 rfl) rfl
theorem q166 : (Jvm.Cond.soleField "java/lang/Throwable" "cause") ∈ lw_all := lw_g (lw_at lw_m1 108 rfl) rfl
theorem q167 : (Jvm.Cond.soleField "java/lang/Throwable" "stackTrace") ∈ lw_all := lw_g (lw_at lw_m1 109 rfl) rfl
theorem q169 : (Jvm.Cond.soleField "java/lang/Throwable" "depth") ∈ lw_all := lw_g (lw_at lw_m1 111 rfl) rfl
theorem q170 : (Jvm.Cond.soleField "java/lang/Throwable" "suppressedExceptions") ∈ lw_all := lw_g (lw_at lw_m1 112 rfl) rfl
theorem q594 : (Jvm.Cond.instanceMethod ({ cls := "java/lang/Throwable", name := "<init>", desc := "(Ljava/lang/String;)V" } : Jvm.MethodName)) ∈ lw_all := lw_g (lw_at lw_m3 56 rfl) rfl
theorem q595 : (Jvm.Cond.code ({ cls := "java/lang/Throwable", name := "<init>", desc := "(Ljava/lang/String;)V" } : Jvm.MethodName) prog_22_method_2_code (2 : Nat) (Option.none : Option Jvm.ClassFile.FieldType)) ∈ lw_all := lw_g (lw_at lw_m3 57 rfl) rfl
theorem q1124 : (Jvm.Cond.sameMethod "java/lang/Throwable" "java/lang/Throwable" "fillInStackTrace" "(I)Ljava/lang/Throwable;") ∈ lw_all := lw_g (lw_at lw_m5 106 rfl) rfl
theorem in_J0 : ∀ w ∈ wsJ00, w ∈ lw_all := lw_in wsJ00 [115, 117, 119, 121, 123] (by decide +kernel) (by decide +kernel)

/-! java/lang/Exception -/
set_option maxRecDepth 100000
def RJ1 : String := "java/lang/Exception"
abbrev cJ1_init : ByteArray := prog_11_method_5_code
def yJ1_init : MethodName := ⟨RJ1, "<init>", "(Ljava/lang/String;Ljava/lang/Throwable;ZZ)V"⟩
abbrev cJ1_init_2 : ByteArray := prog_11_method_2_code
def yJ1_init_2 : MethodName := ⟨RJ1, "<init>", "(Ljava/lang/String;)V"⟩
abbrev cJ1_init_3 : ByteArray := prog_11_method_1_code
def yJ1_init_3 : MethodName := ⟨RJ1, "<init>", "()V"⟩
theorem q63 : (Jvm.Cond.initialized "java/lang/Exception") ∈ lw_all := lw_g (lw_at lw_m1 5 rfl) rfl
theorem q108 : (Jvm.Cond.declares ({ cls := "java/lang/Exception", name := "<init>", desc := "()V" } : Jvm.MethodName)) ∈ lw_tbl := lw_at lw_m1 50 rfl
theorem q109 : (Jvm.Cond.declares ({ cls := "java/lang/Exception", name := "<init>", desc := "(Ljava/lang/String;)V" } : Jvm.MethodName)) ∈ lw_tbl := lw_at lw_m1 51 rfl
theorem q154 : (Jvm.Cond.instanceMethod ({ cls := "java/lang/Exception", name := "<init>", desc := "(Ljava/lang/String;Ljava/lang/Throwable;ZZ)V" } : Jvm.MethodName)) ∈ lw_all := lw_g (lw_at lw_m1 96 rfl) rfl
theorem q155 : (Jvm.Cond.code ({ cls := "java/lang/Exception", name := "<init>", desc := "(Ljava/lang/String;Ljava/lang/Throwable;ZZ)V" } : Jvm.MethodName) prog_11_method_5_code (5 : Nat) (Option.none : Option Jvm.ClassFile.FieldType)) ∈ lw_all := lw_g (lw_at lw_m1 97 rfl) rfl
theorem q156 : (Jvm.Cond.methodLink "java/lang/Exception" (16 : Nat) ({ cls := "java/lang/Throwable", name := "<init>", desc := "(Ljava/lang/String;Ljava/lang/Throwable;ZZ)V" } : Jvm.MethodName)) ∈ lw_all := lw_g (lw_at lw_m1 98 rfl) rfl
theorem q591 : (Jvm.Cond.instanceMethod ({ cls := "java/lang/Exception", name := "<init>", desc := "(Ljava/lang/String;)V" } : Jvm.MethodName)) ∈ lw_all := lw_g (lw_at lw_m3 53 rfl) rfl
theorem q592 : (Jvm.Cond.code ({ cls := "java/lang/Exception", name := "<init>", desc := "(Ljava/lang/String;)V" } : Jvm.MethodName) prog_11_method_2_code (2 : Nat) (Option.none : Option Jvm.ClassFile.FieldType)) ∈ lw_all := lw_g (lw_at lw_m3 54 rfl) rfl
theorem q593 : (Jvm.Cond.methodLink "java/lang/Exception" (7 : Nat) ({ cls := "java/lang/Throwable", name := "<init>", desc := "(Ljava/lang/String;)V" } : Jvm.MethodName)) ∈ lw_all := lw_g (lw_at lw_m3 55 rfl) rfl
theorem q635 : (Jvm.Cond.instanceMethod ({ cls := "java/lang/Exception", name := "<init>", desc := "()V" } : Jvm.MethodName)) ∈ lw_all := lw_g (lw_at lw_m3 97 rfl) rfl
theorem q636 : (Jvm.Cond.code ({ cls := "java/lang/Exception", name := "<init>", desc := "()V" } : Jvm.MethodName) prog_11_method_1_code (1 : Nat) (Option.none : Option Jvm.ClassFile.FieldType)) ∈ lw_all := lw_g (lw_at lw_m3 98 rfl) rfl
theorem q637 : (Jvm.Cond.methodLink "java/lang/Exception" (1 : Nat) ({ cls := "java/lang/Throwable", name := "<init>", desc := "()V" } : Jvm.MethodName)) ∈ lw_all := lw_g (lw_at lw_m3 99 rfl) rfl

/-! java/lang/RuntimeException -/
set_option maxRecDepth 100000
def RJ2 : String := "java/lang/RuntimeException"
abbrev cJ2_init : ByteArray := prog_17_method_5_code
def yJ2_init : MethodName := ⟨RJ2, "<init>", "(Ljava/lang/String;Ljava/lang/Throwable;ZZ)V"⟩
abbrev cJ2_init_2 : ByteArray := prog_17_method_2_code
def yJ2_init_2 : MethodName := ⟨RJ2, "<init>", "(Ljava/lang/String;)V"⟩
abbrev cJ2_init_3 : ByteArray := prog_17_method_1_code
def yJ2_init_3 : MethodName := ⟨RJ2, "<init>", "()V"⟩
theorem q64 : (Jvm.Cond.initialized "java/lang/RuntimeException") ∈ lw_all := lw_g (lw_at lw_m1 6 rfl) rfl
theorem q106 : (Jvm.Cond.declares ({ cls := "java/lang/RuntimeException", name := "<init>", desc := "()V" } : Jvm.MethodName)) ∈ lw_tbl := lw_at lw_m1 48 rfl
theorem q107 : (Jvm.Cond.declares ({ cls := "java/lang/RuntimeException", name := "<init>", desc := "(Ljava/lang/String;)V" } : Jvm.MethodName)) ∈ lw_tbl := lw_at lw_m1 49 rfl
theorem q151 : (Jvm.Cond.instanceMethod ({ cls := "java/lang/RuntimeException", name := "<init>", desc := "(Ljava/lang/String;Ljava/lang/Throwable;ZZ)V" } : Jvm.MethodName)) ∈ lw_all := lw_g (lw_at lw_m1 93 rfl) rfl
theorem q152 : (Jvm.Cond.code ({ cls := "java/lang/RuntimeException", name := "<init>", desc := "(Ljava/lang/String;Ljava/lang/Throwable;ZZ)V" } : Jvm.MethodName) prog_17_method_5_code (5 : Nat) (Option.none : Option Jvm.ClassFile.FieldType)) ∈ lw_all := lw_g (lw_at lw_m1 94 rfl) rfl
theorem q153 : (Jvm.Cond.methodLink "java/lang/RuntimeException" (16 : Nat) ({ cls := "java/lang/Exception", name := "<init>", desc := "(Ljava/lang/String;Ljava/lang/Throwable;ZZ)V" } : Jvm.MethodName)) ∈ lw_all := lw_g (lw_at lw_m1 95 rfl) rfl
theorem q588 : (Jvm.Cond.instanceMethod ({ cls := "java/lang/RuntimeException", name := "<init>", desc := "(Ljava/lang/String;)V" } : Jvm.MethodName)) ∈ lw_all := lw_g (lw_at lw_m3 50 rfl) rfl
theorem q589 : (Jvm.Cond.code ({ cls := "java/lang/RuntimeException", name := "<init>", desc := "(Ljava/lang/String;)V" } : Jvm.MethodName) prog_17_method_2_code (2 : Nat) (Option.none : Option Jvm.ClassFile.FieldType)) ∈ lw_all := lw_g (lw_at lw_m3 51 rfl) rfl
theorem q590 : (Jvm.Cond.methodLink "java/lang/RuntimeException" (7 : Nat) ({ cls := "java/lang/Exception", name := "<init>", desc := "(Ljava/lang/String;)V" } : Jvm.MethodName)) ∈ lw_all := lw_g (lw_at lw_m3 52 rfl) rfl
theorem q632 : (Jvm.Cond.instanceMethod ({ cls := "java/lang/RuntimeException", name := "<init>", desc := "()V" } : Jvm.MethodName)) ∈ lw_all := lw_g (lw_at lw_m3 94 rfl) rfl
theorem q633 : (Jvm.Cond.code ({ cls := "java/lang/RuntimeException", name := "<init>", desc := "()V" } : Jvm.MethodName) prog_17_method_1_code (1 : Nat) (Option.none : Option Jvm.ClassFile.FieldType)) ∈ lw_all := lw_g (lw_at lw_m3 95 rfl) rfl
theorem q634 : (Jvm.Cond.methodLink "java/lang/RuntimeException" (1 : Nat) ({ cls := "java/lang/Exception", name := "<init>", desc := "()V" } : Jvm.MethodName)) ∈ lw_all := lw_g (lw_at lw_m3 96 rfl) rfl

/-! PatternPairs$Broken -/
set_option maxRecDepth 100000
def RX4 : String := "PatternPairs$Broken"
def TX4 : u_T := fun k => match k with
  | 0 => ("java/lang/Throwable", "cause", "Ljava/lang/Throwable;", false)
  | 1 => ("java/lang/Throwable", "stackTrace", "[Ljava/lang/StackTraceElement;", false)
  | 2 => ("java/lang/Throwable", "suppressedExceptions", "Ljava/util/List;", false)
  | 3 => ("java/lang/Throwable", "detailMessage", "Ljava/lang/String;", false)
  | 4 => ("java/lang/Throwable", "backtrace", "Ljava/lang/Object;", false)
  | _ => ("java/lang/Throwable", "depth", "I", false)
def tyX4 : Nat → FieldType := fun k => match k with
  | 0 => .object "java/lang/Throwable"
  | 1 => .array (.object "java/lang/StackTraceElement")
  | 2 => .object "java/util/List"
  | 3 => .object "java/lang/String"
  | 4 => .object "java/lang/Object"
  | _ => .int
abbrev wsX40 : List Cond := u_ws RX4 TX4 6
theorem nmX4 : ∀ a, a < 6 → ∀ b, b < 6 → a ≠ b → (TX4 a).2.1 ≠ (TX4 b).2.1 := by decide +kernel
theorem tyX4_ok : ∀ k, k < 6 → parseFieldDescriptor (TX4 k).2.2.1 = some (tyX4 k) := by decide +kernel
abbrev cX4_init : ByteArray := prog_3_method_1_code
def yX4_init : MethodName := ⟨RX4, "<init>", "()V"⟩
theorem q65 : (Jvm.Cond.initialized "PatternPairs$Broken") ∈ lw_all := lw_g (lw_at lw_m1 7 rfl) rfl
theorem q104 : (Jvm.Cond.instantiable "PatternPairs$Broken" (6 : Nat)) ∈ lw_all := lw_g (lw_at lw_m1 46 rfl) rfl
theorem q105 : (Jvm.Cond.castable "PatternPairs$Broken" "PatternPairs$Broken") ∈ lw_tbl := lw_at lw_m1 47 rfl
theorem q112 : (Jvm.Cond.selects "PatternPairs$Broken" ({ cls := "java/lang/Throwable", name := "fillInStackTrace", desc := "(I)Ljava/lang/Throwable;" } : Jvm.MethodName) ({ cls := "java/lang/Throwable", name := "fillInStackTrace", desc := "(I)Ljava/lang/Throwable;" } : Jvm.MethodName)) ∈ lw_all := lw_g (lw_at lw_m1 54 rfl) rfl
theorem q113 : (Jvm.Cond.selects "PatternPairs$Broken" ({ cls := "java/lang/Throwable", name := "fillInStackTrace", desc := "()Ljava/lang/Throwable;" } : Jvm.MethodName) ({ cls := "java/lang/Throwable", name := "fillInStackTrace", desc := "()Ljava/lang/Throwable;" } : Jvm.MethodName)) ∈ lw_all := lw_g (lw_at lw_m1 55 rfl) rfl
theorem q114 : (Jvm.Cond.lays "PatternPairs$Broken" "java/lang/Throwable" "cause" "Ljava/lang/Throwable;") ∈ lw_all := lw_g (lw_at lw_m1 56 rfl) rfl
theorem q116 : (Jvm.Cond.lays "PatternPairs$Broken" "java/lang/Throwable" "stackTrace" "[Ljava/lang/StackTraceElement;") ∈ lw_all := lw_g (lw_at lw_m1 58 rfl) rfl
theorem q118 : (Jvm.Cond.lays "PatternPairs$Broken" "java/lang/Throwable" "suppressedExceptions" "Ljava/util/List;") ∈ lw_all := lw_g (lw_at lw_m1 60 rfl) rfl
theorem q120 : (Jvm.Cond.lays "PatternPairs$Broken" "java/lang/Throwable" "detailMessage" "Ljava/lang/String;") ∈ lw_all := lw_g (lw_at lw_m1 62 rfl) rfl
theorem q122 : (Jvm.Cond.lays "PatternPairs$Broken" "java/lang/Throwable" "backtrace" "Ljava/lang/Object;") ∈ lw_all := lw_g (lw_at lw_m1 64 rfl) rfl
theorem q148 : (Jvm.Cond.instanceMethod ({ cls := "PatternPairs$Broken", name := "<init>", desc := "()V" } : Jvm.MethodName)) ∈ lw_all := lw_g (lw_at lw_m1 90 rfl) rfl
theorem q149 : (Jvm.Cond.code ({ cls := "PatternPairs$Broken", name := "<init>", desc := "()V" } : Jvm.MethodName) prog_3_method_1_code (1 : Nat) (Option.none : Option Jvm.ClassFile.FieldType)) ∈ lw_all := lw_g (lw_at lw_m1 91 rfl) rfl
theorem q150 : (Jvm.Cond.methodLink "PatternPairs$Broken" (1 : Nat) ({ cls := "java/lang/RuntimeException", name := "<init>", desc := "(Ljava/lang/String;Ljava/lang/Throwable;ZZ)V" } : Jvm.MethodName)) ∈ lw_all := lw_g (lw_at lw_m1 92 rfl) rfl
theorem q168 : (Jvm.Cond.lays "PatternPairs$Broken" "java/lang/Throwable" "depth" "I") ∈ lw_all := lw_g (lw_at lw_m1 110 rfl) rfl
theorem q171 : (Jvm.Cond.superclass "PatternPairs$Broken" "java/lang/RuntimeException") ∈ lw_all := lw_g (lw_at lw_m1 113 rfl) rfl
theorem in_X4 : ∀ w ∈ wsX40, w ∈ lw_all := lw_in wsX40 [114, 116, 118, 120, 122, 168] (by decide +kernel) (by decide +kernel)

/-! PatternPairs$Automaton -/
set_option maxRecDepth 100000
def RX5 : String := "PatternPairs$Automaton"
def TX5 : u_T := fun k => match k with
  | 0 => ("PatternPairs$Automaton", "patterns", "LPatternPairs$Patterns;", true)
  | 1 => ("PatternPairs$Automaton", "sets", "[J", true)
  | 2 => ("PatternPairs$Automaton", "moves", "[I", true)
  | 3 => ("PatternPairs$Automaton", "accepts", "[I", true)
  | 4 => ("PatternPairs$Automaton", "heads", "[I", true)
  | 5 => ("PatternPairs$Automaton", "chain", "[I", true)
  | 6 => ("PatternPairs$Automaton", "groups", "[I", true)
  | 7 => ("PatternPairs$Automaton", "news", "[I", true)
  | 8 => ("PatternPairs$Automaton", "lives", "[Z", true)
  | 9 => ("PatternPairs$Automaton", "count", "I", false)
  | 10 => ("PatternPairs$Automaton", "table", "[I", true)
  | 11 => ("PatternPairs$Automaton", "tells", "[I", true)
  | 12 => ("PatternPairs$Automaton", "states", "I", false)
  | _ => ("PatternPairs$Automaton", "start", "I", false)
def tyX5 : Nat → FieldType := fun k => match k with
  | 0 => .object "PatternPairs$Patterns"
  | 1 => .array .long
  | 2 => .array .int
  | 3 => .array .int
  | 4 => .array .int
  | 5 => .array .int
  | 6 => .array .int
  | 7 => .array .int
  | 8 => .array .boolean
  | 9 => .int
  | 10 => .array .int
  | 11 => .array .int
  | 12 => .int
  | _ => .int
abbrev wsX50 : List Cond := u_ws RX5 TX5 14
set_option maxRecDepth 100000 in
theorem nmX5 : ∀ a, a < 14 → ∀ b, b < 14 → a ≠ b → (TX5 a).2.1 ≠ (TX5 b).2.1 := by decide +kernel
set_option maxRecDepth 100000 in
theorem tyX5_ok : ∀ k, k < 14 → parseFieldDescriptor (TX5 k).2.2.1 = some (tyX5 k) := by decide +kernel
abbrev cX5_init : ByteArray := prog_2_method_1_code
def yX5_init : MethodName := ⟨RX5, "<init>", "(LPatternPairs$Patterns;)V"⟩
abbrev cX5_make : ByteArray := prog_2_method_6_code
def yX5_make : MethodName := ⟨RX5, "make", "()Z"⟩
abbrev cX5_step : ByteArray := prog_2_method_7_code
def yX5_step : MethodName := ⟨RX5, "step", "(II)I"⟩
abbrev cX5_gather : ByteArray := prog_2_method_8_code
def yX5_gather : MethodName := ⟨RX5, "gather", "([JIII)V"⟩
abbrev cX5_found : ByteArray := prog_2_method_9_code
def yX5_found : MethodName := ⟨RX5, "found", "()I"⟩
abbrev cX5_pattern : ByteArray := prog_2_method_10_code
def yX5_pattern : MethodName := ⟨RX5, "pattern", "(I)I"⟩
abbrev cX5_least : ByteArray := prog_2_method_11_code
def yX5_least : MethodName := ⟨RX5, "least", "()Z"⟩
abbrev cX5_alive : ByteArray := prog_2_method_12_code
def yX5_alive : MethodName := ⟨RX5, "alive", "()V"⟩
abbrev cX5_split : ByteArray := prog_2_method_13_code
def yX5_split : MethodName := ⟨RX5, "split", "()I"⟩
abbrev cX5_alike : ByteArray := prog_2_method_14_code
def yX5_alike : MethodName := ⟨RX5, "alike", "(II)Z"⟩
abbrev cX5_number : ByteArray := prog_2_method_15_code
def yX5_number : MethodName := ⟨RX5, "number", "()Z"⟩
abbrev cX5_states : ByteArray := prog_2_method_2_code
def yX5_states : MethodName := ⟨RX5, "states", "()I"⟩
abbrev cX5_start : ByteArray := prog_2_method_3_code
def yX5_start : MethodName := ⟨RX5, "start", "()I"⟩
abbrev cX5_move : ByteArray := prog_2_method_4_code
def yX5_move : MethodName := ⟨RX5, "move", "(II)I"⟩
abbrev cX5_tells : ByteArray := prog_2_method_5_code
def yX5_tells : MethodName := ⟨RX5, "tells", "(I)I"⟩
theorem q66 : (Jvm.Cond.initialized "PatternPairs$Automaton") ∈ lw_all := lw_g (lw_at lw_m1 8 rfl) rfl
theorem q180 : (Jvm.Cond.fieldLinkNest "PatternPairs$Automaton" (108 : Nat) "PatternPairs$Patterns" "owners" "[I" "PatternPairs") ∈ lw_tbl := lw_at lw_m1 122 rfl
theorem q182 : (Jvm.Cond.fieldLinkNest "PatternPairs$Automaton" (81 : Nat) "PatternPairs$Patterns" "follows" "[J" "PatternPairs") ∈ lw_tbl := lw_at lw_m1 124 rfl
theorem q184 : (Jvm.Cond.fieldLinkNest "PatternPairs$Automaton" (105 : Nat) "PatternPairs$Patterns" "isLast" "[Z" "PatternPairs") ∈ lw_tbl := lw_at lw_m1 126 rfl
theorem q186 : (Jvm.Cond.fieldLinkNest "PatternPairs$Automaton" (67 : Nat) "PatternPairs$Patterns" "start" "[J" "PatternPairs") ∈ lw_tbl := lw_at lw_m1 128 rfl
theorem q188 : (Jvm.Cond.fieldLinkNest "PatternPairs$Automaton" (98 : Nat) "PatternPairs$Patterns" "places" "I" "PatternPairs") ∈ lw_tbl := lw_at lw_m1 130 rfl
theorem q237 : (Jvm.Cond.instantiable "PatternPairs$Automaton" (14 : Nat)) ∈ lw_all := lw_g (lw_at lw_m1 179 rfl) rfl
theorem q239 : (Jvm.Cond.instanceMethod ({ cls := "PatternPairs$Automaton", name := "<init>", desc := "(LPatternPairs$Patterns;)V" } : Jvm.MethodName)) ∈ lw_all := lw_g (lw_at lw_m1 181 rfl) rfl
theorem q240 : (Jvm.Cond.code ({ cls := "PatternPairs$Automaton", name := "<init>", desc := "(LPatternPairs$Patterns;)V" } : Jvm.MethodName) prog_2_method_1_code (2 : Nat) (Option.none : Option Jvm.ClassFile.FieldType)) ∈ lw_all := lw_g (lw_at lw_m1 182 rfl) rfl
theorem q241 : (Jvm.Cond.methodLink "PatternPairs$Automaton" (3 : Nat) ({ cls := "java/lang/Object", name := "<init>", desc := "()V" } : Jvm.MethodName)) ∈ lw_all := lw_g (lw_at lw_m1 183 rfl) rfl
theorem q242 : (Jvm.Cond.constant "PatternPairs$Automaton" (15 : Nat) (51328 : Int32)) ∈ lw_all := lw_g (lw_at lw_m1 184 rfl) rfl
theorem q243 : (Jvm.Cond.fieldLink "PatternPairs$Automaton" (45 : Nat) "PatternPairs$Automaton" "patterns" "LPatternPairs$Patterns;") ∈ lw_all := lw_g (lw_at lw_m1 185 rfl) rfl
theorem q244 : (Jvm.Cond.fieldLink "PatternPairs$Automaton" (9 : Nat) "PatternPairs$Automaton" "sets" "[J") ∈ lw_all := lw_g (lw_at lw_m1 186 rfl) rfl
theorem q245 : (Jvm.Cond.fieldLink "PatternPairs$Automaton" (16 : Nat) "PatternPairs$Automaton" "moves" "[I") ∈ lw_all := lw_g (lw_at lw_m1 187 rfl) rfl
theorem q246 : (Jvm.Cond.fieldLink "PatternPairs$Automaton" (20 : Nat) "PatternPairs$Automaton" "accepts" "[I") ∈ lw_all := lw_g (lw_at lw_m1 188 rfl) rfl
theorem q247 : (Jvm.Cond.fieldLink "PatternPairs$Automaton" (23 : Nat) "PatternPairs$Automaton" "heads" "[I") ∈ lw_all := lw_g (lw_at lw_m1 189 rfl) rfl
theorem q248 : (Jvm.Cond.fieldLink "PatternPairs$Automaton" (26 : Nat) "PatternPairs$Automaton" "chain" "[I") ∈ lw_all := lw_g (lw_at lw_m1 190 rfl) rfl
theorem q249 : (Jvm.Cond.fieldLink "PatternPairs$Automaton" (29 : Nat) "PatternPairs$Automaton" "groups" "[I") ∈ lw_all := lw_g (lw_at lw_m1 191 rfl) rfl
theorem q250 : (Jvm.Cond.fieldLink "PatternPairs$Automaton" (32 : Nat) "PatternPairs$Automaton" "news" "[I") ∈ lw_all := lw_g (lw_at lw_m1 192 rfl) rfl
theorem q251 : (Jvm.Cond.fieldLink "PatternPairs$Automaton" (35 : Nat) "PatternPairs$Automaton" "lives" "[Z") ∈ lw_all := lw_g (lw_at lw_m1 193 rfl) rfl
theorem q252 : (Jvm.Cond.fieldLink "PatternPairs$Automaton" (56 : Nat) "PatternPairs$Automaton" "count" "I") ∈ lw_all := lw_g (lw_at lw_m1 194 rfl) rfl
theorem q253 : (Jvm.Cond.fieldLink "PatternPairs$Automaton" (39 : Nat) "PatternPairs$Automaton" "table" "[I") ∈ lw_all := lw_g (lw_at lw_m1 195 rfl) rfl
theorem q254 : (Jvm.Cond.fieldLink "PatternPairs$Automaton" (42 : Nat) "PatternPairs$Automaton" "tells" "[I") ∈ lw_all := lw_g (lw_at lw_m1 196 rfl) rfl
theorem q255 : (Jvm.Cond.fieldLink "PatternPairs$Automaton" (49 : Nat) "PatternPairs$Automaton" "states" "I") ∈ lw_all := lw_g (lw_at lw_m1 197 rfl) rfl
theorem q256 : (Jvm.Cond.fieldLink "PatternPairs$Automaton" (53 : Nat) "PatternPairs$Automaton" "start" "I") ∈ lw_all := lw_g (lw_at lw_m1 198 rfl) rfl
theorem q257 : (Jvm.Cond.laysFinal "PatternPairs$Automaton" "PatternPairs$Automaton" "patterns" "LPatternPairs$Patterns;") ∈ lw_all := lw_g (lw_at lw_m1 199 rfl) rfl
theorem q258 : (Jvm.Cond.soleField "PatternPairs$Automaton" "patterns") ∈ lw_all := lw_g (lw_at lw_m1 200 rfl) rfl
theorem q259 : (Jvm.Cond.laysFinal "PatternPairs$Automaton" "PatternPairs$Automaton" "sets" "[J") ∈ lw_all := lw_g (lw_at lw_m1 201 rfl) rfl
theorem q260 : (Jvm.Cond.soleField "PatternPairs$Automaton" "sets") ∈ lw_all := lw_g (lw_at lw_m1 202 rfl) rfl
theorem q261 : (Jvm.Cond.laysFinal "PatternPairs$Automaton" "PatternPairs$Automaton" "moves" "[I") ∈ lw_all := lw_g (lw_at lw_m1 203 rfl) rfl
theorem q262 : (Jvm.Cond.soleField "PatternPairs$Automaton" "moves") ∈ lw_all := lw_g (lw_at lw_m1 204 rfl) rfl
theorem q263 : (Jvm.Cond.laysFinal "PatternPairs$Automaton" "PatternPairs$Automaton" "accepts" "[I") ∈ lw_all := lw_g (lw_at lw_m1 205 rfl) rfl
theorem q264 : (Jvm.Cond.soleField "PatternPairs$Automaton" "accepts") ∈ lw_all := lw_g (lw_at lw_m1 206 rfl) rfl
theorem q265 : (Jvm.Cond.laysFinal "PatternPairs$Automaton" "PatternPairs$Automaton" "heads" "[I") ∈ lw_all := lw_g (lw_at lw_m1 207 rfl) rfl
theorem q266 : (Jvm.Cond.soleField "PatternPairs$Automaton" "heads") ∈ lw_all := lw_g (lw_at lw_m1 208 rfl) rfl
theorem q267 : (Jvm.Cond.laysFinal "PatternPairs$Automaton" "PatternPairs$Automaton" "chain" "[I") ∈ lw_all := lw_g (lw_at lw_m1 209 rfl) rfl
theorem q268 : (Jvm.Cond.soleField "PatternPairs$Automaton" "chain") ∈ lw_all := lw_g (lw_at lw_m1 210 rfl) rfl
theorem q269 : (Jvm.Cond.laysFinal "PatternPairs$Automaton" "PatternPairs$Automaton" "groups" "[I") ∈ lw_all := lw_g (lw_at lw_m1 211 rfl) rfl
theorem q270 : (Jvm.Cond.soleField "PatternPairs$Automaton" "groups") ∈ lw_all := lw_g (lw_at lw_m1 212 rfl) rfl
theorem q271 : (Jvm.Cond.laysFinal "PatternPairs$Automaton" "PatternPairs$Automaton" "news" "[I") ∈ lw_all := lw_g (lw_at lw_m1 213 rfl) rfl
theorem q272 : (Jvm.Cond.soleField "PatternPairs$Automaton" "news") ∈ lw_all := lw_g (lw_at lw_m1 214 rfl) rfl
theorem q273 : (Jvm.Cond.laysFinal "PatternPairs$Automaton" "PatternPairs$Automaton" "lives" "[Z") ∈ lw_all := lw_g (lw_at lw_m1 215 rfl) rfl
theorem q274 : (Jvm.Cond.soleField "PatternPairs$Automaton" "lives") ∈ lw_all := lw_g (lw_at lw_m1 216 rfl) rfl
theorem q275 : (Jvm.Cond.lays "PatternPairs$Automaton" "PatternPairs$Automaton" "count" "I") ∈ lw_all := lw_g (lw_at lw_m1 217 rfl) rfl
theorem q276 : (Jvm.Cond.soleField "PatternPairs$Automaton" "count") ∈ lw_all := lw_g (lw_at lw_m1 218 rfl) rfl
theorem q277 : (Jvm.Cond.laysFinal "PatternPairs$Automaton" "PatternPairs$Automaton" "table" "[I") ∈ lw_all := lw_g (lw_at lw_m1 219 rfl) rfl
theorem q278 : (Jvm.Cond.soleField "PatternPairs$Automaton" "table") ∈ lw_all := lw_g (lw_at lw_m1 220 rfl) rfl
theorem q279 : (Jvm.Cond.laysFinal "PatternPairs$Automaton" "PatternPairs$Automaton" "tells" "[I") ∈ lw_all := lw_g (lw_at lw_m1 221 rfl) rfl
theorem q280 : (Jvm.Cond.soleField "PatternPairs$Automaton" "tells") ∈ lw_all := lw_g (lw_at lw_m1 222 rfl) rfl
theorem q281 : (Jvm.Cond.lays "PatternPairs$Automaton" "PatternPairs$Automaton" "states" "I") ∈ lw_all := lw_g (lw_at lw_m1 223 rfl) rfl
theorem q282 : (Jvm.Cond.soleField "PatternPairs$Automaton" "states") ∈ lw_all := lw_g (lw_at lw_m1 224 rfl) rfl
theorem q283 : (Jvm.Cond.lays "PatternPairs$Automaton" "PatternPairs$Automaton" "start" "I") ∈ lw_all := lw_g (lw_at lw_m1 225 rfl) rfl
theorem q284 : (Jvm.Cond.soleField "PatternPairs$Automaton" "start") ∈ lw_all := lw_g (lw_at lw_m1 226 rfl) rfl
theorem q285 : (Jvm.Cond.superclass "PatternPairs$Automaton" "java/lang/Object") ∈ lw_all := lw_g (lw_at lw_m1 227 rfl) rfl
theorem q478 : (Jvm.Cond.instanceMethod ({ cls := "PatternPairs$Automaton", name := "make", desc := "()Z" } : Jvm.MethodName)) ∈ lw_all := lw_g (lw_at lw_m2 180 rfl) rfl
theorem q479 : (Jvm.Cond.selects "PatternPairs$Automaton" ({ cls := "PatternPairs$Automaton", name := "make", desc := "()Z" } : Jvm.MethodName) ({ cls := "PatternPairs$Automaton", name := "make", desc := "()Z" } : Jvm.MethodName)) ∈ lw_all := lw_g (lw_at lw_m2 181 rfl) rfl
theorem q480 : (Jvm.Cond.code ({ cls := "PatternPairs$Automaton", name := "make", desc := "()Z" } : Jvm.MethodName) prog_2_method_6_code (4 : Nat) (Option.some Jvm.ClassFile.FieldType.boolean)) ∈ lw_all := lw_g (lw_at lw_m2 182 rfl) rfl
theorem q481 : (Jvm.Cond.methodLink "PatternPairs$Automaton" (59 : Nat) ({ cls := "PatternPairs$Automaton", name := "step", desc := "(II)I" } : Jvm.MethodName)) ∈ lw_all := lw_g (lw_at lw_m2 183 rfl) rfl
theorem q482 : (Jvm.Cond.privateMethod ({ cls := "PatternPairs$Automaton", name := "step", desc := "(II)I" } : Jvm.MethodName)) ∈ lw_tbl := lw_at lw_m2 184 rfl
theorem q483 : (Jvm.Cond.instanceMethod ({ cls := "PatternPairs$Automaton", name := "step", desc := "(II)I" } : Jvm.MethodName)) ∈ lw_all := lw_g (lw_at lw_m2 185 rfl) rfl
theorem q484 : (Jvm.Cond.code ({ cls := "PatternPairs$Automaton", name := "step", desc := "(II)I" } : Jvm.MethodName) prog_2_method_7_code (8 : Nat) (Option.some Jvm.ClassFile.FieldType.int)) ∈ lw_all := lw_g (lw_at lw_m2 186 rfl) rfl
theorem q485 : (Jvm.Cond.methodLink "PatternPairs$Automaton" (71 : Nat) ({ cls := "PatternPairs$Automaton", name := "gather", desc := "([JIII)V" } : Jvm.MethodName)) ∈ lw_all := lw_g (lw_at lw_m2 187 rfl) rfl
theorem q486 : (Jvm.Cond.privateMethod ({ cls := "PatternPairs$Automaton", name := "gather", desc := "([JIII)V" } : Jvm.MethodName)) ∈ lw_tbl := lw_at lw_m2 188 rfl
theorem q487 : (Jvm.Cond.instanceMethod ({ cls := "PatternPairs$Automaton", name := "gather", desc := "([JIII)V" } : Jvm.MethodName)) ∈ lw_all := lw_g (lw_at lw_m2 189 rfl) rfl
theorem q488 : (Jvm.Cond.code ({ cls := "PatternPairs$Automaton", name := "gather", desc := "([JIII)V" } : Jvm.MethodName) prog_2_method_8_code (9 : Nat) (Option.none : Option Jvm.ClassFile.FieldType)) ∈ lw_all := lw_g (lw_at lw_m2 190 rfl) rfl
theorem q489 : (Jvm.Cond.methodLink "PatternPairs$Automaton" (75 : Nat) ({ cls := "java/lang/Long", name := "numberOfLeadingZeros", desc := "(J)I" } : Jvm.MethodName)) ∈ lw_all := lw_g (lw_at lw_m2 191 rfl) rfl
theorem q496 : (Jvm.Cond.methodLink "PatternPairs$Automaton" (88 : Nat) ({ cls := "PatternPairs$Patterns", name := "takes", desc := "(II)Z" } : Jvm.MethodName)) ∈ lw_all := lw_g (lw_at lw_m2 198 rfl) rfl
theorem q500 : (Jvm.Cond.methodLink "PatternPairs$Automaton" (84 : Nat) ({ cls := "PatternPairs$Automaton", name := "found", desc := "()I" } : Jvm.MethodName)) ∈ lw_all := lw_g (lw_at lw_m2 202 rfl) rfl
theorem q501 : (Jvm.Cond.privateMethod ({ cls := "PatternPairs$Automaton", name := "found", desc := "()I" } : Jvm.MethodName)) ∈ lw_tbl := lw_at lw_m2 203 rfl
theorem q502 : (Jvm.Cond.instanceMethod ({ cls := "PatternPairs$Automaton", name := "found", desc := "()I" } : Jvm.MethodName)) ∈ lw_all := lw_g (lw_at lw_m2 204 rfl) rfl
theorem q503 : (Jvm.Cond.code ({ cls := "PatternPairs$Automaton", name := "found", desc := "()I" } : Jvm.MethodName) prog_2_method_9_code (7 : Nat) (Option.some Jvm.ClassFile.FieldType.int)) ∈ lw_all := lw_g (lw_at lw_m2 205 rfl) rfl
theorem q504 : (Jvm.Cond.constantLong "PatternPairs$Automaton" (92 : Nat) (31 : Int64)) ∈ lw_all := lw_g (lw_at lw_m2 206 rfl) rfl
theorem q505 : (Jvm.Cond.methodLink "PatternPairs$Automaton" (94 : Nat) ({ cls := "PatternPairs$Automaton", name := "pattern", desc := "(I)I" } : Jvm.MethodName)) ∈ lw_all := lw_g (lw_at lw_m2 207 rfl) rfl
theorem q506 : (Jvm.Cond.privateMethod ({ cls := "PatternPairs$Automaton", name := "pattern", desc := "(I)I" } : Jvm.MethodName)) ∈ lw_tbl := lw_at lw_m2 208 rfl
theorem q507 : (Jvm.Cond.instanceMethod ({ cls := "PatternPairs$Automaton", name := "pattern", desc := "(I)I" } : Jvm.MethodName)) ∈ lw_all := lw_g (lw_at lw_m2 209 rfl) rfl
theorem q508 : (Jvm.Cond.code ({ cls := "PatternPairs$Automaton", name := "pattern", desc := "(I)I" } : Jvm.MethodName) prog_2_method_10_code (4 : Nat) (Option.some Jvm.ClassFile.FieldType.int)) ∈ lw_all := lw_g (lw_at lw_m2 210 rfl) rfl
theorem q509 : (Jvm.Cond.methodLinkNest "PatternPairs$Automaton" (101 : Nat) ({ cls := "PatternPairs$Patterns", name := "has", desc := "([JII)Z" } : Jvm.MethodName) "PatternPairs") ∈ lw_tbl := lw_at lw_m2 211 rfl
theorem q510 : (Jvm.Cond.methodLink "PatternPairs$Automaton" (63 : Nat) ({ cls := "PatternPairs$Automaton", name := "least", desc := "()Z" } : Jvm.MethodName)) ∈ lw_all := lw_g (lw_at lw_m2 212 rfl) rfl
theorem q511 : (Jvm.Cond.privateMethod ({ cls := "PatternPairs$Automaton", name := "least", desc := "()Z" } : Jvm.MethodName)) ∈ lw_tbl := lw_at lw_m2 213 rfl
theorem q512 : (Jvm.Cond.instanceMethod ({ cls := "PatternPairs$Automaton", name := "least", desc := "()Z" } : Jvm.MethodName)) ∈ lw_all := lw_g (lw_at lw_m2 214 rfl) rfl
theorem q513 : (Jvm.Cond.code ({ cls := "PatternPairs$Automaton", name := "least", desc := "()Z" } : Jvm.MethodName) prog_2_method_11_code (3 : Nat) (Option.some Jvm.ClassFile.FieldType.boolean)) ∈ lw_all := lw_g (lw_at lw_m2 215 rfl) rfl
theorem q514 : (Jvm.Cond.methodLink "PatternPairs$Automaton" (111 : Nat) ({ cls := "PatternPairs$Automaton", name := "alive", desc := "()V" } : Jvm.MethodName)) ∈ lw_all := lw_g (lw_at lw_m2 216 rfl) rfl
theorem q515 : (Jvm.Cond.privateMethod ({ cls := "PatternPairs$Automaton", name := "alive", desc := "()V" } : Jvm.MethodName)) ∈ lw_tbl := lw_at lw_m2 217 rfl
theorem q516 : (Jvm.Cond.instanceMethod ({ cls := "PatternPairs$Automaton", name := "alive", desc := "()V" } : Jvm.MethodName)) ∈ lw_all := lw_g (lw_at lw_m2 218 rfl) rfl
theorem q517 : (Jvm.Cond.code ({ cls := "PatternPairs$Automaton", name := "alive", desc := "()V" } : Jvm.MethodName) prog_2_method_12_code (4 : Nat) (Option.none : Option Jvm.ClassFile.FieldType)) ∈ lw_all := lw_g (lw_at lw_m2 219 rfl) rfl
theorem q518 : (Jvm.Cond.methodLink "PatternPairs$Automaton" (114 : Nat) ({ cls := "PatternPairs$Automaton", name := "split", desc := "()I" } : Jvm.MethodName)) ∈ lw_all := lw_g (lw_at lw_m2 220 rfl) rfl
theorem q519 : (Jvm.Cond.privateMethod ({ cls := "PatternPairs$Automaton", name := "split", desc := "()I" } : Jvm.MethodName)) ∈ lw_tbl := lw_at lw_m2 221 rfl
theorem q520 : (Jvm.Cond.instanceMethod ({ cls := "PatternPairs$Automaton", name := "split", desc := "()I" } : Jvm.MethodName)) ∈ lw_all := lw_g (lw_at lw_m2 222 rfl) rfl
theorem q521 : (Jvm.Cond.code ({ cls := "PatternPairs$Automaton", name := "split", desc := "()I" } : Jvm.MethodName) prog_2_method_13_code (6 : Nat) (Option.some Jvm.ClassFile.FieldType.int)) ∈ lw_all := lw_g (lw_at lw_m2 223 rfl) rfl
theorem q522 : (Jvm.Cond.methodLink "PatternPairs$Automaton" (120 : Nat) ({ cls := "PatternPairs$Automaton", name := "alike", desc := "(II)Z" } : Jvm.MethodName)) ∈ lw_all := lw_g (lw_at lw_m2 224 rfl) rfl
theorem q523 : (Jvm.Cond.privateMethod ({ cls := "PatternPairs$Automaton", name := "alike", desc := "(II)Z" } : Jvm.MethodName)) ∈ lw_tbl := lw_at lw_m2 225 rfl
theorem q524 : (Jvm.Cond.instanceMethod ({ cls := "PatternPairs$Automaton", name := "alike", desc := "(II)Z" } : Jvm.MethodName)) ∈ lw_all := lw_g (lw_at lw_m2 226 rfl) rfl
theorem q525 : (Jvm.Cond.code ({ cls := "PatternPairs$Automaton", name := "alike", desc := "(II)Z" } : Jvm.MethodName) prog_2_method_14_code (4 : Nat) (Option.some Jvm.ClassFile.FieldType.boolean)) ∈ lw_all := lw_g (lw_at lw_m2 227 rfl) rfl
theorem q526 : (Jvm.Cond.methodLink "PatternPairs$Automaton" (117 : Nat) ({ cls := "PatternPairs$Automaton", name := "number", desc := "()Z" } : Jvm.MethodName)) ∈ lw_all := lw_g (lw_at lw_m2 228 rfl) rfl
theorem q527 : (Jvm.Cond.privateMethod ({ cls := "PatternPairs$Automaton", name := "number", desc := "()Z" } : Jvm.MethodName)) ∈ lw_tbl := lw_at lw_m2 229 rfl
theorem q528 : (Jvm.Cond.instanceMethod ({ cls := "PatternPairs$Automaton", name := "number", desc := "()Z" } : Jvm.MethodName)) ∈ lw_all := lw_g (lw_at lw_m2 230 rfl) rfl
theorem q529 : (Jvm.Cond.code ({ cls := "PatternPairs$Automaton", name := "number", desc := "()Z" } : Jvm.MethodName) prog_2_method_15_code (5 : Nat) (Option.some Jvm.ClassFile.FieldType.boolean)) ∈ lw_all := lw_g (lw_at lw_m2 231 rfl) rfl
theorem q707 : (Jvm.Cond.instanceMethod ({ cls := "PatternPairs$Automaton", name := "states", desc := "()I" } : Jvm.MethodName)) ∈ lw_all := lw_g (lw_at lw_m3 169 rfl) rfl
theorem q708 : (Jvm.Cond.selects "PatternPairs$Automaton" ({ cls := "PatternPairs$Automaton", name := "states", desc := "()I" } : Jvm.MethodName) ({ cls := "PatternPairs$Automaton", name := "states", desc := "()I" } : Jvm.MethodName)) ∈ lw_all := lw_g (lw_at lw_m3 170 rfl) rfl
theorem q709 : (Jvm.Cond.code ({ cls := "PatternPairs$Automaton", name := "states", desc := "()I" } : Jvm.MethodName) prog_2_method_2_code (1 : Nat) (Option.some Jvm.ClassFile.FieldType.int)) ∈ lw_all := lw_g (lw_at lw_m3 171 rfl) rfl
theorem q725 : (Jvm.Cond.instanceMethod ({ cls := "PatternPairs$Automaton", name := "start", desc := "()I" } : Jvm.MethodName)) ∈ lw_all := lw_g (lw_at lw_m3 187 rfl) rfl
theorem q726 : (Jvm.Cond.selects "PatternPairs$Automaton" ({ cls := "PatternPairs$Automaton", name := "start", desc := "()I" } : Jvm.MethodName) ({ cls := "PatternPairs$Automaton", name := "start", desc := "()I" } : Jvm.MethodName)) ∈ lw_all := lw_g (lw_at lw_m3 188 rfl) rfl
theorem q727 : (Jvm.Cond.code ({ cls := "PatternPairs$Automaton", name := "start", desc := "()I" } : Jvm.MethodName) prog_2_method_3_code (1 : Nat) (Option.some Jvm.ClassFile.FieldType.int)) ∈ lw_all := lw_g (lw_at lw_m3 189 rfl) rfl
theorem q733 : (Jvm.Cond.instanceMethod ({ cls := "PatternPairs$Automaton", name := "move", desc := "(II)I" } : Jvm.MethodName)) ∈ lw_all := lw_g (lw_at lw_m3 195 rfl) rfl
theorem q734 : (Jvm.Cond.selects "PatternPairs$Automaton" ({ cls := "PatternPairs$Automaton", name := "move", desc := "(II)I" } : Jvm.MethodName) ({ cls := "PatternPairs$Automaton", name := "move", desc := "(II)I" } : Jvm.MethodName)) ∈ lw_all := lw_g (lw_at lw_m3 196 rfl) rfl
theorem q735 : (Jvm.Cond.code ({ cls := "PatternPairs$Automaton", name := "move", desc := "(II)I" } : Jvm.MethodName) prog_2_method_4_code (3 : Nat) (Option.some Jvm.ClassFile.FieldType.int)) ∈ lw_all := lw_g (lw_at lw_m3 197 rfl) rfl
theorem q741 : (Jvm.Cond.instanceMethod ({ cls := "PatternPairs$Automaton", name := "tells", desc := "(I)I" } : Jvm.MethodName)) ∈ lw_all := lw_g (lw_at lw_m3 203 rfl) rfl
theorem q742 : (Jvm.Cond.selects "PatternPairs$Automaton" ({ cls := "PatternPairs$Automaton", name := "tells", desc := "(I)I" } : Jvm.MethodName) ({ cls := "PatternPairs$Automaton", name := "tells", desc := "(I)I" } : Jvm.MethodName)) ∈ lw_all := lw_g (lw_at lw_m3 204 rfl) rfl
theorem q743 : (Jvm.Cond.code ({ cls := "PatternPairs$Automaton", name := "tells", desc := "(I)I" } : Jvm.MethodName) prog_2_method_5_code (2 : Nat) (Option.some Jvm.ClassFile.FieldType.int)) ∈ lw_all := lw_g (lw_at lw_m3 205 rfl) rfl
theorem in_X5 : ∀ w ∈ wsX50, w ∈ lw_all := lw_in wsX50 [257, 259, 261, 263, 265, 267, 269, 271, 273, 275, 277, 279, 281, 283] (by decide +kernel) (by decide +kernel)

/-! java/lang/String -/
set_option maxRecDepth 100000
def RJ3 : String := "java/lang/String"
def TJ3 : u_T := fun k => match k with
  | 0 => ("java/lang/String", "value", "[B", true)
  | _ => ("java/lang/String", "coder", "B", true)
def tyJ3 : Nat → FieldType := fun k => match k with
  | 0 => .array .byte
  | _ => .byte
abbrev wsJ30 : List Cond := u_ws RJ3 TJ3 2
theorem nmJ3 : ∀ a, a < 2 → ∀ b, b < 2 → a ≠ b → (TJ3 a).2.1 ≠ (TJ3 b).2.1 := by decide +kernel
theorem tyJ3_ok : ∀ k, k < 2 → parseFieldDescriptor (TJ3 k).2.2.1 = some (tyJ3 k) := by decide +kernel
abbrev cJ3_indexOf : ByteArray := prog_18_method_79_code
def yJ3_indexOf : MethodName := ⟨RJ3, "indexOf", "(I)I"⟩
abbrev cJ3_indexOf_2 : ByteArray := prog_18_method_80_code
def yJ3_indexOf_2 : MethodName := ⟨RJ3, "indexOf", "(II)I"⟩
abbrev cJ3_isLatin1 : ByteArray := prog_18_method_154_code
def yJ3_isLatin1 : MethodName := ⟨RJ3, "isLatin1", "()Z"⟩
abbrev cJ3_length : ByteArray := prog_18_method_54_code
def yJ3_length : MethodName := ⟨RJ3, "length", "()I"⟩
abbrev cJ3_coder : ByteArray := prog_18_method_152_code
def yJ3_coder : MethodName := ⟨RJ3, "coder", "()B"⟩
abbrev cJ3_checkBoundsBeginEnd : ByteArray := prog_18_method_158_code
def yJ3_checkBoundsBeginEnd : MethodName := ⟨RJ3, "checkBoundsBeginEnd", "(III)V"⟩
theorem q67 : (Jvm.Cond.initialized "java/lang/String") ∈ lw_all := lw_g (lw_at lw_m1 9 rfl) rfl
theorem q362 : (Jvm.Cond.instanceMethod ({ cls := "java/lang/String", name := "indexOf", desc := "(I)I" } : Jvm.MethodName)) ∈ lw_all := lw_g (lw_at lw_m2 64 rfl) rfl
theorem q363 : (Jvm.Cond.selects "java/lang/String" ({ cls := "java/lang/String", name := "indexOf", desc := "(I)I" } : Jvm.MethodName) ({ cls := "java/lang/String", name := "indexOf", desc := "(I)I" } : Jvm.MethodName)) ∈ lw_all := lw_g (lw_at lw_m2 65 rfl) rfl
theorem q364 : (Jvm.Cond.code ({ cls := "java/lang/String", name := "indexOf", desc := "(I)I" } : Jvm.MethodName) prog_18_method_79_code (2 : Nat) (Option.some Jvm.ClassFile.FieldType.int)) ∈ lw_all := lw_g (lw_at lw_m2 66 rfl) rfl
theorem q365 : (Jvm.Cond.methodLink "java/lang/String" (633 : Nat) ({ cls := "java/lang/String", name := "indexOf", desc := "(II)I" } : Jvm.MethodName)) ∈ lw_all := lw_g (lw_at lw_m2 67 rfl) rfl
theorem q366 : (Jvm.Cond.instanceMethod ({ cls := "java/lang/String", name := "indexOf", desc := "(II)I" } : Jvm.MethodName)) ∈ lw_all := lw_g (lw_at lw_m2 68 rfl) rfl
theorem q367 : (Jvm.Cond.selects "java/lang/String" ({ cls := "java/lang/String", name := "indexOf", desc := "(II)I" } : Jvm.MethodName) ({ cls := "java/lang/String", name := "indexOf", desc := "(II)I" } : Jvm.MethodName)) ∈ lw_all := lw_g (lw_at lw_m2 69 rfl) rfl
theorem q368 : (Jvm.Cond.code ({ cls := "java/lang/String", name := "indexOf", desc := "(II)I" } : Jvm.MethodName) prog_18_method_80_code (3 : Nat) (Option.some Jvm.ClassFile.FieldType.int)) ∈ lw_all := lw_g (lw_at lw_m2 70 rfl) rfl
theorem q369 : (Jvm.Cond.methodLink "java/lang/String" (492 : Nat) ({ cls := "java/lang/String", name := "isLatin1", desc := "()Z" } : Jvm.MethodName)) ∈ lw_all := lw_g (lw_at lw_m2 71 rfl) rfl
theorem q370 : (Jvm.Cond.instanceMethod ({ cls := "java/lang/String", name := "isLatin1", desc := "()Z" } : Jvm.MethodName)) ∈ lw_all := lw_g (lw_at lw_m2 72 rfl) rfl
theorem q371 : (Jvm.Cond.selects "java/lang/String" ({ cls := "java/lang/String", name := "isLatin1", desc := "()Z" } : Jvm.MethodName) ({ cls := "java/lang/String", name := "isLatin1", desc := "()Z" } : Jvm.MethodName)) ∈ lw_all := lw_g (lw_at lw_m2 73 rfl) rfl
theorem q372 : (Jvm.Cond.code ({ cls := "java/lang/String", name := "isLatin1", desc := "()Z" } : Jvm.MethodName) prog_18_method_154_code (1 : Nat) (Option.some Jvm.ClassFile.FieldType.boolean)) ∈ lw_all := lw_g (lw_at lw_m2 74 rfl) rfl
theorem q373 : (Jvm.Cond.fieldLink "java/lang/String" (38 : Nat) "java/lang/String" "COMPACT_STRINGS" "Z") ∈ lw_all := lw_g (lw_at lw_m2 75 rfl) rfl
theorem q374 : (Jvm.Cond.laysStatic "java/lang/String" "COMPACT_STRINGS" "Z") ∈ lw_tbl := lw_at lw_m2 76 rfl
theorem q375 : (Jvm.Cond.methodLink "java/lang/String" (505 : Nat) ({ cls := "java/lang/String", name := "length", desc := "()I" } : Jvm.MethodName)) ∈ lw_all := lw_g (lw_at lw_m2 77 rfl) rfl
theorem q376 : (Jvm.Cond.instanceMethod ({ cls := "java/lang/String", name := "length", desc := "()I" } : Jvm.MethodName)) ∈ lw_all := lw_g (lw_at lw_m2 78 rfl) rfl
theorem q377 : (Jvm.Cond.selects "java/lang/String" ({ cls := "java/lang/String", name := "length", desc := "()I" } : Jvm.MethodName) ({ cls := "java/lang/String", name := "length", desc := "()I" } : Jvm.MethodName)) ∈ lw_all := lw_g (lw_at lw_m2 79 rfl) rfl
theorem q378 : (Jvm.Cond.code ({ cls := "java/lang/String", name := "length", desc := "()I" } : Jvm.MethodName) prog_18_method_54_code (1 : Nat) (Option.some Jvm.ClassFile.FieldType.int)) ∈ lw_all := lw_g (lw_at lw_m2 80 rfl) rfl
theorem q379 : (Jvm.Cond.methodLink "java/lang/String" (335 : Nat) ({ cls := "java/lang/String", name := "coder", desc := "()B" } : Jvm.MethodName)) ∈ lw_all := lw_g (lw_at lw_m2 81 rfl) rfl
theorem q380 : (Jvm.Cond.instanceMethod ({ cls := "java/lang/String", name := "coder", desc := "()B" } : Jvm.MethodName)) ∈ lw_all := lw_g (lw_at lw_m2 82 rfl) rfl
theorem q381 : (Jvm.Cond.selects "java/lang/String" ({ cls := "java/lang/String", name := "coder", desc := "()B" } : Jvm.MethodName) ({ cls := "java/lang/String", name := "coder", desc := "()B" } : Jvm.MethodName)) ∈ lw_all := lw_g (lw_at lw_m2 83 rfl) rfl
theorem q382 : (Jvm.Cond.code ({ cls := "java/lang/String", name := "coder", desc := "()B" } : Jvm.MethodName) prog_18_method_152_code (1 : Nat) (Option.some Jvm.ClassFile.FieldType.byte)) ∈ lw_all := lw_g (lw_at lw_m2 84 rfl) rfl
theorem q383 : (Jvm.Cond.methodLink "java/lang/String" (637 : Nat) ({ cls := "java/lang/StringLatin1", name := "indexOf", desc := "([BIII)I" } : Jvm.MethodName)) ∈ lw_all := lw_g (lw_at lw_m2 85 rfl) rfl
theorem q398 : (Jvm.Cond.methodLink "java/lang/String" (640 : Nat) ({ cls := "java/lang/StringUTF16", name := "indexOf", desc := "([BIII)I" } : Jvm.MethodName)) ∈ lw_all := lw_g (lw_at lw_m2 100 rfl) rfl
theorem q414 : (Jvm.Cond.static ({ cls := "java/lang/String", name := "checkBoundsBeginEnd", desc := "(III)V" } : Jvm.MethodName)) ∈ lw_all := lw_g (lw_at lw_m2 116 rfl) rfl
theorem q415 : (Jvm.Cond.code ({ cls := "java/lang/String", name := "checkBoundsBeginEnd", desc := "(III)V" } : Jvm.MethodName) prog_18_method_158_code (3 : Nat) (Option.none : Option Jvm.ClassFile.FieldType)) ∈ lw_all := lw_g (lw_at lw_m2 117 rfl) rfl
theorem q416 : (Jvm.Cond.fieldLink "java/lang/String" (1053 : Nat) "jdk/internal/util/Preconditions" "SIOOBE_FORMATTER" "Ljava/util/function/BiFunction;") ∈ lw_all := lw_g (lw_at lw_m2 118 rfl) rfl
theorem q418 : (Jvm.Cond.methodLink "java/lang/String" (1062 : Nat) ({ cls := "jdk/internal/util/Preconditions", name := "checkFromToIndex", desc := "(IIILjava/util/function/BiFunction;)I" } : Jvm.MethodName)) ∈ lw_all := lw_g (lw_at lw_m2 120 rfl) rfl
theorem q607 : (Jvm.Cond.instantiable "java/lang/String" (4 : Nat)) ∈ lw_all := lw_g (lw_at lw_m3 69 rfl) rfl
theorem q608 : (Jvm.Cond.laysFinal "java/lang/String" "java/lang/String" "value" "[B") ∈ lw_all := lw_g (lw_at lw_m3 70 rfl) rfl
theorem q609 : (Jvm.Cond.soleField "java/lang/String" "value") ∈ lw_all := lw_g (lw_at lw_m3 71 rfl) rfl
theorem q610 : (Jvm.Cond.laysFinal "java/lang/String" "java/lang/String" "coder" "B") ∈ lw_all := lw_g (lw_at lw_m3 72 rfl) rfl
theorem q611 : (Jvm.Cond.soleField "java/lang/String" "coder") ∈ lw_all := lw_g (lw_at lw_m3 73 rfl) rfl
theorem q1126 : (Jvm.Cond.fieldLink "java/lang/String" (15 : Nat) "java/lang/String" "coder" "B") ∈ lw_all := lw_g (lw_at lw_m5 108 rfl) rfl
theorem q1127 : (Jvm.Cond.fieldLink "java/lang/String" (9 : Nat) "java/lang/String" "value" "[B") ∈ lw_all := lw_g (lw_at lw_m5 109 rfl) rfl
theorem in_J3 : ∀ w ∈ wsJ30, w ∈ lw_all := lw_in wsJ30 [608, 610] (by decide +kernel) (by decide +kernel)

/-! java/lang/StringLatin1 -/
set_option maxRecDepth 100000
def RJ4 : String := "java/lang/StringLatin1"
abbrev cJ4_indexOf : ByteArray := prog_19_method_22_code
def yJ4_indexOf : MethodName := ⟨RJ4, "indexOf", "([BIII)I"⟩
abbrev cJ4_canEncode : ByteArray := prog_19_method_4_code
def yJ4_canEncode : MethodName := ⟨RJ4, "canEncode", "(I)Z"⟩
abbrev cJ4_indexOfChar : ByteArray := prog_19_method_23_code
def yJ4_indexOfChar : MethodName := ⟨RJ4, "indexOfChar", "([BIII)I"⟩
theorem q68 : (Jvm.Cond.initialized "java/lang/StringLatin1") ∈ lw_all := lw_g (lw_at lw_m1 10 rfl) rfl
theorem q384 : (Jvm.Cond.static ({ cls := "java/lang/StringLatin1", name := "indexOf", desc := "([BIII)I" } : Jvm.MethodName)) ∈ lw_all := lw_g (lw_at lw_m2 86 rfl) rfl
theorem q385 : (Jvm.Cond.code ({ cls := "java/lang/StringLatin1", name := "indexOf", desc := "([BIII)I" } : Jvm.MethodName) prog_19_method_22_code (4 : Nat) (Option.some Jvm.ClassFile.FieldType.int)) ∈ lw_all := lw_g (lw_at lw_m2 87 rfl) rfl
theorem q386 : (Jvm.Cond.methodLink "java/lang/StringLatin1" (88 : Nat) ({ cls := "java/lang/StringLatin1", name := "canEncode", desc := "(I)Z" } : Jvm.MethodName)) ∈ lw_all := lw_g (lw_at lw_m2 88 rfl) rfl
theorem q387 : (Jvm.Cond.static ({ cls := "java/lang/StringLatin1", name := "canEncode", desc := "(I)Z" } : Jvm.MethodName)) ∈ lw_all := lw_g (lw_at lw_m2 89 rfl) rfl
theorem q388 : (Jvm.Cond.code ({ cls := "java/lang/StringLatin1", name := "canEncode", desc := "(I)Z" } : Jvm.MethodName) prog_19_method_4_code (1 : Nat) (Option.some Jvm.ClassFile.FieldType.boolean)) ∈ lw_all := lw_g (lw_at lw_m2 90 rfl) rfl
theorem q389 : (Jvm.Cond.methodLink "java/lang/StringLatin1" (92 : Nat) ({ cls := "java/lang/Math", name := "max", desc := "(II)I" } : Jvm.MethodName)) ∈ lw_all := lw_g (lw_at lw_m2 91 rfl) rfl
theorem q392 : (Jvm.Cond.methodLink "java/lang/StringLatin1" (38 : Nat) ({ cls := "java/lang/Math", name := "min", desc := "(II)I" } : Jvm.MethodName)) ∈ lw_all := lw_g (lw_at lw_m2 94 rfl) rfl
theorem q395 : (Jvm.Cond.methodLink "java/lang/StringLatin1" (95 : Nat) ({ cls := "java/lang/StringLatin1", name := "indexOfChar", desc := "([BIII)I" } : Jvm.MethodName)) ∈ lw_all := lw_g (lw_at lw_m2 97 rfl) rfl
theorem q396 : (Jvm.Cond.static ({ cls := "java/lang/StringLatin1", name := "indexOfChar", desc := "([BIII)I" } : Jvm.MethodName)) ∈ lw_all := lw_g (lw_at lw_m2 98 rfl) rfl
theorem q397 : (Jvm.Cond.code ({ cls := "java/lang/StringLatin1", name := "indexOfChar", desc := "([BIII)I" } : Jvm.MethodName) prog_19_method_23_code (6 : Nat) (Option.some Jvm.ClassFile.FieldType.int)) ∈ lw_all := lw_g (lw_at lw_m2 99 rfl) rfl

/-! java/lang/Math -/
set_option maxRecDepth 100000
def RJ5 : String := "java/lang/Math"
abbrev cJ5_max : ByteArray := prog_16_method_65_code
def yJ5_max : MethodName := ⟨RJ5, "max", "(II)I"⟩
abbrev cJ5_min : ByteArray := prog_16_method_69_code
def yJ5_min : MethodName := ⟨RJ5, "min", "(II)I"⟩
theorem q69 : (Jvm.Cond.initialized "java/lang/Math") ∈ lw_all := lw_g (lw_at lw_m1 11 rfl) rfl
theorem q390 : (Jvm.Cond.static ({ cls := "java/lang/Math", name := "max", desc := "(II)I" } : Jvm.MethodName)) ∈ lw_all := lw_g (lw_at lw_m2 92 rfl) rfl
theorem q391 : (Jvm.Cond.code ({ cls := "java/lang/Math", name := "max", desc := "(II)I" } : Jvm.MethodName) prog_16_method_65_code (2 : Nat) (Option.some Jvm.ClassFile.FieldType.int)) ∈ lw_all := lw_g (lw_at lw_m2 93 rfl) rfl
theorem q393 : (Jvm.Cond.static ({ cls := "java/lang/Math", name := "min", desc := "(II)I" } : Jvm.MethodName)) ∈ lw_all := lw_g (lw_at lw_m2 95 rfl) rfl
theorem q394 : (Jvm.Cond.code ({ cls := "java/lang/Math", name := "min", desc := "(II)I" } : Jvm.MethodName) prog_16_method_69_code (2 : Nat) (Option.some Jvm.ClassFile.FieldType.int)) ∈ lw_all := lw_g (lw_at lw_m2 96 rfl) rfl

/-! java/lang/StringUTF16 -/
set_option maxRecDepth 100000
def RJ6 : String := "java/lang/StringUTF16"
abbrev cJ6_indexOf : ByteArray := prog_20_method_40_code
def yJ6_indexOf : MethodName := ⟨RJ6, "indexOf", "([BIII)I"⟩
abbrev cJ6_indexOfChar : ByteArray := prog_20_method_47_code
def yJ6_indexOfChar : MethodName := ⟨RJ6, "indexOfChar", "([BIII)I"⟩
abbrev cJ6_checkBoundsBeginEnd : ByteArray := prog_20_method_93_code
def yJ6_checkBoundsBeginEnd : MethodName := ⟨RJ6, "checkBoundsBeginEnd", "(II[B)V"⟩
abbrev cJ6_length : ByteArray := prog_20_method_6_code
def yJ6_length : MethodName := ⟨RJ6, "length", "([B)I"⟩
abbrev cJ6_indexOfCharUnsafe : ByteArray := prog_20_method_48_code
def yJ6_indexOfCharUnsafe : MethodName := ⟨RJ6, "indexOfCharUnsafe", "([BIII)I"⟩
abbrev cJ6_getChar : ByteArray := prog_20_method_5_code
def yJ6_getChar : MethodName := ⟨RJ6, "getChar", "([BI)C"⟩
abbrev cJ6_indexOfSupplementary : ByteArray := prog_20_method_49_code
def yJ6_indexOfSupplementary : MethodName := ⟨RJ6, "indexOfSupplementary", "([BIII)I"⟩
theorem q70 : (Jvm.Cond.initialized "java/lang/StringUTF16") ∈ lw_all := lw_g (lw_at lw_m1 12 rfl) rfl
theorem q399 : (Jvm.Cond.static ({ cls := "java/lang/StringUTF16", name := "indexOf", desc := "([BIII)I" } : Jvm.MethodName)) ∈ lw_all := lw_g (lw_at lw_m2 101 rfl) rfl
theorem q400 : (Jvm.Cond.code ({ cls := "java/lang/StringUTF16", name := "indexOf", desc := "([BIII)I" } : Jvm.MethodName) prog_20_method_40_code (4 : Nat) (Option.some Jvm.ClassFile.FieldType.int)) ∈ lw_all := lw_g (lw_at lw_m2 102 rfl) rfl
theorem q401 : (Jvm.Cond.methodLink "java/lang/StringUTF16" (224 : Nat) ({ cls := "java/lang/Math", name := "max", desc := "(II)I" } : Jvm.MethodName)) ∈ lw_all := lw_g (lw_at lw_m2 103 rfl) rfl
theorem q402 : (Jvm.Cond.methodLink "java/lang/StringUTF16" (183 : Nat) ({ cls := "java/lang/Math", name := "min", desc := "(II)I" } : Jvm.MethodName)) ∈ lw_all := lw_g (lw_at lw_m2 104 rfl) rfl
theorem q403 : (Jvm.Cond.constant "java/lang/StringUTF16" (227 : Nat) (65536 : Int32)) ∈ lw_all := lw_g (lw_at lw_m2 105 rfl) rfl
theorem q404 : (Jvm.Cond.methodLink "java/lang/StringUTF16" (228 : Nat) ({ cls := "java/lang/StringUTF16", name := "indexOfChar", desc := "([BIII)I" } : Jvm.MethodName)) ∈ lw_all := lw_g (lw_at lw_m2 106 rfl) rfl
theorem q405 : (Jvm.Cond.static ({ cls := "java/lang/StringUTF16", name := "indexOfChar", desc := "([BIII)I" } : Jvm.MethodName)) ∈ lw_all := lw_g (lw_at lw_m2 107 rfl) rfl
theorem q406 : (Jvm.Cond.code ({ cls := "java/lang/StringUTF16", name := "indexOfChar", desc := "([BIII)I" } : Jvm.MethodName) prog_20_method_47_code (4 : Nat) (Option.some Jvm.ClassFile.FieldType.int)) ∈ lw_all := lw_g (lw_at lw_m2 108 rfl) rfl
theorem q407 : (Jvm.Cond.methodLink "java/lang/StringUTF16" (96 : Nat) ({ cls := "java/lang/StringUTF16", name := "checkBoundsBeginEnd", desc := "(II[B)V" } : Jvm.MethodName)) ∈ lw_all := lw_g (lw_at lw_m2 109 rfl) rfl
theorem q408 : (Jvm.Cond.static ({ cls := "java/lang/StringUTF16", name := "checkBoundsBeginEnd", desc := "(II[B)V" } : Jvm.MethodName)) ∈ lw_all := lw_g (lw_at lw_m2 110 rfl) rfl
theorem q409 : (Jvm.Cond.code ({ cls := "java/lang/StringUTF16", name := "checkBoundsBeginEnd", desc := "(II[B)V" } : Jvm.MethodName) prog_20_method_93_code (3 : Nat) (Option.none : Option Jvm.ClassFile.FieldType)) ∈ lw_all := lw_g (lw_at lw_m2 111 rfl) rfl
theorem q410 : (Jvm.Cond.methodLink "java/lang/StringUTF16" (48 : Nat) ({ cls := "java/lang/StringUTF16", name := "length", desc := "([B)I" } : Jvm.MethodName)) ∈ lw_all := lw_g (lw_at lw_m2 112 rfl) rfl
theorem q411 : (Jvm.Cond.static ({ cls := "java/lang/StringUTF16", name := "length", desc := "([B)I" } : Jvm.MethodName)) ∈ lw_all := lw_g (lw_at lw_m2 113 rfl) rfl
theorem q412 : (Jvm.Cond.code ({ cls := "java/lang/StringUTF16", name := "length", desc := "([B)I" } : Jvm.MethodName) prog_20_method_6_code (1 : Nat) (Option.some Jvm.ClassFile.FieldType.int)) ∈ lw_all := lw_g (lw_at lw_m2 114 rfl) rfl
theorem q413 : (Jvm.Cond.methodLink "java/lang/StringUTF16" (241 : Nat) ({ cls := "java/lang/String", name := "checkBoundsBeginEnd", desc := "(III)V" } : Jvm.MethodName)) ∈ lw_all := lw_g (lw_at lw_m2 115 rfl) rfl
theorem q421 : (Jvm.Cond.methodLink "java/lang/StringUTF16" (244 : Nat) ({ cls := "java/lang/StringUTF16", name := "indexOfCharUnsafe", desc := "([BIII)I" } : Jvm.MethodName)) ∈ lw_all := lw_g (lw_at lw_m2 123 rfl) rfl
theorem q422 : (Jvm.Cond.static ({ cls := "java/lang/StringUTF16", name := "indexOfCharUnsafe", desc := "([BIII)I" } : Jvm.MethodName)) ∈ lw_all := lw_g (lw_at lw_m2 124 rfl) rfl
theorem q423 : (Jvm.Cond.code ({ cls := "java/lang/StringUTF16", name := "indexOfCharUnsafe", desc := "([BIII)I" } : Jvm.MethodName) prog_20_method_48_code (5 : Nat) (Option.some Jvm.ClassFile.FieldType.int)) ∈ lw_all := lw_g (lw_at lw_m2 125 rfl) rfl
theorem q424 : (Jvm.Cond.methodLink "java/lang/StringUTF16" (71 : Nat) ({ cls := "java/lang/StringUTF16", name := "getChar", desc := "([BI)C" } : Jvm.MethodName)) ∈ lw_all := lw_g (lw_at lw_m2 126 rfl) rfl
theorem q425 : (Jvm.Cond.static ({ cls := "java/lang/StringUTF16", name := "getChar", desc := "([BI)C" } : Jvm.MethodName)) ∈ lw_all := lw_g (lw_at lw_m2 127 rfl) rfl
theorem q426 : (Jvm.Cond.code ({ cls := "java/lang/StringUTF16", name := "getChar", desc := "([BI)C" } : Jvm.MethodName) prog_20_method_5_code (2 : Nat) (Option.some Jvm.ClassFile.FieldType.char)) ∈ lw_all := lw_g (lw_at lw_m2 128 rfl) rfl
theorem q427 : (Jvm.Cond.fieldLink "java/lang/StringUTF16" (44 : Nat) "java/lang/StringUTF16" "$assertionsDisabled" "Z") ∈ lw_all := lw_g (lw_at lw_m2 129 rfl) rfl
theorem q428 : (Jvm.Cond.laysStatic "java/lang/StringUTF16" "$assertionsDisabled" "Z") ∈ lw_tbl := lw_at lw_m2 130 rfl
theorem q429 : (Jvm.Cond.fieldLink "java/lang/StringUTF16" (59 : Nat) "java/lang/StringUTF16" "HI_BYTE_SHIFT" "I") ∈ lw_all := lw_g (lw_at lw_m2 131 rfl) rfl
theorem q430 : (Jvm.Cond.laysStatic "java/lang/StringUTF16" "HI_BYTE_SHIFT" "I") ∈ lw_tbl := lw_at lw_m2 132 rfl
theorem q431 : (Jvm.Cond.fieldLink "java/lang/StringUTF16" (63 : Nat) "java/lang/StringUTF16" "LO_BYTE_SHIFT" "I") ∈ lw_all := lw_g (lw_at lw_m2 133 rfl) rfl
theorem q432 : (Jvm.Cond.laysStatic "java/lang/StringUTF16" "LO_BYTE_SHIFT" "I") ∈ lw_tbl := lw_at lw_m2 134 rfl
theorem q433 : (Jvm.Cond.methodLink "java/lang/StringUTF16" (232 : Nat) ({ cls := "java/lang/StringUTF16", name := "indexOfSupplementary", desc := "([BIII)I" } : Jvm.MethodName)) ∈ lw_all := lw_g (lw_at lw_m2 135 rfl) rfl
theorem q434 : (Jvm.Cond.static ({ cls := "java/lang/StringUTF16", name := "indexOfSupplementary", desc := "([BIII)I" } : Jvm.MethodName)) ∈ lw_all := lw_g (lw_at lw_m2 136 rfl) rfl
theorem q435 : (Jvm.Cond.code ({ cls := "java/lang/StringUTF16", name := "indexOfSupplementary", desc := "([BIII)I" } : Jvm.MethodName) prog_20_method_49_code (7 : Nat) (Option.some Jvm.ClassFile.FieldType.int)) ∈ lw_all := lw_g (lw_at lw_m2 137 rfl) rfl
theorem q436 : (Jvm.Cond.methodLink "java/lang/StringUTF16" (164 : Nat) ({ cls := "java/lang/Character", name := "isValidCodePoint", desc := "(I)Z" } : Jvm.MethodName)) ∈ lw_all := lw_g (lw_at lw_m2 138 rfl) rfl
theorem q439 : (Jvm.Cond.methodLink "java/lang/StringUTF16" (157 : Nat) ({ cls := "java/lang/Character", name := "highSurrogate", desc := "(I)C" } : Jvm.MethodName)) ∈ lw_all := lw_g (lw_at lw_m2 141 rfl) rfl
theorem q443 : (Jvm.Cond.methodLink "java/lang/StringUTF16" (161 : Nat) ({ cls := "java/lang/Character", name := "lowSurrogate", desc := "(I)C" } : Jvm.MethodName)) ∈ lw_all := lw_g (lw_at lw_m2 145 rfl) rfl

/-! jdk/internal/util/Preconditions -/
set_option maxRecDepth 100000
def RJ7 : String := "jdk/internal/util/Preconditions"
abbrev cJ7_checkFromToIndex : ByteArray := prog_26_method_12_code
def yJ7_checkFromToIndex : MethodName := ⟨RJ7, "checkFromToIndex", "(IIILjava/util/function/BiFunction;)I"⟩
theorem q71 : (Jvm.Cond.initialized "jdk/internal/util/Preconditions") ∈ lw_all := lw_g (lw_at lw_m1 13 rfl) rfl
theorem q417 : (Jvm.Cond.laysStatic "jdk/internal/util/Preconditions" "SIOOBE_FORMATTER" "Ljava/util/function/BiFunction;") ∈ lw_tbl := lw_at lw_m2 119 rfl
theorem q419 : (Jvm.Cond.static ({ cls := "jdk/internal/util/Preconditions", name := "checkFromToIndex", desc := "(IIILjava/util/function/BiFunction;)I" } : Jvm.MethodName)) ∈ lw_all := lw_g (lw_at lw_m2 121 rfl) rfl
theorem q420 : (Jvm.Cond.code ({ cls := "jdk/internal/util/Preconditions", name := "checkFromToIndex", desc := "(IIILjava/util/function/BiFunction;)I" } : Jvm.MethodName) prog_26_method_12_code (4 : Nat) (Option.some Jvm.ClassFile.FieldType.int)) ∈ lw_all := lw_g (lw_at lw_m2 122 rfl) rfl

/-! java/lang/Character -/
set_option maxRecDepth 100000
def RJ8 : String := "java/lang/Character"
abbrev cJ8_isValidCodePoint : ByteArray := prog_9_method_11_code
def yJ8_isValidCodePoint : MethodName := ⟨RJ8, "isValidCodePoint", "(I)Z"⟩
abbrev cJ8_highSurrogate : ByteArray := prog_9_method_28_code
def yJ8_highSurrogate : MethodName := ⟨RJ8, "highSurrogate", "(I)C"⟩
abbrev cJ8_lowSurrogate : ByteArray := prog_9_method_29_code
def yJ8_lowSurrogate : MethodName := ⟨RJ8, "lowSurrogate", "(I)C"⟩
theorem q72 : (Jvm.Cond.initialized "java/lang/Character") ∈ lw_all := lw_g (lw_at lw_m1 14 rfl) rfl
theorem q437 : (Jvm.Cond.static ({ cls := "java/lang/Character", name := "isValidCodePoint", desc := "(I)Z" } : Jvm.MethodName)) ∈ lw_all := lw_g (lw_at lw_m2 139 rfl) rfl
theorem q438 : (Jvm.Cond.code ({ cls := "java/lang/Character", name := "isValidCodePoint", desc := "(I)Z" } : Jvm.MethodName) prog_9_method_11_code (2 : Nat) (Option.some Jvm.ClassFile.FieldType.boolean)) ∈ lw_all := lw_g (lw_at lw_m2 140 rfl) rfl
theorem q440 : (Jvm.Cond.static ({ cls := "java/lang/Character", name := "highSurrogate", desc := "(I)C" } : Jvm.MethodName)) ∈ lw_all := lw_g (lw_at lw_m2 142 rfl) rfl
theorem q441 : (Jvm.Cond.code ({ cls := "java/lang/Character", name := "highSurrogate", desc := "(I)C" } : Jvm.MethodName) prog_9_method_28_code (1 : Nat) (Option.some Jvm.ClassFile.FieldType.char)) ∈ lw_all := lw_g (lw_at lw_m2 143 rfl) rfl
theorem q442 : (Jvm.Cond.constant "java/lang/Character" (110 : Nat) (55232 : Int32)) ∈ lw_all := lw_g (lw_at lw_m2 144 rfl) rfl
theorem q444 : (Jvm.Cond.static ({ cls := "java/lang/Character", name := "lowSurrogate", desc := "(I)C" } : Jvm.MethodName)) ∈ lw_all := lw_g (lw_at lw_m2 146 rfl) rfl
theorem q445 : (Jvm.Cond.code ({ cls := "java/lang/Character", name := "lowSurrogate", desc := "(I)C" } : Jvm.MethodName) prog_9_method_29_code (1 : Nat) (Option.some Jvm.ClassFile.FieldType.char)) ∈ lw_all := lw_g (lw_at lw_m2 147 rfl) rfl
theorem q446 : (Jvm.Cond.constant "java/lang/Character" (76 : Nat) (56320 : Int32)) ∈ lw_all := lw_g (lw_at lw_m2 148 rfl) rfl

/-! java/lang/Long -/
set_option maxRecDepth 100000
def RJ9 : String := "java/lang/Long"
abbrev cJ9_numberOfLeadingZeros : ByteArray := prog_15_method_48_code
def yJ9_numberOfLeadingZeros : MethodName := ⟨RJ9, "numberOfLeadingZeros", "(J)I"⟩
theorem q73 : (Jvm.Cond.initialized "java/lang/Long") ∈ lw_all := lw_g (lw_at lw_m1 15 rfl) rfl
theorem q490 : (Jvm.Cond.static ({ cls := "java/lang/Long", name := "numberOfLeadingZeros", desc := "(J)I" } : Jvm.MethodName)) ∈ lw_all := lw_g (lw_at lw_m2 192 rfl) rfl
theorem q491 : (Jvm.Cond.code ({ cls := "java/lang/Long", name := "numberOfLeadingZeros", desc := "(J)I" } : Jvm.MethodName) prog_15_method_48_code (3 : Nat) (Option.some Jvm.ClassFile.FieldType.int)) ∈ lw_all := lw_g (lw_at lw_m2 193 rfl) rfl
theorem q492 : (Jvm.Cond.methodLink "java/lang/Long" (308 : Nat) ({ cls := "java/lang/Integer", name := "numberOfLeadingZeros", desc := "(I)I" } : Jvm.MethodName)) ∈ lw_all := lw_g (lw_at lw_m2 194 rfl) rfl

/-! java/lang/Integer -/
set_option maxRecDepth 100000
def RJ10 : String := "java/lang/Integer"
abbrev cJ10_numberOfLeadingZeros : ByteArray := prog_14_method_47_code
def yJ10_numberOfLeadingZeros : MethodName := ⟨RJ10, "numberOfLeadingZeros", "(I)I"⟩
theorem q74 : (Jvm.Cond.initialized "java/lang/Integer") ∈ lw_all := lw_g (lw_at lw_m1 16 rfl) rfl
theorem q493 : (Jvm.Cond.static ({ cls := "java/lang/Integer", name := "numberOfLeadingZeros", desc := "(I)I" } : Jvm.MethodName)) ∈ lw_all := lw_g (lw_at lw_m2 195 rfl) rfl
theorem q494 : (Jvm.Cond.code ({ cls := "java/lang/Integer", name := "numberOfLeadingZeros", desc := "(I)I" } : Jvm.MethodName) prog_14_method_47_code (2 : Nat) (Option.some Jvm.ClassFile.FieldType.int)) ∈ lw_all := lw_g (lw_at lw_m2 196 rfl) rfl
theorem q495 : (Jvm.Cond.constant "java/lang/Integer" (264 : Nat) (65536 : Int32)) ∈ lw_all := lw_g (lw_at lw_m2 197 rfl) rfl

/-! PatternPairsModel -/
set_option maxRecDepth 100000
def RX6 : String := "PatternPairsModel"
def TX6 : u_T := fun k => match k with
  | 0 => ("PatternPairsModel", "tape", "[B", true)
  | 1 => ("PatternPairsModel", "taped", "I", false)
  | 2 => ("PatternPairsModel", "place", "I", false)
  | 3 => ("PatternPairsModel", "thrown", "I", false)
  | 4 => ("PatternPairsModel", "op", "[I", false)
  | 5 => ("PatternPairsModel", "arg", "[I", false)
  | 6 => ("PatternPairsModel", "many", "I", false)
  | 7 => ("PatternPairsModel", "low", "[J", false)
  | 8 => ("PatternPairsModel", "high", "[J", false)
  | 9 => ("PatternPairsModel", "masks", "I", false)
  | 10 => ("PatternPairsModel", "at", "I", false)
  | 11 => ("PatternPairsModel", "readLow", "J", false)
  | 12 => ("PatternPairsModel", "readHigh", "J", false)
  | 13 => ("PatternPairsModel", "group", "[I", true)
  | 14 => ("PatternPairsModel", "choice", "[I", true)
  | 15 => ("PatternPairsModel", "chain", "[I", true)
  | 16 => ("PatternPairsModel", "hasEmpty", "[Z", true)
  | 17 => ("PatternPairsModel", "set", "[J", true)
  | 18 => ("PatternPairsModel", "label", "[I", true)
  | 19 => ("PatternPairsModel", "next", "[I", true)
  | 20 => ("PatternPairsModel", "states", "I", false)
  | 21 => ("PatternPairsModel", "stamp", "[I", false)
  | 22 => ("PatternPairsModel", "stack", "[I", false)
  | 23 => ("PatternPairsModel", "stamps", "I", false)
  | 24 => ("PatternPairsModel", "piled", "I", false)
  | 25 => ("PatternPairsModel", "reading", "[I", true)
  | 26 => ("PatternPairsModel", "readings", "I", false)
  | 27 => ("PatternPairsModel", "where", "[I", true)
  | 28 => ("PatternPairsModel", "built", "[J", true)
  | 29 => ("PatternPairsModel", "heads", "[I", true)
  | 30 => ("PatternPairsModel", "chained", "[I", true)
  | 31 => ("PatternPairsModel", "isEmpty", "Z", false)
  | 32 => ("PatternPairsModel", "lives", "[Z", true)
  | 33 => ("PatternPairsModel", "kind", "[I", true)
  | 34 => ("PatternPairsModel", "newKind", "[I", true)
  | 35 => ("PatternPairsModel", "first", "[I", true)
  | 36 => ("PatternPairsModel", "kinds", "I", false)
  | 37 => ("PatternPairsModel", "leads", "[I", true)
  | 38 => ("PatternPairsModel", "sideStates", "[I", true)
  | 39 => ("PatternPairsModel", "ends", "[Z", true)
  | 40 => ("PatternPairsModel", "text", "[B", true)
  | 41 => ("PatternPairsModel", "textLong", "I", false)
  | 42 => ("PatternPairsModel", "queue", "[I", true)
  | 43 => ("PatternPairsModel", "from", "[I", true)
  | 44 => ("PatternPairsModel", "by", "[B", true)
  | 45 => ("PatternPairsModel", "ways", "[J", true)
  | _ => ("PatternPairsModel", "before", "[J", true)
def tyX6 : Nat → FieldType := fun k => match k with
  | 0 => .array .byte
  | 1 => .int
  | 2 => .int
  | 3 => .int
  | 4 => .array .int
  | 5 => .array .int
  | 6 => .int
  | 7 => .array .long
  | 8 => .array .long
  | 9 => .int
  | 10 => .int
  | 11 => .long
  | 12 => .long
  | 13 => .array .int
  | 14 => .array .int
  | 15 => .array .int
  | 16 => .array .boolean
  | 17 => .array .long
  | 18 => .array .int
  | 19 => .array .int
  | 20 => .int
  | 21 => .array .int
  | 22 => .array .int
  | 23 => .int
  | 24 => .int
  | 25 => .array .int
  | 26 => .int
  | 27 => .array .int
  | 28 => .array .long
  | 29 => .array .int
  | 30 => .array .int
  | 31 => .boolean
  | 32 => .array .boolean
  | 33 => .array .int
  | 34 => .array .int
  | 35 => .array .int
  | 36 => .int
  | 37 => .array .int
  | 38 => .array .int
  | 39 => .array .boolean
  | 40 => .array .byte
  | 41 => .int
  | 42 => .array .int
  | 43 => .array .int
  | 44 => .array .byte
  | 45 => .array .long
  | _ => .array .long
abbrev wsX60 : List Cond := u_ws RX6 TX6 47
set_option maxRecDepth 100000 in
theorem nmX6 : ∀ a, a < 47 → ∀ b, b < 47 → a ≠ b → (TX6 a).2.1 ≠ (TX6 b).2.1 := by decide +kernel
set_option maxRecDepth 100000 in
theorem tyX6_ok : ∀ k, k < 47 → parseFieldDescriptor (TX6 k).2.2.1 = some (tyX6 k) := by decide +kernel
abbrev cX6_thrown : ByteArray := prog_7_method_1_code
def yX6_thrown : MethodName := ⟨RX6, "thrown", "()I"⟩
abbrev cX6_init : ByteArray := prog_7_method_27_code
def yX6_init : MethodName := ⟨RX6, "<init>", "()V"⟩
abbrev cX6_parsed : ByteArray := prog_7_method_28_code
def yX6_parsed : MethodName := ⟨RX6, "parsed", "(II)I"⟩
abbrev cX6_parse : ByteArray := prog_7_method_14_code
def yX6_parse : MethodName := ⟨RX6, "parse", "(II)I"⟩
abbrev cX6_land : ByteArray := prog_7_method_13_code
def yX6_land : MethodName := ⟨RX6, "land", "(I)V"⟩
abbrev cX6_insert : ByteArray := prog_7_method_5_code
def yX6_insert : MethodName := ⟨RX6, "insert", "(III)V"⟩
abbrev cX6_grow : ByteArray := prog_7_method_3_code
def yX6_grow : MethodName := ⟨RX6, "grow", "()V"⟩
abbrev cX6_lay : ByteArray := prog_7_method_4_code
def yX6_lay : MethodName := ⟨RX6, "lay", "(II)V"⟩
abbrev cX6_single : ByteArray := prog_7_method_12_code
def yX6_single : MethodName := ⟨RX6, "single", "(I)Z"⟩
abbrev cX6_byteAt : ByteArray := prog_7_method_6_code
def yX6_byteAt : MethodName := ⟨RX6, "byteAt", "(I)I"⟩
abbrev cX6_bracket : ByteArray := prog_7_method_11_code
def yX6_bracket : MethodName := ⟨RX6, "bracket", "(I)Z"⟩
abbrev cX6_member : ByteArray := prog_7_method_10_code
def yX6_member : MethodName := ⟨RX6, "member", "(I)I"⟩
abbrev cX6_escaped : ByteArray := prog_7_method_8_code
def yX6_escaped : MethodName := ⟨RX6, "escaped", "(I)I"⟩
abbrev cX6_isIn : ByteArray := prog_7_method_7_code
def yX6_isIn : MethodName := ⟨RX6, "isIn", "(ILjava/lang/String;)Z"⟩
abbrev cX6_put : ByteArray := prog_7_method_9_code
def yX6_put : MethodName := ⟨RX6, "put", "(I)V"⟩
abbrev cX6_build : ByteArray := prog_7_method_21_code
def yX6_build : MethodName := ⟨RX6, "build", "()Z"⟩
abbrev cX6_begin : ByteArray := prog_7_method_17_code
def yX6_begin : MethodName := ⟨RX6, "begin", "()V"⟩
abbrev cX6_reach : ByteArray := prog_7_method_15_code
def yX6_reach : MethodName := ⟨RX6, "reach", "(I)V"⟩
abbrev cX6_closure : ByteArray := prog_7_method_16_code
def yX6_closure : MethodName := ⟨RX6, "closure", "()I"⟩
abbrev cX6_stateOf : ByteArray := prog_7_method_20_code
def yX6_stateOf : MethodName := ⟨RX6, "stateOf", "()I"⟩
abbrev cX6_mixture : ByteArray := prog_7_method_19_code
def yX6_mixture : MethodName := ⟨RX6, "mixture", "()I"⟩
abbrev cX6_isSet : ByteArray := prog_7_method_18_code
def yX6_isSet : MethodName := ⟨RX6, "isSet", "(I)Z"⟩
abbrev cX6_findLiving : ByteArray := prog_7_method_22_code
def yX6_findLiving : MethodName := ⟨RX6, "findLiving", "()V"⟩
abbrev cX6_findKinds : ByteArray := prog_7_method_26_code
def yX6_findKinds : MethodName := ⟨RX6, "findKinds", "()V"⟩
abbrev cX6_mixtureOf : ByteArray := prog_7_method_25_code
def yX6_mixtureOf : MethodName := ⟨RX6, "mixtureOf", "(I)I"⟩
abbrev cX6_kindOf : ByteArray := prog_7_method_23_code
def yX6_kindOf : MethodName := ⟨RX6, "kindOf", "(I)I"⟩
abbrev cX6_isAlike : ByteArray := prog_7_method_24_code
def yX6_isAlike : MethodName := ⟨RX6, "isAlike", "(II)Z"⟩
abbrev cX6_feed : ByteArray := prog_7_method_29_code
def yX6_feed : MethodName := ⟨RX6, "feed", "(IIIII)I"⟩
abbrev cX6_refuse : ByteArray := prog_7_method_2_code
def yX6_refuse : MethodName := ⟨RX6, "refuse", "(I)I"⟩
abbrev cX6_four : ByteArray := prog_7_method_30_code
def yX6_four : MethodName := ⟨RX6, "four", "(I)V"⟩
abbrev cX6_end : ByteArray := prog_7_method_31_code
def yX6_end : MethodName := ⟨RX6, "end", "(I)I"⟩
abbrev cX6_set : ByteArray := prog_7_method_33_code
def yX6_set : MethodName := ⟨RX6, "set", "(I)I"⟩
abbrev cX6_take : ByteArray := prog_7_method_32_code
def yX6_take : MethodName := ⟨RX6, "take", "()I"⟩
abbrev cX6_empty : ByteArray := prog_7_method_34_code
def yX6_empty : MethodName := ⟨RX6, "empty", "(I)Z"⟩
abbrev cX6_fits : ByteArray := prog_7_method_35_code
def yX6_fits : MethodName := ⟨RX6, "fits", "(I)Z"⟩
abbrev cX6_first : ByteArray := prog_7_method_37_code
def yX6_first : MethodName := ⟨RX6, "first", "(I)I"⟩
abbrev cX6_is : ByteArray := prog_7_method_36_code
def yX6_is : MethodName := ⟨RX6, "is", "(II)Z"⟩
abbrev cX6_tell : ByteArray := prog_7_method_38_code
def yX6_tell : MethodName := ⟨RX6, "tell", "(I)I"⟩
abbrev cX6_octet : ByteArray := prog_7_method_39_code
def yX6_octet : MethodName := ⟨RX6, "octet", "(I)I"⟩
abbrev cX6_count : ByteArray := prog_7_method_40_code
def yX6_count : MethodName := ⟨RX6, "count", "(II)J"⟩
abbrev cX6_place : ByteArray := prog_7_method_41_code
def yX6_place : MethodName := ⟨RX6, "place", "()I"⟩
theorem q75 : (Jvm.Cond.initialized "PatternPairsModel") ∈ lw_all := lw_g (lw_at lw_m1 17 rfl) rfl
theorem q793 : (Jvm.Cond.instanceMethod ({ cls := "PatternPairsModel", name := "thrown", desc := "()I" } : Jvm.MethodName)) ∈ lw_all := lw_g (lw_at lw_m4 15 rfl) rfl
theorem q794 : (Jvm.Cond.selects "PatternPairsModel" ({ cls := "PatternPairsModel", name := "thrown", desc := "()I" } : Jvm.MethodName) ({ cls := "PatternPairsModel", name := "thrown", desc := "()I" } : Jvm.MethodName)) ∈ lw_all := lw_g (lw_at lw_m4 16 rfl) rfl
theorem q795 : (Jvm.Cond.code ({ cls := "PatternPairsModel", name := "thrown", desc := "()I" } : Jvm.MethodName) prog_7_method_1_code (1 : Nat) (Option.some Jvm.ClassFile.FieldType.int)) ∈ lw_all := lw_g (lw_at lw_m4 17 rfl) rfl
theorem q797 : (Jvm.Cond.instantiable "PatternPairsModel" (47 : Nat)) ∈ lw_all := lw_g (lw_at lw_m4 19 rfl) rfl
theorem q799 : (Jvm.Cond.instanceMethod ({ cls := "PatternPairsModel", name := "<init>", desc := "()V" } : Jvm.MethodName)) ∈ lw_all := lw_g (lw_at lw_m4 21 rfl) rfl
theorem q800 : (Jvm.Cond.code ({ cls := "PatternPairsModel", name := "<init>", desc := "()V" } : Jvm.MethodName) prog_7_method_27_code (1 : Nat) (Option.none : Option Jvm.ClassFile.FieldType)) ∈ lw_all := lw_g (lw_at lw_m4 22 rfl) rfl
theorem q801 : (Jvm.Cond.methodLink "PatternPairsModel" (209 : Nat) ({ cls := "java/lang/Object", name := "<init>", desc := "()V" } : Jvm.MethodName)) ∈ lw_all := lw_g (lw_at lw_m4 23 rfl) rfl
theorem q802 : (Jvm.Cond.constant "PatternPairsModel" (217 : Nat) (51328 : Int32)) ∈ lw_all := lw_g (lw_at lw_m4 24 rfl) rfl
theorem q803 : (Jvm.Cond.constant "PatternPairsModel" (218 : Nat) (102912 : Int32)) ∈ lw_all := lw_g (lw_at lw_m4 25 rfl) rfl
theorem q804 : (Jvm.Cond.constant "PatternPairsModel" (228 : Nat) (161604 : Int32)) ∈ lw_all := lw_g (lw_at lw_m4 26 rfl) rfl
theorem q805 : (Jvm.Cond.methodLink "PatternPairsModel" (247 : Nat) ({ cls := "PatternPairsModel", name := "parsed", desc := "(II)I" } : Jvm.MethodName)) ∈ lw_all := lw_g (lw_at lw_m4 27 rfl) rfl
theorem q806 : (Jvm.Cond.privateMethod ({ cls := "PatternPairsModel", name := "parsed", desc := "(II)I" } : Jvm.MethodName)) ∈ lw_tbl := lw_at lw_m4 28 rfl
theorem q807 : (Jvm.Cond.instanceMethod ({ cls := "PatternPairsModel", name := "parsed", desc := "(II)I" } : Jvm.MethodName)) ∈ lw_all := lw_g (lw_at lw_m4 29 rfl) rfl
theorem q808 : (Jvm.Cond.code ({ cls := "PatternPairsModel", name := "parsed", desc := "(II)I" } : Jvm.MethodName) prog_7_method_28_code (9 : Nat) (Option.some Jvm.ClassFile.FieldType.int)) ∈ lw_all := lw_g (lw_at lw_m4 30 rfl) rfl
theorem q809 : (Jvm.Cond.methodLink "PatternPairsModel" (251 : Nat) ({ cls := "PatternPairsModel", name := "parse", desc := "(II)I" } : Jvm.MethodName)) ∈ lw_all := lw_g (lw_at lw_m4 31 rfl) rfl
theorem q810 : (Jvm.Cond.privateMethod ({ cls := "PatternPairsModel", name := "parse", desc := "(II)I" } : Jvm.MethodName)) ∈ lw_tbl := lw_at lw_m4 32 rfl
theorem q811 : (Jvm.Cond.instanceMethod ({ cls := "PatternPairsModel", name := "parse", desc := "(II)I" } : Jvm.MethodName)) ∈ lw_all := lw_g (lw_at lw_m4 33 rfl) rfl
theorem q812 : (Jvm.Cond.code ({ cls := "PatternPairsModel", name := "parse", desc := "(II)I" } : Jvm.MethodName) prog_7_method_14_code (8 : Nat) (Option.some Jvm.ClassFile.FieldType.int)) ∈ lw_all := lw_g (lw_at lw_m4 34 rfl) rfl
theorem q813 : (Jvm.Cond.methodLink "PatternPairsModel" (91 : Nat) ({ cls := "PatternPairsModel", name := "land", desc := "(I)V" } : Jvm.MethodName)) ∈ lw_all := lw_g (lw_at lw_m4 35 rfl) rfl
theorem q814 : (Jvm.Cond.privateMethod ({ cls := "PatternPairsModel", name := "land", desc := "(I)V" } : Jvm.MethodName)) ∈ lw_tbl := lw_at lw_m4 36 rfl
theorem q815 : (Jvm.Cond.instanceMethod ({ cls := "PatternPairsModel", name := "land", desc := "(I)V" } : Jvm.MethodName)) ∈ lw_all := lw_g (lw_at lw_m4 37 rfl) rfl
theorem q816 : (Jvm.Cond.code ({ cls := "PatternPairsModel", name := "land", desc := "(I)V" } : Jvm.MethodName) prog_7_method_13_code (4 : Nat) (Option.none : Option Jvm.ClassFile.FieldType)) ∈ lw_all := lw_g (lw_at lw_m4 38 rfl) rfl
theorem q817 : (Jvm.Cond.methodLink "PatternPairsModel" (94 : Nat) ({ cls := "PatternPairsModel", name := "insert", desc := "(III)V" } : Jvm.MethodName)) ∈ lw_all := lw_g (lw_at lw_m4 39 rfl) rfl
theorem q818 : (Jvm.Cond.privateMethod ({ cls := "PatternPairsModel", name := "insert", desc := "(III)V" } : Jvm.MethodName)) ∈ lw_tbl := lw_at lw_m4 40 rfl
theorem q819 : (Jvm.Cond.instanceMethod ({ cls := "PatternPairsModel", name := "insert", desc := "(III)V" } : Jvm.MethodName)) ∈ lw_all := lw_g (lw_at lw_m4 41 rfl) rfl
theorem q820 : (Jvm.Cond.code ({ cls := "PatternPairsModel", name := "insert", desc := "(III)V" } : Jvm.MethodName) prog_7_method_5_code (5 : Nat) (Option.none : Option Jvm.ClassFile.FieldType)) ∈ lw_all := lw_g (lw_at lw_m4 42 rfl) rfl
theorem q821 : (Jvm.Cond.methodLink "PatternPairsModel" (23 : Nat) ({ cls := "PatternPairsModel", name := "grow", desc := "()V" } : Jvm.MethodName)) ∈ lw_all := lw_g (lw_at lw_m4 43 rfl) rfl
theorem q822 : (Jvm.Cond.privateMethod ({ cls := "PatternPairsModel", name := "grow", desc := "()V" } : Jvm.MethodName)) ∈ lw_tbl := lw_at lw_m4 44 rfl
theorem q823 : (Jvm.Cond.instanceMethod ({ cls := "PatternPairsModel", name := "grow", desc := "()V" } : Jvm.MethodName)) ∈ lw_all := lw_g (lw_at lw_m4 45 rfl) rfl
theorem q824 : (Jvm.Cond.code ({ cls := "PatternPairsModel", name := "grow", desc := "()V" } : Jvm.MethodName) prog_7_method_3_code (1 : Nat) (Option.none : Option Jvm.ClassFile.FieldType)) ∈ lw_all := lw_g (lw_at lw_m4 46 rfl) rfl
theorem q825 : (Jvm.Cond.methodLink "PatternPairsModel" (14 : Nat) ({ cls := "java/util/Arrays", name := "copyOf", desc := "([II)[I" } : Jvm.MethodName)) ∈ lw_all := lw_g (lw_at lw_m4 47 rfl) rfl
theorem q839 : (Jvm.Cond.methodLink "PatternPairsModel" (98 : Nat) ({ cls := "PatternPairsModel", name := "lay", desc := "(II)V" } : Jvm.MethodName)) ∈ lw_all := lw_g (lw_at lw_m4 61 rfl) rfl
theorem q840 : (Jvm.Cond.privateMethod ({ cls := "PatternPairsModel", name := "lay", desc := "(II)V" } : Jvm.MethodName)) ∈ lw_tbl := lw_at lw_m4 62 rfl
theorem q841 : (Jvm.Cond.instanceMethod ({ cls := "PatternPairsModel", name := "lay", desc := "(II)V" } : Jvm.MethodName)) ∈ lw_all := lw_g (lw_at lw_m4 63 rfl) rfl
theorem q842 : (Jvm.Cond.code ({ cls := "PatternPairsModel", name := "lay", desc := "(II)V" } : Jvm.MethodName) prog_7_method_4_code (3 : Nat) (Option.none : Option Jvm.ClassFile.FieldType)) ∈ lw_all := lw_g (lw_at lw_m4 64 rfl) rfl
theorem q843 : (Jvm.Cond.methodLink "PatternPairsModel" (105 : Nat) ({ cls := "PatternPairsModel", name := "single", desc := "(I)Z" } : Jvm.MethodName)) ∈ lw_all := lw_g (lw_at lw_m4 65 rfl) rfl
theorem q844 : (Jvm.Cond.privateMethod ({ cls := "PatternPairsModel", name := "single", desc := "(I)Z" } : Jvm.MethodName)) ∈ lw_tbl := lw_at lw_m4 66 rfl
theorem q845 : (Jvm.Cond.instanceMethod ({ cls := "PatternPairsModel", name := "single", desc := "(I)Z" } : Jvm.MethodName)) ∈ lw_all := lw_g (lw_at lw_m4 67 rfl) rfl
theorem q846 : (Jvm.Cond.code ({ cls := "PatternPairsModel", name := "single", desc := "(I)Z" } : Jvm.MethodName) prog_7_method_12_code (3 : Nat) (Option.some Jvm.ClassFile.FieldType.boolean)) ∈ lw_all := lw_g (lw_at lw_m4 68 rfl) rfl
theorem q847 : (Jvm.Cond.methodLink "PatternPairsModel" (40 : Nat) ({ cls := "PatternPairsModel", name := "byteAt", desc := "(I)I" } : Jvm.MethodName)) ∈ lw_all := lw_g (lw_at lw_m4 69 rfl) rfl
theorem q848 : (Jvm.Cond.privateMethod ({ cls := "PatternPairsModel", name := "byteAt", desc := "(I)I" } : Jvm.MethodName)) ∈ lw_tbl := lw_at lw_m4 70 rfl
theorem q849 : (Jvm.Cond.instanceMethod ({ cls := "PatternPairsModel", name := "byteAt", desc := "(I)I" } : Jvm.MethodName)) ∈ lw_all := lw_g (lw_at lw_m4 71 rfl) rfl
theorem q850 : (Jvm.Cond.code ({ cls := "PatternPairsModel", name := "byteAt", desc := "(I)I" } : Jvm.MethodName) prog_7_method_6_code (2 : Nat) (Option.some Jvm.ClassFile.FieldType.int)) ∈ lw_all := lw_g (lw_at lw_m4 72 rfl) rfl
theorem q851 : (Jvm.Cond.methodLink "PatternPairsModel" (70 : Nat) ({ cls := "PatternPairsModel", name := "bracket", desc := "(I)Z" } : Jvm.MethodName)) ∈ lw_all := lw_g (lw_at lw_m4 73 rfl) rfl
theorem q852 : (Jvm.Cond.privateMethod ({ cls := "PatternPairsModel", name := "bracket", desc := "(I)Z" } : Jvm.MethodName)) ∈ lw_tbl := lw_at lw_m4 74 rfl
theorem q853 : (Jvm.Cond.instanceMethod ({ cls := "PatternPairsModel", name := "bracket", desc := "(I)Z" } : Jvm.MethodName)) ∈ lw_all := lw_g (lw_at lw_m4 75 rfl) rfl
theorem q854 : (Jvm.Cond.code ({ cls := "PatternPairsModel", name := "bracket", desc := "(I)Z" } : Jvm.MethodName) prog_7_method_11_code (6 : Nat) (Option.some Jvm.ClassFile.FieldType.boolean)) ∈ lw_all := lw_g (lw_at lw_m4 76 rfl) rfl
theorem q855 : (Jvm.Cond.methodLink "PatternPairsModel" (61 : Nat) ({ cls := "PatternPairsModel", name := "member", desc := "(I)I" } : Jvm.MethodName)) ∈ lw_all := lw_g (lw_at lw_m4 77 rfl) rfl
theorem q856 : (Jvm.Cond.privateMethod ({ cls := "PatternPairsModel", name := "member", desc := "(I)I" } : Jvm.MethodName)) ∈ lw_tbl := lw_at lw_m4 78 rfl
theorem q857 : (Jvm.Cond.instanceMethod ({ cls := "PatternPairsModel", name := "member", desc := "(I)I" } : Jvm.MethodName)) ∈ lw_all := lw_g (lw_at lw_m4 79 rfl) rfl
theorem q858 : (Jvm.Cond.code ({ cls := "PatternPairsModel", name := "member", desc := "(I)I" } : Jvm.MethodName) prog_7_method_10_code (3 : Nat) (Option.some Jvm.ClassFile.FieldType.int)) ∈ lw_all := lw_g (lw_at lw_m4 80 rfl) rfl
theorem q859 : (Jvm.Cond.methodLink "PatternPairsModel" (56 : Nat) ({ cls := "PatternPairsModel", name := "escaped", desc := "(I)I" } : Jvm.MethodName)) ∈ lw_all := lw_g (lw_at lw_m4 81 rfl) rfl
theorem q860 : (Jvm.Cond.privateMethod ({ cls := "PatternPairsModel", name := "escaped", desc := "(I)I" } : Jvm.MethodName)) ∈ lw_tbl := lw_at lw_m4 82 rfl
theorem q861 : (Jvm.Cond.instanceMethod ({ cls := "PatternPairsModel", name := "escaped", desc := "(I)I" } : Jvm.MethodName)) ∈ lw_all := lw_g (lw_at lw_m4 83 rfl) rfl
theorem q862 : (Jvm.Cond.code ({ cls := "PatternPairsModel", name := "escaped", desc := "(I)I" } : Jvm.MethodName) prog_7_method_8_code (3 : Nat) (Option.some Jvm.ClassFile.FieldType.int)) ∈ lw_all := lw_g (lw_at lw_m4 84 rfl) rfl
theorem q863 : (Jvm.Cond.stringRef "PatternPairsModel" (43 : Nat) "/\\|*+?()[.]-^") ∈ lw_tbl := lw_at lw_m4 85 rfl
theorem q864 : (Jvm.Cond.methodLink "PatternPairsModel" (45 : Nat) ({ cls := "PatternPairsModel", name := "isIn", desc := "(ILjava/lang/String;)Z" } : Jvm.MethodName)) ∈ lw_all := lw_g (lw_at lw_m4 86 rfl) rfl
theorem q865 : (Jvm.Cond.static ({ cls := "PatternPairsModel", name := "isIn", desc := "(ILjava/lang/String;)Z" } : Jvm.MethodName)) ∈ lw_all := lw_g (lw_at lw_m4 87 rfl) rfl
theorem q866 : (Jvm.Cond.code ({ cls := "PatternPairsModel", name := "isIn", desc := "(ILjava/lang/String;)Z" } : Jvm.MethodName) prog_7_method_7_code (2 : Nat) (Option.some Jvm.ClassFile.FieldType.boolean)) ∈ lw_all := lw_g (lw_at lw_m4 88 rfl) rfl
theorem q867 : (Jvm.Cond.methodLink "PatternPairsModel" (34 : Nat) ({ cls := "java/lang/String", name := "indexOf", desc := "(I)I" } : Jvm.MethodName)) ∈ lw_all := lw_g (lw_at lw_m4 89 rfl) rfl
theorem q868 : (Jvm.Cond.stringRef "PatternPairsModel" (59 : Nat) "/]-") ∈ lw_tbl := lw_at lw_m4 90 rfl
theorem q869 : (Jvm.Cond.methodLink "PatternPairsModel" (64 : Nat) ({ cls := "PatternPairsModel", name := "put", desc := "(I)V" } : Jvm.MethodName)) ∈ lw_all := lw_g (lw_at lw_m4 91 rfl) rfl
theorem q870 : (Jvm.Cond.privateMethod ({ cls := "PatternPairsModel", name := "put", desc := "(I)V" } : Jvm.MethodName)) ∈ lw_tbl := lw_at lw_m4 92 rfl
theorem q871 : (Jvm.Cond.instanceMethod ({ cls := "PatternPairsModel", name := "put", desc := "(I)V" } : Jvm.MethodName)) ∈ lw_all := lw_g (lw_at lw_m4 93 rfl) rfl
theorem q872 : (Jvm.Cond.code ({ cls := "PatternPairsModel", name := "put", desc := "(I)V" } : Jvm.MethodName) prog_7_method_9_code (2 : Nat) (Option.none : Option Jvm.ClassFile.FieldType)) ∈ lw_all := lw_g (lw_at lw_m4 94 rfl) rfl
theorem q873 : (Jvm.Cond.constantLong "PatternPairsModel" (68 : Nat) (-1 : Int64)) ∈ lw_all := lw_g (lw_at lw_m4 95 rfl) rfl
theorem q874 : (Jvm.Cond.constantLong "PatternPairsModel" (74 : Nat) (-1025 : Int64)) ∈ lw_all := lw_g (lw_at lw_m4 96 rfl) rfl
theorem q875 : (Jvm.Cond.stringRef "PatternPairsModel" (76 : Nat) "/|*+?()") ∈ lw_tbl := lw_at lw_m4 97 rfl
theorem q876 : (Jvm.Cond.methodLink "PatternPairsModel" (254 : Nat) ({ cls := "PatternPairsModel", name := "build", desc := "()Z" } : Jvm.MethodName)) ∈ lw_all := lw_g (lw_at lw_m4 98 rfl) rfl
theorem q877 : (Jvm.Cond.privateMethod ({ cls := "PatternPairsModel", name := "build", desc := "()Z" } : Jvm.MethodName)) ∈ lw_tbl := lw_at lw_m4 99 rfl
theorem q878 : (Jvm.Cond.instanceMethod ({ cls := "PatternPairsModel", name := "build", desc := "()Z" } : Jvm.MethodName)) ∈ lw_all := lw_g (lw_at lw_m4 100 rfl) rfl
theorem q879 : (Jvm.Cond.code ({ cls := "PatternPairsModel", name := "build", desc := "()Z" } : Jvm.MethodName) prog_7_method_21_code (6 : Nat) (Option.some Jvm.ClassFile.FieldType.boolean)) ∈ lw_all := lw_g (lw_at lw_m4 101 rfl) rfl
theorem q880 : (Jvm.Cond.methodLink "PatternPairsModel" (165 : Nat) ({ cls := "PatternPairsModel", name := "begin", desc := "()V" } : Jvm.MethodName)) ∈ lw_all := lw_g (lw_at lw_m4 102 rfl) rfl
theorem q881 : (Jvm.Cond.privateMethod ({ cls := "PatternPairsModel", name := "begin", desc := "()V" } : Jvm.MethodName)) ∈ lw_tbl := lw_at lw_m4 103 rfl
theorem q882 : (Jvm.Cond.instanceMethod ({ cls := "PatternPairsModel", name := "begin", desc := "()V" } : Jvm.MethodName)) ∈ lw_all := lw_g (lw_at lw_m4 104 rfl) rfl
theorem q883 : (Jvm.Cond.code ({ cls := "PatternPairsModel", name := "begin", desc := "()V" } : Jvm.MethodName) prog_7_method_17_code (1 : Nat) (Option.none : Option Jvm.ClassFile.FieldType)) ∈ lw_all := lw_g (lw_at lw_m4 105 rfl) rfl
theorem q884 : (Jvm.Cond.methodLink "PatternPairsModel" (133 : Nat) ({ cls := "PatternPairsModel", name := "reach", desc := "(I)V" } : Jvm.MethodName)) ∈ lw_all := lw_g (lw_at lw_m4 106 rfl) rfl
theorem q885 : (Jvm.Cond.privateMethod ({ cls := "PatternPairsModel", name := "reach", desc := "(I)V" } : Jvm.MethodName)) ∈ lw_tbl := lw_at lw_m4 107 rfl
theorem q886 : (Jvm.Cond.instanceMethod ({ cls := "PatternPairsModel", name := "reach", desc := "(I)V" } : Jvm.MethodName)) ∈ lw_all := lw_g (lw_at lw_m4 108 rfl) rfl
theorem q887 : (Jvm.Cond.code ({ cls := "PatternPairsModel", name := "reach", desc := "(I)V" } : Jvm.MethodName) prog_7_method_15_code (2 : Nat) (Option.none : Option Jvm.ClassFile.FieldType)) ∈ lw_all := lw_g (lw_at lw_m4 109 rfl) rfl
theorem q888 : (Jvm.Cond.methodLink "PatternPairsModel" (168 : Nat) ({ cls := "PatternPairsModel", name := "closure", desc := "()I" } : Jvm.MethodName)) ∈ lw_all := lw_g (lw_at lw_m4 110 rfl) rfl
theorem q889 : (Jvm.Cond.privateMethod ({ cls := "PatternPairsModel", name := "closure", desc := "()I" } : Jvm.MethodName)) ∈ lw_tbl := lw_at lw_m4 111 rfl
theorem q890 : (Jvm.Cond.instanceMethod ({ cls := "PatternPairsModel", name := "closure", desc := "()I" } : Jvm.MethodName)) ∈ lw_all := lw_g (lw_at lw_m4 112 rfl) rfl
theorem q891 : (Jvm.Cond.code ({ cls := "PatternPairsModel", name := "closure", desc := "()I" } : Jvm.MethodName) prog_7_method_16_code (3 : Nat) (Option.some Jvm.ClassFile.FieldType.int)) ∈ lw_all := lw_g (lw_at lw_m4 113 rfl) rfl
theorem q892 : (Jvm.Cond.methodLink "PatternPairsModel" (178 : Nat) ({ cls := "PatternPairsModel", name := "stateOf", desc := "()I" } : Jvm.MethodName)) ∈ lw_all := lw_g (lw_at lw_m4 114 rfl) rfl
theorem q893 : (Jvm.Cond.privateMethod ({ cls := "PatternPairsModel", name := "stateOf", desc := "()I" } : Jvm.MethodName)) ∈ lw_tbl := lw_at lw_m4 115 rfl
theorem q894 : (Jvm.Cond.instanceMethod ({ cls := "PatternPairsModel", name := "stateOf", desc := "()I" } : Jvm.MethodName)) ∈ lw_all := lw_g (lw_at lw_m4 116 rfl) rfl
theorem q895 : (Jvm.Cond.code ({ cls := "PatternPairsModel", name := "stateOf", desc := "()I" } : Jvm.MethodName) prog_7_method_20_code (3 : Nat) (Option.some Jvm.ClassFile.FieldType.int)) ∈ lw_all := lw_g (lw_at lw_m4 117 rfl) rfl
theorem q896 : (Jvm.Cond.methodLink "PatternPairsModel" (146 : Nat) ({ cls := "PatternPairsModel", name := "mixture", desc := "()I" } : Jvm.MethodName)) ∈ lw_all := lw_g (lw_at lw_m4 118 rfl) rfl
theorem q897 : (Jvm.Cond.privateMethod ({ cls := "PatternPairsModel", name := "mixture", desc := "()I" } : Jvm.MethodName)) ∈ lw_tbl := lw_at lw_m4 119 rfl
theorem q898 : (Jvm.Cond.instanceMethod ({ cls := "PatternPairsModel", name := "mixture", desc := "()I" } : Jvm.MethodName)) ∈ lw_all := lw_g (lw_at lw_m4 120 rfl) rfl
theorem q899 : (Jvm.Cond.code ({ cls := "PatternPairsModel", name := "mixture", desc := "()I" } : Jvm.MethodName) prog_7_method_19_code (4 : Nat) (Option.some Jvm.ClassFile.FieldType.int)) ∈ lw_all := lw_g (lw_at lw_m4 121 rfl) rfl
theorem q900 : (Jvm.Cond.constantLong "PatternPairsModel" (142 : Nat) (17 : Int64)) ∈ lw_all := lw_g (lw_at lw_m4 122 rfl) rfl
theorem q901 : (Jvm.Cond.constantLong "PatternPairsModel" (144 : Nat) (31 : Int64)) ∈ lw_all := lw_g (lw_at lw_m4 123 rfl) rfl
theorem q902 : (Jvm.Cond.methodLink "PatternPairsModel" (153 : Nat) ({ cls := "PatternPairsModel", name := "isSet", desc := "(I)Z" } : Jvm.MethodName)) ∈ lw_all := lw_g (lw_at lw_m4 124 rfl) rfl
theorem q903 : (Jvm.Cond.privateMethod ({ cls := "PatternPairsModel", name := "isSet", desc := "(I)Z" } : Jvm.MethodName)) ∈ lw_tbl := lw_at lw_m4 125 rfl
theorem q904 : (Jvm.Cond.instanceMethod ({ cls := "PatternPairsModel", name := "isSet", desc := "(I)Z" } : Jvm.MethodName)) ∈ lw_all := lw_g (lw_at lw_m4 126 rfl) rfl
theorem q905 : (Jvm.Cond.code ({ cls := "PatternPairsModel", name := "isSet", desc := "(I)Z" } : Jvm.MethodName) prog_7_method_18_code (3 : Nat) (Option.some Jvm.ClassFile.FieldType.boolean)) ∈ lw_all := lw_g (lw_at lw_m4 127 rfl) rfl
theorem q906 : (Jvm.Cond.methodLink "PatternPairsModel" (258 : Nat) ({ cls := "PatternPairsModel", name := "findLiving", desc := "()V" } : Jvm.MethodName)) ∈ lw_all := lw_g (lw_at lw_m4 128 rfl) rfl
theorem q907 : (Jvm.Cond.privateMethod ({ cls := "PatternPairsModel", name := "findLiving", desc := "()V" } : Jvm.MethodName)) ∈ lw_tbl := lw_at lw_m4 129 rfl
theorem q908 : (Jvm.Cond.instanceMethod ({ cls := "PatternPairsModel", name := "findLiving", desc := "()V" } : Jvm.MethodName)) ∈ lw_all := lw_g (lw_at lw_m4 130 rfl) rfl
theorem q909 : (Jvm.Cond.code ({ cls := "PatternPairsModel", name := "findLiving", desc := "()V" } : Jvm.MethodName) prog_7_method_22_code (4 : Nat) (Option.none : Option Jvm.ClassFile.FieldType)) ∈ lw_all := lw_g (lw_at lw_m4 131 rfl) rfl
theorem q910 : (Jvm.Cond.methodLink "PatternPairsModel" (261 : Nat) ({ cls := "PatternPairsModel", name := "findKinds", desc := "()V" } : Jvm.MethodName)) ∈ lw_all := lw_g (lw_at lw_m4 132 rfl) rfl
theorem q911 : (Jvm.Cond.privateMethod ({ cls := "PatternPairsModel", name := "findKinds", desc := "()V" } : Jvm.MethodName)) ∈ lw_tbl := lw_at lw_m4 133 rfl
theorem q912 : (Jvm.Cond.instanceMethod ({ cls := "PatternPairsModel", name := "findKinds", desc := "()V" } : Jvm.MethodName)) ∈ lw_all := lw_g (lw_at lw_m4 134 rfl) rfl
theorem q913 : (Jvm.Cond.code ({ cls := "PatternPairsModel", name := "findKinds", desc := "()V" } : Jvm.MethodName) prog_7_method_26_code (5 : Nat) (Option.none : Option Jvm.ClassFile.FieldType)) ∈ lw_all := lw_g (lw_at lw_m4 135 rfl) rfl
theorem q914 : (Jvm.Cond.methodLink "PatternPairsModel" (196 : Nat) ({ cls := "PatternPairsModel", name := "mixtureOf", desc := "(I)I" } : Jvm.MethodName)) ∈ lw_all := lw_g (lw_at lw_m4 136 rfl) rfl
theorem q915 : (Jvm.Cond.privateMethod ({ cls := "PatternPairsModel", name := "mixtureOf", desc := "(I)I" } : Jvm.MethodName)) ∈ lw_tbl := lw_at lw_m4 137 rfl
theorem q916 : (Jvm.Cond.instanceMethod ({ cls := "PatternPairsModel", name := "mixtureOf", desc := "(I)I" } : Jvm.MethodName)) ∈ lw_all := lw_g (lw_at lw_m4 138 rfl) rfl
theorem q917 : (Jvm.Cond.code ({ cls := "PatternPairsModel", name := "mixtureOf", desc := "(I)I" } : Jvm.MethodName) prog_7_method_25_code (4 : Nat) (Option.some Jvm.ClassFile.FieldType.int)) ∈ lw_all := lw_g (lw_at lw_m4 139 rfl) rfl
theorem q918 : (Jvm.Cond.methodLink "PatternPairsModel" (190 : Nat) ({ cls := "PatternPairsModel", name := "kindOf", desc := "(I)I" } : Jvm.MethodName)) ∈ lw_all := lw_g (lw_at lw_m4 140 rfl) rfl
theorem q919 : (Jvm.Cond.privateMethod ({ cls := "PatternPairsModel", name := "kindOf", desc := "(I)I" } : Jvm.MethodName)) ∈ lw_tbl := lw_at lw_m4 141 rfl
theorem q920 : (Jvm.Cond.instanceMethod ({ cls := "PatternPairsModel", name := "kindOf", desc := "(I)I" } : Jvm.MethodName)) ∈ lw_all := lw_g (lw_at lw_m4 142 rfl) rfl
theorem q921 : (Jvm.Cond.code ({ cls := "PatternPairsModel", name := "kindOf", desc := "(I)I" } : Jvm.MethodName) prog_7_method_23_code (2 : Nat) (Option.some Jvm.ClassFile.FieldType.int)) ∈ lw_all := lw_g (lw_at lw_m4 143 rfl) rfl
theorem q922 : (Jvm.Cond.methodLink "PatternPairsModel" (202 : Nat) ({ cls := "PatternPairsModel", name := "isAlike", desc := "(II)Z" } : Jvm.MethodName)) ∈ lw_all := lw_g (lw_at lw_m4 144 rfl) rfl
theorem q923 : (Jvm.Cond.privateMethod ({ cls := "PatternPairsModel", name := "isAlike", desc := "(II)Z" } : Jvm.MethodName)) ∈ lw_tbl := lw_at lw_m4 145 rfl
theorem q924 : (Jvm.Cond.instanceMethod ({ cls := "PatternPairsModel", name := "isAlike", desc := "(II)Z" } : Jvm.MethodName)) ∈ lw_all := lw_g (lw_at lw_m4 146 rfl) rfl
theorem q925 : (Jvm.Cond.code ({ cls := "PatternPairsModel", name := "isAlike", desc := "(II)Z" } : Jvm.MethodName) prog_7_method_24_code (4 : Nat) (Option.some Jvm.ClassFile.FieldType.boolean)) ∈ lw_all := lw_g (lw_at lw_m4 147 rfl) rfl
theorem q926 : (Jvm.Cond.fieldLink "PatternPairsModel" (30 : Nat) "PatternPairsModel" "tape" "[B") ∈ lw_all := lw_g (lw_at lw_m4 148 rfl) rfl
theorem q927 : (Jvm.Cond.fieldLink "PatternPairsModel" (264 : Nat) "PatternPairsModel" "taped" "I") ∈ lw_all := lw_g (lw_at lw_m4 149 rfl) rfl
theorem q928 : (Jvm.Cond.fieldLink "PatternPairsModel" (214 : Nat) "PatternPairsModel" "place" "I") ∈ lw_all := lw_g (lw_at lw_m4 150 rfl) rfl
theorem q929 : (Jvm.Cond.fieldLink "PatternPairsModel" (3 : Nat) "PatternPairsModel" "thrown" "I") ∈ lw_all := lw_g (lw_at lw_m4 151 rfl) rfl
theorem q930 : (Jvm.Cond.fieldLink "PatternPairsModel" (10 : Nat) "PatternPairsModel" "op" "[I") ∈ lw_all := lw_g (lw_at lw_m4 152 rfl) rfl
theorem q931 : (Jvm.Cond.fieldLink "PatternPairsModel" (20 : Nat) "PatternPairsModel" "arg" "[I") ∈ lw_all := lw_g (lw_at lw_m4 153 rfl) rfl
theorem q932 : (Jvm.Cond.fieldLink "PatternPairsModel" (7 : Nat) "PatternPairsModel" "many" "I") ∈ lw_all := lw_g (lw_at lw_m4 154 rfl) rfl
theorem q933 : (Jvm.Cond.fieldLink "PatternPairsModel" (108 : Nat) "PatternPairsModel" "low" "[J") ∈ lw_all := lw_g (lw_at lw_m4 155 rfl) rfl
theorem q934 : (Jvm.Cond.fieldLink "PatternPairsModel" (112 : Nat) "PatternPairsModel" "high" "[J") ∈ lw_all := lw_g (lw_at lw_m4 156 rfl) rfl
theorem q935 : (Jvm.Cond.fieldLink "PatternPairsModel" (102 : Nat) "PatternPairsModel" "masks" "I") ∈ lw_all := lw_g (lw_at lw_m4 157 rfl) rfl
theorem q936 : (Jvm.Cond.fieldLink "PatternPairsModel" (27 : Nat) "PatternPairsModel" "at" "I") ∈ lw_all := lw_g (lw_at lw_m4 158 rfl) rfl
theorem q937 : (Jvm.Cond.fieldLink "PatternPairsModel" (49 : Nat) "PatternPairsModel" "readLow" "J") ∈ lw_all := lw_g (lw_at lw_m4 159 rfl) rfl
theorem q938 : (Jvm.Cond.fieldLink "PatternPairsModel" (53 : Nat) "PatternPairsModel" "readHigh" "J") ∈ lw_all := lw_g (lw_at lw_m4 160 rfl) rfl
theorem q939 : (Jvm.Cond.fieldLink "PatternPairsModel" (85 : Nat) "PatternPairsModel" "group" "[I") ∈ lw_all := lw_g (lw_at lw_m4 161 rfl) rfl
theorem q940 : (Jvm.Cond.fieldLink "PatternPairsModel" (88 : Nat) "PatternPairsModel" "choice" "[I") ∈ lw_all := lw_g (lw_at lw_m4 162 rfl) rfl
theorem q941 : (Jvm.Cond.fieldLink "PatternPairsModel" (78 : Nat) "PatternPairsModel" "chain" "[I") ∈ lw_all := lw_g (lw_at lw_m4 163 rfl) rfl
theorem q942 : (Jvm.Cond.fieldLink "PatternPairsModel" (81 : Nat) "PatternPairsModel" "hasEmpty" "[Z") ∈ lw_all := lw_g (lw_at lw_m4 164 rfl) rfl
theorem q943 : (Jvm.Cond.fieldLink "PatternPairsModel" (136 : Nat) "PatternPairsModel" "set" "[J") ∈ lw_all := lw_g (lw_at lw_m4 165 rfl) rfl
theorem q944 : (Jvm.Cond.fieldLink "PatternPairsModel" (175 : Nat) "PatternPairsModel" "label" "[I") ∈ lw_all := lw_g (lw_at lw_m4 166 rfl) rfl
theorem q945 : (Jvm.Cond.fieldLink "PatternPairsModel" (181 : Nat) "PatternPairsModel" "next" "[I") ∈ lw_all := lw_g (lw_at lw_m4 167 rfl) rfl
theorem q946 : (Jvm.Cond.fieldLink "PatternPairsModel" (159 : Nat) "PatternPairsModel" "states" "I") ∈ lw_all := lw_g (lw_at lw_m4 168 rfl) rfl
theorem q947 : (Jvm.Cond.fieldLink "PatternPairsModel" (115 : Nat) "PatternPairsModel" "stamp" "[I") ∈ lw_all := lw_g (lw_at lw_m4 169 rfl) rfl
theorem q948 : (Jvm.Cond.fieldLink "PatternPairsModel" (121 : Nat) "PatternPairsModel" "stack" "[I") ∈ lw_all := lw_g (lw_at lw_m4 170 rfl) rfl
theorem q949 : (Jvm.Cond.fieldLink "PatternPairsModel" (118 : Nat) "PatternPairsModel" "stamps" "I") ∈ lw_all := lw_g (lw_at lw_m4 171 rfl) rfl
theorem q950 : (Jvm.Cond.fieldLink "PatternPairsModel" (124 : Nat) "PatternPairsModel" "piled" "I") ∈ lw_all := lw_g (lw_at lw_m4 172 rfl) rfl
theorem q951 : (Jvm.Cond.fieldLink "PatternPairsModel" (130 : Nat) "PatternPairsModel" "reading" "[I") ∈ lw_all := lw_g (lw_at lw_m4 173 rfl) rfl
theorem q952 : (Jvm.Cond.fieldLink "PatternPairsModel" (127 : Nat) "PatternPairsModel" "readings" "I") ∈ lw_all := lw_g (lw_at lw_m4 174 rfl) rfl
theorem q953 : (Jvm.Cond.fieldLink "PatternPairsModel" (162 : Nat) "PatternPairsModel" "where" "[I") ∈ lw_all := lw_g (lw_at lw_m4 175 rfl) rfl
theorem q954 : (Jvm.Cond.fieldLink "PatternPairsModel" (139 : Nat) "PatternPairsModel" "built" "[J") ∈ lw_all := lw_g (lw_at lw_m4 176 rfl) rfl
theorem q955 : (Jvm.Cond.fieldLink "PatternPairsModel" (150 : Nat) "PatternPairsModel" "heads" "[I") ∈ lw_all := lw_g (lw_at lw_m4 177 rfl) rfl
theorem q956 : (Jvm.Cond.fieldLink "PatternPairsModel" (156 : Nat) "PatternPairsModel" "chained" "[I") ∈ lw_all := lw_g (lw_at lw_m4 178 rfl) rfl
theorem q957 : (Jvm.Cond.fieldLink "PatternPairsModel" (171 : Nat) "PatternPairsModel" "isEmpty" "Z") ∈ lw_all := lw_g (lw_at lw_m4 179 rfl) rfl
theorem q958 : (Jvm.Cond.fieldLink "PatternPairsModel" (184 : Nat) "PatternPairsModel" "lives" "[Z") ∈ lw_all := lw_g (lw_at lw_m4 180 rfl) rfl
theorem q959 : (Jvm.Cond.fieldLink "PatternPairsModel" (187 : Nat) "PatternPairsModel" "kind" "[I") ∈ lw_all := lw_g (lw_at lw_m4 181 rfl) rfl
theorem q960 : (Jvm.Cond.fieldLink "PatternPairsModel" (206 : Nat) "PatternPairsModel" "newKind" "[I") ∈ lw_all := lw_g (lw_at lw_m4 182 rfl) rfl
theorem q961 : (Jvm.Cond.fieldLink "PatternPairsModel" (199 : Nat) "PatternPairsModel" "first" "[I") ∈ lw_all := lw_g (lw_at lw_m4 183 rfl) rfl
theorem q962 : (Jvm.Cond.fieldLink "PatternPairsModel" (193 : Nat) "PatternPairsModel" "kinds" "I") ∈ lw_all := lw_g (lw_at lw_m4 184 rfl) rfl
theorem q963 : (Jvm.Cond.fieldLink "PatternPairsModel" (219 : Nat) "PatternPairsModel" "leads" "[I") ∈ lw_all := lw_g (lw_at lw_m4 185 rfl) rfl
theorem q964 : (Jvm.Cond.fieldLink "PatternPairsModel" (222 : Nat) "PatternPairsModel" "sideStates" "[I") ∈ lw_all := lw_g (lw_at lw_m4 186 rfl) rfl
theorem q965 : (Jvm.Cond.fieldLink "PatternPairsModel" (225 : Nat) "PatternPairsModel" "ends" "[Z") ∈ lw_all := lw_g (lw_at lw_m4 187 rfl) rfl
theorem q966 : (Jvm.Cond.fieldLink "PatternPairsModel" (229 : Nat) "PatternPairsModel" "text" "[B") ∈ lw_all := lw_g (lw_at lw_m4 188 rfl) rfl
theorem q967 : (Jvm.Cond.fieldLink "PatternPairsModel" (276 : Nat) "PatternPairsModel" "textLong" "I") ∈ lw_all := lw_g (lw_at lw_m4 189 rfl) rfl
theorem q968 : (Jvm.Cond.fieldLink "PatternPairsModel" (232 : Nat) "PatternPairsModel" "queue" "[I") ∈ lw_all := lw_g (lw_at lw_m4 190 rfl) rfl
theorem q969 : (Jvm.Cond.fieldLink "PatternPairsModel" (235 : Nat) "PatternPairsModel" "from" "[I") ∈ lw_all := lw_g (lw_at lw_m4 191 rfl) rfl
theorem q970 : (Jvm.Cond.fieldLink "PatternPairsModel" (238 : Nat) "PatternPairsModel" "by" "[B") ∈ lw_all := lw_g (lw_at lw_m4 192 rfl) rfl
theorem q971 : (Jvm.Cond.fieldLink "PatternPairsModel" (241 : Nat) "PatternPairsModel" "ways" "[J") ∈ lw_all := lw_g (lw_at lw_m4 193 rfl) rfl
theorem q972 : (Jvm.Cond.fieldLink "PatternPairsModel" (244 : Nat) "PatternPairsModel" "before" "[J") ∈ lw_all := lw_g (lw_at lw_m4 194 rfl) rfl
theorem q973 : (Jvm.Cond.laysFinal "PatternPairsModel" "PatternPairsModel" "tape" "[B") ∈ lw_all := lw_g (lw_at lw_m4 195 rfl) rfl
theorem q974 : (Jvm.Cond.soleField "PatternPairsModel" "tape") ∈ lw_all := lw_g (lw_at lw_m4 196 rfl) rfl
theorem q975 : (Jvm.Cond.lays "PatternPairsModel" "PatternPairsModel" "taped" "I") ∈ lw_all := lw_g (lw_at lw_m4 197 rfl) rfl
theorem q976 : (Jvm.Cond.soleField "PatternPairsModel" "taped") ∈ lw_all := lw_g (lw_at lw_m4 198 rfl) rfl
theorem q977 : (Jvm.Cond.lays "PatternPairsModel" "PatternPairsModel" "place" "I") ∈ lw_all := lw_g (lw_at lw_m4 199 rfl) rfl
theorem q978 : (Jvm.Cond.soleField "PatternPairsModel" "place") ∈ lw_all := lw_g (lw_at lw_m4 200 rfl) rfl
theorem q979 : (Jvm.Cond.lays "PatternPairsModel" "PatternPairsModel" "thrown" "I") ∈ lw_all := lw_g (lw_at lw_m4 201 rfl) rfl
theorem q980 : (Jvm.Cond.soleField "PatternPairsModel" "thrown") ∈ lw_all := lw_g (lw_at lw_m4 202 rfl) rfl
theorem q981 : (Jvm.Cond.lays "PatternPairsModel" "PatternPairsModel" "op" "[I") ∈ lw_all := lw_g (lw_at lw_m4 203 rfl) rfl
theorem q982 : (Jvm.Cond.soleField "PatternPairsModel" "op") ∈ lw_all := lw_g (lw_at lw_m4 204 rfl) rfl
theorem q983 : (Jvm.Cond.lays "PatternPairsModel" "PatternPairsModel" "arg" "[I") ∈ lw_all := lw_g (lw_at lw_m4 205 rfl) rfl
theorem q984 : (Jvm.Cond.soleField "PatternPairsModel" "arg") ∈ lw_all := lw_g (lw_at lw_m4 206 rfl) rfl
theorem q985 : (Jvm.Cond.lays "PatternPairsModel" "PatternPairsModel" "many" "I") ∈ lw_all := lw_g (lw_at lw_m4 207 rfl) rfl
theorem q986 : (Jvm.Cond.soleField "PatternPairsModel" "many") ∈ lw_all := lw_g (lw_at lw_m4 208 rfl) rfl
theorem q987 : (Jvm.Cond.lays "PatternPairsModel" "PatternPairsModel" "low" "[J") ∈ lw_all := lw_g (lw_at lw_m4 209 rfl) rfl
theorem q988 : (Jvm.Cond.soleField "PatternPairsModel" "low") ∈ lw_all := lw_g (lw_at lw_m4 210 rfl) rfl
theorem q989 : (Jvm.Cond.lays "PatternPairsModel" "PatternPairsModel" "high" "[J") ∈ lw_all := lw_g (lw_at lw_m4 211 rfl) rfl
theorem q990 : (Jvm.Cond.soleField "PatternPairsModel" "high") ∈ lw_all := lw_g (lw_at lw_m4 212 rfl) rfl
theorem q991 : (Jvm.Cond.lays "PatternPairsModel" "PatternPairsModel" "masks" "I") ∈ lw_all := lw_g (lw_at lw_m4 213 rfl) rfl
theorem q992 : (Jvm.Cond.soleField "PatternPairsModel" "masks") ∈ lw_all := lw_g (lw_at lw_m4 214 rfl) rfl
theorem q993 : (Jvm.Cond.lays "PatternPairsModel" "PatternPairsModel" "at" "I") ∈ lw_all := lw_g (lw_at lw_m4 215 rfl) rfl
theorem q994 : (Jvm.Cond.soleField "PatternPairsModel" "at") ∈ lw_all := lw_g (lw_at lw_m4 216 rfl) rfl
theorem q995 : (Jvm.Cond.lays "PatternPairsModel" "PatternPairsModel" "readLow" "J") ∈ lw_all := lw_g (lw_at lw_m4 217 rfl) rfl
theorem q996 : (Jvm.Cond.soleField "PatternPairsModel" "readLow") ∈ lw_all := lw_g (lw_at lw_m4 218 rfl) rfl
theorem q997 : (Jvm.Cond.lays "PatternPairsModel" "PatternPairsModel" "readHigh" "J") ∈ lw_all := lw_g (lw_at lw_m4 219 rfl) rfl
theorem q998 : (Jvm.Cond.soleField "PatternPairsModel" "readHigh") ∈ lw_all := lw_g (lw_at lw_m4 220 rfl) rfl
theorem q999 : (Jvm.Cond.laysFinal "PatternPairsModel" "PatternPairsModel" "group" "[I") ∈ lw_all := lw_g (lw_at lw_m4 221 rfl) rfl
theorem q1000 : (Jvm.Cond.soleField "PatternPairsModel" "group") ∈ lw_all := lw_g (lw_at lw_m4 222 rfl) rfl
theorem q1001 : (Jvm.Cond.laysFinal "PatternPairsModel" "PatternPairsModel" "choice" "[I") ∈ lw_all := lw_g (lw_at lw_m4 223 rfl) rfl
theorem q1002 : (Jvm.Cond.soleField "PatternPairsModel" "choice") ∈ lw_all := lw_g (lw_at lw_m4 224 rfl) rfl
theorem q1003 : (Jvm.Cond.laysFinal "PatternPairsModel" "PatternPairsModel" "chain" "[I") ∈ lw_all := lw_g (lw_at lw_m4 225 rfl) rfl
theorem q1004 : (Jvm.Cond.soleField "PatternPairsModel" "chain") ∈ lw_all := lw_g (lw_at lw_m4 226 rfl) rfl
theorem q1005 : (Jvm.Cond.laysFinal "PatternPairsModel" "PatternPairsModel" "hasEmpty" "[Z") ∈ lw_all := lw_g (lw_at lw_m4 227 rfl) rfl
theorem q1006 : (Jvm.Cond.soleField "PatternPairsModel" "hasEmpty") ∈ lw_all := lw_g (lw_at lw_m4 228 rfl) rfl
theorem q1007 : (Jvm.Cond.laysFinal "PatternPairsModel" "PatternPairsModel" "set" "[J") ∈ lw_all := lw_g (lw_at lw_m4 229 rfl) rfl
theorem q1008 : (Jvm.Cond.soleField "PatternPairsModel" "set") ∈ lw_all := lw_g (lw_at lw_m4 230 rfl) rfl
theorem q1009 : (Jvm.Cond.laysFinal "PatternPairsModel" "PatternPairsModel" "label" "[I") ∈ lw_all := lw_g (lw_at lw_m4 231 rfl) rfl
theorem q1010 : (Jvm.Cond.soleField "PatternPairsModel" "label") ∈ lw_all := lw_g (lw_at lw_m4 232 rfl) rfl
theorem q1011 : (Jvm.Cond.laysFinal "PatternPairsModel" "PatternPairsModel" "next" "[I") ∈ lw_all := lw_g (lw_at lw_m4 233 rfl) rfl
theorem q1012 : (Jvm.Cond.soleField "PatternPairsModel" "next") ∈ lw_all := lw_g (lw_at lw_m4 234 rfl) rfl
theorem q1013 : (Jvm.Cond.lays "PatternPairsModel" "PatternPairsModel" "states" "I") ∈ lw_all := lw_g (lw_at lw_m4 235 rfl) rfl
theorem q1014 : (Jvm.Cond.soleField "PatternPairsModel" "states") ∈ lw_all := lw_g (lw_at lw_m4 236 rfl) rfl
theorem q1015 : (Jvm.Cond.lays "PatternPairsModel" "PatternPairsModel" "stamp" "[I") ∈ lw_all := lw_g (lw_at lw_m4 237 rfl) rfl
theorem q1016 : (Jvm.Cond.soleField "PatternPairsModel" "stamp") ∈ lw_all := lw_g (lw_at lw_m4 238 rfl) rfl
theorem q1017 : (Jvm.Cond.lays "PatternPairsModel" "PatternPairsModel" "stack" "[I") ∈ lw_all := lw_g (lw_at lw_m4 239 rfl) rfl
theorem q1018 : (Jvm.Cond.soleField "PatternPairsModel" "stack") ∈ lw_all := lw_g (lw_at lw_m5 0 rfl) rfl
theorem q1019 : (Jvm.Cond.lays "PatternPairsModel" "PatternPairsModel" "stamps" "I") ∈ lw_all := lw_g (lw_at lw_m5 1 rfl) rfl
theorem q1020 : (Jvm.Cond.soleField "PatternPairsModel" "stamps") ∈ lw_all := lw_g (lw_at lw_m5 2 rfl) rfl
theorem q1021 : (Jvm.Cond.lays "PatternPairsModel" "PatternPairsModel" "piled" "I") ∈ lw_all := lw_g (lw_at lw_m5 3 rfl) rfl
theorem q1022 : (Jvm.Cond.soleField "PatternPairsModel" "piled") ∈ lw_all := lw_g (lw_at lw_m5 4 rfl) rfl
theorem q1023 : (Jvm.Cond.laysFinal "PatternPairsModel" "PatternPairsModel" "reading" "[I") ∈ lw_all := lw_g (lw_at lw_m5 5 rfl) rfl
theorem q1024 : (Jvm.Cond.soleField "PatternPairsModel" "reading") ∈ lw_all := lw_g (lw_at lw_m5 6 rfl) rfl
theorem q1025 : (Jvm.Cond.lays "PatternPairsModel" "PatternPairsModel" "readings" "I") ∈ lw_all := lw_g (lw_at lw_m5 7 rfl) rfl
theorem q1026 : (Jvm.Cond.soleField "PatternPairsModel" "readings") ∈ lw_all := lw_g (lw_at lw_m5 8 rfl) rfl
theorem q1027 : (Jvm.Cond.laysFinal "PatternPairsModel" "PatternPairsModel" "where" "[I") ∈ lw_all := lw_g (lw_at lw_m5 9 rfl) rfl
theorem q1028 : (Jvm.Cond.soleField "PatternPairsModel" "where") ∈ lw_all := lw_g (lw_at lw_m5 10 rfl) rfl
theorem q1029 : (Jvm.Cond.laysFinal "PatternPairsModel" "PatternPairsModel" "built" "[J") ∈ lw_all := lw_g (lw_at lw_m5 11 rfl) rfl
theorem q1030 : (Jvm.Cond.soleField "PatternPairsModel" "built") ∈ lw_all := lw_g (lw_at lw_m5 12 rfl) rfl
theorem q1031 : (Jvm.Cond.laysFinal "PatternPairsModel" "PatternPairsModel" "heads" "[I") ∈ lw_all := lw_g (lw_at lw_m5 13 rfl) rfl
theorem q1032 : (Jvm.Cond.soleField "PatternPairsModel" "heads") ∈ lw_all := lw_g (lw_at lw_m5 14 rfl) rfl
theorem q1033 : (Jvm.Cond.laysFinal "PatternPairsModel" "PatternPairsModel" "chained" "[I") ∈ lw_all := lw_g (lw_at lw_m5 15 rfl) rfl
theorem q1034 : (Jvm.Cond.soleField "PatternPairsModel" "chained") ∈ lw_all := lw_g (lw_at lw_m5 16 rfl) rfl
theorem q1035 : (Jvm.Cond.lays "PatternPairsModel" "PatternPairsModel" "isEmpty" "Z") ∈ lw_all := lw_g (lw_at lw_m5 17 rfl) rfl
theorem q1036 : (Jvm.Cond.soleField "PatternPairsModel" "isEmpty") ∈ lw_all := lw_g (lw_at lw_m5 18 rfl) rfl
theorem q1037 : (Jvm.Cond.laysFinal "PatternPairsModel" "PatternPairsModel" "lives" "[Z") ∈ lw_all := lw_g (lw_at lw_m5 19 rfl) rfl
theorem q1038 : (Jvm.Cond.soleField "PatternPairsModel" "lives") ∈ lw_all := lw_g (lw_at lw_m5 20 rfl) rfl
theorem q1039 : (Jvm.Cond.laysFinal "PatternPairsModel" "PatternPairsModel" "kind" "[I") ∈ lw_all := lw_g (lw_at lw_m5 21 rfl) rfl
theorem q1040 : (Jvm.Cond.soleField "PatternPairsModel" "kind") ∈ lw_all := lw_g (lw_at lw_m5 22 rfl) rfl
theorem q1041 : (Jvm.Cond.laysFinal "PatternPairsModel" "PatternPairsModel" "newKind" "[I") ∈ lw_all := lw_g (lw_at lw_m5 23 rfl) rfl
theorem q1042 : (Jvm.Cond.soleField "PatternPairsModel" "newKind") ∈ lw_all := lw_g (lw_at lw_m5 24 rfl) rfl
theorem q1043 : (Jvm.Cond.laysFinal "PatternPairsModel" "PatternPairsModel" "first" "[I") ∈ lw_all := lw_g (lw_at lw_m5 25 rfl) rfl
theorem q1044 : (Jvm.Cond.soleField "PatternPairsModel" "first") ∈ lw_all := lw_g (lw_at lw_m5 26 rfl) rfl
theorem q1045 : (Jvm.Cond.lays "PatternPairsModel" "PatternPairsModel" "kinds" "I") ∈ lw_all := lw_g (lw_at lw_m5 27 rfl) rfl
theorem q1046 : (Jvm.Cond.soleField "PatternPairsModel" "kinds") ∈ lw_all := lw_g (lw_at lw_m5 28 rfl) rfl
theorem q1047 : (Jvm.Cond.laysFinal "PatternPairsModel" "PatternPairsModel" "leads" "[I") ∈ lw_all := lw_g (lw_at lw_m5 29 rfl) rfl
theorem q1048 : (Jvm.Cond.soleField "PatternPairsModel" "leads") ∈ lw_all := lw_g (lw_at lw_m5 30 rfl) rfl
theorem q1049 : (Jvm.Cond.laysFinal "PatternPairsModel" "PatternPairsModel" "sideStates" "[I") ∈ lw_all := lw_g (lw_at lw_m5 31 rfl) rfl
theorem q1050 : (Jvm.Cond.soleField "PatternPairsModel" "sideStates") ∈ lw_all := lw_g (lw_at lw_m5 32 rfl) rfl
theorem q1051 : (Jvm.Cond.laysFinal "PatternPairsModel" "PatternPairsModel" "ends" "[Z") ∈ lw_all := lw_g (lw_at lw_m5 33 rfl) rfl
theorem q1052 : (Jvm.Cond.soleField "PatternPairsModel" "ends") ∈ lw_all := lw_g (lw_at lw_m5 34 rfl) rfl
theorem q1053 : (Jvm.Cond.laysFinal "PatternPairsModel" "PatternPairsModel" "text" "[B") ∈ lw_all := lw_g (lw_at lw_m5 35 rfl) rfl
theorem q1054 : (Jvm.Cond.soleField "PatternPairsModel" "text") ∈ lw_all := lw_g (lw_at lw_m5 36 rfl) rfl
theorem q1055 : (Jvm.Cond.lays "PatternPairsModel" "PatternPairsModel" "textLong" "I") ∈ lw_all := lw_g (lw_at lw_m5 37 rfl) rfl
theorem q1056 : (Jvm.Cond.soleField "PatternPairsModel" "textLong") ∈ lw_all := lw_g (lw_at lw_m5 38 rfl) rfl
theorem q1057 : (Jvm.Cond.laysFinal "PatternPairsModel" "PatternPairsModel" "queue" "[I") ∈ lw_all := lw_g (lw_at lw_m5 39 rfl) rfl
theorem q1058 : (Jvm.Cond.soleField "PatternPairsModel" "queue") ∈ lw_all := lw_g (lw_at lw_m5 40 rfl) rfl
theorem q1059 : (Jvm.Cond.laysFinal "PatternPairsModel" "PatternPairsModel" "from" "[I") ∈ lw_all := lw_g (lw_at lw_m5 41 rfl) rfl
theorem q1060 : (Jvm.Cond.soleField "PatternPairsModel" "from") ∈ lw_all := lw_g (lw_at lw_m5 42 rfl) rfl
theorem q1061 : (Jvm.Cond.laysFinal "PatternPairsModel" "PatternPairsModel" "by" "[B") ∈ lw_all := lw_g (lw_at lw_m5 43 rfl) rfl
theorem q1062 : (Jvm.Cond.soleField "PatternPairsModel" "by") ∈ lw_all := lw_g (lw_at lw_m5 44 rfl) rfl
theorem q1063 : (Jvm.Cond.laysFinal "PatternPairsModel" "PatternPairsModel" "ways" "[J") ∈ lw_all := lw_g (lw_at lw_m5 45 rfl) rfl
theorem q1064 : (Jvm.Cond.soleField "PatternPairsModel" "ways") ∈ lw_all := lw_g (lw_at lw_m5 46 rfl) rfl
theorem q1065 : (Jvm.Cond.laysFinal "PatternPairsModel" "PatternPairsModel" "before" "[J") ∈ lw_all := lw_g (lw_at lw_m5 47 rfl) rfl
theorem q1066 : (Jvm.Cond.soleField "PatternPairsModel" "before") ∈ lw_all := lw_g (lw_at lw_m5 48 rfl) rfl
theorem q1067 : (Jvm.Cond.superclass "PatternPairsModel" "java/lang/Object") ∈ lw_all := lw_g (lw_at lw_m5 49 rfl) rfl
theorem q1069 : (Jvm.Cond.instanceMethod ({ cls := "PatternPairsModel", name := "feed", desc := "(IIIII)I" } : Jvm.MethodName)) ∈ lw_all := lw_g (lw_at lw_m5 51 rfl) rfl
theorem q1070 : (Jvm.Cond.selects "PatternPairsModel" ({ cls := "PatternPairsModel", name := "feed", desc := "(IIIII)I" } : Jvm.MethodName) ({ cls := "PatternPairsModel", name := "feed", desc := "(IIIII)I" } : Jvm.MethodName)) ∈ lw_all := lw_g (lw_at lw_m5 52 rfl) rfl
theorem q1071 : (Jvm.Cond.code ({ cls := "PatternPairsModel", name := "feed", desc := "(IIIII)I" } : Jvm.MethodName) prog_7_method_29_code (6 : Nat) (Option.some Jvm.ClassFile.FieldType.int)) ∈ lw_all := lw_g (lw_at lw_m5 53 rfl) rfl
theorem q1072 : (Jvm.Cond.methodLink "PatternPairsModel" (267 : Nat) ({ cls := "PatternPairsModel", name := "refuse", desc := "(I)I" } : Jvm.MethodName)) ∈ lw_all := lw_g (lw_at lw_m5 54 rfl) rfl
theorem q1073 : (Jvm.Cond.privateMethod ({ cls := "PatternPairsModel", name := "refuse", desc := "(I)I" } : Jvm.MethodName)) ∈ lw_tbl := lw_at lw_m5 55 rfl
theorem q1074 : (Jvm.Cond.instanceMethod ({ cls := "PatternPairsModel", name := "refuse", desc := "(I)I" } : Jvm.MethodName)) ∈ lw_all := lw_g (lw_at lw_m5 56 rfl) rfl
theorem q1075 : (Jvm.Cond.code ({ cls := "PatternPairsModel", name := "refuse", desc := "(I)I" } : Jvm.MethodName) prog_7_method_2_code (2 : Nat) (Option.some Jvm.ClassFile.FieldType.int)) ∈ lw_all := lw_g (lw_at lw_m5 57 rfl) rfl
theorem q1076 : (Jvm.Cond.methodLink "PatternPairsModel" (270 : Nat) ({ cls := "PatternPairsModel", name := "four", desc := "(I)V" } : Jvm.MethodName)) ∈ lw_all := lw_g (lw_at lw_m5 58 rfl) rfl
theorem q1077 : (Jvm.Cond.privateMethod ({ cls := "PatternPairsModel", name := "four", desc := "(I)V" } : Jvm.MethodName)) ∈ lw_tbl := lw_at lw_m5 59 rfl
theorem q1078 : (Jvm.Cond.instanceMethod ({ cls := "PatternPairsModel", name := "four", desc := "(I)V" } : Jvm.MethodName)) ∈ lw_all := lw_g (lw_at lw_m5 60 rfl) rfl
theorem q1079 : (Jvm.Cond.code ({ cls := "PatternPairsModel", name := "four", desc := "(I)V" } : Jvm.MethodName) prog_7_method_30_code (3 : Nat) (Option.none : Option Jvm.ClassFile.FieldType)) ∈ lw_all := lw_g (lw_at lw_m5 61 rfl) rfl
theorem q1081 : (Jvm.Cond.instanceMethod ({ cls := "PatternPairsModel", name := "end", desc := "(I)I" } : Jvm.MethodName)) ∈ lw_all := lw_g (lw_at lw_m5 63 rfl) rfl
theorem q1082 : (Jvm.Cond.selects "PatternPairsModel" ({ cls := "PatternPairsModel", name := "end", desc := "(I)I" } : Jvm.MethodName) ({ cls := "PatternPairsModel", name := "end", desc := "(I)I" } : Jvm.MethodName)) ∈ lw_all := lw_g (lw_at lw_m5 64 rfl) rfl
theorem q1083 : (Jvm.Cond.code ({ cls := "PatternPairsModel", name := "end", desc := "(I)I" } : Jvm.MethodName) prog_7_method_31_code (2 : Nat) (Option.some Jvm.ClassFile.FieldType.int)) ∈ lw_all := lw_g (lw_at lw_m5 65 rfl) rfl
theorem q1085 : (Jvm.Cond.instanceMethod ({ cls := "PatternPairsModel", name := "set", desc := "(I)I" } : Jvm.MethodName)) ∈ lw_all := lw_g (lw_at lw_m5 67 rfl) rfl
theorem q1086 : (Jvm.Cond.selects "PatternPairsModel" ({ cls := "PatternPairsModel", name := "set", desc := "(I)I" } : Jvm.MethodName) ({ cls := "PatternPairsModel", name := "set", desc := "(I)I" } : Jvm.MethodName)) ∈ lw_all := lw_g (lw_at lw_m5 68 rfl) rfl
theorem q1087 : (Jvm.Cond.code ({ cls := "PatternPairsModel", name := "set", desc := "(I)I" } : Jvm.MethodName) prog_7_method_33_code (4 : Nat) (Option.some Jvm.ClassFile.FieldType.int)) ∈ lw_all := lw_g (lw_at lw_m5 69 rfl) rfl
theorem q1088 : (Jvm.Cond.methodLink "PatternPairsModel" (273 : Nat) ({ cls := "PatternPairsModel", name := "take", desc := "()I" } : Jvm.MethodName)) ∈ lw_all := lw_g (lw_at lw_m5 70 rfl) rfl
theorem q1089 : (Jvm.Cond.privateMethod ({ cls := "PatternPairsModel", name := "take", desc := "()I" } : Jvm.MethodName)) ∈ lw_tbl := lw_at lw_m5 71 rfl
theorem q1090 : (Jvm.Cond.instanceMethod ({ cls := "PatternPairsModel", name := "take", desc := "()I" } : Jvm.MethodName)) ∈ lw_all := lw_g (lw_at lw_m5 72 rfl) rfl
theorem q1091 : (Jvm.Cond.code ({ cls := "PatternPairsModel", name := "take", desc := "()I" } : Jvm.MethodName) prog_7_method_32_code (2 : Nat) (Option.some Jvm.ClassFile.FieldType.int)) ∈ lw_all := lw_g (lw_at lw_m5 73 rfl) rfl
theorem q1093 : (Jvm.Cond.instanceMethod ({ cls := "PatternPairsModel", name := "empty", desc := "(I)Z" } : Jvm.MethodName)) ∈ lw_all := lw_g (lw_at lw_m5 75 rfl) rfl
theorem q1094 : (Jvm.Cond.selects "PatternPairsModel" ({ cls := "PatternPairsModel", name := "empty", desc := "(I)Z" } : Jvm.MethodName) ({ cls := "PatternPairsModel", name := "empty", desc := "(I)Z" } : Jvm.MethodName)) ∈ lw_all := lw_g (lw_at lw_m5 76 rfl) rfl
theorem q1095 : (Jvm.Cond.code ({ cls := "PatternPairsModel", name := "empty", desc := "(I)Z" } : Jvm.MethodName) prog_7_method_34_code (3 : Nat) (Option.some Jvm.ClassFile.FieldType.boolean)) ∈ lw_all := lw_g (lw_at lw_m5 77 rfl) rfl
theorem q1097 : (Jvm.Cond.instanceMethod ({ cls := "PatternPairsModel", name := "fits", desc := "(I)Z" } : Jvm.MethodName)) ∈ lw_all := lw_g (lw_at lw_m5 79 rfl) rfl
theorem q1098 : (Jvm.Cond.selects "PatternPairsModel" ({ cls := "PatternPairsModel", name := "fits", desc := "(I)Z" } : Jvm.MethodName) ({ cls := "PatternPairsModel", name := "fits", desc := "(I)Z" } : Jvm.MethodName)) ∈ lw_all := lw_g (lw_at lw_m5 80 rfl) rfl
theorem q1099 : (Jvm.Cond.code ({ cls := "PatternPairsModel", name := "fits", desc := "(I)Z" } : Jvm.MethodName) prog_7_method_35_code (5 : Nat) (Option.some Jvm.ClassFile.FieldType.boolean)) ∈ lw_all := lw_g (lw_at lw_m5 81 rfl) rfl
theorem q1101 : (Jvm.Cond.instanceMethod ({ cls := "PatternPairsModel", name := "first", desc := "(I)I" } : Jvm.MethodName)) ∈ lw_all := lw_g (lw_at lw_m5 83 rfl) rfl
theorem q1102 : (Jvm.Cond.selects "PatternPairsModel" ({ cls := "PatternPairsModel", name := "first", desc := "(I)I" } : Jvm.MethodName) ({ cls := "PatternPairsModel", name := "first", desc := "(I)I" } : Jvm.MethodName)) ∈ lw_all := lw_g (lw_at lw_m5 84 rfl) rfl
theorem q1103 : (Jvm.Cond.code ({ cls := "PatternPairsModel", name := "first", desc := "(I)I" } : Jvm.MethodName) prog_7_method_37_code (7 : Nat) (Option.some Jvm.ClassFile.FieldType.int)) ∈ lw_all := lw_g (lw_at lw_m5 85 rfl) rfl
theorem q1104 : (Jvm.Cond.methodLink "PatternPairsModel" (279 : Nat) ({ cls := "PatternPairsModel", name := "is", desc := "(II)Z" } : Jvm.MethodName)) ∈ lw_all := lw_g (lw_at lw_m5 86 rfl) rfl
theorem q1105 : (Jvm.Cond.privateMethod ({ cls := "PatternPairsModel", name := "is", desc := "(II)Z" } : Jvm.MethodName)) ∈ lw_tbl := lw_at lw_m5 87 rfl
theorem q1106 : (Jvm.Cond.instanceMethod ({ cls := "PatternPairsModel", name := "is", desc := "(II)Z" } : Jvm.MethodName)) ∈ lw_all := lw_g (lw_at lw_m5 88 rfl) rfl
theorem q1107 : (Jvm.Cond.code ({ cls := "PatternPairsModel", name := "is", desc := "(II)Z" } : Jvm.MethodName) prog_7_method_36_code (5 : Nat) (Option.some Jvm.ClassFile.FieldType.boolean)) ∈ lw_all := lw_g (lw_at lw_m5 89 rfl) rfl
theorem q1108 : (Jvm.Cond.methodLink "PatternPairsModel" (282 : Nat) ({ cls := "PatternPairsModel", name := "tell", desc := "(I)I" } : Jvm.MethodName)) ∈ lw_all := lw_g (lw_at lw_m5 90 rfl) rfl
theorem q1109 : (Jvm.Cond.privateMethod ({ cls := "PatternPairsModel", name := "tell", desc := "(I)I" } : Jvm.MethodName)) ∈ lw_tbl := lw_at lw_m5 91 rfl
theorem q1110 : (Jvm.Cond.instanceMethod ({ cls := "PatternPairsModel", name := "tell", desc := "(I)I" } : Jvm.MethodName)) ∈ lw_all := lw_g (lw_at lw_m5 92 rfl) rfl
theorem q1111 : (Jvm.Cond.code ({ cls := "PatternPairsModel", name := "tell", desc := "(I)I" } : Jvm.MethodName) prog_7_method_38_code (4 : Nat) (Option.some Jvm.ClassFile.FieldType.int)) ∈ lw_all := lw_g (lw_at lw_m5 93 rfl) rfl
theorem q1113 : (Jvm.Cond.instanceMethod ({ cls := "PatternPairsModel", name := "octet", desc := "(I)I" } : Jvm.MethodName)) ∈ lw_all := lw_g (lw_at lw_m5 95 rfl) rfl
theorem q1114 : (Jvm.Cond.selects "PatternPairsModel" ({ cls := "PatternPairsModel", name := "octet", desc := "(I)I" } : Jvm.MethodName) ({ cls := "PatternPairsModel", name := "octet", desc := "(I)I" } : Jvm.MethodName)) ∈ lw_all := lw_g (lw_at lw_m5 96 rfl) rfl
theorem q1115 : (Jvm.Cond.code ({ cls := "PatternPairsModel", name := "octet", desc := "(I)I" } : Jvm.MethodName) prog_7_method_39_code (2 : Nat) (Option.some Jvm.ClassFile.FieldType.int)) ∈ lw_all := lw_g (lw_at lw_m5 97 rfl) rfl
theorem q1117 : (Jvm.Cond.instanceMethod ({ cls := "PatternPairsModel", name := "count", desc := "(II)J" } : Jvm.MethodName)) ∈ lw_all := lw_g (lw_at lw_m5 99 rfl) rfl
theorem q1118 : (Jvm.Cond.selects "PatternPairsModel" ({ cls := "PatternPairsModel", name := "count", desc := "(II)J" } : Jvm.MethodName) ({ cls := "PatternPairsModel", name := "count", desc := "(II)J" } : Jvm.MethodName)) ∈ lw_all := lw_g (lw_at lw_m5 100 rfl) rfl
theorem q1119 : (Jvm.Cond.code ({ cls := "PatternPairsModel", name := "count", desc := "(II)J" } : Jvm.MethodName) prog_7_method_40_code (7 : Nat) (Option.some Jvm.ClassFile.FieldType.long)) ∈ lw_all := lw_g (lw_at lw_m5 101 rfl) rfl
theorem q1121 : (Jvm.Cond.instanceMethod ({ cls := "PatternPairsModel", name := "place", desc := "()I" } : Jvm.MethodName)) ∈ lw_all := lw_g (lw_at lw_m5 103 rfl) rfl
theorem q1122 : (Jvm.Cond.selects "PatternPairsModel" ({ cls := "PatternPairsModel", name := "place", desc := "()I" } : Jvm.MethodName) ({ cls := "PatternPairsModel", name := "place", desc := "()I" } : Jvm.MethodName)) ∈ lw_all := lw_g (lw_at lw_m5 104 rfl) rfl
theorem q1123 : (Jvm.Cond.code ({ cls := "PatternPairsModel", name := "place", desc := "()I" } : Jvm.MethodName) prog_7_method_41_code (1 : Nat) (Option.some Jvm.ClassFile.FieldType.int)) ∈ lw_all := lw_g (lw_at lw_m5 105 rfl) rfl
theorem in_X6 : ∀ w ∈ wsX60, w ∈ lw_all := lw_in wsX60 [973, 975, 977, 979, 981, 983, 985, 987, 989, 991, 993, 995, 997, 999, 1001, 1003, 1005, 1007, 1009, 1011, 1013, 1015, 1017, 1019, 1021, 1023, 1025, 1027, 1029, 1031, 1033, 1035, 1037, 1039, 1041, 1043, 1045, 1047, 1049, 1051, 1053, 1055, 1057, 1059, 1061, 1063, 1065] (by decide +kernel) (by decide +kernel)

/-! java/util/Arrays -/
set_option maxRecDepth 100000
def RJ11 : String := "java/util/Arrays"
abbrev cJ11_copyOf : ByteArray := prog_24_method_123_code
def yJ11_copyOf : MethodName := ⟨RJ11, "copyOf", "([II)[I"⟩
theorem q76 : (Jvm.Cond.initialized "java/util/Arrays") ∈ lw_all := lw_g (lw_at lw_m1 18 rfl) rfl
theorem q826 : (Jvm.Cond.static ({ cls := "java/util/Arrays", name := "copyOf", desc := "([II)[I" } : Jvm.MethodName)) ∈ lw_all := lw_g (lw_at lw_m4 48 rfl) rfl
theorem q827 : (Jvm.Cond.code ({ cls := "java/util/Arrays", name := "copyOf", desc := "([II)[I" } : Jvm.MethodName) prog_24_method_123_code (3 : Nat) (Option.some (Jvm.ClassFile.FieldType.array Jvm.ClassFile.FieldType.int))) ∈ lw_all := lw_g (lw_at lw_m4 49 rfl) rfl
theorem q828 : (Jvm.Cond.methodLink "java/util/Arrays" (316 : Nat) ({ cls := "[I", name := "clone", desc := "()Ljava/lang/Object;" } : Jvm.MethodName)) ∈ lw_all := lw_g (lw_at lw_m4 50 rfl) rfl
theorem q834 : (Jvm.Cond.classLink "java/util/Arrays" (317 : Nat) "[I") ∈ lw_all := lw_g (lw_at lw_m4 56 rfl) rfl
theorem q835 : (Jvm.Cond.methodLink "java/util/Arrays" (304 : Nat) ({ cls := "java/lang/Math", name := "min", desc := "(II)I" } : Jvm.MethodName)) ∈ lw_all := lw_g (lw_at lw_m4 57 rfl) rfl
theorem q836 : (Jvm.Cond.methodLink "java/util/Arrays" (150 : Nat) ({ cls := "java/lang/System", name := "arraycopy", desc := "(Ljava/lang/Object;ILjava/lang/Object;II)V" } : Jvm.MethodName)) ∈ lw_all := lw_g (lw_at lw_m4 58 rfl) rfl

/-! java/lang/IndexOutOfBoundsException -/
set_option maxRecDepth 100000
def RJ12 : String := "java/lang/IndexOutOfBoundsException"
def TJ12 : u_T := fun k => match k with
  | 0 => ("java/lang/Throwable", "cause", "Ljava/lang/Throwable;", false)
  | 1 => ("java/lang/Throwable", "stackTrace", "[Ljava/lang/StackTraceElement;", false)
  | 2 => ("java/lang/Throwable", "suppressedExceptions", "Ljava/util/List;", false)
  | 3 => ("java/lang/Throwable", "detailMessage", "Ljava/lang/String;", false)
  | 4 => ("java/lang/Throwable", "backtrace", "Ljava/lang/Object;", false)
  | _ => ("java/lang/Throwable", "depth", "I", false)
def tyJ12 : Nat → FieldType := fun k => match k with
  | 0 => .object "java/lang/Throwable"
  | 1 => .array (.object "java/lang/StackTraceElement")
  | 2 => .object "java/util/List"
  | 3 => .object "java/lang/String"
  | 4 => .object "java/lang/Object"
  | _ => .int
abbrev wsJ120 : List Cond := u_ws RJ12 TJ12 6
theorem nmJ12 : ∀ a, a < 6 → ∀ b, b < 6 → a ≠ b → (TJ12 a).2.1 ≠ (TJ12 b).2.1 := by decide +kernel
theorem tyJ12_ok : ∀ k, k < 6 → parseFieldDescriptor (TJ12 k).2.2.1 = some (tyJ12 k) := by decide +kernel
abbrev cJ12_init : ByteArray := prog_13_method_2_code
def yJ12_init : MethodName := ⟨RJ12, "<init>", "(Ljava/lang/String;)V"⟩
abbrev cJ12_init_2 : ByteArray := prog_13_method_1_code
def yJ12_init_2 : MethodName := ⟨RJ12, "<init>", "()V"⟩
theorem q78 : (Jvm.Cond.initialized "java/lang/IndexOutOfBoundsException") ∈ lw_all := lw_g (lw_at lw_m1 20 rfl) rfl
theorem q138 : (Jvm.Cond.selects "java/lang/IndexOutOfBoundsException" ({ cls := "java/lang/Throwable", name := "fillInStackTrace", desc := "()Ljava/lang/Throwable;" } : Jvm.MethodName) ({ cls := "java/lang/Throwable", name := "fillInStackTrace", desc := "()Ljava/lang/Throwable;" } : Jvm.MethodName)) ∈ lw_all := lw_g (lw_at lw_m1 80 rfl) rfl
theorem q585 : (Jvm.Cond.instanceMethod ({ cls := "java/lang/IndexOutOfBoundsException", name := "<init>", desc := "(Ljava/lang/String;)V" } : Jvm.MethodName)) ∈ lw_all := lw_g (lw_at lw_m3 47 rfl) rfl
theorem q586 : (Jvm.Cond.code ({ cls := "java/lang/IndexOutOfBoundsException", name := "<init>", desc := "(Ljava/lang/String;)V" } : Jvm.MethodName) prog_13_method_2_code (2 : Nat) (Option.none : Option Jvm.ClassFile.FieldType)) ∈ lw_all := lw_g (lw_at lw_m3 48 rfl) rfl
theorem q587 : (Jvm.Cond.methodLink "java/lang/IndexOutOfBoundsException" (7 : Nat) ({ cls := "java/lang/RuntimeException", name := "<init>", desc := "(Ljava/lang/String;)V" } : Jvm.MethodName)) ∈ lw_all := lw_g (lw_at lw_m3 49 rfl) rfl
theorem q604 : (Jvm.Cond.declares ({ cls := "java/lang/IndexOutOfBoundsException", name := "<init>", desc := "()V" } : Jvm.MethodName)) ∈ lw_tbl := lw_at lw_m3 66 rfl
theorem q605 : (Jvm.Cond.declares ({ cls := "java/lang/IndexOutOfBoundsException", name := "<init>", desc := "(Ljava/lang/String;)V" } : Jvm.MethodName)) ∈ lw_tbl := lw_at lw_m3 67 rfl
theorem q620 : (Jvm.Cond.instantiable "java/lang/IndexOutOfBoundsException" (6 : Nat)) ∈ lw_all := lw_g (lw_at lw_m3 82 rfl) rfl
theorem q621 : (Jvm.Cond.castable "java/lang/IndexOutOfBoundsException" "java/lang/IndexOutOfBoundsException") ∈ lw_tbl := lw_at lw_m3 83 rfl
theorem q622 : (Jvm.Cond.selects "java/lang/IndexOutOfBoundsException" ({ cls := "java/lang/Throwable", name := "fillInStackTrace", desc := "(I)Ljava/lang/Throwable;" } : Jvm.MethodName) ({ cls := "java/lang/Throwable", name := "fillInStackTrace", desc := "(I)Ljava/lang/Throwable;" } : Jvm.MethodName)) ∈ lw_all := lw_g (lw_at lw_m3 84 rfl) rfl
theorem q623 : (Jvm.Cond.lays "java/lang/IndexOutOfBoundsException" "java/lang/Throwable" "cause" "Ljava/lang/Throwable;") ∈ lw_all := lw_g (lw_at lw_m3 85 rfl) rfl
theorem q624 : (Jvm.Cond.lays "java/lang/IndexOutOfBoundsException" "java/lang/Throwable" "stackTrace" "[Ljava/lang/StackTraceElement;") ∈ lw_all := lw_g (lw_at lw_m3 86 rfl) rfl
theorem q625 : (Jvm.Cond.lays "java/lang/IndexOutOfBoundsException" "java/lang/Throwable" "suppressedExceptions" "Ljava/util/List;") ∈ lw_all := lw_g (lw_at lw_m3 87 rfl) rfl
theorem q626 : (Jvm.Cond.lays "java/lang/IndexOutOfBoundsException" "java/lang/Throwable" "detailMessage" "Ljava/lang/String;") ∈ lw_all := lw_g (lw_at lw_m3 88 rfl) rfl
theorem q627 : (Jvm.Cond.lays "java/lang/IndexOutOfBoundsException" "java/lang/Throwable" "backtrace" "Ljava/lang/Object;") ∈ lw_all := lw_g (lw_at lw_m3 89 rfl) rfl
theorem q629 : (Jvm.Cond.instanceMethod ({ cls := "java/lang/IndexOutOfBoundsException", name := "<init>", desc := "()V" } : Jvm.MethodName)) ∈ lw_all := lw_g (lw_at lw_m3 91 rfl) rfl
theorem q630 : (Jvm.Cond.code ({ cls := "java/lang/IndexOutOfBoundsException", name := "<init>", desc := "()V" } : Jvm.MethodName) prog_13_method_1_code (1 : Nat) (Option.none : Option Jvm.ClassFile.FieldType)) ∈ lw_all := lw_g (lw_at lw_m3 92 rfl) rfl
theorem q631 : (Jvm.Cond.methodLink "java/lang/IndexOutOfBoundsException" (1 : Nat) ({ cls := "java/lang/RuntimeException", name := "<init>", desc := "()V" } : Jvm.MethodName)) ∈ lw_all := lw_g (lw_at lw_m3 93 rfl) rfl
theorem q638 : (Jvm.Cond.lays "java/lang/IndexOutOfBoundsException" "java/lang/Throwable" "depth" "I") ∈ lw_all := lw_g (lw_at lw_m3 100 rfl) rfl
theorem q639 : (Jvm.Cond.superclass "java/lang/IndexOutOfBoundsException" "java/lang/RuntimeException") ∈ lw_all := lw_g (lw_at lw_m3 101 rfl) rfl
theorem in_J12 : ∀ w ∈ wsJ120, w ∈ lw_all := lw_in wsJ120 [623, 624, 625, 626, 627, 638] (by decide +kernel) (by decide +kernel)

/-! java/lang/ArrayIndexOutOfBoundsException -/
set_option maxRecDepth 100000
def RJ13 : String := "java/lang/ArrayIndexOutOfBoundsException"
def TJ13 : u_T := fun k => match k with
  | 0 => ("java/lang/Throwable", "backtrace", "Ljava/lang/Object;", false)
  | 1 => ("java/lang/Throwable", "detailMessage", "Ljava/lang/String;", false)
  | 2 => ("java/lang/Throwable", "cause", "Ljava/lang/Throwable;", false)
  | 3 => ("java/lang/Throwable", "stackTrace", "[Ljava/lang/StackTraceElement;", false)
  | 4 => ("java/lang/Throwable", "depth", "I", false)
  | _ => ("java/lang/Throwable", "suppressedExceptions", "Ljava/util/List;", false)
def tyJ13 : Nat → FieldType := fun k => match k with
  | 0 => .object "java/lang/Object"
  | 1 => .object "java/lang/String"
  | 2 => .object "java/lang/Throwable"
  | 3 => .array (.object "java/lang/StackTraceElement")
  | 4 => .int
  | _ => .object "java/util/List"
abbrev wsJ130 : List Cond := u_ws RJ13 TJ13 6
theorem nmJ13 : ∀ a, a < 6 → ∀ b, b < 6 → a ≠ b → (TJ13 a).2.1 ≠ (TJ13 b).2.1 := by decide +kernel
theorem tyJ13_ok : ∀ k, k < 6 → parseFieldDescriptor (TJ13 k).2.2.1 = some (tyJ13 k) := by decide +kernel
abbrev cJ13_init : ByteArray := prog_8_method_2_code
def yJ13_init : MethodName := ⟨RJ13, "<init>", "(Ljava/lang/String;)V"⟩
theorem q79 : (Jvm.Cond.initialized "java/lang/ArrayIndexOutOfBoundsException") ∈ lw_all := lw_g (lw_at lw_m1 21 rfl) rfl
theorem q136 : (Jvm.Cond.selects "java/lang/ArrayIndexOutOfBoundsException" ({ cls := "java/lang/Throwable", name := "fillInStackTrace", desc := "()Ljava/lang/Throwable;" } : Jvm.MethodName) ({ cls := "java/lang/Throwable", name := "fillInStackTrace", desc := "()Ljava/lang/Throwable;" } : Jvm.MethodName)) ∈ lw_all := lw_g (lw_at lw_m1 78 rfl) rfl
theorem q581 : (Jvm.Cond.instantiable "java/lang/ArrayIndexOutOfBoundsException" (6 : Nat)) ∈ lw_all := lw_g (lw_at lw_m3 43 rfl) rfl
theorem q582 : (Jvm.Cond.instanceMethod ({ cls := "java/lang/ArrayIndexOutOfBoundsException", name := "<init>", desc := "(Ljava/lang/String;)V" } : Jvm.MethodName)) ∈ lw_all := lw_g (lw_at lw_m3 44 rfl) rfl
theorem q583 : (Jvm.Cond.code ({ cls := "java/lang/ArrayIndexOutOfBoundsException", name := "<init>", desc := "(Ljava/lang/String;)V" } : Jvm.MethodName) prog_8_method_2_code (2 : Nat) (Option.none : Option Jvm.ClassFile.FieldType)) ∈ lw_all := lw_g (lw_at lw_m3 45 rfl) rfl
theorem q584 : (Jvm.Cond.methodLink "java/lang/ArrayIndexOutOfBoundsException" (7 : Nat) ({ cls := "java/lang/IndexOutOfBoundsException", name := "<init>", desc := "(Ljava/lang/String;)V" } : Jvm.MethodName)) ∈ lw_all := lw_g (lw_at lw_m3 46 rfl) rfl
theorem q596 : (Jvm.Cond.lays "java/lang/ArrayIndexOutOfBoundsException" "java/lang/Throwable" "backtrace" "Ljava/lang/Object;") ∈ lw_all := lw_g (lw_at lw_m3 58 rfl) rfl
theorem q597 : (Jvm.Cond.lays "java/lang/ArrayIndexOutOfBoundsException" "java/lang/Throwable" "detailMessage" "Ljava/lang/String;") ∈ lw_all := lw_g (lw_at lw_m3 59 rfl) rfl
theorem q598 : (Jvm.Cond.lays "java/lang/ArrayIndexOutOfBoundsException" "java/lang/Throwable" "cause" "Ljava/lang/Throwable;") ∈ lw_all := lw_g (lw_at lw_m3 60 rfl) rfl
theorem q599 : (Jvm.Cond.lays "java/lang/ArrayIndexOutOfBoundsException" "java/lang/Throwable" "stackTrace" "[Ljava/lang/StackTraceElement;") ∈ lw_all := lw_g (lw_at lw_m3 61 rfl) rfl
theorem q600 : (Jvm.Cond.lays "java/lang/ArrayIndexOutOfBoundsException" "java/lang/Throwable" "depth" "I") ∈ lw_all := lw_g (lw_at lw_m3 62 rfl) rfl
theorem q601 : (Jvm.Cond.lays "java/lang/ArrayIndexOutOfBoundsException" "java/lang/Throwable" "suppressedExceptions" "Ljava/util/List;") ∈ lw_all := lw_g (lw_at lw_m3 63 rfl) rfl
theorem q602 : (Jvm.Cond.superclass "java/lang/ArrayIndexOutOfBoundsException" "java/lang/IndexOutOfBoundsException") ∈ lw_all := lw_g (lw_at lw_m3 64 rfl) rfl
theorem q603 : (Jvm.Cond.castable "java/lang/ArrayIndexOutOfBoundsException" "java/lang/ArrayIndexOutOfBoundsException") ∈ lw_tbl := lw_at lw_m3 65 rfl
theorem q606 : (Jvm.Cond.selects "java/lang/ArrayIndexOutOfBoundsException" ({ cls := "java/lang/Throwable", name := "fillInStackTrace", desc := "(I)Ljava/lang/Throwable;" } : Jvm.MethodName) ({ cls := "java/lang/Throwable", name := "fillInStackTrace", desc := "(I)Ljava/lang/Throwable;" } : Jvm.MethodName)) ∈ lw_all := lw_g (lw_at lw_m3 68 rfl) rfl
theorem q1125 : (Jvm.Cond.castable "java/lang/ArrayIndexOutOfBoundsException" "java/lang/IndexOutOfBoundsException") ∈ lw_tbl := lw_at lw_m5 107 rfl
theorem in_J13 : ∀ w ∈ wsJ130, w ∈ lw_all := lw_in wsJ130 [596, 597, 598, 599, 600, 601] (by decide +kernel) (by decide +kernel)

/-! java/lang/IllegalArgumentException -/
set_option maxRecDepth 100000
def RJ14 : String := "java/lang/IllegalArgumentException"
def TJ14 : u_T := fun k => match k with
  | 0 => ("java/lang/Throwable", "cause", "Ljava/lang/Throwable;", false)
  | 1 => ("java/lang/Throwable", "stackTrace", "[Ljava/lang/StackTraceElement;", false)
  | 2 => ("java/lang/Throwable", "suppressedExceptions", "Ljava/util/List;", false)
  | 3 => ("java/lang/Throwable", "detailMessage", "Ljava/lang/String;", false)
  | 4 => ("java/lang/Throwable", "backtrace", "Ljava/lang/Object;", false)
  | _ => ("java/lang/Throwable", "depth", "I", false)
def tyJ14 : Nat → FieldType := fun k => match k with
  | 0 => .object "java/lang/Throwable"
  | 1 => .array (.object "java/lang/StackTraceElement")
  | 2 => .object "java/util/List"
  | 3 => .object "java/lang/String"
  | 4 => .object "java/lang/Object"
  | _ => .int
abbrev wsJ140 : List Cond := u_ws RJ14 TJ14 6
theorem nmJ14 : ∀ a, a < 6 → ∀ b, b < 6 → a ≠ b → (TJ14 a).2.1 ≠ (TJ14 b).2.1 := by decide +kernel
theorem tyJ14_ok : ∀ k, k < 6 → parseFieldDescriptor (TJ14 k).2.2.1 = some (tyJ14 k) := by decide +kernel
abbrev cJ14_init : ByteArray := prog_12_method_1_code
def yJ14_init : MethodName := ⟨RJ14, "<init>", "()V"⟩
theorem q80 : (Jvm.Cond.initialized "java/lang/IllegalArgumentException") ∈ lw_all := lw_g (lw_at lw_m1 22 rfl) rfl
theorem q137 : (Jvm.Cond.selects "java/lang/IllegalArgumentException" ({ cls := "java/lang/Throwable", name := "fillInStackTrace", desc := "()Ljava/lang/Throwable;" } : Jvm.MethodName) ({ cls := "java/lang/Throwable", name := "fillInStackTrace", desc := "()Ljava/lang/Throwable;" } : Jvm.MethodName)) ∈ lw_all := lw_g (lw_at lw_m1 79 rfl) rfl
theorem q656 : (Jvm.Cond.instantiable "java/lang/IllegalArgumentException" (6 : Nat)) ∈ lw_all := lw_g (lw_at lw_m3 118 rfl) rfl
theorem q657 : (Jvm.Cond.castable "java/lang/IllegalArgumentException" "java/lang/IllegalArgumentException") ∈ lw_tbl := lw_at lw_m3 119 rfl
theorem q658 : (Jvm.Cond.selects "java/lang/IllegalArgumentException" ({ cls := "java/lang/Throwable", name := "fillInStackTrace", desc := "(I)Ljava/lang/Throwable;" } : Jvm.MethodName) ({ cls := "java/lang/Throwable", name := "fillInStackTrace", desc := "(I)Ljava/lang/Throwable;" } : Jvm.MethodName)) ∈ lw_all := lw_g (lw_at lw_m3 120 rfl) rfl
theorem q659 : (Jvm.Cond.lays "java/lang/IllegalArgumentException" "java/lang/Throwable" "cause" "Ljava/lang/Throwable;") ∈ lw_all := lw_g (lw_at lw_m3 121 rfl) rfl
theorem q660 : (Jvm.Cond.lays "java/lang/IllegalArgumentException" "java/lang/Throwable" "stackTrace" "[Ljava/lang/StackTraceElement;") ∈ lw_all := lw_g (lw_at lw_m3 122 rfl) rfl
theorem q661 : (Jvm.Cond.lays "java/lang/IllegalArgumentException" "java/lang/Throwable" "suppressedExceptions" "Ljava/util/List;") ∈ lw_all := lw_g (lw_at lw_m3 123 rfl) rfl
theorem q662 : (Jvm.Cond.lays "java/lang/IllegalArgumentException" "java/lang/Throwable" "detailMessage" "Ljava/lang/String;") ∈ lw_all := lw_g (lw_at lw_m3 124 rfl) rfl
theorem q663 : (Jvm.Cond.lays "java/lang/IllegalArgumentException" "java/lang/Throwable" "backtrace" "Ljava/lang/Object;") ∈ lw_all := lw_g (lw_at lw_m3 125 rfl) rfl
theorem q665 : (Jvm.Cond.instanceMethod ({ cls := "java/lang/IllegalArgumentException", name := "<init>", desc := "()V" } : Jvm.MethodName)) ∈ lw_all := lw_g (lw_at lw_m3 127 rfl) rfl
theorem q666 : (Jvm.Cond.code ({ cls := "java/lang/IllegalArgumentException", name := "<init>", desc := "()V" } : Jvm.MethodName) prog_12_method_1_code (1 : Nat) (Option.none : Option Jvm.ClassFile.FieldType)) ∈ lw_all := lw_g (lw_at lw_m3 128 rfl) rfl
theorem q667 : (Jvm.Cond.methodLink "java/lang/IllegalArgumentException" (1 : Nat) ({ cls := "java/lang/RuntimeException", name := "<init>", desc := "()V" } : Jvm.MethodName)) ∈ lw_all := lw_g (lw_at lw_m3 129 rfl) rfl
theorem q668 : (Jvm.Cond.lays "java/lang/IllegalArgumentException" "java/lang/Throwable" "depth" "I") ∈ lw_all := lw_g (lw_at lw_m3 130 rfl) rfl
theorem q669 : (Jvm.Cond.superclass "java/lang/IllegalArgumentException" "java/lang/RuntimeException") ∈ lw_all := lw_g (lw_at lw_m3 131 rfl) rfl
theorem in_J14 : ∀ w ∈ wsJ140, w ∈ lw_all := lw_in wsJ140 [659, 660, 661, 662, 663, 668] (by decide +kernel) (by decide +kernel)

/-! java/lang/UnsupportedOperationException -/
set_option maxRecDepth 100000
def RJ15 : String := "java/lang/UnsupportedOperationException"
def TJ15 : u_T := fun k => match k with
  | 0 => ("java/lang/Throwable", "cause", "Ljava/lang/Throwable;", false)
  | 1 => ("java/lang/Throwable", "stackTrace", "[Ljava/lang/StackTraceElement;", false)
  | 2 => ("java/lang/Throwable", "suppressedExceptions", "Ljava/util/List;", false)
  | 3 => ("java/lang/Throwable", "detailMessage", "Ljava/lang/String;", false)
  | 4 => ("java/lang/Throwable", "backtrace", "Ljava/lang/Object;", false)
  | _ => ("java/lang/Throwable", "depth", "I", false)
def tyJ15 : Nat → FieldType := fun k => match k with
  | 0 => .object "java/lang/Throwable"
  | 1 => .array (.object "java/lang/StackTraceElement")
  | 2 => .object "java/util/List"
  | 3 => .object "java/lang/String"
  | 4 => .object "java/lang/Object"
  | _ => .int
abbrev wsJ150 : List Cond := u_ws RJ15 TJ15 6
theorem nmJ15 : ∀ a, a < 6 → ∀ b, b < 6 → a ≠ b → (TJ15 a).2.1 ≠ (TJ15 b).2.1 := by decide +kernel
theorem tyJ15_ok : ∀ k, k < 6 → parseFieldDescriptor (TJ15 k).2.2.1 = some (tyJ15 k) := by decide +kernel
abbrev cJ15_init : ByteArray := prog_23_method_1_code
def yJ15_init : MethodName := ⟨RJ15, "<init>", "()V"⟩
theorem q81 : (Jvm.Cond.initialized "java/lang/UnsupportedOperationException") ∈ lw_all := lw_g (lw_at lw_m1 23 rfl) rfl
theorem q139 : (Jvm.Cond.selects "java/lang/UnsupportedOperationException" ({ cls := "java/lang/Throwable", name := "fillInStackTrace", desc := "()Ljava/lang/Throwable;" } : Jvm.MethodName) ({ cls := "java/lang/Throwable", name := "fillInStackTrace", desc := "()Ljava/lang/Throwable;" } : Jvm.MethodName)) ∈ lw_all := lw_g (lw_at lw_m1 81 rfl) rfl
theorem q692 : (Jvm.Cond.instantiable "java/lang/UnsupportedOperationException" (6 : Nat)) ∈ lw_all := lw_g (lw_at lw_m3 154 rfl) rfl
theorem q693 : (Jvm.Cond.castable "java/lang/UnsupportedOperationException" "java/lang/UnsupportedOperationException") ∈ lw_tbl := lw_at lw_m3 155 rfl
theorem q694 : (Jvm.Cond.selects "java/lang/UnsupportedOperationException" ({ cls := "java/lang/Throwable", name := "fillInStackTrace", desc := "(I)Ljava/lang/Throwable;" } : Jvm.MethodName) ({ cls := "java/lang/Throwable", name := "fillInStackTrace", desc := "(I)Ljava/lang/Throwable;" } : Jvm.MethodName)) ∈ lw_all := lw_g (lw_at lw_m3 156 rfl) rfl
theorem q695 : (Jvm.Cond.lays "java/lang/UnsupportedOperationException" "java/lang/Throwable" "cause" "Ljava/lang/Throwable;") ∈ lw_all := lw_g (lw_at lw_m3 157 rfl) rfl
theorem q696 : (Jvm.Cond.lays "java/lang/UnsupportedOperationException" "java/lang/Throwable" "stackTrace" "[Ljava/lang/StackTraceElement;") ∈ lw_all := lw_g (lw_at lw_m3 158 rfl) rfl
theorem q697 : (Jvm.Cond.lays "java/lang/UnsupportedOperationException" "java/lang/Throwable" "suppressedExceptions" "Ljava/util/List;") ∈ lw_all := lw_g (lw_at lw_m3 159 rfl) rfl
theorem q698 : (Jvm.Cond.lays "java/lang/UnsupportedOperationException" "java/lang/Throwable" "detailMessage" "Ljava/lang/String;") ∈ lw_all := lw_g (lw_at lw_m3 160 rfl) rfl
theorem q699 : (Jvm.Cond.lays "java/lang/UnsupportedOperationException" "java/lang/Throwable" "backtrace" "Ljava/lang/Object;") ∈ lw_all := lw_g (lw_at lw_m3 161 rfl) rfl
theorem q701 : (Jvm.Cond.instanceMethod ({ cls := "java/lang/UnsupportedOperationException", name := "<init>", desc := "()V" } : Jvm.MethodName)) ∈ lw_all := lw_g (lw_at lw_m3 163 rfl) rfl
theorem q702 : (Jvm.Cond.code ({ cls := "java/lang/UnsupportedOperationException", name := "<init>", desc := "()V" } : Jvm.MethodName) prog_23_method_1_code (1 : Nat) (Option.none : Option Jvm.ClassFile.FieldType)) ∈ lw_all := lw_g (lw_at lw_m3 164 rfl) rfl
theorem q703 : (Jvm.Cond.methodLink "java/lang/UnsupportedOperationException" (1 : Nat) ({ cls := "java/lang/RuntimeException", name := "<init>", desc := "()V" } : Jvm.MethodName)) ∈ lw_all := lw_g (lw_at lw_m3 165 rfl) rfl
theorem q704 : (Jvm.Cond.lays "java/lang/UnsupportedOperationException" "java/lang/Throwable" "depth" "I") ∈ lw_all := lw_g (lw_at lw_m3 166 rfl) rfl
theorem q705 : (Jvm.Cond.superclass "java/lang/UnsupportedOperationException" "java/lang/RuntimeException") ∈ lw_all := lw_g (lw_at lw_m3 167 rfl) rfl
theorem in_J15 : ∀ w ∈ wsJ150, w ∈ lw_all := lw_in wsJ150 [695, 696, 697, 698, 699, 704] (by decide +kernel) (by decide +kernel)

/-! java/util/NoSuchElementException -/
set_option maxRecDepth 100000
def RJ16 : String := "java/util/NoSuchElementException"
def TJ16 : u_T := fun k => match k with
  | 0 => ("java/lang/Throwable", "cause", "Ljava/lang/Throwable;", false)
  | 1 => ("java/lang/Throwable", "stackTrace", "[Ljava/lang/StackTraceElement;", false)
  | 2 => ("java/lang/Throwable", "suppressedExceptions", "Ljava/util/List;", false)
  | 3 => ("java/lang/Throwable", "detailMessage", "Ljava/lang/String;", false)
  | 4 => ("java/lang/Throwable", "backtrace", "Ljava/lang/Object;", false)
  | _ => ("java/lang/Throwable", "depth", "I", false)
def tyJ16 : Nat → FieldType := fun k => match k with
  | 0 => .object "java/lang/Throwable"
  | 1 => .array (.object "java/lang/StackTraceElement")
  | 2 => .object "java/util/List"
  | 3 => .object "java/lang/String"
  | 4 => .object "java/lang/Object"
  | _ => .int
abbrev wsJ160 : List Cond := u_ws RJ16 TJ16 6
theorem nmJ16 : ∀ a, a < 6 → ∀ b, b < 6 → a ≠ b → (TJ16 a).2.1 ≠ (TJ16 b).2.1 := by decide +kernel
theorem tyJ16_ok : ∀ k, k < 6 → parseFieldDescriptor (TJ16 k).2.2.1 = some (tyJ16 k) := by decide +kernel
abbrev cJ16_init : ByteArray := prog_25_method_1_code
def yJ16_init : MethodName := ⟨RJ16, "<init>", "()V"⟩
theorem q82 : (Jvm.Cond.initialized "java/util/NoSuchElementException") ∈ lw_all := lw_g (lw_at lw_m1 24 rfl) rfl
theorem q140 : (Jvm.Cond.selects "java/util/NoSuchElementException" ({ cls := "java/lang/Throwable", name := "fillInStackTrace", desc := "()Ljava/lang/Throwable;" } : Jvm.MethodName) ({ cls := "java/lang/Throwable", name := "fillInStackTrace", desc := "()Ljava/lang/Throwable;" } : Jvm.MethodName)) ∈ lw_all := lw_g (lw_at lw_m1 82 rfl) rfl
theorem q770 : (Jvm.Cond.instantiable "java/util/NoSuchElementException" (6 : Nat)) ∈ lw_all := lw_g (lw_at lw_m3 232 rfl) rfl
theorem q771 : (Jvm.Cond.castable "java/util/NoSuchElementException" "java/util/NoSuchElementException") ∈ lw_tbl := lw_at lw_m3 233 rfl
theorem q772 : (Jvm.Cond.selects "java/util/NoSuchElementException" ({ cls := "java/lang/Throwable", name := "fillInStackTrace", desc := "(I)Ljava/lang/Throwable;" } : Jvm.MethodName) ({ cls := "java/lang/Throwable", name := "fillInStackTrace", desc := "(I)Ljava/lang/Throwable;" } : Jvm.MethodName)) ∈ lw_all := lw_g (lw_at lw_m3 234 rfl) rfl
theorem q773 : (Jvm.Cond.lays "java/util/NoSuchElementException" "java/lang/Throwable" "cause" "Ljava/lang/Throwable;") ∈ lw_all := lw_g (lw_at lw_m3 235 rfl) rfl
theorem q774 : (Jvm.Cond.lays "java/util/NoSuchElementException" "java/lang/Throwable" "stackTrace" "[Ljava/lang/StackTraceElement;") ∈ lw_all := lw_g (lw_at lw_m3 236 rfl) rfl
theorem q775 : (Jvm.Cond.lays "java/util/NoSuchElementException" "java/lang/Throwable" "suppressedExceptions" "Ljava/util/List;") ∈ lw_all := lw_g (lw_at lw_m3 237 rfl) rfl
theorem q776 : (Jvm.Cond.lays "java/util/NoSuchElementException" "java/lang/Throwable" "detailMessage" "Ljava/lang/String;") ∈ lw_all := lw_g (lw_at lw_m3 238 rfl) rfl
theorem q777 : (Jvm.Cond.lays "java/util/NoSuchElementException" "java/lang/Throwable" "backtrace" "Ljava/lang/Object;") ∈ lw_all := lw_g (lw_at lw_m3 239 rfl) rfl
theorem q779 : (Jvm.Cond.instanceMethod ({ cls := "java/util/NoSuchElementException", name := "<init>", desc := "()V" } : Jvm.MethodName)) ∈ lw_all := lw_g (lw_at lw_m4 1 rfl) rfl
theorem q780 : (Jvm.Cond.code ({ cls := "java/util/NoSuchElementException", name := "<init>", desc := "()V" } : Jvm.MethodName) prog_25_method_1_code (1 : Nat) (Option.none : Option Jvm.ClassFile.FieldType)) ∈ lw_all := lw_g (lw_at lw_m4 2 rfl) rfl
theorem q781 : (Jvm.Cond.methodLink "java/util/NoSuchElementException" (1 : Nat) ({ cls := "java/lang/RuntimeException", name := "<init>", desc := "()V" } : Jvm.MethodName)) ∈ lw_all := lw_g (lw_at lw_m4 3 rfl) rfl
theorem q782 : (Jvm.Cond.lays "java/util/NoSuchElementException" "java/lang/Throwable" "depth" "I") ∈ lw_all := lw_g (lw_at lw_m4 4 rfl) rfl
theorem q783 : (Jvm.Cond.superclass "java/util/NoSuchElementException" "java/lang/RuntimeException") ∈ lw_all := lw_g (lw_at lw_m4 5 rfl) rfl
theorem in_J16 : ∀ w ∈ wsJ160, w ∈ lw_all := lw_in wsJ160 [773, 774, 775, 776, 777, 782] (by decide +kernel) (by decide +kernel)

/-! java/lang/Object -/
set_option maxRecDepth 100000
def RJ17 : String := "java/lang/Object"
abbrev cJ17_init : ByteArray := object_method_1_code
def yJ17_init : MethodName := ⟨RJ17, "<init>", "()V"⟩
theorem q89 : (Jvm.Cond.instanceMethod ({ cls := "java/lang/Object", name := "<init>", desc := "()V" } : Jvm.MethodName)) ∈ lw_all := lw_g (lw_at lw_m1 31 rfl) rfl
theorem q90 : (Jvm.Cond.code ({ cls := "java/lang/Object", name := "<init>", desc := "()V" } : Jvm.MethodName) object_method_1_code (1 : Nat) (Option.none : Option Jvm.ClassFile.FieldType)) ∈ lw_all := lw_g (lw_at lw_m1 32 rfl) rfl
theorem q830 : (Jvm.Cond.native ({ cls := "java/lang/Object", name := "clone", desc := "()Ljava/lang/Object;" } : Jvm.MethodName)) ∈ lw_all := lw_g (lw_at lw_m4 52 rfl) rfl
theorem q831 : (Jvm.Cond.instanceMethod ({ cls := "java/lang/Object", name := "clone", desc := "()Ljava/lang/Object;" } : Jvm.MethodName)) ∈ lw_all := lw_g (lw_at lw_m4 53 rfl) rfl

/-! the law's own entry -/
set_option maxRecDepth 100000
abbrev cL_law : ByteArray := code

theorem q172 : (Jvm.Cond.arrayClass Jvm.ClassFile.FieldType.byte) ∈ lw_all := lw_g (lw_at lw_m1 114 rfl) rfl
set_option maxRecDepth 100000
theorem q233 : (Jvm.Cond.arrayClass Jvm.ClassFile.FieldType.long) ∈ lw_all := lw_g (lw_at lw_m1 175 rfl) rfl
theorem q234 : (Jvm.Cond.arrayClass Jvm.ClassFile.FieldType.int) ∈ lw_all := lw_g (lw_at lw_m1 176 rfl) rfl
theorem q235 : (Jvm.Cond.arrayClass Jvm.ClassFile.FieldType.boolean) ∈ lw_all := lw_g (lw_at lw_m1 177 rfl) rfl

theorem q77 : (Jvm.Cond.initialized "java/lang/System") ∈ lw_all := lw_g (lw_at lw_m1 19 rfl) rfl
set_option maxRecDepth 100000
theorem q837 : (Jvm.Cond.static ({ cls := "java/lang/System", name := "arraycopy", desc := "(Ljava/lang/Object;ILjava/lang/Object;II)V" } : Jvm.MethodName)) ∈ lw_all := lw_g (lw_at lw_m4 59 rfl) rfl
theorem q838 : (Jvm.Cond.native ({ cls := "java/lang/System", name := "arraycopy", desc := "(Ljava/lang/Object;ILjava/lang/Object;II)V" } : Jvm.MethodName)) ∈ lw_all := lw_g (lw_at lw_m4 60 rfl) rfl

theorem q829 : (Jvm.Cond.sameMethod "[I" "java/lang/Object" "clone" "()Ljava/lang/Object;") ∈ lw_all := lw_g (lw_at lw_m4 51 rfl) rfl
set_option maxRecDepth 100000
theorem q832 : (Jvm.Cond.selects "[I" ({ cls := "[I", name := "clone", desc := "()Ljava/lang/Object;" } : Jvm.MethodName) ({ cls := "java/lang/Object", name := "clone", desc := "()Ljava/lang/Object;" } : Jvm.MethodName)) ∈ lw_all := lw_g (lw_at lw_m4 54 rfl) rfl
theorem q833 : (Jvm.Cond.castable "[I" "java/lang/Cloneable") ∈ lw_tbl := lw_at lw_m4 55 rfl

