/-! names of the classes, their fields, methods, and the words of the tables: rows of claim/names -/
set_option maxRecDepth 100000
def RX0 : String := "GridRoomLaw"
abbrev cX0_told : ByteArray := method_3_code
def yX0_told : MethodName := ⟨RX0, "told", "(LGridRoom;III[J)I"⟩
theorem q85 : (Jvm.Cond.initialized "GridRoomLaw") ∈ lw_all := lw_g (lw_at lw_m1 0 rfl) rfl
theorem q127 : (Jvm.Cond.classLink "GridRoomLaw" (8 : Nat) "GridRoom") ∈ lw_all := lw_g (lw_at lw_m1 42 rfl) rfl
theorem q129 : (Jvm.Cond.methodLink "GridRoomLaw" (15 : Nat) ({ cls := "GridRoom", name := "<init>", desc := "()V" } : Jvm.MethodName)) ∈ lw_all := lw_g (lw_at lw_m1 44 rfl) rfl
theorem q425 : (Jvm.Cond.methodLink "GridRoomLaw" (19 : Nat) ({ cls := "GridRoom", name := "day", desc := "(I)I" } : Jvm.MethodName)) ∈ lw_all := lw_g (lw_at lw_m2 100 rfl) rfl
theorem q433 : (Jvm.Cond.methodLink "GridRoomLaw" (24 : Nat) ({ cls := "GridRoom", name := "feed", desc := "(IIIII)I" } : Jvm.MethodName)) ∈ lw_all := lw_g (lw_at lw_m2 108 rfl) rfl
theorem q437 : (Jvm.Cond.methodLink "GridRoomLaw" (29 : Nat) ({ cls := "GridRoom", name := "end", desc := "(I)I" } : Jvm.MethodName)) ∈ lw_all := lw_g (lw_at lw_m2 112 rfl) rfl
theorem q441 : (Jvm.Cond.methodLink "GridRoomLaw" (33 : Nat) ({ cls := "GridRoom", name := "tablet", desc := "()I" } : Jvm.MethodName)) ∈ lw_all := lw_g (lw_at lw_m2 116 rfl) rfl
theorem q765 : (Jvm.Cond.methodLink "GridRoomLaw" (38 : Nat) ({ cls := "GridRoom", name := "rules", desc := "()I" } : Jvm.MethodName)) ∈ lw_all := lw_g (lw_at lw_m3 200 rfl) rfl
theorem q941 : (Jvm.Cond.methodLink "GridRoomLaw" (42 : Nat) ({ cls := "GridRoom", name := "place", desc := "()I" } : Jvm.MethodName)) ∈ lw_all := lw_g (lw_at lw_m4 136 rfl) rfl
theorem q945 : (Jvm.Cond.methodLink "GridRoomLaw" (46 : Nat) ({ cls := "GridRoom", name := "away", desc := "(II)Z" } : Jvm.MethodName)) ∈ lw_all := lw_g (lw_at lw_m4 140 rfl) rfl
theorem q973 : (Jvm.Cond.methodLink "GridRoomLaw" (51 : Nat) ({ cls := "GridRoom", name := "trust", desc := "(II)Z" } : Jvm.MethodName)) ∈ lw_all := lw_g (lw_at lw_m4 168 rfl) rfl
theorem q977 : (Jvm.Cond.methodLink "GridRoomLaw" (55 : Nat) ({ cls := "GridRoom", name := "holds", desc := "(IIII)Z" } : Jvm.MethodName)) ∈ lw_all := lw_g (lw_at lw_m4 172 rfl) rfl
theorem q986 : (Jvm.Cond.methodLink "GridRoomLaw" (74 : Nat) ({ cls := "GridRoom", name := "share", desc := "(IIIZ)I" } : Jvm.MethodName)) ∈ lw_all := lw_g (lw_at lw_m4 181 rfl) rfl
theorem q1015 : (Jvm.Cond.methodLink "GridRoomLaw" (60 : Nat) ({ cls := "GridRoom", name := "sign", desc := "(II)I" } : Jvm.MethodName)) ∈ lw_all := lw_g (lw_at lw_m4 210 rfl) rfl
theorem q1059 : (Jvm.Cond.methodLink "GridRoomLaw" (79 : Nat) ({ cls := "GridRoom", name := "pairs", desc := "(IIII)I" } : Jvm.MethodName)) ∈ lw_all := lw_g (lw_at lw_m5 14 rfl) rfl
theorem q1074 : (Jvm.Cond.methodLink "GridRoomLaw" (84 : Nat) ({ cls := "GridRoom", name := "links", desc := "(II)I" } : Jvm.MethodName)) ∈ lw_all := lw_g (lw_at lw_m5 29 rfl) rfl
theorem q1109 : (Jvm.Cond.methodLink "GridRoomLaw" (88 : Nat) ({ cls := "GridRoom", name := "classOf", desc := "(III)I" } : Jvm.MethodName)) ∈ lw_all := lw_g (lw_at lw_m5 64 rfl) rfl
theorem q1113 : (Jvm.Cond.methodLink "GridRoomLaw" (92 : Nat) ({ cls := "GridRoom", name := "clash", desc := "(II)I" } : Jvm.MethodName)) ∈ lw_all := lw_g (lw_at lw_m5 68 rfl) rfl
theorem q1133 : (Jvm.Cond.methodLink "GridRoomLaw" (96 : Nat) ({ cls := "GridRoom", name := "reason", desc := "(III)I" } : Jvm.MethodName)) ∈ lw_all := lw_g (lw_at lw_m5 88 rfl) rfl
theorem q1145 : (Jvm.Cond.methodLink "GridRoomLaw" (100 : Nat) ({ cls := "GridRoom", name := "name", desc := "(I)I" } : Jvm.MethodName)) ∈ lw_all := lw_g (lw_at lw_m5 100 rfl) rfl
theorem q1176 : (Jvm.Cond.methodLink "GridRoomLaw" (104 : Nat) ({ cls := "GridRoom", name := "spelled", desc := "(II)I" } : Jvm.MethodName)) ∈ lw_all := lw_g (lw_at lw_m5 131 rfl) rfl
theorem q1220 : (Jvm.Cond.methodLink "GridRoomLaw" (108 : Nat) ({ cls := "GridRoom", name := "cell", desc := "(III)I" } : Jvm.MethodName)) ∈ lw_all := lw_g (lw_at lw_m5 175 rfl) rfl
theorem q1224 : (Jvm.Cond.methodLink "GridRoomLaw" (112 : Nat) ({ cls := "GridRoom", name := "ways", desc := "(I)I" } : Jvm.MethodName)) ∈ lw_all := lw_g (lw_at lw_m5 179 rfl) rfl
theorem q1347 : (Jvm.Cond.methodLink "GridRoomLaw" (116 : Nat) ({ cls := "GridRoom", name := "way", desc := "(III)I" } : Jvm.MethodName)) ∈ lw_all := lw_g (lw_at lw_m6 62 rfl) rfl
theorem q1389 : (Jvm.Cond.methodLink "GridRoomLaw" (120 : Nat) ({ cls := "GridRoom", name := "given", desc := "(III)I" } : Jvm.MethodName)) ∈ lw_all := lw_g (lw_at lw_m6 104 rfl) rfl
theorem q1393 : (Jvm.Cond.methodLink "GridRoomLaw" (124 : Nat) ({ cls := "GridRoom", name := "forced", desc := "(II)I" } : Jvm.MethodName)) ∈ lw_all := lw_g (lw_at lw_m6 108 rfl) rfl
theorem q1425 : (Jvm.Cond.methodLink "GridRoomLaw" (128 : Nat) ({ cls := "GridRoom", name := "reads", desc := "(III)I" } : Jvm.MethodName)) ∈ lw_all := lw_g (lw_at lw_m6 140 rfl) rfl
theorem q1435 : (Jvm.Cond.methodLink "GridRoomLaw" (132 : Nat) ({ cls := "GridRoom", name := "letter", desc := "(I)I" } : Jvm.MethodName)) ∈ lw_all := lw_g (lw_at lw_m6 150 rfl) rfl
theorem q1439 : (Jvm.Cond.methodLink "GridRoomLaw" (136 : Nat) ({ cls := "GridRoom", name := "settles", desc := "(II)I" } : Jvm.MethodName)) ∈ lw_all := lw_g (lw_at lw_m6 154 rfl) rfl
theorem q1448 : (Jvm.Cond.methodLink "GridRoomLaw" (140 : Nat) ({ cls := "GridRoom", name := "would", desc := "(II)I" } : Jvm.MethodName)) ∈ lw_all := lw_g (lw_at lw_m6 163 rfl) rfl
theorem q1456 : (Jvm.Cond.methodLink "GridRoomLaw" (144 : Nat) ({ cls := "GridRoom", name := "fits", desc := "(I)I" } : Jvm.MethodName)) ∈ lw_all := lw_g (lw_at lw_m6 171 rfl) rfl
theorem q1489 : (Jvm.Cond.methodLink "GridRoomLaw" (148 : Nat) ({ cls := "GridRoom", name := "doubt", desc := "(II)I" } : Jvm.MethodName)) ∈ lw_all := lw_g (lw_at lw_m6 204 rfl) rfl
theorem q1520 : (Jvm.Cond.methodLink "GridRoomLaw" (152 : Nat) ({ cls := "GridRoom", name := "could", desc := "(IIII)I" } : Jvm.MethodName)) ∈ lw_all := lw_g (lw_at lw_m6 235 rfl) rfl
theorem q1524 : (Jvm.Cond.methodLink "GridRoomLaw" (156 : Nat) ({ cls := "GridRoom", name := "inGrid", desc := "(II)I" } : Jvm.MethodName)) ∈ lw_all := lw_g (lw_at lw_m6 239 rfl) rfl
theorem q1528 : (Jvm.Cond.methodLink "GridRoomLaw" (160 : Nat) ({ cls := "GridRoom", name := "where", desc := "(I)I" } : Jvm.MethodName)) ∈ lw_all := lw_g (lw_at lw_m7 3 rfl) rfl
theorem q1532 : (Jvm.Cond.methodLink "GridRoomLaw" (164 : Nat) ({ cls := "GridRoom", name := "often", desc := "(III)I" } : Jvm.MethodName)) ∈ lw_all := lw_g (lw_at lw_m7 7 rfl) rfl
theorem q1544 : (Jvm.Cond.methodLink "GridRoomLaw" (168 : Nat) ({ cls := "GridRoom", name := "rank", desc := "(II)I" } : Jvm.MethodName)) ∈ lw_all := lw_g (lw_at lw_m7 19 rfl) rfl
theorem q1552 : (Jvm.Cond.methodLink "GridRoomLaw" (172 : Nat) ({ cls := "GridRoom", name := "count", desc := "(I)I" } : Jvm.MethodName)) ∈ lw_all := lw_g (lw_at lw_m7 27 rfl) rfl
theorem q1556 : (Jvm.Cond.methodLink "GridRoomLaw" (65 : Nat) ({ cls := "GridRoomLaw", name := "told", desc := "(LGridRoom;III[J)I" } : Jvm.MethodName)) ∈ lw_all := lw_g (lw_at lw_m7 31 rfl) rfl
theorem q1557 : (Jvm.Cond.static ({ cls := "GridRoomLaw", name := "told", desc := "(LGridRoom;III[J)I" } : Jvm.MethodName)) ∈ lw_all := lw_g (lw_at lw_m7 32 rfl) rfl
theorem q1558 : (Jvm.Cond.codeWith ({ cls := "GridRoomLaw", name := "told", desc := "(LGridRoom;III[J)I" } : Jvm.MethodName) method_3_code (6 : Nat) (Option.some Jvm.ClassFile.FieldType.int) [((0 : Nat), (12 : Nat), (15 : Nat), (13 : Nat))]) ∈ lw_all := lw_g (lw_at lw_m7 33 rfl) rfl
theorem q1559 : (Jvm.Cond.classLink "GridRoomLaw" (13 : Nat) "java/util/NoSuchElementException") ∈ lw_all := lw_g (lw_at lw_m7 34 rfl) rfl
theorem q1560 : (Jvm.Cond.methodLink "GridRoomLaw" (7 : Nat) ({ cls := "GridRoom", name := "told", desc := "(III)I" } : Jvm.MethodName)) ∈ lw_all := lw_g (lw_at lw_m7 35 rfl) rfl
theorem q1587 : (Jvm.Cond.methodLink "GridRoomLaw" (71 : Nat) ({ cls := "GridRoomModel", name := "thrown", desc := "()I" } : Jvm.MethodName)) ∈ lw_all := lw_g (lw_at lw_m7 62 rfl) rfl
theorem q1591 : (Jvm.Cond.classLink "GridRoomLaw" (16 : Nat) "GridRoomModel") ∈ lw_all := lw_g (lw_at lw_m7 66 rfl) rfl
theorem q1593 : (Jvm.Cond.methodLink "GridRoomLaw" (18 : Nat) ({ cls := "GridRoomModel", name := "<init>", desc := "()V" } : Jvm.MethodName)) ∈ lw_all := lw_g (lw_at lw_m7 68 rfl) rfl
theorem q1826 : (Jvm.Cond.methodLink "GridRoomLaw" (23 : Nat) ({ cls := "GridRoomModel", name := "day", desc := "(I)I" } : Jvm.MethodName)) ∈ lw_all := lw_g (lw_at lw_m8 61 rfl) rfl
theorem q1834 : (Jvm.Cond.methodLink "GridRoomLaw" (28 : Nat) ({ cls := "GridRoomModel", name := "feed", desc := "(IIIII)I" } : Jvm.MethodName)) ∈ lw_all := lw_g (lw_at lw_m8 69 rfl) rfl
theorem q1838 : (Jvm.Cond.methodLink "GridRoomLaw" (32 : Nat) ({ cls := "GridRoomModel", name := "end", desc := "(I)I" } : Jvm.MethodName)) ∈ lw_all := lw_g (lw_at lw_m8 73 rfl) rfl
theorem q1842 : (Jvm.Cond.methodLink "GridRoomLaw" (45 : Nat) ({ cls := "GridRoomModel", name := "place", desc := "()I" } : Jvm.MethodName)) ∈ lw_all := lw_g (lw_at lw_m8 77 rfl) rfl
theorem q1846 : (Jvm.Cond.methodLink "GridRoomLaw" (37 : Nat) ({ cls := "GridRoomModel", name := "tablet", desc := "()I" } : Jvm.MethodName)) ∈ lw_all := lw_g (lw_at lw_m8 81 rfl) rfl
theorem q1897 : (Jvm.Cond.methodLink "GridRoomLaw" (41 : Nat) ({ cls := "GridRoomModel", name := "rules", desc := "()I" } : Jvm.MethodName)) ∈ lw_all := lw_g (lw_at lw_m8 132 rfl) rfl
theorem q1927 : (Jvm.Cond.methodLink "GridRoomLaw" (54 : Nat) ({ cls := "GridRoomModel", name := "trust", desc := "(II)Z" } : Jvm.MethodName)) ∈ lw_all := lw_g (lw_at lw_m8 162 rfl) rfl
theorem q1931 : (Jvm.Cond.methodLink "GridRoomLaw" (59 : Nat) ({ cls := "GridRoomModel", name := "holds", desc := "(IIII)Z" } : Jvm.MethodName)) ∈ lw_all := lw_g (lw_at lw_m8 166 rfl) rfl
theorem q1938 : (Jvm.Cond.methodLink "GridRoomLaw" (64 : Nat) ({ cls := "GridRoomModel", name := "sign", desc := "(II)I" } : Jvm.MethodName)) ∈ lw_all := lw_g (lw_at lw_m8 173 rfl) rfl
theorem q1954 : (Jvm.Cond.methodLink "GridRoomLaw" (70 : Nat) ({ cls := "GridRoomModel", name := "told", desc := "(III)I" } : Jvm.MethodName)) ∈ lw_all := lw_g (lw_at lw_m8 189 rfl) rfl
theorem q1958 : (Jvm.Cond.methodLink "GridRoomLaw" (78 : Nat) ({ cls := "GridRoomModel", name := "share", desc := "(IIIZ)I" } : Jvm.MethodName)) ∈ lw_all := lw_g (lw_at lw_m8 193 rfl) rfl
theorem q1962 : (Jvm.Cond.methodLink "GridRoomLaw" (83 : Nat) ({ cls := "GridRoomModel", name := "pairs", desc := "(IIII)I" } : Jvm.MethodName)) ∈ lw_all := lw_g (lw_at lw_m8 197 rfl) rfl
theorem q2001 : (Jvm.Cond.methodLink "GridRoomLaw" (87 : Nat) ({ cls := "GridRoomModel", name := "links", desc := "(II)I" } : Jvm.MethodName)) ∈ lw_all := lw_g (lw_at lw_m8 236 rfl) rfl
theorem q2021 : (Jvm.Cond.methodLink "GridRoomLaw" (91 : Nat) ({ cls := "GridRoomModel", name := "classOf", desc := "(III)I" } : Jvm.MethodName)) ∈ lw_all := lw_g (lw_at lw_m9 16 rfl) rfl
theorem q2025 : (Jvm.Cond.methodLink "GridRoomLaw" (95 : Nat) ({ cls := "GridRoomModel", name := "clash", desc := "(II)I" } : Jvm.MethodName)) ∈ lw_all := lw_g (lw_at lw_m9 20 rfl) rfl
theorem q2041 : (Jvm.Cond.methodLink "GridRoomLaw" (99 : Nat) ({ cls := "GridRoomModel", name := "reason", desc := "(III)I" } : Jvm.MethodName)) ∈ lw_all := lw_g (lw_at lw_m9 36 rfl) rfl
theorem q2049 : (Jvm.Cond.methodLink "GridRoomLaw" (103 : Nat) ({ cls := "GridRoomModel", name := "name", desc := "(I)I" } : Jvm.MethodName)) ∈ lw_all := lw_g (lw_at lw_m9 44 rfl) rfl
theorem q2061 : (Jvm.Cond.methodLink "GridRoomLaw" (50 : Nat) ({ cls := "GridRoomModel", name := "away", desc := "(II)Z" } : Jvm.MethodName)) ∈ lw_all := lw_g (lw_at lw_m9 56 rfl) rfl
theorem q2065 : (Jvm.Cond.methodLink "GridRoomLaw" (107 : Nat) ({ cls := "GridRoomModel", name := "spelled", desc := "(II)I" } : Jvm.MethodName)) ∈ lw_all := lw_g (lw_at lw_m9 60 rfl) rfl
theorem q2089 : (Jvm.Cond.methodLink "GridRoomLaw" (111 : Nat) ({ cls := "GridRoomModel", name := "cell", desc := "(III)I" } : Jvm.MethodName)) ∈ lw_all := lw_g (lw_at lw_m9 84 rfl) rfl
theorem q2093 : (Jvm.Cond.methodLink "GridRoomLaw" (115 : Nat) ({ cls := "GridRoomModel", name := "ways", desc := "(I)I" } : Jvm.MethodName)) ∈ lw_all := lw_g (lw_at lw_m9 88 rfl) rfl
theorem q2133 : (Jvm.Cond.methodLink "GridRoomLaw" (119 : Nat) ({ cls := "GridRoomModel", name := "way", desc := "(III)I" } : Jvm.MethodName)) ∈ lw_all := lw_g (lw_at lw_m9 128 rfl) rfl
theorem q2141 : (Jvm.Cond.methodLink "GridRoomLaw" (123 : Nat) ({ cls := "GridRoomModel", name := "given", desc := "(III)I" } : Jvm.MethodName)) ∈ lw_all := lw_g (lw_at lw_m9 136 rfl) rfl
theorem q2145 : (Jvm.Cond.methodLink "GridRoomLaw" (127 : Nat) ({ cls := "GridRoomModel", name := "forced", desc := "(II)I" } : Jvm.MethodName)) ∈ lw_all := lw_g (lw_at lw_m9 140 rfl) rfl
theorem q2153 : (Jvm.Cond.methodLink "GridRoomLaw" (131 : Nat) ({ cls := "GridRoomModel", name := "reads", desc := "(III)I" } : Jvm.MethodName)) ∈ lw_all := lw_g (lw_at lw_m9 148 rfl) rfl
theorem q2160 : (Jvm.Cond.methodLink "GridRoomLaw" (135 : Nat) ({ cls := "GridRoomModel", name := "letter", desc := "(I)I" } : Jvm.MethodName)) ∈ lw_all := lw_g (lw_at lw_m9 155 rfl) rfl
theorem q2164 : (Jvm.Cond.methodLink "GridRoomLaw" (139 : Nat) ({ cls := "GridRoomModel", name := "settles", desc := "(II)I" } : Jvm.MethodName)) ∈ lw_all := lw_g (lw_at lw_m9 159 rfl) rfl
theorem q2168 : (Jvm.Cond.methodLink "GridRoomLaw" (143 : Nat) ({ cls := "GridRoomModel", name := "would", desc := "(II)I" } : Jvm.MethodName)) ∈ lw_all := lw_g (lw_at lw_m9 163 rfl) rfl
theorem q2176 : (Jvm.Cond.methodLink "GridRoomLaw" (147 : Nat) ({ cls := "GridRoomModel", name := "fits", desc := "(I)I" } : Jvm.MethodName)) ∈ lw_all := lw_g (lw_at lw_m9 171 rfl) rfl
theorem q2180 : (Jvm.Cond.methodLink "GridRoomLaw" (151 : Nat) ({ cls := "GridRoomModel", name := "doubt", desc := "(II)I" } : Jvm.MethodName)) ∈ lw_all := lw_g (lw_at lw_m9 175 rfl) rfl
theorem q2187 : (Jvm.Cond.methodLink "GridRoomLaw" (155 : Nat) ({ cls := "GridRoomModel", name := "could", desc := "(IIII)I" } : Jvm.MethodName)) ∈ lw_all := lw_g (lw_at lw_m9 182 rfl) rfl
theorem q2191 : (Jvm.Cond.methodLink "GridRoomLaw" (159 : Nat) ({ cls := "GridRoomModel", name := "inGrid", desc := "(II)I" } : Jvm.MethodName)) ∈ lw_all := lw_g (lw_at lw_m9 186 rfl) rfl
theorem q2195 : (Jvm.Cond.methodLink "GridRoomLaw" (163 : Nat) ({ cls := "GridRoomModel", name := "where", desc := "(I)I" } : Jvm.MethodName)) ∈ lw_all := lw_g (lw_at lw_m9 190 rfl) rfl
theorem q2199 : (Jvm.Cond.methodLink "GridRoomLaw" (167 : Nat) ({ cls := "GridRoomModel", name := "often", desc := "(III)I" } : Jvm.MethodName)) ∈ lw_all := lw_g (lw_at lw_m9 194 rfl) rfl
theorem q2207 : (Jvm.Cond.methodLink "GridRoomLaw" (171 : Nat) ({ cls := "GridRoomModel", name := "rank", desc := "(II)I" } : Jvm.MethodName)) ∈ lw_all := lw_g (lw_at lw_m9 202 rfl) rfl
theorem q2211 : (Jvm.Cond.methodLink "GridRoomLaw" (175 : Nat) ({ cls := "GridRoomModel", name := "count", desc := "(I)I" } : Jvm.MethodName)) ∈ lw_all := lw_g (lw_at lw_m9 206 rfl) rfl
def RX1 : String := "GridRoom"
def TX1 : u_T := fun k => match k with
  | 0 => ("GridRoom", "now", "I", false)
  | 1 => ("GridRoom", "tablets", "Ljava/util/ArrayList;", true)
  | 2 => ("GridRoom", "rules", "Ljava/util/ArrayList;", true)
  | 3 => ("GridRoom", "shares", "Ljava/util/ArrayList;", true)
  | 4 => ("GridRoom", "names", "Ljava/util/ArrayList;", true)
  | 5 => ("GridRoom", "noRules", "LGridRoom$Rules;", true)
  | 6 => ("GridRoom", "trusts", "[I", true)
  | 7 => ("GridRoom", "heldBy", "[I", true)
  | 8 => ("GridRoom", "heldOne", "[I", true)
  | 9 => ("GridRoom", "heldOther", "[I", true)
  | 10 => ("GridRoom", "heldAs", "[I", true)
  | 11 => ("GridRoom", "heldOn", "[I", true)
  | 12 => ("GridRoom", "held", "I", false)
  | 13 => ("GridRoom", "tape", "[B", true)
  | 14 => ("GridRoom", "out", "[B", true)
  | 15 => ("GridRoom", "taped", "I", false)
  | 16 => ("GridRoom", "outs", "I", false)
  | 17 => ("GridRoom", "place", "I", false)
  | 18 => ("GridRoom", "view", "LGridRoom$View;", true)
  | 19 => ("GridRoom", "cells", "[I", true)
  | 20 => ("GridRoom", "setting", "[LGridRoom$Setting;", true)
  | 21 => ("GridRoom", "isChosen", "[Z", true)
  | 22 => ("GridRoom", "given", "[I", true)
  | 23 => ("GridRoom", "usedBy", "[I", true)
  | 24 => ("GridRoom", "order", "[I", true)
  | 25 => ("GridRoom", "many", "[I", true)
  | 26 => ("GridRoom", "none", "[I", true)
  | _ => ("GridRoom", "often", "[I", true)
def tyX1 : Nat → FieldType := fun k => match k with
  | 0 => .int
  | 1 => .object "java/util/ArrayList"
  | 2 => .object "java/util/ArrayList"
  | 3 => .object "java/util/ArrayList"
  | 4 => .object "java/util/ArrayList"
  | 5 => .object "GridRoom$Rules"
  | 6 => .array .int
  | 7 => .array .int
  | 8 => .array .int
  | 9 => .array .int
  | 10 => .array .int
  | 11 => .array .int
  | 12 => .int
  | 13 => .array .byte
  | 14 => .array .byte
  | 15 => .int
  | 16 => .int
  | 17 => .int
  | 18 => .object "GridRoom$View"
  | 19 => .array .int
  | 20 => .array (.object "GridRoom$Setting")
  | 21 => .array .boolean
  | 22 => .array .int
  | 23 => .array .int
  | 24 => .array .int
  | 25 => .array .int
  | 26 => .array .int
  | _ => .array .int
abbrev wsX10 : List Cond := u_ws RX1 TX1 28
theorem nmX1 : ∀ a, a < 28 → ∀ b, b < 28 → a ≠ b → (TX1 a).2.1 ≠ (TX1 b).2.1 := by decide +kernel
theorem tyX1_ok : ∀ k, k < 28 → parseFieldDescriptor (TX1 k).2.2.1 = some (tyX1 k) := by decide +kernel
abbrev cX1_init : ByteArray := prog_1_method_4_code
def yX1_init : MethodName := ⟨RX1, "<init>", "()V"⟩
abbrev cX1_made : ByteArray := prog_1_method_36_code
def yX1_made : MethodName := ⟨RX1, "made", "()[LGridRoom$Setting;"⟩
abbrev cX1_day : ByteArray := prog_1_method_7_code
def yX1_day : MethodName := ⟨RX1, "day", "(I)I"⟩
abbrev cX1_in : ByteArray := prog_1_method_1_code
def yX1_in : MethodName := ⟨RX1, "in", "(III)Z"⟩
abbrev cX1_feed : ByteArray := prog_1_method_8_code
def yX1_feed : MethodName := ⟨RX1, "feed", "(IIIII)I"⟩
abbrev cX1_end : ByteArray := prog_1_method_9_code
def yX1_end : MethodName := ⟨RX1, "end", "(I)I"⟩
abbrev cX1_tablet : ByteArray := prog_1_method_12_code
def yX1_tablet : MethodName := ⟨RX1, "tablet", "()I"⟩
abbrev cX1_takes : ByteArray := prog_1_method_10_code
def yX1_takes : MethodName := ⟨RX1, "takes", "()I"⟩
abbrev cX1_wrong : ByteArray := prog_1_method_11_code
def yX1_wrong : MethodName := ⟨RX1, "wrong", "(LGridRoom$Wrong;)I"⟩
abbrev cX1_rules : ByteArray := prog_1_method_13_code
def yX1_rules : MethodName := ⟨RX1, "rules", "()I"⟩
abbrev cX1_vowel : ByteArray := prog_1_method_3_code
def yX1_vowel : MethodName := ⟨RX1, "vowel", "(I)I"⟩
abbrev cX1_place : ByteArray := prog_1_method_14_code
def yX1_place : MethodName := ⟨RX1, "place", "()I"⟩
abbrev cX1_away : ByteArray := prog_1_method_16_code
def yX1_away : MethodName := ⟨RX1, "away", "(II)Z"⟩
abbrev cX1_goesOf : ByteArray := prog_1_method_15_code
def yX1_goesOf : MethodName := ⟨RX1, "goesOf", "(Ljava/util/ArrayList;II)Z"⟩
abbrev cX1_trust : ByteArray := prog_1_method_17_code
def yX1_trust : MethodName := ⟨RX1, "trust", "(II)Z"⟩
abbrev cX1_holds : ByteArray := prog_1_method_18_code
def yX1_holds : MethodName := ⟨RX1, "holds", "(IIII)Z"⟩
abbrev cX1_isSign : ByteArray := prog_1_method_2_code
def yX1_isSign : MethodName := ⟨RX1, "isSign", "(I)Z"⟩
abbrev cX1_share : ByteArray := prog_1_method_20_code
def yX1_share : MethodName := ⟨RX1, "share", "(IIIZ)I"⟩
abbrev cX1_sign : ByteArray := prog_1_method_21_code
def yX1_sign : MethodName := ⟨RX1, "sign", "(II)I"⟩
abbrev cX1_isKnown : ByteArray := prog_1_method_5_code
def yX1_isKnown : MethodName := ⟨RX1, "isKnown", "(I)Z"⟩
abbrev cX1_pairs : ByteArray := prog_1_method_22_code
def yX1_pairs : MethodName := ⟨RX1, "pairs", "(IIII)I"⟩
abbrev cX1_links : ByteArray := prog_1_method_24_code
def yX1_links : MethodName := ⟨RX1, "links", "(II)I"⟩
abbrev cX1_isSort : ByteArray := prog_1_method_23_code
def yX1_isSort : MethodName := ⟨RX1, "isSort", "(I)Z"⟩
abbrev cX1_classOf : ByteArray := prog_1_method_25_code
def yX1_classOf : MethodName := ⟨RX1, "classOf", "(III)I"⟩
abbrev cX1_clash : ByteArray := prog_1_method_26_code
def yX1_clash : MethodName := ⟨RX1, "clash", "(II)I"⟩
abbrev cX1_reason : ByteArray := prog_1_method_27_code
def yX1_reason : MethodName := ⟨RX1, "reason", "(III)I"⟩
abbrev cX1_name : ByteArray := prog_1_method_32_code
def yX1_name : MethodName := ⟨RX1, "name", "(I)I"⟩
abbrev cX1_nameTold : ByteArray := prog_1_method_31_code
def yX1_nameTold : MethodName := ⟨RX1, "nameTold", "()[B"⟩
abbrev cX1_isTablet : ByteArray := prog_1_method_6_code
def yX1_isTablet : MethodName := ⟨RX1, "isTablet", "(I)Z"⟩
abbrev cX1_spelled : ByteArray := prog_1_method_34_code
def yX1_spelled : MethodName := ⟨RX1, "spelled", "(II)I"⟩
abbrev cX1_isName : ByteArray := prog_1_method_33_code
def yX1_isName : MethodName := ⟨RX1, "isName", "(I)Z"⟩
abbrev cX1_spell : ByteArray := prog_1_method_29_code
def yX1_spell : MethodName := ⟨RX1, "spell", "([BLGridRoom$Rules;[I)I"⟩
abbrev cX1_behind : ByteArray := prog_1_method_30_code
def yX1_behind : MethodName := ⟨RX1, "behind", "([BLGridRoom$Rules;II)I"⟩
abbrev cX1_cell : ByteArray := prog_1_method_35_code
def yX1_cell : MethodName := ⟨RX1, "cell", "(III)I"⟩
abbrev cX1_ways : ByteArray := prog_1_method_38_code
def yX1_ways : MethodName := ⟨RX1, "ways", "(I)I"⟩
abbrev cX1_isAsked : ByteArray := prog_1_method_37_code
def yX1_isAsked : MethodName := ⟨RX1, "isAsked", "(I)Z"⟩
abbrev cX1_consonant : ByteArray := prog_1_method_28_code
def yX1_consonant : MethodName := ⟨RX1, "consonant", "(I)I"⟩
abbrev cX1_way : ByteArray := prog_1_method_40_code
def yX1_way : MethodName := ⟨RX1, "way", "(III)I"⟩
abbrev cX1_seeks : ByteArray := prog_1_method_39_code
def yX1_seeks : MethodName := ⟨RX1, "seeks", "(II)LGridRoom$Seeker;"⟩
abbrev cX1_given : ByteArray := prog_1_method_41_code
def yX1_given : MethodName := ⟨RX1, "given", "(III)I"⟩
abbrev cX1_forced : ByteArray := prog_1_method_43_code
def yX1_forced : MethodName := ⟨RX1, "forced", "(II)I"⟩
abbrev cX1_tally : ByteArray := prog_1_method_42_code
def yX1_tally : MethodName := ⟨RX1, "tally", "(I)LGridRoom$Tally;"⟩
abbrev cX1_reads : ByteArray := prog_1_method_44_code
def yX1_reads : MethodName := ⟨RX1, "reads", "(III)I"⟩
abbrev cX1_puts : ByteArray := prog_1_method_45_code
def yX1_puts : MethodName := ⟨RX1, "puts", "(I)V"⟩
abbrev cX1_letter : ByteArray := prog_1_method_46_code
def yX1_letter : MethodName := ⟨RX1, "letter", "(I)I"⟩
abbrev cX1_settles : ByteArray := prog_1_method_47_code
def yX1_settles : MethodName := ⟨RX1, "settles", "(II)I"⟩
abbrev cX1_would : ByteArray := prog_1_method_48_code
def yX1_would : MethodName := ⟨RX1, "would", "(II)I"⟩
abbrev cX1_fits : ByteArray := prog_1_method_49_code
def yX1_fits : MethodName := ⟨RX1, "fits", "(I)I"⟩
abbrev cX1_doubt : ByteArray := prog_1_method_50_code
def yX1_doubt : MethodName := ⟨RX1, "doubt", "(II)I"⟩
abbrev cX1_could : ByteArray := prog_1_method_51_code
def yX1_could : MethodName := ⟨RX1, "could", "(IIII)I"⟩
abbrev cX1_inGrid : ByteArray := prog_1_method_52_code
def yX1_inGrid : MethodName := ⟨RX1, "inGrid", "(II)I"⟩
abbrev cX1_where : ByteArray := prog_1_method_53_code
def yX1_where : MethodName := ⟨RX1, "where", "(I)I"⟩
abbrev cX1_often : ByteArray := prog_1_method_56_code
def yX1_often : MethodName := ⟨RX1, "often", "(III)I"⟩
abbrev cX1_counts : ByteArray := prog_1_method_54_code
def yX1_counts : MethodName := ⟨RX1, "counts", "(I)V"⟩
abbrev cX1_inAll : ByteArray := prog_1_method_55_code
def yX1_inAll : MethodName := ⟨RX1, "inAll", "(I)I"⟩
abbrev cX1_rank : ByteArray := prog_1_method_57_code
def yX1_rank : MethodName := ⟨RX1, "rank", "(II)I"⟩
abbrev cX1_isAhead : ByteArray := prog_1_method_58_code
def yX1_isAhead : MethodName := ⟨RX1, "isAhead", "(II)Z"⟩
abbrev cX1_count : ByteArray := prog_1_method_59_code
def yX1_count : MethodName := ⟨RX1, "count", "(I)I"⟩
abbrev cX1_told : ByteArray := prog_1_method_19_code
def yX1_told : MethodName := ⟨RX1, "told", "(III)I"⟩
theorem q86 : (Jvm.Cond.initialized "GridRoom") ∈ lw_all := lw_g (lw_at lw_m1 1 rfl) rfl
theorem q128 : (Jvm.Cond.instantiable "GridRoom" (28 : Nat)) ∈ lw_all := lw_g (lw_at lw_m1 43 rfl) rfl
theorem q130 : (Jvm.Cond.instanceMethod ({ cls := "GridRoom", name := "<init>", desc := "()V" } : Jvm.MethodName)) ∈ lw_all := lw_g (lw_at lw_m1 45 rfl) rfl
theorem q131 : (Jvm.Cond.code ({ cls := "GridRoom", name := "<init>", desc := "()V" } : Jvm.MethodName) prog_1_method_4_code (1 : Nat) (Option.none : Option Jvm.ClassFile.FieldType)) ∈ lw_all := lw_g (lw_at lw_m1 46 rfl) rfl
theorem q132 : (Jvm.Cond.methodLink "GridRoom" (15 : Nat) ({ cls := "java/lang/Object", name := "<init>", desc := "()V" } : Jvm.MethodName)) ∈ lw_all := lw_g (lw_at lw_m1 47 rfl) rfl
theorem q135 : (Jvm.Cond.classLink "GridRoom" (21 : Nat) "java/util/ArrayList") ∈ lw_all := lw_g (lw_at lw_m1 50 rfl) rfl
theorem q137 : (Jvm.Cond.methodLink "GridRoom" (23 : Nat) ({ cls := "java/util/ArrayList", name := "<init>", desc := "(I)V" } : Jvm.MethodName)) ∈ lw_all := lw_g (lw_at lw_m1 52 rfl) rfl
theorem q163 : (Jvm.Cond.classLink "GridRoom" (39 : Nat) "GridRoom$Rules") ∈ lw_all := lw_g (lw_at lw_m1 78 rfl) rfl
theorem q165 : (Jvm.Cond.methodLink "GridRoom" (41 : Nat) ({ cls := "GridRoom$Rules", name := "<init>", desc := "(I)V" } : Jvm.MethodName)) ∈ lw_all := lw_g (lw_at lw_m1 80 rfl) rfl
theorem q174 : (Jvm.Cond.fieldLinkNest "GridRoom" (166 : Nat) "GridRoom$Rules" "clauses" "Ljava/util/ArrayList;" "GridRoom") ∈ lw_tbl := lw_at lw_m1 89 rfl
theorem q182 : (Jvm.Cond.classLink "GridRoom" (76 : Nat) "GridRoom$View") ∈ lw_all := lw_g (lw_at lw_m1 97 rfl) rfl
theorem q184 : (Jvm.Cond.methodLinkNest "GridRoom" (78 : Nat) ({ cls := "GridRoom$View", name := "<init>", desc := "(LGridRoom;)V" } : Jvm.MethodName) "GridRoom") ∈ lw_tbl := lw_at lw_m1 99 rfl
theorem q192 : (Jvm.Cond.fieldLinkNest "GridRoom" (220 : Nat) "GridRoom$View" "stands" "[I" "GridRoom") ∈ lw_tbl := lw_at lw_m1 107 rfl
theorem q198 : (Jvm.Cond.fieldLinkNest "GridRoom" (316 : Nat) "GridRoom$View" "known" "I" "GridRoom") ∈ lw_tbl := lw_at lw_m1 113 rfl
theorem q201 : (Jvm.Cond.fieldLinkNest "GridRoom" (223 : Nat) "GridRoom$View" "law" "LGridRoom$Rules;" "GridRoom") ∈ lw_tbl := lw_at lw_m1 116 rfl
theorem q203 : (Jvm.Cond.fieldLinkNest "GridRoom" (240 : Nat) "GridRoom$View" "isLinked" "[Z" "GridRoom") ∈ lw_tbl := lw_at lw_m1 118 rfl
theorem q207 : (Jvm.Cond.fieldLinkNest "GridRoom" (247 : Nat) "GridRoom$View" "classes" "[I" "GridRoom") ∈ lw_tbl := lw_at lw_m1 122 rfl
theorem q211 : (Jvm.Cond.fieldLinkNest "GridRoom" (254 : Nat) "GridRoom$View" "clashOne" "I" "GridRoom") ∈ lw_tbl := lw_at lw_m1 126 rfl
theorem q213 : (Jvm.Cond.fieldLinkNest "GridRoom" (257 : Nat) "GridRoom$View" "clashOther" "I" "GridRoom") ∈ lw_tbl := lw_at lw_m1 128 rfl
theorem q215 : (Jvm.Cond.fieldLinkNest "GridRoom" (260 : Nat) "GridRoom$View" "clashKind" "I" "GridRoom") ∈ lw_tbl := lw_at lw_m1 130 rfl
theorem q218 : (Jvm.Cond.fieldLinkNest "GridRoom" (263 : Nat) "GridRoom$View" "clashLinks" "I" "GridRoom") ∈ lw_tbl := lw_at lw_m1 133 rfl
theorem q220 : (Jvm.Cond.fieldLinkNest "GridRoom" (275 : Nat) "GridRoom$View" "wayFrom" "[I" "GridRoom") ∈ lw_tbl := lw_at lw_m1 135 rfl
theorem q222 : (Jvm.Cond.fieldLinkNest "GridRoom" (278 : Nat) "GridRoom$View" "wayTo" "[I" "GridRoom") ∈ lw_tbl := lw_at lw_m1 137 rfl
theorem q224 : (Jvm.Cond.fieldLinkNest "GridRoom" (272 : Nat) "GridRoom$View" "waySort" "[I" "GridRoom") ∈ lw_tbl := lw_at lw_m1 139 rfl
theorem q226 : (Jvm.Cond.fieldLinkNest "GridRoom" (269 : Nat) "GridRoom$View" "wayMany" "I" "GridRoom") ∈ lw_tbl := lw_at lw_m1 141 rfl
theorem q278 : (Jvm.Cond.methodLink "GridRoom" (88 : Nat) ({ cls := "GridRoom", name := "made", desc := "()[LGridRoom$Setting;" } : Jvm.MethodName)) ∈ lw_all := lw_g (lw_at lw_m1 193 rfl) rfl
theorem q279 : (Jvm.Cond.privateMethod ({ cls := "GridRoom", name := "made", desc := "()[LGridRoom$Setting;" } : Jvm.MethodName)) ∈ lw_tbl := lw_at lw_m1 194 rfl
theorem q280 : (Jvm.Cond.instanceMethod ({ cls := "GridRoom", name := "made", desc := "()[LGridRoom$Setting;" } : Jvm.MethodName)) ∈ lw_all := lw_g (lw_at lw_m1 195 rfl) rfl
theorem q281 : (Jvm.Cond.code ({ cls := "GridRoom", name := "made", desc := "()[LGridRoom$Setting;" } : Jvm.MethodName) prog_1_method_36_code (3 : Nat) (Option.some (Jvm.ClassFile.FieldType.array (Jvm.ClassFile.FieldType.object "GridRoom$Setting")))) ∈ lw_all := lw_g (lw_at lw_m1 196 rfl) rfl
theorem q282 : (Jvm.Cond.classLink "GridRoom" (313 : Nat) "GridRoom$Setting") ∈ lw_all := lw_g (lw_at lw_m1 197 rfl) rfl
theorem q285 : (Jvm.Cond.methodLinkNest "GridRoom" (315 : Nat) ({ cls := "GridRoom$Setting", name := "<init>", desc := "(LGridRoom;)V" } : Jvm.MethodName) "GridRoom") ∈ lw_tbl := lw_at lw_m1 200 rfl
theorem q313 : (Jvm.Cond.fieldLink "GridRoom" (118 : Nat) "GridRoom" "now" "I") ∈ lw_all := lw_g (lw_at lw_m1 228 rfl) rfl
theorem q316 : (Jvm.Cond.fieldLink "GridRoom" (26 : Nat) "GridRoom" "tablets" "Ljava/util/ArrayList;") ∈ lw_all := lw_g (lw_at lw_m1 231 rfl) rfl
theorem q319 : (Jvm.Cond.fieldLink "GridRoom" (30 : Nat) "GridRoom" "rules" "Ljava/util/ArrayList;") ∈ lw_all := lw_g (lw_at lw_m1 234 rfl) rfl
theorem q320 : (Jvm.Cond.fieldLink "GridRoom" (33 : Nat) "GridRoom" "shares" "Ljava/util/ArrayList;") ∈ lw_all := lw_g (lw_at lw_m1 235 rfl) rfl
theorem q323 : (Jvm.Cond.fieldLink "GridRoom" (36 : Nat) "GridRoom" "names" "Ljava/util/ArrayList;") ∈ lw_all := lw_g (lw_at lw_m1 238 rfl) rfl
theorem q325 : (Jvm.Cond.fieldLink "GridRoom" (42 : Nat) "GridRoom" "noRules" "LGridRoom$Rules;") ∈ lw_all := lw_g (lw_at lw_m2 0 rfl) rfl
theorem q327 : (Jvm.Cond.fieldLink "GridRoom" (46 : Nat) "GridRoom" "trusts" "[I") ∈ lw_all := lw_g (lw_at lw_m2 2 rfl) rfl
theorem q329 : (Jvm.Cond.fieldLink "GridRoom" (50 : Nat) "GridRoom" "heldBy" "[I") ∈ lw_all := lw_g (lw_at lw_m2 4 rfl) rfl
theorem q331 : (Jvm.Cond.fieldLink "GridRoom" (53 : Nat) "GridRoom" "heldOne" "[I") ∈ lw_all := lw_g (lw_at lw_m2 6 rfl) rfl
theorem q333 : (Jvm.Cond.fieldLink "GridRoom" (56 : Nat) "GridRoom" "heldOther" "[I") ∈ lw_all := lw_g (lw_at lw_m2 8 rfl) rfl
theorem q335 : (Jvm.Cond.fieldLink "GridRoom" (59 : Nat) "GridRoom" "heldAs" "[I") ∈ lw_all := lw_g (lw_at lw_m2 10 rfl) rfl
theorem q337 : (Jvm.Cond.fieldLink "GridRoom" (62 : Nat) "GridRoom" "heldOn" "[I") ∈ lw_all := lw_g (lw_at lw_m2 12 rfl) rfl
theorem q339 : (Jvm.Cond.fieldLink "GridRoom" (186 : Nat) "GridRoom" "held" "I") ∈ lw_all := lw_g (lw_at lw_m2 14 rfl) rfl
theorem q340 : (Jvm.Cond.fieldLink "GridRoom" (65 : Nat) "GridRoom" "tape" "[B") ∈ lw_all := lw_g (lw_at lw_m2 15 rfl) rfl
theorem q341 : (Jvm.Cond.fieldLink "GridRoom" (69 : Nat) "GridRoom" "out" "[B") ∈ lw_all := lw_g (lw_at lw_m2 16 rfl) rfl
theorem q342 : (Jvm.Cond.fieldLink "GridRoom" (126 : Nat) "GridRoom" "taped" "I") ∈ lw_all := lw_g (lw_at lw_m2 17 rfl) rfl
theorem q343 : (Jvm.Cond.fieldLink "GridRoom" (366 : Nat) "GridRoom" "outs" "I") ∈ lw_all := lw_g (lw_at lw_m2 18 rfl) rfl
theorem q344 : (Jvm.Cond.fieldLink "GridRoom" (72 : Nat) "GridRoom" "place" "I") ∈ lw_all := lw_g (lw_at lw_m2 19 rfl) rfl
theorem q346 : (Jvm.Cond.fieldLink "GridRoom" (81 : Nat) "GridRoom" "view" "LGridRoom$View;") ∈ lw_all := lw_g (lw_at lw_m2 21 rfl) rfl
theorem q348 : (Jvm.Cond.fieldLink "GridRoom" (85 : Nat) "GridRoom" "cells" "[I") ∈ lw_all := lw_g (lw_at lw_m2 23 rfl) rfl
theorem q351 : (Jvm.Cond.fieldLink "GridRoom" (92 : Nat) "GridRoom" "setting" "[LGridRoom$Setting;") ∈ lw_all := lw_g (lw_at lw_m2 26 rfl) rfl
theorem q354 : (Jvm.Cond.fieldLink "GridRoom" (96 : Nat) "GridRoom" "isChosen" "[Z") ∈ lw_all := lw_g (lw_at lw_m2 29 rfl) rfl
theorem q358 : (Jvm.Cond.fieldLink "GridRoom" (100 : Nat) "GridRoom" "given" "[I") ∈ lw_all := lw_g (lw_at lw_m2 33 rfl) rfl
theorem q360 : (Jvm.Cond.fieldLink "GridRoom" (103 : Nat) "GridRoom" "usedBy" "[I") ∈ lw_all := lw_g (lw_at lw_m2 35 rfl) rfl
theorem q361 : (Jvm.Cond.fieldLink "GridRoom" (106 : Nat) "GridRoom" "order" "[I") ∈ lw_all := lw_g (lw_at lw_m2 36 rfl) rfl
theorem q364 : (Jvm.Cond.fieldLink "GridRoom" (109 : Nat) "GridRoom" "many" "[I") ∈ lw_all := lw_g (lw_at lw_m2 39 rfl) rfl
theorem q366 : (Jvm.Cond.fieldLink "GridRoom" (112 : Nat) "GridRoom" "none" "[I") ∈ lw_all := lw_g (lw_at lw_m2 41 rfl) rfl
theorem q367 : (Jvm.Cond.fieldLink "GridRoom" (115 : Nat) "GridRoom" "often" "[I") ∈ lw_all := lw_g (lw_at lw_m2 42 rfl) rfl
theorem q368 : (Jvm.Cond.lays "GridRoom" "GridRoom" "now" "I") ∈ lw_all := lw_g (lw_at lw_m2 43 rfl) rfl
theorem q369 : (Jvm.Cond.soleField "GridRoom" "now") ∈ lw_all := lw_g (lw_at lw_m2 44 rfl) rfl
theorem q370 : (Jvm.Cond.laysFinal "GridRoom" "GridRoom" "tablets" "Ljava/util/ArrayList;") ∈ lw_all := lw_g (lw_at lw_m2 45 rfl) rfl
theorem q371 : (Jvm.Cond.soleField "GridRoom" "tablets") ∈ lw_all := lw_g (lw_at lw_m2 46 rfl) rfl
theorem q372 : (Jvm.Cond.laysFinal "GridRoom" "GridRoom" "rules" "Ljava/util/ArrayList;") ∈ lw_all := lw_g (lw_at lw_m2 47 rfl) rfl
theorem q373 : (Jvm.Cond.soleField "GridRoom" "rules") ∈ lw_all := lw_g (lw_at lw_m2 48 rfl) rfl
theorem q374 : (Jvm.Cond.laysFinal "GridRoom" "GridRoom" "shares" "Ljava/util/ArrayList;") ∈ lw_all := lw_g (lw_at lw_m2 49 rfl) rfl
theorem q375 : (Jvm.Cond.soleField "GridRoom" "shares") ∈ lw_all := lw_g (lw_at lw_m2 50 rfl) rfl
theorem q376 : (Jvm.Cond.laysFinal "GridRoom" "GridRoom" "names" "Ljava/util/ArrayList;") ∈ lw_all := lw_g (lw_at lw_m2 51 rfl) rfl
theorem q377 : (Jvm.Cond.soleField "GridRoom" "names") ∈ lw_all := lw_g (lw_at lw_m2 52 rfl) rfl
theorem q378 : (Jvm.Cond.laysFinal "GridRoom" "GridRoom" "noRules" "LGridRoom$Rules;") ∈ lw_all := lw_g (lw_at lw_m2 53 rfl) rfl
theorem q379 : (Jvm.Cond.soleField "GridRoom" "noRules") ∈ lw_all := lw_g (lw_at lw_m2 54 rfl) rfl
theorem q380 : (Jvm.Cond.laysFinal "GridRoom" "GridRoom" "trusts" "[I") ∈ lw_all := lw_g (lw_at lw_m2 55 rfl) rfl
theorem q381 : (Jvm.Cond.soleField "GridRoom" "trusts") ∈ lw_all := lw_g (lw_at lw_m2 56 rfl) rfl
theorem q382 : (Jvm.Cond.laysFinal "GridRoom" "GridRoom" "heldBy" "[I") ∈ lw_all := lw_g (lw_at lw_m2 57 rfl) rfl
theorem q383 : (Jvm.Cond.soleField "GridRoom" "heldBy") ∈ lw_all := lw_g (lw_at lw_m2 58 rfl) rfl
theorem q384 : (Jvm.Cond.laysFinal "GridRoom" "GridRoom" "heldOne" "[I") ∈ lw_all := lw_g (lw_at lw_m2 59 rfl) rfl
theorem q385 : (Jvm.Cond.soleField "GridRoom" "heldOne") ∈ lw_all := lw_g (lw_at lw_m2 60 rfl) rfl
theorem q386 : (Jvm.Cond.laysFinal "GridRoom" "GridRoom" "heldOther" "[I") ∈ lw_all := lw_g (lw_at lw_m2 61 rfl) rfl
theorem q387 : (Jvm.Cond.soleField "GridRoom" "heldOther") ∈ lw_all := lw_g (lw_at lw_m2 62 rfl) rfl
theorem q388 : (Jvm.Cond.laysFinal "GridRoom" "GridRoom" "heldAs" "[I") ∈ lw_all := lw_g (lw_at lw_m2 63 rfl) rfl
theorem q389 : (Jvm.Cond.soleField "GridRoom" "heldAs") ∈ lw_all := lw_g (lw_at lw_m2 64 rfl) rfl
theorem q390 : (Jvm.Cond.laysFinal "GridRoom" "GridRoom" "heldOn" "[I") ∈ lw_all := lw_g (lw_at lw_m2 65 rfl) rfl
theorem q391 : (Jvm.Cond.soleField "GridRoom" "heldOn") ∈ lw_all := lw_g (lw_at lw_m2 66 rfl) rfl
theorem q392 : (Jvm.Cond.lays "GridRoom" "GridRoom" "held" "I") ∈ lw_all := lw_g (lw_at lw_m2 67 rfl) rfl
theorem q393 : (Jvm.Cond.soleField "GridRoom" "held") ∈ lw_all := lw_g (lw_at lw_m2 68 rfl) rfl
theorem q394 : (Jvm.Cond.laysFinal "GridRoom" "GridRoom" "tape" "[B") ∈ lw_all := lw_g (lw_at lw_m2 69 rfl) rfl
theorem q395 : (Jvm.Cond.soleField "GridRoom" "tape") ∈ lw_all := lw_g (lw_at lw_m2 70 rfl) rfl
theorem q396 : (Jvm.Cond.laysFinal "GridRoom" "GridRoom" "out" "[B") ∈ lw_all := lw_g (lw_at lw_m2 71 rfl) rfl
theorem q397 : (Jvm.Cond.soleField "GridRoom" "out") ∈ lw_all := lw_g (lw_at lw_m2 72 rfl) rfl
theorem q398 : (Jvm.Cond.lays "GridRoom" "GridRoom" "taped" "I") ∈ lw_all := lw_g (lw_at lw_m2 73 rfl) rfl
theorem q399 : (Jvm.Cond.soleField "GridRoom" "taped") ∈ lw_all := lw_g (lw_at lw_m2 74 rfl) rfl
theorem q400 : (Jvm.Cond.lays "GridRoom" "GridRoom" "outs" "I") ∈ lw_all := lw_g (lw_at lw_m2 75 rfl) rfl
theorem q401 : (Jvm.Cond.soleField "GridRoom" "outs") ∈ lw_all := lw_g (lw_at lw_m2 76 rfl) rfl
theorem q402 : (Jvm.Cond.lays "GridRoom" "GridRoom" "place" "I") ∈ lw_all := lw_g (lw_at lw_m2 77 rfl) rfl
theorem q403 : (Jvm.Cond.soleField "GridRoom" "place") ∈ lw_all := lw_g (lw_at lw_m2 78 rfl) rfl
theorem q404 : (Jvm.Cond.laysFinal "GridRoom" "GridRoom" "view" "LGridRoom$View;") ∈ lw_all := lw_g (lw_at lw_m2 79 rfl) rfl
theorem q405 : (Jvm.Cond.soleField "GridRoom" "view") ∈ lw_all := lw_g (lw_at lw_m2 80 rfl) rfl
theorem q406 : (Jvm.Cond.laysFinal "GridRoom" "GridRoom" "cells" "[I") ∈ lw_all := lw_g (lw_at lw_m2 81 rfl) rfl
theorem q407 : (Jvm.Cond.soleField "GridRoom" "cells") ∈ lw_all := lw_g (lw_at lw_m2 82 rfl) rfl
theorem q408 : (Jvm.Cond.laysFinal "GridRoom" "GridRoom" "setting" "[LGridRoom$Setting;") ∈ lw_all := lw_g (lw_at lw_m2 83 rfl) rfl
theorem q409 : (Jvm.Cond.soleField "GridRoom" "setting") ∈ lw_all := lw_g (lw_at lw_m2 84 rfl) rfl
theorem q410 : (Jvm.Cond.laysFinal "GridRoom" "GridRoom" "isChosen" "[Z") ∈ lw_all := lw_g (lw_at lw_m2 85 rfl) rfl
theorem q411 : (Jvm.Cond.soleField "GridRoom" "isChosen") ∈ lw_all := lw_g (lw_at lw_m2 86 rfl) rfl
theorem q412 : (Jvm.Cond.laysFinal "GridRoom" "GridRoom" "given" "[I") ∈ lw_all := lw_g (lw_at lw_m2 87 rfl) rfl
theorem q413 : (Jvm.Cond.soleField "GridRoom" "given") ∈ lw_all := lw_g (lw_at lw_m2 88 rfl) rfl
theorem q414 : (Jvm.Cond.laysFinal "GridRoom" "GridRoom" "usedBy" "[I") ∈ lw_all := lw_g (lw_at lw_m2 89 rfl) rfl
theorem q415 : (Jvm.Cond.soleField "GridRoom" "usedBy") ∈ lw_all := lw_g (lw_at lw_m2 90 rfl) rfl
theorem q416 : (Jvm.Cond.laysFinal "GridRoom" "GridRoom" "order" "[I") ∈ lw_all := lw_g (lw_at lw_m2 91 rfl) rfl
theorem q417 : (Jvm.Cond.soleField "GridRoom" "order") ∈ lw_all := lw_g (lw_at lw_m2 92 rfl) rfl
theorem q418 : (Jvm.Cond.laysFinal "GridRoom" "GridRoom" "many" "[I") ∈ lw_all := lw_g (lw_at lw_m2 93 rfl) rfl
theorem q419 : (Jvm.Cond.soleField "GridRoom" "many") ∈ lw_all := lw_g (lw_at lw_m2 94 rfl) rfl
theorem q420 : (Jvm.Cond.laysFinal "GridRoom" "GridRoom" "none" "[I") ∈ lw_all := lw_g (lw_at lw_m2 95 rfl) rfl
theorem q421 : (Jvm.Cond.soleField "GridRoom" "none") ∈ lw_all := lw_g (lw_at lw_m2 96 rfl) rfl
theorem q422 : (Jvm.Cond.laysFinal "GridRoom" "GridRoom" "often" "[I") ∈ lw_all := lw_g (lw_at lw_m2 97 rfl) rfl
theorem q423 : (Jvm.Cond.soleField "GridRoom" "often") ∈ lw_all := lw_g (lw_at lw_m2 98 rfl) rfl
theorem q424 : (Jvm.Cond.superclass "GridRoom" "java/lang/Object") ∈ lw_all := lw_g (lw_at lw_m2 99 rfl) rfl
theorem q426 : (Jvm.Cond.instanceMethod ({ cls := "GridRoom", name := "day", desc := "(I)I" } : Jvm.MethodName)) ∈ lw_all := lw_g (lw_at lw_m2 101 rfl) rfl
theorem q427 : (Jvm.Cond.selects "GridRoom" ({ cls := "GridRoom", name := "day", desc := "(I)I" } : Jvm.MethodName) ({ cls := "GridRoom", name := "day", desc := "(I)I" } : Jvm.MethodName)) ∈ lw_all := lw_g (lw_at lw_m2 102 rfl) rfl
theorem q428 : (Jvm.Cond.code ({ cls := "GridRoom", name := "day", desc := "(I)I" } : Jvm.MethodName) prog_1_method_7_code (2 : Nat) (Option.some Jvm.ClassFile.FieldType.int)) ∈ lw_all := lw_g (lw_at lw_m2 103 rfl) rfl
theorem q429 : (Jvm.Cond.methodLink "GridRoom" (3 : Nat) ({ cls := "GridRoom", name := "in", desc := "(III)Z" } : Jvm.MethodName)) ∈ lw_all := lw_g (lw_at lw_m2 104 rfl) rfl
theorem q430 : (Jvm.Cond.static ({ cls := "GridRoom", name := "in", desc := "(III)Z" } : Jvm.MethodName)) ∈ lw_all := lw_g (lw_at lw_m2 105 rfl) rfl
theorem q431 : (Jvm.Cond.code ({ cls := "GridRoom", name := "in", desc := "(III)Z" } : Jvm.MethodName) prog_1_method_1_code (3 : Nat) (Option.some Jvm.ClassFile.FieldType.boolean)) ∈ lw_all := lw_g (lw_at lw_m2 106 rfl) rfl
theorem q432 : (Jvm.Cond.constant "GridRoom" (125 : Nat) (100000 : Int32)) ∈ lw_all := lw_g (lw_at lw_m2 107 rfl) rfl
theorem q434 : (Jvm.Cond.instanceMethod ({ cls := "GridRoom", name := "feed", desc := "(IIIII)I" } : Jvm.MethodName)) ∈ lw_all := lw_g (lw_at lw_m2 109 rfl) rfl
theorem q435 : (Jvm.Cond.selects "GridRoom" ({ cls := "GridRoom", name := "feed", desc := "(IIIII)I" } : Jvm.MethodName) ({ cls := "GridRoom", name := "feed", desc := "(IIIII)I" } : Jvm.MethodName)) ∈ lw_all := lw_g (lw_at lw_m2 110 rfl) rfl
theorem q436 : (Jvm.Cond.code ({ cls := "GridRoom", name := "feed", desc := "(IIIII)I" } : Jvm.MethodName) prog_1_method_8_code (8 : Nat) (Option.some Jvm.ClassFile.FieldType.int)) ∈ lw_all := lw_g (lw_at lw_m2 111 rfl) rfl
theorem q438 : (Jvm.Cond.instanceMethod ({ cls := "GridRoom", name := "end", desc := "(I)I" } : Jvm.MethodName)) ∈ lw_all := lw_g (lw_at lw_m2 113 rfl) rfl
theorem q439 : (Jvm.Cond.selects "GridRoom" ({ cls := "GridRoom", name := "end", desc := "(I)I" } : Jvm.MethodName) ({ cls := "GridRoom", name := "end", desc := "(I)I" } : Jvm.MethodName)) ∈ lw_all := lw_g (lw_at lw_m2 114 rfl) rfl
theorem q440 : (Jvm.Cond.code ({ cls := "GridRoom", name := "end", desc := "(I)I" } : Jvm.MethodName) prog_1_method_9_code (2 : Nat) (Option.some Jvm.ClassFile.FieldType.int)) ∈ lw_all := lw_g (lw_at lw_m2 115 rfl) rfl
theorem q442 : (Jvm.Cond.instanceMethod ({ cls := "GridRoom", name := "tablet", desc := "()I" } : Jvm.MethodName)) ∈ lw_all := lw_g (lw_at lw_m2 117 rfl) rfl
theorem q443 : (Jvm.Cond.selects "GridRoom" ({ cls := "GridRoom", name := "tablet", desc := "()I" } : Jvm.MethodName) ({ cls := "GridRoom", name := "tablet", desc := "()I" } : Jvm.MethodName)) ∈ lw_all := lw_g (lw_at lw_m2 118 rfl) rfl
theorem q444 : (Jvm.Cond.codeWith ({ cls := "GridRoom", name := "tablet", desc := "()I" } : Jvm.MethodName) prog_1_method_12_code (2 : Nat) (Option.some Jvm.ClassFile.FieldType.int) [((19 : Nat), (65 : Nat), (66 : Nat), (130 : Nat))]) ∈ lw_all := lw_g (lw_at lw_m2 119 rfl) rfl
theorem q445 : (Jvm.Cond.classLink "GridRoom" (130 : Nat) "GridRoom$Wrong") ∈ lw_all := lw_g (lw_at lw_m2 120 rfl) rfl
theorem q446 : (Jvm.Cond.methodLink "GridRoom" (121 : Nat) ({ cls := "java/util/ArrayList", name := "size", desc := "()I" } : Jvm.MethodName)) ∈ lw_all := lw_g (lw_at lw_m2 121 rfl) rfl
theorem q450 : (Jvm.Cond.classLink "GridRoom" (135 : Nat) "GridRoom$Tablet") ∈ lw_all := lw_g (lw_at lw_m2 125 rfl) rfl
theorem q452 : (Jvm.Cond.classLink "GridRoom" (137 : Nat) "GridRoom$TabletReader") ∈ lw_all := lw_g (lw_at lw_m2 127 rfl) rfl
theorem q454 : (Jvm.Cond.methodLink "GridRoom" (139 : Nat) ({ cls := "GridRoom", name := "takes", desc := "()I" } : Jvm.MethodName)) ∈ lw_all := lw_g (lw_at lw_m2 129 rfl) rfl
theorem q455 : (Jvm.Cond.privateMethod ({ cls := "GridRoom", name := "takes", desc := "()I" } : Jvm.MethodName)) ∈ lw_tbl := lw_at lw_m2 130 rfl
theorem q456 : (Jvm.Cond.instanceMethod ({ cls := "GridRoom", name := "takes", desc := "()I" } : Jvm.MethodName)) ∈ lw_all := lw_g (lw_at lw_m2 131 rfl) rfl
theorem q457 : (Jvm.Cond.code ({ cls := "GridRoom", name := "takes", desc := "()I" } : Jvm.MethodName) prog_1_method_10_code (2 : Nat) (Option.some Jvm.ClassFile.FieldType.int)) ∈ lw_all := lw_g (lw_at lw_m2 132 rfl) rfl
theorem q458 : (Jvm.Cond.methodLink "GridRoom" (142 : Nat) ({ cls := "GridRoom$TabletReader", name := "<init>", desc := "([BI)V" } : Jvm.MethodName)) ∈ lw_all := lw_g (lw_at lw_m2 133 rfl) rfl
theorem q499 : (Jvm.Cond.methodLink "GridRoom" (145 : Nat) ({ cls := "GridRoom$TabletReader", name := "read", desc := "()[[I" } : Jvm.MethodName)) ∈ lw_all := lw_g (lw_at lw_m2 174 rfl) rfl
theorem q619 : (Jvm.Cond.fieldLinkNest "GridRoom" (132 : Nat) "GridRoom$Wrong" "kind" "I" "GridRoom") ∈ lw_tbl := lw_at lw_m3 54 rfl
theorem q621 : (Jvm.Cond.fieldLinkNest "GridRoom" (129 : Nat) "GridRoom$Wrong" "place" "I" "GridRoom") ∈ lw_tbl := lw_at lw_m3 56 rfl
theorem q673 : (Jvm.Cond.methodLink "GridRoom" (149 : Nat) ({ cls := "GridRoom$Tablet", name := "<init>", desc := "(I[[I)V" } : Jvm.MethodName)) ∈ lw_all := lw_g (lw_at lw_m3 108 rfl) rfl
theorem q685 : (Jvm.Cond.fieldLinkNest "GridRoom" (201 : Nat) "GridRoom$Tablet" "word" "[[I" "GridRoom") ∈ lw_tbl := lw_at lw_m3 120 rfl
theorem q695 : (Jvm.Cond.methodLink "GridRoom" (152 : Nat) ({ cls := "java/util/ArrayList", name := "add", desc := "(Ljava/lang/Object;)Z" } : Jvm.MethodName)) ∈ lw_all := lw_g (lw_at lw_m3 130 rfl) rfl
theorem q729 : (Jvm.Cond.selects "GridRoom" ({ cls := "java/lang/Object", name := "getClass", desc := "()Ljava/lang/Class;" } : Jvm.MethodName) ({ cls := "java/lang/Object", name := "getClass", desc := "()Ljava/lang/Class;" } : Jvm.MethodName)) ∈ lw_all := lw_g (lw_at lw_m3 164 rfl) rfl
theorem q761 : (Jvm.Cond.methodLink "GridRoom" (156 : Nat) ({ cls := "GridRoom", name := "wrong", desc := "(LGridRoom$Wrong;)I" } : Jvm.MethodName)) ∈ lw_all := lw_g (lw_at lw_m3 196 rfl) rfl
theorem q762 : (Jvm.Cond.privateMethod ({ cls := "GridRoom", name := "wrong", desc := "(LGridRoom$Wrong;)I" } : Jvm.MethodName)) ∈ lw_tbl := lw_at lw_m3 197 rfl
theorem q763 : (Jvm.Cond.instanceMethod ({ cls := "GridRoom", name := "wrong", desc := "(LGridRoom$Wrong;)I" } : Jvm.MethodName)) ∈ lw_all := lw_g (lw_at lw_m3 198 rfl) rfl
theorem q764 : (Jvm.Cond.code ({ cls := "GridRoom", name := "wrong", desc := "(LGridRoom$Wrong;)I" } : Jvm.MethodName) prog_1_method_11_code (2 : Nat) (Option.some Jvm.ClassFile.FieldType.int)) ∈ lw_all := lw_g (lw_at lw_m3 199 rfl) rfl
theorem q766 : (Jvm.Cond.instanceMethod ({ cls := "GridRoom", name := "rules", desc := "()I" } : Jvm.MethodName)) ∈ lw_all := lw_g (lw_at lw_m3 201 rfl) rfl
theorem q767 : (Jvm.Cond.selects "GridRoom" ({ cls := "GridRoom", name := "rules", desc := "()I" } : Jvm.MethodName) ({ cls := "GridRoom", name := "rules", desc := "()I" } : Jvm.MethodName)) ∈ lw_all := lw_g (lw_at lw_m3 202 rfl) rfl
theorem q768 : (Jvm.Cond.codeWith ({ cls := "GridRoom", name := "rules", desc := "()I" } : Jvm.MethodName) prog_1_method_13_code (2 : Nat) (Option.some Jvm.ClassFile.FieldType.int) [((19 : Nat), (58 : Nat), (59 : Nat), (130 : Nat))]) ∈ lw_all := lw_g (lw_at lw_m3 203 rfl) rfl
theorem q769 : (Jvm.Cond.classLink "GridRoom" (160 : Nat) "GridRoom$RuleReader") ∈ lw_all := lw_g (lw_at lw_m3 204 rfl) rfl
theorem q771 : (Jvm.Cond.methodLink "GridRoom" (162 : Nat) ({ cls := "GridRoom$RuleReader", name := "<init>", desc := "([BI)V" } : Jvm.MethodName)) ∈ lw_all := lw_g (lw_at lw_m3 206 rfl) rfl
theorem q783 : (Jvm.Cond.methodLink "GridRoom" (163 : Nat) ({ cls := "GridRoom$RuleReader", name := "read", desc := "(I)LGridRoom$Rules;" } : Jvm.MethodName)) ∈ lw_all := lw_g (lw_at lw_m3 218 rfl) rfl
theorem q825 : (Jvm.Cond.static ({ cls := "GridRoom", name := "vowel", desc := "(I)I" } : Jvm.MethodName)) ∈ lw_all := lw_g (lw_at lw_m4 20 rfl) rfl
theorem q826 : (Jvm.Cond.code ({ cls := "GridRoom", name := "vowel", desc := "(I)I" } : Jvm.MethodName) prog_1_method_3_code (1 : Nat) (Option.some Jvm.ClassFile.FieldType.int)) ∈ lw_all := lw_g (lw_at lw_m4 21 rfl) rfl
theorem q827 : (Jvm.Cond.stringRef "GridRoom" (7 : Nat) "aeiou") ∈ lw_tbl := lw_at lw_m4 22 rfl
theorem q828 : (Jvm.Cond.methodLink "GridRoom" (9 : Nat) ({ cls := "java/lang/String", name := "indexOf", desc := "(I)I" } : Jvm.MethodName)) ∈ lw_all := lw_g (lw_at lw_m4 23 rfl) rfl
theorem q942 : (Jvm.Cond.instanceMethod ({ cls := "GridRoom", name := "place", desc := "()I" } : Jvm.MethodName)) ∈ lw_all := lw_g (lw_at lw_m4 137 rfl) rfl
theorem q943 : (Jvm.Cond.selects "GridRoom" ({ cls := "GridRoom", name := "place", desc := "()I" } : Jvm.MethodName) ({ cls := "GridRoom", name := "place", desc := "()I" } : Jvm.MethodName)) ∈ lw_all := lw_g (lw_at lw_m4 138 rfl) rfl
theorem q944 : (Jvm.Cond.code ({ cls := "GridRoom", name := "place", desc := "()I" } : Jvm.MethodName) prog_1_method_14_code (1 : Nat) (Option.some Jvm.ClassFile.FieldType.int)) ∈ lw_all := lw_g (lw_at lw_m4 139 rfl) rfl
theorem q946 : (Jvm.Cond.instanceMethod ({ cls := "GridRoom", name := "away", desc := "(II)Z" } : Jvm.MethodName)) ∈ lw_all := lw_g (lw_at lw_m4 141 rfl) rfl
theorem q947 : (Jvm.Cond.selects "GridRoom" ({ cls := "GridRoom", name := "away", desc := "(II)Z" } : Jvm.MethodName) ({ cls := "GridRoom", name := "away", desc := "(II)Z" } : Jvm.MethodName)) ∈ lw_all := lw_g (lw_at lw_m4 142 rfl) rfl
theorem q948 : (Jvm.Cond.code ({ cls := "GridRoom", name := "away", desc := "(II)Z" } : Jvm.MethodName) prog_1_method_16_code (3 : Nat) (Option.some Jvm.ClassFile.FieldType.boolean)) ∈ lw_all := lw_g (lw_at lw_m4 143 rfl) rfl
theorem q949 : (Jvm.Cond.methodLink "GridRoom" (179 : Nat) ({ cls := "GridRoom", name := "goesOf", desc := "(Ljava/util/ArrayList;II)Z" } : Jvm.MethodName)) ∈ lw_all := lw_g (lw_at lw_m4 144 rfl) rfl
theorem q950 : (Jvm.Cond.static ({ cls := "GridRoom", name := "goesOf", desc := "(Ljava/util/ArrayList;II)Z" } : Jvm.MethodName)) ∈ lw_all := lw_g (lw_at lw_m4 145 rfl) rfl
theorem q951 : (Jvm.Cond.code ({ cls := "GridRoom", name := "goesOf", desc := "(Ljava/util/ArrayList;II)Z" } : Jvm.MethodName) prog_1_method_15_code (3 : Nat) (Option.some Jvm.ClassFile.FieldType.boolean)) ∈ lw_all := lw_g (lw_at lw_m4 146 rfl) rfl
theorem q952 : (Jvm.Cond.methodLink "GridRoom" (169 : Nat) ({ cls := "java/util/ArrayList", name := "get", desc := "(I)Ljava/lang/Object;" } : Jvm.MethodName)) ∈ lw_all := lw_g (lw_at lw_m4 147 rfl) rfl
theorem q964 : (Jvm.Cond.classLink "GridRoom" (173 : Nat) "GridRoom$Told") ∈ lw_all := lw_g (lw_at lw_m4 159 rfl) rfl
theorem q965 : (Jvm.Cond.methodLink "GridRoom" (175 : Nat) ({ cls := "GridRoom$Told", name := "goes", desc := "(I)Z" } : Jvm.MethodName)) ∈ lw_all := lw_g (lw_at lw_m4 160 rfl) rfl
theorem q974 : (Jvm.Cond.instanceMethod ({ cls := "GridRoom", name := "trust", desc := "(II)Z" } : Jvm.MethodName)) ∈ lw_all := lw_g (lw_at lw_m4 169 rfl) rfl
theorem q975 : (Jvm.Cond.selects "GridRoom" ({ cls := "GridRoom", name := "trust", desc := "(II)Z" } : Jvm.MethodName) ({ cls := "GridRoom", name := "trust", desc := "(II)Z" } : Jvm.MethodName)) ∈ lw_all := lw_g (lw_at lw_m4 170 rfl) rfl
theorem q976 : (Jvm.Cond.code ({ cls := "GridRoom", name := "trust", desc := "(II)Z" } : Jvm.MethodName) prog_1_method_17_code (3 : Nat) (Option.some Jvm.ClassFile.FieldType.boolean)) ∈ lw_all := lw_g (lw_at lw_m4 171 rfl) rfl
theorem q978 : (Jvm.Cond.instanceMethod ({ cls := "GridRoom", name := "holds", desc := "(IIII)Z" } : Jvm.MethodName)) ∈ lw_all := lw_g (lw_at lw_m4 173 rfl) rfl
theorem q979 : (Jvm.Cond.selects "GridRoom" ({ cls := "GridRoom", name := "holds", desc := "(IIII)Z" } : Jvm.MethodName) ({ cls := "GridRoom", name := "holds", desc := "(IIII)Z" } : Jvm.MethodName)) ∈ lw_all := lw_g (lw_at lw_m4 174 rfl) rfl
theorem q980 : (Jvm.Cond.code ({ cls := "GridRoom", name := "holds", desc := "(IIII)Z" } : Jvm.MethodName) prog_1_method_18_code (5 : Nat) (Option.some Jvm.ClassFile.FieldType.boolean)) ∈ lw_all := lw_g (lw_at lw_m4 175 rfl) rfl
theorem q981 : (Jvm.Cond.methodLink "GridRoom" (183 : Nat) ({ cls := "GridRoom", name := "isSign", desc := "(I)Z" } : Jvm.MethodName)) ∈ lw_all := lw_g (lw_at lw_m4 176 rfl) rfl
theorem q982 : (Jvm.Cond.static ({ cls := "GridRoom", name := "isSign", desc := "(I)Z" } : Jvm.MethodName)) ∈ lw_all := lw_g (lw_at lw_m4 177 rfl) rfl
theorem q983 : (Jvm.Cond.code ({ cls := "GridRoom", name := "isSign", desc := "(I)Z" } : Jvm.MethodName) prog_1_method_2_code (1 : Nat) (Option.some Jvm.ClassFile.FieldType.boolean)) ∈ lw_all := lw_g (lw_at lw_m4 178 rfl) rfl
theorem q984 : (Jvm.Cond.methodLink "GridRoom" (189 : Nat) ({ cls := "java/lang/Math", name := "min", desc := "(II)I" } : Jvm.MethodName)) ∈ lw_all := lw_g (lw_at lw_m4 179 rfl) rfl
theorem q985 : (Jvm.Cond.methodLink "GridRoom" (195 : Nat) ({ cls := "java/lang/Math", name := "max", desc := "(II)I" } : Jvm.MethodName)) ∈ lw_all := lw_g (lw_at lw_m4 180 rfl) rfl
theorem q987 : (Jvm.Cond.instanceMethod ({ cls := "GridRoom", name := "share", desc := "(IIIZ)I" } : Jvm.MethodName)) ∈ lw_all := lw_g (lw_at lw_m4 182 rfl) rfl
theorem q988 : (Jvm.Cond.selects "GridRoom" ({ cls := "GridRoom", name := "share", desc := "(IIIZ)I" } : Jvm.MethodName) ({ cls := "GridRoom", name := "share", desc := "(IIIZ)I" } : Jvm.MethodName)) ∈ lw_all := lw_g (lw_at lw_m4 183 rfl) rfl
theorem q989 : (Jvm.Cond.code ({ cls := "GridRoom", name := "share", desc := "(IIIZ)I" } : Jvm.MethodName) prog_1_method_20_code (5 : Nat) (Option.some Jvm.ClassFile.FieldType.int)) ∈ lw_all := lw_g (lw_at lw_m4 184 rfl) rfl
theorem q990 : (Jvm.Cond.classLink "GridRoom" (208 : Nat) "GridRoom$Share") ∈ lw_all := lw_g (lw_at lw_m4 185 rfl) rfl
theorem q992 : (Jvm.Cond.methodLink "GridRoom" (210 : Nat) ({ cls := "GridRoom$Share", name := "<init>", desc := "(IIIIZ)V" } : Jvm.MethodName)) ∈ lw_all := lw_g (lw_at lw_m4 187 rfl) rfl
theorem q1016 : (Jvm.Cond.instanceMethod ({ cls := "GridRoom", name := "sign", desc := "(II)I" } : Jvm.MethodName)) ∈ lw_all := lw_g (lw_at lw_m4 211 rfl) rfl
theorem q1017 : (Jvm.Cond.selects "GridRoom" ({ cls := "GridRoom", name := "sign", desc := "(II)I" } : Jvm.MethodName) ({ cls := "GridRoom", name := "sign", desc := "(II)I" } : Jvm.MethodName)) ∈ lw_all := lw_g (lw_at lw_m4 212 rfl) rfl
theorem q1018 : (Jvm.Cond.code ({ cls := "GridRoom", name := "sign", desc := "(II)I" } : Jvm.MethodName) prog_1_method_21_code (3 : Nat) (Option.some Jvm.ClassFile.FieldType.int)) ∈ lw_all := lw_g (lw_at lw_m4 213 rfl) rfl
theorem q1019 : (Jvm.Cond.methodLink "GridRoom" (213 : Nat) ({ cls := "GridRoom", name := "isKnown", desc := "(I)Z" } : Jvm.MethodName)) ∈ lw_all := lw_g (lw_at lw_m4 214 rfl) rfl
theorem q1020 : (Jvm.Cond.privateMethod ({ cls := "GridRoom", name := "isKnown", desc := "(I)Z" } : Jvm.MethodName)) ∈ lw_tbl := lw_at lw_m4 215 rfl
theorem q1021 : (Jvm.Cond.instanceMethod ({ cls := "GridRoom", name := "isKnown", desc := "(I)Z" } : Jvm.MethodName)) ∈ lw_all := lw_g (lw_at lw_m4 216 rfl) rfl
theorem q1022 : (Jvm.Cond.code ({ cls := "GridRoom", name := "isKnown", desc := "(I)Z" } : Jvm.MethodName) prog_1_method_5_code (2 : Nat) (Option.some Jvm.ClassFile.FieldType.boolean)) ∈ lw_all := lw_g (lw_at lw_m4 217 rfl) rfl
theorem q1023 : (Jvm.Cond.methodLink "GridRoom" (216 : Nat) ({ cls := "GridRoom$View", name := "be", desc := "(I)LGridRoom$View;" } : Jvm.MethodName)) ∈ lw_all := lw_g (lw_at lw_m4 218 rfl) rfl
theorem q1060 : (Jvm.Cond.instanceMethod ({ cls := "GridRoom", name := "pairs", desc := "(IIII)I" } : Jvm.MethodName)) ∈ lw_all := lw_g (lw_at lw_m5 15 rfl) rfl
theorem q1061 : (Jvm.Cond.selects "GridRoom" ({ cls := "GridRoom", name := "pairs", desc := "(IIII)I" } : Jvm.MethodName) ({ cls := "GridRoom", name := "pairs", desc := "(IIII)I" } : Jvm.MethodName)) ∈ lw_all := lw_g (lw_at lw_m5 16 rfl) rfl
theorem q1062 : (Jvm.Cond.code ({ cls := "GridRoom", name := "pairs", desc := "(IIII)I" } : Jvm.MethodName) prog_1_method_22_code (6 : Nat) (Option.some Jvm.ClassFile.FieldType.int)) ∈ lw_all := lw_g (lw_at lw_m5 17 rfl) rfl
theorem q1063 : (Jvm.Cond.classLink "GridRoom" (226 : Nat) "GridRoom$Clause") ∈ lw_all := lw_g (lw_at lw_m5 18 rfl) rfl
theorem q1064 : (Jvm.Cond.classLink "GridRoom" (228 : Nat) "GridRoom$Joins") ∈ lw_all := lw_g (lw_at lw_m5 19 rfl) rfl
theorem q1065 : (Jvm.Cond.methodLink "GridRoom" (230 : Nat) ({ cls := "GridRoom$View", name := "pairs", desc := "(LGridRoom$Joins;II)I" } : Jvm.MethodName)) ∈ lw_all := lw_g (lw_at lw_m5 20 rfl) rfl
theorem q1075 : (Jvm.Cond.instanceMethod ({ cls := "GridRoom", name := "links", desc := "(II)I" } : Jvm.MethodName)) ∈ lw_all := lw_g (lw_at lw_m5 30 rfl) rfl
theorem q1076 : (Jvm.Cond.selects "GridRoom" ({ cls := "GridRoom", name := "links", desc := "(II)I" } : Jvm.MethodName) ({ cls := "GridRoom", name := "links", desc := "(II)I" } : Jvm.MethodName)) ∈ lw_all := lw_g (lw_at lw_m5 31 rfl) rfl
theorem q1077 : (Jvm.Cond.code ({ cls := "GridRoom", name := "links", desc := "(II)I" } : Jvm.MethodName) prog_1_method_24_code (6 : Nat) (Option.some Jvm.ClassFile.FieldType.int)) ∈ lw_all := lw_g (lw_at lw_m5 32 rfl) rfl
theorem q1078 : (Jvm.Cond.methodLink "GridRoom" (234 : Nat) ({ cls := "GridRoom", name := "isSort", desc := "(I)Z" } : Jvm.MethodName)) ∈ lw_all := lw_g (lw_at lw_m5 33 rfl) rfl
theorem q1079 : (Jvm.Cond.static ({ cls := "GridRoom", name := "isSort", desc := "(I)Z" } : Jvm.MethodName)) ∈ lw_all := lw_g (lw_at lw_m5 34 rfl) rfl
theorem q1080 : (Jvm.Cond.code ({ cls := "GridRoom", name := "isSort", desc := "(I)Z" } : Jvm.MethodName) prog_1_method_23_code (1 : Nat) (Option.some Jvm.ClassFile.FieldType.boolean)) ∈ lw_all := lw_g (lw_at lw_m5 35 rfl) rfl
theorem q1081 : (Jvm.Cond.methodLink "GridRoom" (237 : Nat) ({ cls := "GridRoom$View", name := "whole", desc := "(I)LGridRoom$View;" } : Jvm.MethodName)) ∈ lw_all := lw_g (lw_at lw_m5 36 rfl) rfl
theorem q1108 : (Jvm.Cond.methodLinkNest "GridRoom" (243 : Nat) ({ cls := "GridRoom$View", name := "at", desc := "(III)I" } : Jvm.MethodName) "GridRoom") ∈ lw_tbl := lw_at lw_m5 63 rfl
theorem q1110 : (Jvm.Cond.instanceMethod ({ cls := "GridRoom", name := "classOf", desc := "(III)I" } : Jvm.MethodName)) ∈ lw_all := lw_g (lw_at lw_m5 65 rfl) rfl
theorem q1111 : (Jvm.Cond.selects "GridRoom" ({ cls := "GridRoom", name := "classOf", desc := "(III)I" } : Jvm.MethodName) ({ cls := "GridRoom", name := "classOf", desc := "(III)I" } : Jvm.MethodName)) ∈ lw_all := lw_g (lw_at lw_m5 66 rfl) rfl
theorem q1112 : (Jvm.Cond.code ({ cls := "GridRoom", name := "classOf", desc := "(III)I" } : Jvm.MethodName) prog_1_method_25_code (4 : Nat) (Option.some Jvm.ClassFile.FieldType.int)) ∈ lw_all := lw_g (lw_at lw_m5 67 rfl) rfl
theorem q1114 : (Jvm.Cond.instanceMethod ({ cls := "GridRoom", name := "clash", desc := "(II)I" } : Jvm.MethodName)) ∈ lw_all := lw_g (lw_at lw_m5 69 rfl) rfl
theorem q1115 : (Jvm.Cond.selects "GridRoom" ({ cls := "GridRoom", name := "clash", desc := "(II)I" } : Jvm.MethodName) ({ cls := "GridRoom", name := "clash", desc := "(II)I" } : Jvm.MethodName)) ∈ lw_all := lw_g (lw_at lw_m5 70 rfl) rfl
theorem q1116 : (Jvm.Cond.code ({ cls := "GridRoom", name := "clash", desc := "(II)I" } : Jvm.MethodName) prog_1_method_26_code (3 : Nat) (Option.some Jvm.ClassFile.FieldType.int)) ∈ lw_all := lw_g (lw_at lw_m5 71 rfl) rfl
theorem q1117 : (Jvm.Cond.methodLink "GridRoom" (250 : Nat) ({ cls := "GridRoom$View", name := "clashes", desc := "()Z" } : Jvm.MethodName)) ∈ lw_all := lw_g (lw_at lw_m5 72 rfl) rfl
theorem q1134 : (Jvm.Cond.instanceMethod ({ cls := "GridRoom", name := "reason", desc := "(III)I" } : Jvm.MethodName)) ∈ lw_all := lw_g (lw_at lw_m5 89 rfl) rfl
theorem q1135 : (Jvm.Cond.selects "GridRoom" ({ cls := "GridRoom", name := "reason", desc := "(III)I" } : Jvm.MethodName) ({ cls := "GridRoom", name := "reason", desc := "(III)I" } : Jvm.MethodName)) ∈ lw_all := lw_g (lw_at lw_m5 90 rfl) rfl
theorem q1136 : (Jvm.Cond.code ({ cls := "GridRoom", name := "reason", desc := "(III)I" } : Jvm.MethodName) prog_1_method_27_code (4 : Nat) (Option.some Jvm.ClassFile.FieldType.int)) ∈ lw_all := lw_g (lw_at lw_m5 91 rfl) rfl
theorem q1137 : (Jvm.Cond.methodLink "GridRoom" (266 : Nat) ({ cls := "GridRoom$View", name := "reasons", desc := "()V" } : Jvm.MethodName)) ∈ lw_all := lw_g (lw_at lw_m5 92 rfl) rfl
theorem q1146 : (Jvm.Cond.instanceMethod ({ cls := "GridRoom", name := "name", desc := "(I)I" } : Jvm.MethodName)) ∈ lw_all := lw_g (lw_at lw_m5 101 rfl) rfl
theorem q1147 : (Jvm.Cond.selects "GridRoom" ({ cls := "GridRoom", name := "name", desc := "(I)I" } : Jvm.MethodName) ({ cls := "GridRoom", name := "name", desc := "(I)I" } : Jvm.MethodName)) ∈ lw_all := lw_g (lw_at lw_m5 102 rfl) rfl
theorem q1148 : (Jvm.Cond.code ({ cls := "GridRoom", name := "name", desc := "(I)I" } : Jvm.MethodName) prog_1_method_32_code (3 : Nat) (Option.some Jvm.ClassFile.FieldType.int)) ∈ lw_all := lw_g (lw_at lw_m5 103 rfl) rfl
theorem q1149 : (Jvm.Cond.methodLink "GridRoom" (294 : Nat) ({ cls := "GridRoom", name := "nameTold", desc := "()[B" } : Jvm.MethodName)) ∈ lw_all := lw_g (lw_at lw_m5 104 rfl) rfl
theorem q1150 : (Jvm.Cond.privateMethod ({ cls := "GridRoom", name := "nameTold", desc := "()[B" } : Jvm.MethodName)) ∈ lw_tbl := lw_at lw_m5 105 rfl
theorem q1151 : (Jvm.Cond.instanceMethod ({ cls := "GridRoom", name := "nameTold", desc := "()[B" } : Jvm.MethodName)) ∈ lw_all := lw_g (lw_at lw_m5 106 rfl) rfl
theorem q1152 : (Jvm.Cond.code ({ cls := "GridRoom", name := "nameTold", desc := "()[B" } : Jvm.MethodName) prog_1_method_31_code (3 : Nat) (Option.some (Jvm.ClassFile.FieldType.array Jvm.ClassFile.FieldType.byte))) ∈ lw_all := lw_g (lw_at lw_m5 107 rfl) rfl
theorem q1153 : (Jvm.Cond.methodLink "GridRoom" (198 : Nat) ({ cls := "GridRoom", name := "isTablet", desc := "(I)Z" } : Jvm.MethodName)) ∈ lw_all := lw_g (lw_at lw_m5 108 rfl) rfl
theorem q1154 : (Jvm.Cond.privateMethod ({ cls := "GridRoom", name := "isTablet", desc := "(I)Z" } : Jvm.MethodName)) ∈ lw_tbl := lw_at lw_m5 109 rfl
theorem q1155 : (Jvm.Cond.instanceMethod ({ cls := "GridRoom", name := "isTablet", desc := "(I)Z" } : Jvm.MethodName)) ∈ lw_all := lw_g (lw_at lw_m5 110 rfl) rfl
theorem q1156 : (Jvm.Cond.code ({ cls := "GridRoom", name := "isTablet", desc := "(I)Z" } : Jvm.MethodName) prog_1_method_6_code (2 : Nat) (Option.some Jvm.ClassFile.FieldType.boolean)) ∈ lw_all := lw_g (lw_at lw_m5 111 rfl) rfl
theorem q1157 : (Jvm.Cond.classLink "GridRoom" (298 : Nat) "GridRoom$Name") ∈ lw_all := lw_g (lw_at lw_m5 112 rfl) rfl
theorem q1159 : (Jvm.Cond.methodLink "GridRoom" (300 : Nat) ({ cls := "GridRoom$Name", name := "<init>", desc := "(II[B)V" } : Jvm.MethodName)) ∈ lw_all := lw_g (lw_at lw_m5 114 rfl) rfl
theorem q1165 : (Jvm.Cond.fieldLinkNest "GridRoom" (322 : Nat) "GridRoom$Name" "tablet" "I" "GridRoom") ∈ lw_tbl := lw_at lw_m5 120 rfl
theorem q1168 : (Jvm.Cond.fieldLinkNest "GridRoom" (306 : Nat) "GridRoom$Name" "letters" "[B" "GridRoom") ∈ lw_tbl := lw_at lw_m5 123 rfl
theorem q1177 : (Jvm.Cond.instanceMethod ({ cls := "GridRoom", name := "spelled", desc := "(II)I" } : Jvm.MethodName)) ∈ lw_all := lw_g (lw_at lw_m5 132 rfl) rfl
theorem q1178 : (Jvm.Cond.selects "GridRoom" ({ cls := "GridRoom", name := "spelled", desc := "(II)I" } : Jvm.MethodName) ({ cls := "GridRoom", name := "spelled", desc := "(II)I" } : Jvm.MethodName)) ∈ lw_all := lw_g (lw_at lw_m5 133 rfl) rfl
theorem q1179 : (Jvm.Cond.code ({ cls := "GridRoom", name := "spelled", desc := "(II)I" } : Jvm.MethodName) prog_1_method_34_code (3 : Nat) (Option.some Jvm.ClassFile.FieldType.int)) ∈ lw_all := lw_g (lw_at lw_m5 134 rfl) rfl
theorem q1180 : (Jvm.Cond.methodLink "GridRoom" (303 : Nat) ({ cls := "GridRoom", name := "isName", desc := "(I)Z" } : Jvm.MethodName)) ∈ lw_all := lw_g (lw_at lw_m5 135 rfl) rfl
theorem q1181 : (Jvm.Cond.privateMethod ({ cls := "GridRoom", name := "isName", desc := "(I)Z" } : Jvm.MethodName)) ∈ lw_tbl := lw_at lw_m5 136 rfl
theorem q1182 : (Jvm.Cond.instanceMethod ({ cls := "GridRoom", name := "isName", desc := "(I)Z" } : Jvm.MethodName)) ∈ lw_all := lw_g (lw_at lw_m5 137 rfl) rfl
theorem q1183 : (Jvm.Cond.code ({ cls := "GridRoom", name := "isName", desc := "(I)Z" } : Jvm.MethodName) prog_1_method_33_code (2 : Nat) (Option.some Jvm.ClassFile.FieldType.boolean)) ∈ lw_all := lw_g (lw_at lw_m5 138 rfl) rfl
theorem q1184 : (Jvm.Cond.methodLink "GridRoom" (309 : Nat) ({ cls := "GridRoom", name := "spell", desc := "([BLGridRoom$Rules;[I)I" } : Jvm.MethodName)) ∈ lw_all := lw_g (lw_at lw_m5 139 rfl) rfl
theorem q1185 : (Jvm.Cond.static ({ cls := "GridRoom", name := "spell", desc := "([BLGridRoom$Rules;[I)I" } : Jvm.MethodName)) ∈ lw_all := lw_g (lw_at lw_m5 140 rfl) rfl
theorem q1186 : (Jvm.Cond.code ({ cls := "GridRoom", name := "spell", desc := "([BLGridRoom$Rules;[I)I" } : Jvm.MethodName) prog_1_method_29_code (11 : Nat) (Option.some Jvm.ClassFile.FieldType.int)) ∈ lw_all := lw_g (lw_at lw_m5 141 rfl) rfl
theorem q1187 : (Jvm.Cond.methodLink "GridRoom" (281 : Nat) ({ cls := "GridRoom$Rules", name := "written", desc := "(I)I" } : Jvm.MethodName)) ∈ lw_all := lw_g (lw_at lw_m5 142 rfl) rfl
theorem q1203 : (Jvm.Cond.methodLink "GridRoom" (284 : Nat) ({ cls := "GridRoom", name := "vowel", desc := "(I)I" } : Jvm.MethodName)) ∈ lw_all := lw_g (lw_at lw_m5 158 rfl) rfl
theorem q1204 : (Jvm.Cond.methodLink "GridRoom" (287 : Nat) ({ cls := "GridRoom$Rules", name := "drops", desc := "(I)Z" } : Jvm.MethodName)) ∈ lw_all := lw_g (lw_at lw_m5 159 rfl) rfl
theorem q1217 : (Jvm.Cond.methodLink "GridRoom" (290 : Nat) ({ cls := "GridRoom", name := "behind", desc := "([BLGridRoom$Rules;II)I" } : Jvm.MethodName)) ∈ lw_all := lw_g (lw_at lw_m5 172 rfl) rfl
theorem q1218 : (Jvm.Cond.static ({ cls := "GridRoom", name := "behind", desc := "([BLGridRoom$Rules;II)I" } : Jvm.MethodName)) ∈ lw_all := lw_g (lw_at lw_m5 173 rfl) rfl
theorem q1219 : (Jvm.Cond.code ({ cls := "GridRoom", name := "behind", desc := "([BLGridRoom$Rules;II)I" } : Jvm.MethodName) prog_1_method_30_code (5 : Nat) (Option.some Jvm.ClassFile.FieldType.int)) ∈ lw_all := lw_g (lw_at lw_m5 174 rfl) rfl
theorem q1221 : (Jvm.Cond.instanceMethod ({ cls := "GridRoom", name := "cell", desc := "(III)I" } : Jvm.MethodName)) ∈ lw_all := lw_g (lw_at lw_m5 176 rfl) rfl
theorem q1222 : (Jvm.Cond.selects "GridRoom" ({ cls := "GridRoom", name := "cell", desc := "(III)I" } : Jvm.MethodName) ({ cls := "GridRoom", name := "cell", desc := "(III)I" } : Jvm.MethodName)) ∈ lw_all := lw_g (lw_at lw_m5 177 rfl) rfl
theorem q1223 : (Jvm.Cond.code ({ cls := "GridRoom", name := "cell", desc := "(III)I" } : Jvm.MethodName) prog_1_method_35_code (5 : Nat) (Option.some Jvm.ClassFile.FieldType.int)) ∈ lw_all := lw_g (lw_at lw_m5 178 rfl) rfl
theorem q1225 : (Jvm.Cond.instanceMethod ({ cls := "GridRoom", name := "ways", desc := "(I)I" } : Jvm.MethodName)) ∈ lw_all := lw_g (lw_at lw_m5 180 rfl) rfl
theorem q1226 : (Jvm.Cond.selects "GridRoom" ({ cls := "GridRoom", name := "ways", desc := "(I)I" } : Jvm.MethodName) ({ cls := "GridRoom", name := "ways", desc := "(I)I" } : Jvm.MethodName)) ∈ lw_all := lw_g (lw_at lw_m5 181 rfl) rfl
theorem q1227 : (Jvm.Cond.code ({ cls := "GridRoom", name := "ways", desc := "(I)I" } : Jvm.MethodName) prog_1_method_38_code (3 : Nat) (Option.some Jvm.ClassFile.FieldType.int)) ∈ lw_all := lw_g (lw_at lw_m5 182 rfl) rfl
theorem q1228 : (Jvm.Cond.classLink "GridRoom" (326 : Nat) "GridRoom$Counter") ∈ lw_all := lw_g (lw_at lw_m5 183 rfl) rfl
theorem q1230 : (Jvm.Cond.methodLink "GridRoom" (328 : Nat) ({ cls := "GridRoom$Counter", name := "<init>", desc := "(LGridRoom;)V" } : Jvm.MethodName)) ∈ lw_all := lw_g (lw_at lw_m5 185 rfl) rfl
theorem q1241 : (Jvm.Cond.privateMethod ({ cls := "GridRoom", name := "isAsked", desc := "(I)Z" } : Jvm.MethodName)) ∈ lw_tbl := lw_at lw_m5 196 rfl
theorem q1242 : (Jvm.Cond.instanceMethod ({ cls := "GridRoom", name := "isAsked", desc := "(I)Z" } : Jvm.MethodName)) ∈ lw_all := lw_g (lw_at lw_m5 197 rfl) rfl
theorem q1243 : (Jvm.Cond.code ({ cls := "GridRoom", name := "isAsked", desc := "(I)Z" } : Jvm.MethodName) prog_1_method_37_code (2 : Nat) (Option.some Jvm.ClassFile.FieldType.boolean)) ∈ lw_all := lw_g (lw_at lw_m5 198 rfl) rfl
theorem q1244 : (Jvm.Cond.methodLink "GridRoom" (319 : Nat) ({ cls := "GridRoom$Name", name := "counts", desc := "(I)Z" } : Jvm.MethodName)) ∈ lw_all := lw_g (lw_at lw_m5 199 rfl) rfl
theorem q1247 : (Jvm.Cond.methodLink "GridRoom" (325 : Nat) ({ cls := "GridRoom$Tablet", name := "counts", desc := "(I)Z" } : Jvm.MethodName)) ∈ lw_all := lw_g (lw_at lw_m5 202 rfl) rfl
theorem q1263 : (Jvm.Cond.fieldLinkNest "GridRoom" (333 : Nat) "GridRoom$Counter" "many" "I" "GridRoom") ∈ lw_tbl := lw_at lw_m5 218 rfl
theorem q1280 : (Jvm.Cond.methodLink "GridRoom" (329 : Nat) ({ cls := "GridRoom$Counter", name := "go", desc := "()LGridRoom$Walk;" } : Jvm.MethodName)) ∈ lw_all := lw_g (lw_at lw_m5 235 rfl) rfl
theorem q1318 : (Jvm.Cond.static ({ cls := "GridRoom", name := "consonant", desc := "(I)I" } : Jvm.MethodName)) ∈ lw_all := lw_g (lw_at lw_m6 33 rfl) rfl
theorem q1319 : (Jvm.Cond.code ({ cls := "GridRoom", name := "consonant", desc := "(I)I" } : Jvm.MethodName) prog_1_method_28_code (1 : Nat) (Option.some Jvm.ClassFile.FieldType.int)) ∈ lw_all := lw_g (lw_at lw_m6 34 rfl) rfl
theorem q1348 : (Jvm.Cond.instanceMethod ({ cls := "GridRoom", name := "way", desc := "(III)I" } : Jvm.MethodName)) ∈ lw_all := lw_g (lw_at lw_m6 63 rfl) rfl
theorem q1349 : (Jvm.Cond.selects "GridRoom" ({ cls := "GridRoom", name := "way", desc := "(III)I" } : Jvm.MethodName) ({ cls := "GridRoom", name := "way", desc := "(III)I" } : Jvm.MethodName)) ∈ lw_all := lw_g (lw_at lw_m6 64 rfl) rfl
theorem q1350 : (Jvm.Cond.code ({ cls := "GridRoom", name := "way", desc := "(III)I" } : Jvm.MethodName) prog_1_method_40_code (5 : Nat) (Option.some Jvm.ClassFile.FieldType.int)) ∈ lw_all := lw_g (lw_at lw_m6 65 rfl) rfl
theorem q1351 : (Jvm.Cond.methodLink "GridRoom" (345 : Nat) ({ cls := "GridRoom", name := "seeks", desc := "(II)LGridRoom$Seeker;" } : Jvm.MethodName)) ∈ lw_all := lw_g (lw_at lw_m6 66 rfl) rfl
theorem q1352 : (Jvm.Cond.privateMethod ({ cls := "GridRoom", name := "seeks", desc := "(II)LGridRoom$Seeker;" } : Jvm.MethodName)) ∈ lw_tbl := lw_at lw_m6 67 rfl
theorem q1353 : (Jvm.Cond.instanceMethod ({ cls := "GridRoom", name := "seeks", desc := "(II)LGridRoom$Seeker;" } : Jvm.MethodName)) ∈ lw_all := lw_g (lw_at lw_m6 68 rfl) rfl
theorem q1354 : (Jvm.Cond.code ({ cls := "GridRoom", name := "seeks", desc := "(II)LGridRoom$Seeker;" } : Jvm.MethodName) prog_1_method_39_code (4 : Nat) (Option.some (Jvm.ClassFile.FieldType.object "GridRoom$Seeker"))) ∈ lw_all := lw_g (lw_at lw_m6 69 rfl) rfl
theorem q1355 : (Jvm.Cond.classLink "GridRoom" (335 : Nat) "GridRoom$Seeker") ∈ lw_all := lw_g (lw_at lw_m6 70 rfl) rfl
theorem q1357 : (Jvm.Cond.methodLink "GridRoom" (337 : Nat) ({ cls := "GridRoom$Seeker", name := "<init>", desc := "(LGridRoom;I)V" } : Jvm.MethodName)) ∈ lw_all := lw_g (lw_at lw_m6 72 rfl) rfl
theorem q1363 : (Jvm.Cond.fieldLinkNest "GridRoom" (349 : Nat) "GridRoom$Seeker" "rows" "[I" "GridRoom") ∈ lw_tbl := lw_at lw_m6 78 rfl
theorem q1365 : (Jvm.Cond.fieldLinkNest "GridRoom" (352 : Nat) "GridRoom$Seeker" "cell" "[I" "GridRoom") ∈ lw_tbl := lw_at lw_m6 80 rfl
theorem q1368 : (Jvm.Cond.fieldLinkNest "GridRoom" (341 : Nat) "GridRoom$Seeker" "has" "Z" "GridRoom") ∈ lw_tbl := lw_at lw_m6 83 rfl
theorem q1386 : (Jvm.Cond.methodLink "GridRoom" (340 : Nat) ({ cls := "GridRoom$Seeker", name := "go", desc := "()LGridRoom$Walk;" } : Jvm.MethodName)) ∈ lw_all := lw_g (lw_at lw_m6 101 rfl) rfl
theorem q1390 : (Jvm.Cond.instanceMethod ({ cls := "GridRoom", name := "given", desc := "(III)I" } : Jvm.MethodName)) ∈ lw_all := lw_g (lw_at lw_m6 105 rfl) rfl
theorem q1391 : (Jvm.Cond.selects "GridRoom" ({ cls := "GridRoom", name := "given", desc := "(III)I" } : Jvm.MethodName) ({ cls := "GridRoom", name := "given", desc := "(III)I" } : Jvm.MethodName)) ∈ lw_all := lw_g (lw_at lw_m6 106 rfl) rfl
theorem q1392 : (Jvm.Cond.code ({ cls := "GridRoom", name := "given", desc := "(III)I" } : Jvm.MethodName) prog_1_method_41_code (5 : Nat) (Option.some Jvm.ClassFile.FieldType.int)) ∈ lw_all := lw_g (lw_at lw_m6 107 rfl) rfl
theorem q1394 : (Jvm.Cond.instanceMethod ({ cls := "GridRoom", name := "forced", desc := "(II)I" } : Jvm.MethodName)) ∈ lw_all := lw_g (lw_at lw_m6 109 rfl) rfl
theorem q1395 : (Jvm.Cond.selects "GridRoom" ({ cls := "GridRoom", name := "forced", desc := "(II)I" } : Jvm.MethodName) ({ cls := "GridRoom", name := "forced", desc := "(II)I" } : Jvm.MethodName)) ∈ lw_all := lw_g (lw_at lw_m6 110 rfl) rfl
theorem q1396 : (Jvm.Cond.code ({ cls := "GridRoom", name := "forced", desc := "(II)I" } : Jvm.MethodName) prog_1_method_43_code (3 : Nat) (Option.some Jvm.ClassFile.FieldType.int)) ∈ lw_all := lw_g (lw_at lw_m6 111 rfl) rfl
theorem q1397 : (Jvm.Cond.methodLink "GridRoom" (359 : Nat) ({ cls := "GridRoom", name := "tally", desc := "(I)LGridRoom$Tally;" } : Jvm.MethodName)) ∈ lw_all := lw_g (lw_at lw_m6 112 rfl) rfl
theorem q1398 : (Jvm.Cond.privateMethod ({ cls := "GridRoom", name := "tally", desc := "(I)LGridRoom$Tally;" } : Jvm.MethodName)) ∈ lw_tbl := lw_at lw_m6 113 rfl
theorem q1399 : (Jvm.Cond.instanceMethod ({ cls := "GridRoom", name := "tally", desc := "(I)LGridRoom$Tally;" } : Jvm.MethodName)) ∈ lw_all := lw_g (lw_at lw_m6 114 rfl) rfl
theorem q1400 : (Jvm.Cond.code ({ cls := "GridRoom", name := "tally", desc := "(I)LGridRoom$Tally;" } : Jvm.MethodName) prog_1_method_42_code (3 : Nat) (Option.some (Jvm.ClassFile.FieldType.object "GridRoom$Tally"))) ∈ lw_all := lw_g (lw_at lw_m6 115 rfl) rfl
theorem q1401 : (Jvm.Cond.classLink "GridRoom" (355 : Nat) "GridRoom$Tally") ∈ lw_all := lw_g (lw_at lw_m6 116 rfl) rfl
theorem q1403 : (Jvm.Cond.methodLink "GridRoom" (357 : Nat) ({ cls := "GridRoom$Tally", name := "<init>", desc := "(LGridRoom;)V" } : Jvm.MethodName)) ∈ lw_all := lw_g (lw_at lw_m6 118 rfl) rfl
theorem q1408 : (Jvm.Cond.fieldLinkNest "GridRoom" (379 : Nat) "GridRoom$Tally" "ways" "I" "GridRoom") ∈ lw_tbl := lw_at lw_m6 123 rfl
theorem q1418 : (Jvm.Cond.methodLink "GridRoom" (358 : Nat) ({ cls := "GridRoom$Tally", name := "go", desc := "()LGridRoom$Walk;" } : Jvm.MethodName)) ∈ lw_all := lw_g (lw_at lw_m6 133 rfl) rfl
theorem q1421 : (Jvm.Cond.methodLink "GridRoom" (363 : Nat) ({ cls := "GridRoom$Tally", name := "forced", desc := "(I)I" } : Jvm.MethodName)) ∈ lw_all := lw_g (lw_at lw_m6 136 rfl) rfl
theorem q1426 : (Jvm.Cond.instanceMethod ({ cls := "GridRoom", name := "reads", desc := "(III)I" } : Jvm.MethodName)) ∈ lw_all := lw_g (lw_at lw_m6 141 rfl) rfl
theorem q1427 : (Jvm.Cond.selects "GridRoom" ({ cls := "GridRoom", name := "reads", desc := "(III)I" } : Jvm.MethodName) ({ cls := "GridRoom", name := "reads", desc := "(III)I" } : Jvm.MethodName)) ∈ lw_all := lw_g (lw_at lw_m6 142 rfl) rfl
theorem q1428 : (Jvm.Cond.code ({ cls := "GridRoom", name := "reads", desc := "(III)I" } : Jvm.MethodName) prog_1_method_44_code (8 : Nat) (Option.some Jvm.ClassFile.FieldType.int)) ∈ lw_all := lw_g (lw_at lw_m6 143 rfl) rfl
theorem q1429 : (Jvm.Cond.methodLink "GridRoom" (369 : Nat) ({ cls := "GridRoom", name := "consonant", desc := "(I)I" } : Jvm.MethodName)) ∈ lw_all := lw_g (lw_at lw_m6 144 rfl) rfl
theorem q1430 : (Jvm.Cond.methodLink "GridRoom" (372 : Nat) ({ cls := "GridRoom", name := "puts", desc := "(I)V" } : Jvm.MethodName)) ∈ lw_all := lw_g (lw_at lw_m6 145 rfl) rfl
theorem q1431 : (Jvm.Cond.privateMethod ({ cls := "GridRoom", name := "puts", desc := "(I)V" } : Jvm.MethodName)) ∈ lw_tbl := lw_at lw_m6 146 rfl
theorem q1432 : (Jvm.Cond.instanceMethod ({ cls := "GridRoom", name := "puts", desc := "(I)V" } : Jvm.MethodName)) ∈ lw_all := lw_g (lw_at lw_m6 147 rfl) rfl
theorem q1433 : (Jvm.Cond.code ({ cls := "GridRoom", name := "puts", desc := "(I)V" } : Jvm.MethodName) prog_1_method_45_code (2 : Nat) (Option.none : Option Jvm.ClassFile.FieldType)) ∈ lw_all := lw_g (lw_at lw_m6 148 rfl) rfl
theorem q1434 : (Jvm.Cond.methodLink "GridRoom" (375 : Nat) ({ cls := "java/lang/String", name := "charAt", desc := "(I)C" } : Jvm.MethodName)) ∈ lw_all := lw_g (lw_at lw_m6 149 rfl) rfl
theorem q1436 : (Jvm.Cond.instanceMethod ({ cls := "GridRoom", name := "letter", desc := "(I)I" } : Jvm.MethodName)) ∈ lw_all := lw_g (lw_at lw_m6 151 rfl) rfl
theorem q1437 : (Jvm.Cond.selects "GridRoom" ({ cls := "GridRoom", name := "letter", desc := "(I)I" } : Jvm.MethodName) ({ cls := "GridRoom", name := "letter", desc := "(I)I" } : Jvm.MethodName)) ∈ lw_all := lw_g (lw_at lw_m6 152 rfl) rfl
theorem q1438 : (Jvm.Cond.code ({ cls := "GridRoom", name := "letter", desc := "(I)I" } : Jvm.MethodName) prog_1_method_46_code (2 : Nat) (Option.some Jvm.ClassFile.FieldType.int)) ∈ lw_all := lw_g (lw_at lw_m6 153 rfl) rfl
theorem q1440 : (Jvm.Cond.instanceMethod ({ cls := "GridRoom", name := "settles", desc := "(II)I" } : Jvm.MethodName)) ∈ lw_all := lw_g (lw_at lw_m6 155 rfl) rfl
theorem q1441 : (Jvm.Cond.selects "GridRoom" ({ cls := "GridRoom", name := "settles", desc := "(II)I" } : Jvm.MethodName) ({ cls := "GridRoom", name := "settles", desc := "(II)I" } : Jvm.MethodName)) ∈ lw_all := lw_g (lw_at lw_m6 156 rfl) rfl
theorem q1442 : (Jvm.Cond.code ({ cls := "GridRoom", name := "settles", desc := "(II)I" } : Jvm.MethodName) prog_1_method_47_code (6 : Nat) (Option.some Jvm.ClassFile.FieldType.int)) ∈ lw_all := lw_g (lw_at lw_m6 157 rfl) rfl
theorem q1443 : (Jvm.Cond.methodLink "GridRoom" (382 : Nat) ({ cls := "GridRoom$Tally", name := "most", desc := "(I)I" } : Jvm.MethodName)) ∈ lw_all := lw_g (lw_at lw_m6 158 rfl) rfl
theorem q1449 : (Jvm.Cond.instanceMethod ({ cls := "GridRoom", name := "would", desc := "(II)I" } : Jvm.MethodName)) ∈ lw_all := lw_g (lw_at lw_m6 164 rfl) rfl
theorem q1450 : (Jvm.Cond.selects "GridRoom" ({ cls := "GridRoom", name := "would", desc := "(II)I" } : Jvm.MethodName) ({ cls := "GridRoom", name := "would", desc := "(II)I" } : Jvm.MethodName)) ∈ lw_all := lw_g (lw_at lw_m6 165 rfl) rfl
theorem q1451 : (Jvm.Cond.code ({ cls := "GridRoom", name := "would", desc := "(II)I" } : Jvm.MethodName) prog_1_method_48_code (5 : Nat) (Option.some Jvm.ClassFile.FieldType.int)) ∈ lw_all := lw_g (lw_at lw_m6 166 rfl) rfl
theorem q1452 : (Jvm.Cond.methodLink "GridRoom" (385 : Nat) ({ cls := "GridRoom$Counter", name := "adds", desc := "([BII)V" } : Jvm.MethodName)) ∈ lw_all := lw_g (lw_at lw_m6 167 rfl) rfl
theorem q1457 : (Jvm.Cond.instanceMethod ({ cls := "GridRoom", name := "fits", desc := "(I)I" } : Jvm.MethodName)) ∈ lw_all := lw_g (lw_at lw_m6 172 rfl) rfl
theorem q1458 : (Jvm.Cond.selects "GridRoom" ({ cls := "GridRoom", name := "fits", desc := "(I)I" } : Jvm.MethodName) ({ cls := "GridRoom", name := "fits", desc := "(I)I" } : Jvm.MethodName)) ∈ lw_all := lw_g (lw_at lw_m6 173 rfl) rfl
theorem q1459 : (Jvm.Cond.code ({ cls := "GridRoom", name := "fits", desc := "(I)I" } : Jvm.MethodName) prog_1_method_49_code (9 : Nat) (Option.some Jvm.ClassFile.FieldType.int)) ∈ lw_all := lw_g (lw_at lw_m6 174 rfl) rfl
theorem q1460 : (Jvm.Cond.classLink "GridRoom" (389 : Nat) "GridRoom$Fitter") ∈ lw_all := lw_g (lw_at lw_m6 175 rfl) rfl
theorem q1462 : (Jvm.Cond.methodLink "GridRoom" (391 : Nat) ({ cls := "GridRoom$Fitter", name := "<init>", desc := "(LGridRoom;II[I)V" } : Jvm.MethodName)) ∈ lw_all := lw_g (lw_at lw_m6 177 rfl) rfl
theorem q1470 : (Jvm.Cond.fieldLinkNest "GridRoom" (395 : Nat) "GridRoom$Fitter" "fits" "Z" "GridRoom") ∈ lw_tbl := lw_at lw_m6 185 rfl
theorem q1486 : (Jvm.Cond.methodLink "GridRoom" (394 : Nat) ({ cls := "GridRoom$Fitter", name := "go", desc := "()LGridRoom$Walk;" } : Jvm.MethodName)) ∈ lw_all := lw_g (lw_at lw_m6 201 rfl) rfl
theorem q1490 : (Jvm.Cond.instanceMethod ({ cls := "GridRoom", name := "doubt", desc := "(II)I" } : Jvm.MethodName)) ∈ lw_all := lw_g (lw_at lw_m6 205 rfl) rfl
theorem q1491 : (Jvm.Cond.selects "GridRoom" ({ cls := "GridRoom", name := "doubt", desc := "(II)I" } : Jvm.MethodName) ({ cls := "GridRoom", name := "doubt", desc := "(II)I" } : Jvm.MethodName)) ∈ lw_all := lw_g (lw_at lw_m6 206 rfl) rfl
theorem q1492 : (Jvm.Cond.code ({ cls := "GridRoom", name := "doubt", desc := "(II)I" } : Jvm.MethodName) prog_1_method_50_code (7 : Nat) (Option.some Jvm.ClassFile.FieldType.int)) ∈ lw_all := lw_g (lw_at lw_m6 207 rfl) rfl
theorem q1493 : (Jvm.Cond.methodLink "GridRoom" (398 : Nat) ({ cls := "GridRoom", name := "isAsked", desc := "(I)Z" } : Jvm.MethodName)) ∈ lw_all := lw_g (lw_at lw_m6 208 rfl) rfl
theorem q1494 : (Jvm.Cond.methodLink "GridRoom" (401 : Nat) ({ cls := "java/lang/Integer", name := "bitCount", desc := "(I)I" } : Jvm.MethodName)) ∈ lw_all := lw_g (lw_at lw_m6 209 rfl) rfl
theorem q1500 : (Jvm.Cond.classLink "GridRoom" (406 : Nat) "GridRoom$Some") ∈ lw_all := lw_g (lw_at lw_m6 215 rfl) rfl
theorem q1502 : (Jvm.Cond.methodLink "GridRoom" (408 : Nat) ({ cls := "GridRoom$Some", name := "<init>", desc := "(LGridRoom;I)V" } : Jvm.MethodName)) ∈ lw_all := lw_g (lw_at lw_m6 217 rfl) rfl
theorem q1507 : (Jvm.Cond.fieldLinkNest "GridRoom" (410 : Nat) "GridRoom$Some" "has" "Z" "GridRoom") ∈ lw_tbl := lw_at lw_m6 222 rfl
theorem q1517 : (Jvm.Cond.methodLink "GridRoom" (409 : Nat) ({ cls := "GridRoom$Some", name := "go", desc := "()LGridRoom$Walk;" } : Jvm.MethodName)) ∈ lw_all := lw_g (lw_at lw_m6 232 rfl) rfl
theorem q1521 : (Jvm.Cond.instanceMethod ({ cls := "GridRoom", name := "could", desc := "(IIII)I" } : Jvm.MethodName)) ∈ lw_all := lw_g (lw_at lw_m6 236 rfl) rfl
theorem q1522 : (Jvm.Cond.selects "GridRoom" ({ cls := "GridRoom", name := "could", desc := "(IIII)I" } : Jvm.MethodName) ({ cls := "GridRoom", name := "could", desc := "(IIII)I" } : Jvm.MethodName)) ∈ lw_all := lw_g (lw_at lw_m6 237 rfl) rfl
theorem q1523 : (Jvm.Cond.code ({ cls := "GridRoom", name := "could", desc := "(IIII)I" } : Jvm.MethodName) prog_1_method_51_code (8 : Nat) (Option.some Jvm.ClassFile.FieldType.int)) ∈ lw_all := lw_g (lw_at lw_m6 238 rfl) rfl
theorem q1525 : (Jvm.Cond.instanceMethod ({ cls := "GridRoom", name := "inGrid", desc := "(II)I" } : Jvm.MethodName)) ∈ lw_all := lw_g (lw_at lw_m7 0 rfl) rfl
theorem q1526 : (Jvm.Cond.selects "GridRoom" ({ cls := "GridRoom", name := "inGrid", desc := "(II)I" } : Jvm.MethodName) ({ cls := "GridRoom", name := "inGrid", desc := "(II)I" } : Jvm.MethodName)) ∈ lw_all := lw_g (lw_at lw_m7 1 rfl) rfl
theorem q1527 : (Jvm.Cond.code ({ cls := "GridRoom", name := "inGrid", desc := "(II)I" } : Jvm.MethodName) prog_1_method_52_code (5 : Nat) (Option.some Jvm.ClassFile.FieldType.int)) ∈ lw_all := lw_g (lw_at lw_m7 2 rfl) rfl
theorem q1529 : (Jvm.Cond.instanceMethod ({ cls := "GridRoom", name := "where", desc := "(I)I" } : Jvm.MethodName)) ∈ lw_all := lw_g (lw_at lw_m7 4 rfl) rfl
theorem q1530 : (Jvm.Cond.selects "GridRoom" ({ cls := "GridRoom", name := "where", desc := "(I)I" } : Jvm.MethodName) ({ cls := "GridRoom", name := "where", desc := "(I)I" } : Jvm.MethodName)) ∈ lw_all := lw_g (lw_at lw_m7 5 rfl) rfl
theorem q1531 : (Jvm.Cond.code ({ cls := "GridRoom", name := "where", desc := "(I)I" } : Jvm.MethodName) prog_1_method_53_code (7 : Nat) (Option.some Jvm.ClassFile.FieldType.int)) ∈ lw_all := lw_g (lw_at lw_m7 6 rfl) rfl
theorem q1533 : (Jvm.Cond.instanceMethod ({ cls := "GridRoom", name := "often", desc := "(III)I" } : Jvm.MethodName)) ∈ lw_all := lw_g (lw_at lw_m7 8 rfl) rfl
theorem q1534 : (Jvm.Cond.selects "GridRoom" ({ cls := "GridRoom", name := "often", desc := "(III)I" } : Jvm.MethodName) ({ cls := "GridRoom", name := "often", desc := "(III)I" } : Jvm.MethodName)) ∈ lw_all := lw_g (lw_at lw_m7 9 rfl) rfl
theorem q1535 : (Jvm.Cond.code ({ cls := "GridRoom", name := "often", desc := "(III)I" } : Jvm.MethodName) prog_1_method_56_code (4 : Nat) (Option.some Jvm.ClassFile.FieldType.int)) ∈ lw_all := lw_g (lw_at lw_m7 10 rfl) rfl
theorem q1536 : (Jvm.Cond.methodLink "GridRoom" (411 : Nat) ({ cls := "GridRoom", name := "counts", desc := "(I)V" } : Jvm.MethodName)) ∈ lw_all := lw_g (lw_at lw_m7 11 rfl) rfl
theorem q1537 : (Jvm.Cond.privateMethod ({ cls := "GridRoom", name := "counts", desc := "(I)V" } : Jvm.MethodName)) ∈ lw_tbl := lw_at lw_m7 12 rfl
theorem q1538 : (Jvm.Cond.instanceMethod ({ cls := "GridRoom", name := "counts", desc := "(I)V" } : Jvm.MethodName)) ∈ lw_all := lw_g (lw_at lw_m7 13 rfl) rfl
theorem q1539 : (Jvm.Cond.code ({ cls := "GridRoom", name := "counts", desc := "(I)V" } : Jvm.MethodName) prog_1_method_54_code (7 : Nat) (Option.none : Option Jvm.ClassFile.FieldType)) ∈ lw_all := lw_g (lw_at lw_m7 14 rfl) rfl
theorem q1540 : (Jvm.Cond.methodLink "GridRoom" (413 : Nat) ({ cls := "GridRoom", name := "inAll", desc := "(I)I" } : Jvm.MethodName)) ∈ lw_all := lw_g (lw_at lw_m7 15 rfl) rfl
theorem q1541 : (Jvm.Cond.privateMethod ({ cls := "GridRoom", name := "inAll", desc := "(I)I" } : Jvm.MethodName)) ∈ lw_tbl := lw_at lw_m7 16 rfl
theorem q1542 : (Jvm.Cond.instanceMethod ({ cls := "GridRoom", name := "inAll", desc := "(I)I" } : Jvm.MethodName)) ∈ lw_all := lw_g (lw_at lw_m7 17 rfl) rfl
theorem q1543 : (Jvm.Cond.code ({ cls := "GridRoom", name := "inAll", desc := "(I)I" } : Jvm.MethodName) prog_1_method_55_code (2 : Nat) (Option.some Jvm.ClassFile.FieldType.int)) ∈ lw_all := lw_g (lw_at lw_m7 18 rfl) rfl
theorem q1545 : (Jvm.Cond.instanceMethod ({ cls := "GridRoom", name := "rank", desc := "(II)I" } : Jvm.MethodName)) ∈ lw_all := lw_g (lw_at lw_m7 20 rfl) rfl
theorem q1546 : (Jvm.Cond.selects "GridRoom" ({ cls := "GridRoom", name := "rank", desc := "(II)I" } : Jvm.MethodName) ({ cls := "GridRoom", name := "rank", desc := "(II)I" } : Jvm.MethodName)) ∈ lw_all := lw_g (lw_at lw_m7 21 rfl) rfl
theorem q1547 : (Jvm.Cond.code ({ cls := "GridRoom", name := "rank", desc := "(II)I" } : Jvm.MethodName) prog_1_method_57_code (6 : Nat) (Option.some Jvm.ClassFile.FieldType.int)) ∈ lw_all := lw_g (lw_at lw_m7 22 rfl) rfl
theorem q1548 : (Jvm.Cond.methodLink "GridRoom" (416 : Nat) ({ cls := "GridRoom", name := "isAhead", desc := "(II)Z" } : Jvm.MethodName)) ∈ lw_all := lw_g (lw_at lw_m7 23 rfl) rfl
theorem q1549 : (Jvm.Cond.privateMethod ({ cls := "GridRoom", name := "isAhead", desc := "(II)Z" } : Jvm.MethodName)) ∈ lw_tbl := lw_at lw_m7 24 rfl
theorem q1550 : (Jvm.Cond.instanceMethod ({ cls := "GridRoom", name := "isAhead", desc := "(II)Z" } : Jvm.MethodName)) ∈ lw_all := lw_g (lw_at lw_m7 25 rfl) rfl
theorem q1551 : (Jvm.Cond.code ({ cls := "GridRoom", name := "isAhead", desc := "(II)Z" } : Jvm.MethodName) prog_1_method_58_code (5 : Nat) (Option.some Jvm.ClassFile.FieldType.boolean)) ∈ lw_all := lw_g (lw_at lw_m7 26 rfl) rfl
theorem q1553 : (Jvm.Cond.instanceMethod ({ cls := "GridRoom", name := "count", desc := "(I)I" } : Jvm.MethodName)) ∈ lw_all := lw_g (lw_at lw_m7 28 rfl) rfl
theorem q1554 : (Jvm.Cond.selects "GridRoom" ({ cls := "GridRoom", name := "count", desc := "(I)I" } : Jvm.MethodName) ({ cls := "GridRoom", name := "count", desc := "(I)I" } : Jvm.MethodName)) ∈ lw_all := lw_g (lw_at lw_m7 29 rfl) rfl
theorem q1555 : (Jvm.Cond.code ({ cls := "GridRoom", name := "count", desc := "(I)I" } : Jvm.MethodName) prog_1_method_59_code (4 : Nat) (Option.some Jvm.ClassFile.FieldType.int)) ∈ lw_all := lw_g (lw_at lw_m7 30 rfl) rfl
theorem q1561 : (Jvm.Cond.instanceMethod ({ cls := "GridRoom", name := "told", desc := "(III)I" } : Jvm.MethodName)) ∈ lw_all := lw_g (lw_at lw_m7 36 rfl) rfl
theorem q1562 : (Jvm.Cond.selects "GridRoom" ({ cls := "GridRoom", name := "told", desc := "(III)I" } : Jvm.MethodName) ({ cls := "GridRoom", name := "told", desc := "(III)I" } : Jvm.MethodName)) ∈ lw_all := lw_g (lw_at lw_m7 37 rfl) rfl
theorem q1563 : (Jvm.Cond.code ({ cls := "GridRoom", name := "told", desc := "(III)I" } : Jvm.MethodName) prog_1_method_19_code (4 : Nat) (Option.some Jvm.ClassFile.FieldType.int)) ∈ lw_all := lw_g (lw_at lw_m7 38 rfl) rfl
theorem q1564 : (Jvm.Cond.classLink "GridRoom" (205 : Nat) "java/util/NoSuchElementException") ∈ lw_all := lw_g (lw_at lw_m7 39 rfl) rfl
theorem q1575 : (Jvm.Cond.methodLink "GridRoom" (207 : Nat) ({ cls := "java/util/NoSuchElementException", name := "<init>", desc := "()V" } : Jvm.MethodName)) ∈ lw_all := lw_g (lw_at lw_m7 50 rfl) rfl
theorem q2246 : (Jvm.Cond.castable "GridRoom" "java/lang/Object") ∈ lw_tbl := lw_at lw_m10 1 rfl
theorem in_X1 : ∀ w ∈ wsX10, w ∈ lw_all := lw_in wsX10 [368, 370, 372, 374, 376, 378, 380, 382, 384, 386, 388, 390, 392, 394, 396, 398, 400, 402, 404, 406, 408, 410, 412, 414, 416, 418, 420, 422] (by decide +kernel) (by decide +kernel)
def RJ0 : String := "java/util/AbstractCollection"
abbrev cJ0_init : ByteArray := prog_38_method_1_code
def yJ0_init : MethodName := ⟨RJ0, "<init>", "()V"⟩
theorem q87 : (Jvm.Cond.initialized "java/util/AbstractCollection") ∈ lw_all := lw_g (lw_at lw_m1 2 rfl) rfl
theorem q144 : (Jvm.Cond.instanceMethod ({ cls := "java/util/AbstractCollection", name := "<init>", desc := "()V" } : Jvm.MethodName)) ∈ lw_all := lw_g (lw_at lw_m1 59 rfl) rfl
theorem q145 : (Jvm.Cond.code ({ cls := "java/util/AbstractCollection", name := "<init>", desc := "()V" } : Jvm.MethodName) prog_38_method_1_code (1 : Nat) (Option.none : Option Jvm.ClassFile.FieldType)) ∈ lw_all := lw_g (lw_at lw_m1 60 rfl) rfl
theorem q146 : (Jvm.Cond.methodLink "java/util/AbstractCollection" (1 : Nat) ({ cls := "java/lang/Object", name := "<init>", desc := "()V" } : Jvm.MethodName)) ∈ lw_all := lw_g (lw_at lw_m1 61 rfl) rfl
def RJ1 : String := "java/util/AbstractList"
abbrev cJ1_init : ByteArray := prog_39_method_1_code
def yJ1_init : MethodName := ⟨RJ1, "<init>", "()V"⟩
theorem q88 : (Jvm.Cond.initialized "java/util/AbstractList") ∈ lw_all := lw_g (lw_at lw_m1 3 rfl) rfl
theorem q141 : (Jvm.Cond.instanceMethod ({ cls := "java/util/AbstractList", name := "<init>", desc := "()V" } : Jvm.MethodName)) ∈ lw_all := lw_g (lw_at lw_m1 56 rfl) rfl
theorem q142 : (Jvm.Cond.code ({ cls := "java/util/AbstractList", name := "<init>", desc := "()V" } : Jvm.MethodName) prog_39_method_1_code (1 : Nat) (Option.none : Option Jvm.ClassFile.FieldType)) ∈ lw_all := lw_g (lw_at lw_m1 57 rfl) rfl
theorem q143 : (Jvm.Cond.methodLink "java/util/AbstractList" (1 : Nat) ({ cls := "java/util/AbstractCollection", name := "<init>", desc := "()V" } : Jvm.MethodName)) ∈ lw_all := lw_g (lw_at lw_m1 58 rfl) rfl
theorem q153 : (Jvm.Cond.fieldLink "java/util/AbstractList" (7 : Nat) "java/util/AbstractList" "modCount" "I") ∈ lw_all := lw_g (lw_at lw_m1 68 rfl) rfl
theorem q161 : (Jvm.Cond.soleField "java/util/AbstractList" "modCount") ∈ lw_all := lw_g (lw_at lw_m1 76 rfl) rfl
def RJ2 : String := "java/util/ArrayList"
def TJ2 : u_T := fun k => match k with
  | 0 => ("java/util/AbstractList", "modCount", "I", false)
  | 1 => ("java/util/ArrayList", "elementData", "[Ljava/lang/Object;", false)
  | _ => ("java/util/ArrayList", "size", "I", false)
def tyJ2 : Nat → FieldType := fun k => match k with
  | 0 => .int
  | 1 => .array (.object "java/lang/Object")
  | _ => .int
abbrev wsJ20 : List Cond := u_ws RJ2 TJ2 3
theorem nmJ2 : ∀ a, a < 3 → ∀ b, b < 3 → a ≠ b → (TJ2 a).2.1 ≠ (TJ2 b).2.1 := by decide +kernel
theorem tyJ2_ok : ∀ k, k < 3 → parseFieldDescriptor (TJ2 k).2.2.1 = some (tyJ2 k) := by decide +kernel
abbrev cJ2_init : ByteArray := prog_40_method_1_code
def yJ2_init : MethodName := ⟨RJ2, "<init>", "(I)V"⟩
abbrev cJ2_size : ByteArray := prog_40_method_8_code
def yJ2_size : MethodName := ⟨RJ2, "size", "()I"⟩
abbrev cJ2_add : ByteArray := prog_40_method_25_code
def yJ2_add : MethodName := ⟨RJ2, "add", "(Ljava/lang/Object;)Z"⟩
abbrev cJ2_add_2 : ByteArray := prog_40_method_24_code
def yJ2_add_2 : MethodName := ⟨RJ2, "add", "(Ljava/lang/Object;[Ljava/lang/Object;I)V"⟩
abbrev cJ2_grow : ByteArray := prog_40_method_7_code
def yJ2_grow : MethodName := ⟨RJ2, "grow", "()[Ljava/lang/Object;"⟩
abbrev cJ2_grow_2 : ByteArray := prog_40_method_6_code
def yJ2_grow_2 : MethodName := ⟨RJ2, "grow", "(I)[Ljava/lang/Object;"⟩
abbrev cJ2_get : ByteArray := prog_40_method_20_code
def yJ2_get : MethodName := ⟨RJ2, "get", "(I)Ljava/lang/Object;"⟩
abbrev cJ2_elementData : ByteArray := prog_40_method_18_code
def yJ2_elementData : MethodName := ⟨RJ2, "elementData", "(I)Ljava/lang/Object;"⟩
theorem q89 : (Jvm.Cond.initialized "java/util/ArrayList") ∈ lw_all := lw_g (lw_at lw_m1 4 rfl) rfl
theorem q136 : (Jvm.Cond.instantiable "java/util/ArrayList" (3 : Nat)) ∈ lw_all := lw_g (lw_at lw_m1 51 rfl) rfl
theorem q138 : (Jvm.Cond.instanceMethod ({ cls := "java/util/ArrayList", name := "<init>", desc := "(I)V" } : Jvm.MethodName)) ∈ lw_all := lw_g (lw_at lw_m1 53 rfl) rfl
theorem q139 : (Jvm.Cond.code ({ cls := "java/util/ArrayList", name := "<init>", desc := "(I)V" } : Jvm.MethodName) prog_40_method_1_code (2 : Nat) (Option.none : Option Jvm.ClassFile.FieldType)) ∈ lw_all := lw_g (lw_at lw_m1 54 rfl) rfl
theorem q140 : (Jvm.Cond.methodLink "java/util/ArrayList" (1 : Nat) ({ cls := "java/util/AbstractList", name := "<init>", desc := "()V" } : Jvm.MethodName)) ∈ lw_all := lw_g (lw_at lw_m1 55 rfl) rfl
theorem q147 : (Jvm.Cond.classLink "java/util/ArrayList" (7 : Nat) "java/lang/Object") ∈ lw_all := lw_g (lw_at lw_m1 62 rfl) rfl
theorem q149 : (Jvm.Cond.fieldLink "java/util/ArrayList" (15 : Nat) "java/util/ArrayList" "EMPTY_ELEMENTDATA" "[Ljava/lang/Object;") ∈ lw_all := lw_g (lw_at lw_m1 64 rfl) rfl
theorem q150 : (Jvm.Cond.laysStatic "java/util/ArrayList" "EMPTY_ELEMENTDATA" "[Ljava/lang/Object;") ∈ lw_tbl := lw_at lw_m1 65 rfl
theorem q151 : (Jvm.Cond.fieldLink "java/util/ArrayList" (9 : Nat) "java/util/ArrayList" "elementData" "[Ljava/lang/Object;") ∈ lw_all := lw_g (lw_at lw_m1 66 rfl) rfl
theorem q152 : (Jvm.Cond.fieldLink "java/util/ArrayList" (48 : Nat) "java/util/ArrayList" "size" "I") ∈ lw_all := lw_g (lw_at lw_m1 67 rfl) rfl
theorem q154 : (Jvm.Cond.fieldLink "java/util/ArrayList" (63 : Nat) "java/util/ArrayList" "modCount" "I") ∈ lw_all := lw_g (lw_at lw_m1 69 rfl) rfl
theorem q155 : (Jvm.Cond.sameField "java/util/ArrayList" "java/util/AbstractList" "modCount" "I") ∈ lw_all := lw_g (lw_at lw_m1 70 rfl) rfl
theorem q156 : (Jvm.Cond.lays "java/util/ArrayList" "java/util/ArrayList" "elementData" "[Ljava/lang/Object;") ∈ lw_all := lw_g (lw_at lw_m1 71 rfl) rfl
theorem q157 : (Jvm.Cond.soleField "java/util/ArrayList" "elementData") ∈ lw_all := lw_g (lw_at lw_m1 72 rfl) rfl
theorem q158 : (Jvm.Cond.lays "java/util/ArrayList" "java/util/ArrayList" "size" "I") ∈ lw_all := lw_g (lw_at lw_m1 73 rfl) rfl
theorem q159 : (Jvm.Cond.soleField "java/util/ArrayList" "size") ∈ lw_all := lw_g (lw_at lw_m1 74 rfl) rfl
theorem q160 : (Jvm.Cond.lays "java/util/ArrayList" "java/util/AbstractList" "modCount" "I") ∈ lw_all := lw_g (lw_at lw_m1 75 rfl) rfl
theorem q162 : (Jvm.Cond.superclass "java/util/ArrayList" "java/util/AbstractList") ∈ lw_all := lw_g (lw_at lw_m1 77 rfl) rfl
theorem q447 : (Jvm.Cond.instanceMethod ({ cls := "java/util/ArrayList", name := "size", desc := "()I" } : Jvm.MethodName)) ∈ lw_all := lw_g (lw_at lw_m2 122 rfl) rfl
theorem q448 : (Jvm.Cond.selects "java/util/ArrayList" ({ cls := "java/util/ArrayList", name := "size", desc := "()I" } : Jvm.MethodName) ({ cls := "java/util/ArrayList", name := "size", desc := "()I" } : Jvm.MethodName)) ∈ lw_all := lw_g (lw_at lw_m2 123 rfl) rfl
theorem q449 : (Jvm.Cond.code ({ cls := "java/util/ArrayList", name := "size", desc := "()I" } : Jvm.MethodName) prog_40_method_8_code (1 : Nat) (Option.some Jvm.ClassFile.FieldType.int)) ∈ lw_all := lw_g (lw_at lw_m2 124 rfl) rfl
theorem q696 : (Jvm.Cond.instanceMethod ({ cls := "java/util/ArrayList", name := "add", desc := "(Ljava/lang/Object;)Z" } : Jvm.MethodName)) ∈ lw_all := lw_g (lw_at lw_m3 131 rfl) rfl
theorem q697 : (Jvm.Cond.selects "java/util/ArrayList" ({ cls := "java/util/ArrayList", name := "add", desc := "(Ljava/lang/Object;)Z" } : Jvm.MethodName) ({ cls := "java/util/ArrayList", name := "add", desc := "(Ljava/lang/Object;)Z" } : Jvm.MethodName)) ∈ lw_all := lw_g (lw_at lw_m3 132 rfl) rfl
theorem q698 : (Jvm.Cond.code ({ cls := "java/util/ArrayList", name := "add", desc := "(Ljava/lang/Object;)Z" } : Jvm.MethodName) prog_40_method_25_code (2 : Nat) (Option.some Jvm.ClassFile.FieldType.boolean)) ∈ lw_all := lw_g (lw_at lw_m3 133 rfl) rfl
theorem q699 : (Jvm.Cond.methodLink "java/util/ArrayList" (131 : Nat) ({ cls := "java/util/ArrayList", name := "add", desc := "(Ljava/lang/Object;[Ljava/lang/Object;I)V" } : Jvm.MethodName)) ∈ lw_all := lw_g (lw_at lw_m3 134 rfl) rfl
theorem q700 : (Jvm.Cond.privateMethod ({ cls := "java/util/ArrayList", name := "add", desc := "(Ljava/lang/Object;[Ljava/lang/Object;I)V" } : Jvm.MethodName)) ∈ lw_tbl := lw_at lw_m3 135 rfl
theorem q701 : (Jvm.Cond.instanceMethod ({ cls := "java/util/ArrayList", name := "add", desc := "(Ljava/lang/Object;[Ljava/lang/Object;I)V" } : Jvm.MethodName)) ∈ lw_all := lw_g (lw_at lw_m3 136 rfl) rfl
theorem q702 : (Jvm.Cond.code ({ cls := "java/util/ArrayList", name := "add", desc := "(Ljava/lang/Object;[Ljava/lang/Object;I)V" } : Jvm.MethodName) prog_40_method_24_code (4 : Nat) (Option.none : Option Jvm.ClassFile.FieldType)) ∈ lw_all := lw_g (lw_at lw_m3 137 rfl) rfl
theorem q703 : (Jvm.Cond.methodLink "java/util/ArrayList" (129 : Nat) ({ cls := "java/util/ArrayList", name := "grow", desc := "()[Ljava/lang/Object;" } : Jvm.MethodName)) ∈ lw_all := lw_g (lw_at lw_m3 138 rfl) rfl
theorem q704 : (Jvm.Cond.privateMethod ({ cls := "java/util/ArrayList", name := "grow", desc := "()[Ljava/lang/Object;" } : Jvm.MethodName)) ∈ lw_tbl := lw_at lw_m3 139 rfl
theorem q705 : (Jvm.Cond.instanceMethod ({ cls := "java/util/ArrayList", name := "grow", desc := "()[Ljava/lang/Object;" } : Jvm.MethodName)) ∈ lw_all := lw_g (lw_at lw_m3 140 rfl) rfl
theorem q706 : (Jvm.Cond.code ({ cls := "java/util/ArrayList", name := "grow", desc := "()[Ljava/lang/Object;" } : Jvm.MethodName) prog_40_method_7_code (1 : Nat) (Option.some (Jvm.ClassFile.FieldType.array (Jvm.ClassFile.FieldType.object "java/lang/Object")))) ∈ lw_all := lw_g (lw_at lw_m3 141 rfl) rfl
theorem q707 : (Jvm.Cond.methodLink "java/util/ArrayList" (69 : Nat) ({ cls := "java/util/ArrayList", name := "grow", desc := "(I)[Ljava/lang/Object;" } : Jvm.MethodName)) ∈ lw_all := lw_g (lw_at lw_m3 142 rfl) rfl
theorem q708 : (Jvm.Cond.privateMethod ({ cls := "java/util/ArrayList", name := "grow", desc := "(I)[Ljava/lang/Object;" } : Jvm.MethodName)) ∈ lw_tbl := lw_at lw_m3 143 rfl
theorem q709 : (Jvm.Cond.instanceMethod ({ cls := "java/util/ArrayList", name := "grow", desc := "(I)[Ljava/lang/Object;" } : Jvm.MethodName)) ∈ lw_all := lw_g (lw_at lw_m3 144 rfl) rfl
theorem q710 : (Jvm.Cond.code ({ cls := "java/util/ArrayList", name := "grow", desc := "(I)[Ljava/lang/Object;" } : Jvm.MethodName) prog_40_method_6_code (4 : Nat) (Option.some (Jvm.ClassFile.FieldType.array (Jvm.ClassFile.FieldType.object "java/lang/Object")))) ∈ lw_all := lw_g (lw_at lw_m3 145 rfl) rfl
theorem q711 : (Jvm.Cond.fieldLink "java/util/ArrayList" (39 : Nat) "java/util/ArrayList" "DEFAULTCAPACITY_EMPTY_ELEMENTDATA" "[Ljava/lang/Object;") ∈ lw_all := lw_g (lw_at lw_m3 146 rfl) rfl
theorem q712 : (Jvm.Cond.laysStatic "java/util/ArrayList" "DEFAULTCAPACITY_EMPTY_ELEMENTDATA" "[Ljava/lang/Object;") ∈ lw_tbl := lw_at lw_m3 147 rfl
theorem q713 : (Jvm.Cond.methodLink "java/util/ArrayList" (73 : Nat) ({ cls := "jdk/internal/util/ArraysSupport", name := "newLength", desc := "(III)I" } : Jvm.MethodName)) ∈ lw_all := lw_g (lw_at lw_m3 148 rfl) rfl
theorem q723 : (Jvm.Cond.methodLink "java/util/ArrayList" (66 : Nat) ({ cls := "java/util/Arrays", name := "copyOf", desc := "([Ljava/lang/Object;I)[Ljava/lang/Object;" } : Jvm.MethodName)) ∈ lw_all := lw_g (lw_at lw_m3 158 rfl) rfl
theorem q748 : (Jvm.Cond.selects "java/util/ArrayList" ({ cls := "java/lang/Object", name := "getClass", desc := "()Ljava/lang/Class;" } : Jvm.MethodName) ({ cls := "java/lang/Object", name := "getClass", desc := "()Ljava/lang/Class;" } : Jvm.MethodName)) ∈ lw_all := lw_g (lw_at lw_m3 183 rfl) rfl
theorem q760 : (Jvm.Cond.methodLink "java/util/ArrayList" (79 : Nat) ({ cls := "java/lang/Math", name := "max", desc := "(II)I" } : Jvm.MethodName)) ∈ lw_all := lw_g (lw_at lw_m3 195 rfl) rfl
theorem q953 : (Jvm.Cond.instanceMethod ({ cls := "java/util/ArrayList", name := "get", desc := "(I)Ljava/lang/Object;" } : Jvm.MethodName)) ∈ lw_all := lw_g (lw_at lw_m4 148 rfl) rfl
theorem q954 : (Jvm.Cond.selects "java/util/ArrayList" ({ cls := "java/util/ArrayList", name := "get", desc := "(I)Ljava/lang/Object;" } : Jvm.MethodName) ({ cls := "java/util/ArrayList", name := "get", desc := "(I)Ljava/lang/Object;" } : Jvm.MethodName)) ∈ lw_all := lw_g (lw_at lw_m4 149 rfl) rfl
theorem q955 : (Jvm.Cond.code ({ cls := "java/util/ArrayList", name := "get", desc := "(I)Ljava/lang/Object;" } : Jvm.MethodName) prog_40_method_20_code (2 : Nat) (Option.some (Jvm.ClassFile.FieldType.object "java/lang/Object"))) ∈ lw_all := lw_g (lw_at lw_m4 150 rfl) rfl
theorem q956 : (Jvm.Cond.methodLink "java/util/ArrayList" (118 : Nat) ({ cls := "java/util/Objects", name := "checkIndex", desc := "(II)I" } : Jvm.MethodName)) ∈ lw_all := lw_g (lw_at lw_m4 151 rfl) rfl
theorem q960 : (Jvm.Cond.methodLink "java/util/ArrayList" (123 : Nat) ({ cls := "java/util/ArrayList", name := "elementData", desc := "(I)Ljava/lang/Object;" } : Jvm.MethodName)) ∈ lw_all := lw_g (lw_at lw_m4 155 rfl) rfl
theorem q961 : (Jvm.Cond.instanceMethod ({ cls := "java/util/ArrayList", name := "elementData", desc := "(I)Ljava/lang/Object;" } : Jvm.MethodName)) ∈ lw_all := lw_g (lw_at lw_m4 156 rfl) rfl
theorem q962 : (Jvm.Cond.selects "java/util/ArrayList" ({ cls := "java/util/ArrayList", name := "elementData", desc := "(I)Ljava/lang/Object;" } : Jvm.MethodName) ({ cls := "java/util/ArrayList", name := "elementData", desc := "(I)Ljava/lang/Object;" } : Jvm.MethodName)) ∈ lw_all := lw_g (lw_at lw_m4 157 rfl) rfl
theorem q963 : (Jvm.Cond.code ({ cls := "java/util/ArrayList", name := "elementData", desc := "(I)Ljava/lang/Object;" } : Jvm.MethodName) prog_40_method_18_code (2 : Nat) (Option.some (Jvm.ClassFile.FieldType.object "java/lang/Object"))) ∈ lw_all := lw_g (lw_at lw_m4 158 rfl) rfl
theorem q2247 : (Jvm.Cond.castable "java/util/ArrayList" "java/lang/Object") ∈ lw_tbl := lw_at lw_m10 2 rfl
theorem in_J2 : ∀ w ∈ wsJ20, w ∈ lw_all := lw_in wsJ20 [160, 156, 158] (by decide +kernel) (by decide +kernel)
def RX2 : String := "GridRoom$Rules"
def TX2 : u_T := fun k => match k with
  | 0 => ("GridRoom$Rules", "clauses", "Ljava/util/ArrayList;", true)
  | _ => ("GridRoom$Rules", "came", "I", true)
def tyX2 : Nat → FieldType := fun k => match k with
  | 0 => .object "java/util/ArrayList"
  | _ => .int
abbrev wsX20 : List Cond := u_ws RX2 TX2 2
theorem nmX2 : ∀ a, a < 2 → ∀ b, b < 2 → a ≠ b → (TX2 a).2.1 ≠ (TX2 b).2.1 := by decide +kernel
theorem tyX2_ok : ∀ k, k < 2 → parseFieldDescriptor (TX2 k).2.2.1 = some (tyX2 k) := by decide +kernel
abbrev cX2_init : ByteArray := prog_10_method_1_code
def yX2_init : MethodName := ⟨RX2, "<init>", "(I)V"⟩
abbrev cX2_written : ByteArray := prog_10_method_2_code
def yX2_written : MethodName := ⟨RX2, "written", "(I)I"⟩
abbrev cX2_drops : ByteArray := prog_10_method_3_code
def yX2_drops : MethodName := ⟨RX2, "drops", "(I)Z"⟩
theorem q90 : (Jvm.Cond.initialized "GridRoom$Rules") ∈ lw_all := lw_g (lw_at lw_m1 5 rfl) rfl
theorem q164 : (Jvm.Cond.instantiable "GridRoom$Rules" (2 : Nat)) ∈ lw_all := lw_g (lw_at lw_m1 79 rfl) rfl
theorem q166 : (Jvm.Cond.instanceMethod ({ cls := "GridRoom$Rules", name := "<init>", desc := "(I)V" } : Jvm.MethodName)) ∈ lw_all := lw_g (lw_at lw_m1 81 rfl) rfl
theorem q167 : (Jvm.Cond.code ({ cls := "GridRoom$Rules", name := "<init>", desc := "(I)V" } : Jvm.MethodName) prog_10_method_1_code (2 : Nat) (Option.none : Option Jvm.ClassFile.FieldType)) ∈ lw_all := lw_g (lw_at lw_m1 82 rfl) rfl
theorem q168 : (Jvm.Cond.methodLink "GridRoom$Rules" (1 : Nat) ({ cls := "java/lang/Object", name := "<init>", desc := "()V" } : Jvm.MethodName)) ∈ lw_all := lw_g (lw_at lw_m1 83 rfl) rfl
theorem q169 : (Jvm.Cond.classLink "GridRoom$Rules" (7 : Nat) "java/util/ArrayList") ∈ lw_all := lw_g (lw_at lw_m1 84 rfl) rfl
theorem q170 : (Jvm.Cond.methodLink "GridRoom$Rules" (9 : Nat) ({ cls := "java/util/ArrayList", name := "<init>", desc := "(I)V" } : Jvm.MethodName)) ∈ lw_all := lw_g (lw_at lw_m1 85 rfl) rfl
theorem q171 : (Jvm.Cond.fieldLink "GridRoom$Rules" (12 : Nat) "GridRoom$Rules" "clauses" "Ljava/util/ArrayList;") ∈ lw_all := lw_g (lw_at lw_m1 86 rfl) rfl
theorem q175 : (Jvm.Cond.fieldLink "GridRoom$Rules" (18 : Nat) "GridRoom$Rules" "came" "I") ∈ lw_all := lw_g (lw_at lw_m1 90 rfl) rfl
theorem q177 : (Jvm.Cond.laysFinal "GridRoom$Rules" "GridRoom$Rules" "clauses" "Ljava/util/ArrayList;") ∈ lw_all := lw_g (lw_at lw_m1 92 rfl) rfl
theorem q178 : (Jvm.Cond.soleField "GridRoom$Rules" "clauses") ∈ lw_all := lw_g (lw_at lw_m1 93 rfl) rfl
theorem q179 : (Jvm.Cond.laysFinal "GridRoom$Rules" "GridRoom$Rules" "came" "I") ∈ lw_all := lw_g (lw_at lw_m1 94 rfl) rfl
theorem q180 : (Jvm.Cond.soleField "GridRoom$Rules" "came") ∈ lw_all := lw_g (lw_at lw_m1 95 rfl) rfl
theorem q181 : (Jvm.Cond.superclass "GridRoom$Rules" "java/lang/Object") ∈ lw_all := lw_g (lw_at lw_m1 96 rfl) rfl
theorem q736 : (Jvm.Cond.selects "GridRoom$Rules" ({ cls := "java/lang/Object", name := "getClass", desc := "()Ljava/lang/Class;" } : Jvm.MethodName) ({ cls := "java/lang/Object", name := "getClass", desc := "()Ljava/lang/Class;" } : Jvm.MethodName)) ∈ lw_all := lw_g (lw_at lw_m3 171 rfl) rfl
theorem q1188 : (Jvm.Cond.instanceMethod ({ cls := "GridRoom$Rules", name := "written", desc := "(I)I" } : Jvm.MethodName)) ∈ lw_all := lw_g (lw_at lw_m5 143 rfl) rfl
theorem q1189 : (Jvm.Cond.selects "GridRoom$Rules" ({ cls := "GridRoom$Rules", name := "written", desc := "(I)I" } : Jvm.MethodName) ({ cls := "GridRoom$Rules", name := "written", desc := "(I)I" } : Jvm.MethodName)) ∈ lw_all := lw_g (lw_at lw_m5 144 rfl) rfl
theorem q1190 : (Jvm.Cond.code ({ cls := "GridRoom$Rules", name := "written", desc := "(I)I" } : Jvm.MethodName) prog_10_method_2_code (4 : Nat) (Option.some Jvm.ClassFile.FieldType.int)) ∈ lw_all := lw_g (lw_at lw_m5 145 rfl) rfl
theorem q1191 : (Jvm.Cond.methodLink "GridRoom$Rules" (22 : Nat) ({ cls := "java/util/ArrayList", name := "size", desc := "()I" } : Jvm.MethodName)) ∈ lw_all := lw_g (lw_at lw_m5 146 rfl) rfl
theorem q1192 : (Jvm.Cond.methodLink "GridRoom$Rules" (26 : Nat) ({ cls := "java/util/ArrayList", name := "get", desc := "(I)Ljava/lang/Object;" } : Jvm.MethodName)) ∈ lw_all := lw_g (lw_at lw_m5 147 rfl) rfl
theorem q1193 : (Jvm.Cond.classLink "GridRoom$Rules" (30 : Nat) "GridRoom$Clause") ∈ lw_all := lw_g (lw_at lw_m5 148 rfl) rfl
theorem q1194 : (Jvm.Cond.methodLink "GridRoom$Rules" (32 : Nat) ({ cls := "GridRoom$Clause", name := "writes", desc := "(II)I" } : Jvm.MethodName)) ∈ lw_all := lw_g (lw_at lw_m5 149 rfl) rfl
theorem q1205 : (Jvm.Cond.instanceMethod ({ cls := "GridRoom$Rules", name := "drops", desc := "(I)Z" } : Jvm.MethodName)) ∈ lw_all := lw_g (lw_at lw_m5 160 rfl) rfl
theorem q1206 : (Jvm.Cond.selects "GridRoom$Rules" ({ cls := "GridRoom$Rules", name := "drops", desc := "(I)Z" } : Jvm.MethodName) ({ cls := "GridRoom$Rules", name := "drops", desc := "(I)Z" } : Jvm.MethodName)) ∈ lw_all := lw_g (lw_at lw_m5 161 rfl) rfl
theorem q1207 : (Jvm.Cond.code ({ cls := "GridRoom$Rules", name := "drops", desc := "(I)Z" } : Jvm.MethodName) prog_10_method_3_code (4 : Nat) (Option.some Jvm.ClassFile.FieldType.boolean)) ∈ lw_all := lw_g (lw_at lw_m5 162 rfl) rfl
theorem q1208 : (Jvm.Cond.methodLink "GridRoom$Rules" (36 : Nat) ({ cls := "GridRoom$Clause", name := "drops", desc := "(I)Z" } : Jvm.MethodName)) ∈ lw_all := lw_g (lw_at lw_m5 163 rfl) rfl
theorem q2248 : (Jvm.Cond.castable "GridRoom$Rules" "java/lang/Object") ∈ lw_tbl := lw_at lw_m10 3 rfl
theorem in_X2 : ∀ w ∈ wsX20, w ∈ lw_all := lw_in wsX20 [177, 179] (by decide +kernel) (by decide +kernel)
def RX3 : String := "GridRoom$View"
def TX3 : u_T := fun k => match k with
  | 0 => ("GridRoom$View", "stands", "[I", true)
  | 1 => ("GridRoom$View", "holding", "[I", true)
  | 2 => ("GridRoom$View", "row", "[[I", true)
  | 3 => ("GridRoom$View", "size", "[I", true)
  | 4 => ("GridRoom$View", "rows", "I", false)
  | 5 => ("GridRoom$View", "known", "I", false)
  | 6 => ("GridRoom$View", "law", "LGridRoom$Rules;", false)
  | 7 => ("GridRoom$View", "isLinked", "[Z", true)
  | 8 => ("GridRoom$View", "isParted", "[Z", true)
  | 9 => ("GridRoom$View", "away", "[I", true)
  | 10 => ("GridRoom$View", "classes", "[I", true)
  | 11 => ("GridRoom$View", "counted", "[I", true)
  | 12 => ("GridRoom$View", "one", "[I", true)
  | 13 => ("GridRoom$View", "clashOne", "I", false)
  | 14 => ("GridRoom$View", "clashOther", "I", false)
  | 15 => ("GridRoom$View", "clashKind", "I", false)
  | 16 => ("GridRoom$View", "clashSort", "I", false)
  | 17 => ("GridRoom$View", "clashLinks", "I", false)
  | 18 => ("GridRoom$View", "wayFrom", "[I", true)
  | 19 => ("GridRoom$View", "wayTo", "[I", true)
  | 20 => ("GridRoom$View", "waySort", "[I", true)
  | 21 => ("GridRoom$View", "wayMany", "I", false)
  | _ => ("GridRoom$View", "this$0", "LGridRoom;", true)
def tyX3 : Nat → FieldType := fun k => match k with
  | 0 => .array .int
  | 1 => .array .int
  | 2 => .array (.array .int)
  | 3 => .array .int
  | 4 => .int
  | 5 => .int
  | 6 => .object "GridRoom$Rules"
  | 7 => .array .boolean
  | 8 => .array .boolean
  | 9 => .array .int
  | 10 => .array .int
  | 11 => .array .int
  | 12 => .array .int
  | 13 => .int
  | 14 => .int
  | 15 => .int
  | 16 => .int
  | 17 => .int
  | 18 => .array .int
  | 19 => .array .int
  | 20 => .array .int
  | 21 => .int
  | _ => .object "GridRoom"
abbrev wsX30 : List Cond := u_ws RX3 TX3 23
theorem nmX3 : ∀ a, a < 23 → ∀ b, b < 23 → a ≠ b → (TX3 a).2.1 ≠ (TX3 b).2.1 := by decide +kernel
theorem tyX3_ok : ∀ k, k < 23 → parseFieldDescriptor (TX3 k).2.2.1 = some (tyX3 k) := by decide +kernel
abbrev cX3_init : ByteArray := prog_19_method_1_code
def yX3_init : MethodName := ⟨RX3, "<init>", "(LGridRoom;)V"⟩
abbrev cX3_be : ByteArray := prog_19_method_2_code
def yX3_be : MethodName := ⟨RX3, "be", "(I)LGridRoom$View;"⟩
abbrev cX3_stand : ByteArray := prog_19_method_3_code
def yX3_stand : MethodName := ⟨RX3, "stand", "()V"⟩
abbrev cX3_isHeldLater : ByteArray := prog_19_method_4_code
def yX3_isHeldLater : MethodName := ⟨RX3, "isHeldLater", "(I)Z"⟩
abbrev cX3_joins : ByteArray := prog_19_method_5_code
def yX3_joins : MethodName := ⟨RX3, "joins", "([III)V"⟩
abbrev cX3_adds : ByteArray := prog_19_method_6_code
def yX3_adds : MethodName := ⟨RX3, "adds", "([I)V"⟩
abbrev cX3_unlikeAt : ByteArray := prog_19_method_7_code
def yX3_unlikeAt : MethodName := ⟨RX3, "unlikeAt", "(II)I"⟩
abbrev cX3_pairs : ByteArray := prog_19_method_8_code
def yX3_pairs : MethodName := ⟨RX3, "pairs", "(LGridRoom$Joins;II)I"⟩
abbrev cX3_whole : ByteArray := prog_19_method_12_code
def yX3_whole : MethodName := ⟨RX3, "whole", "(I)LGridRoom$View;"⟩
abbrev cX3_links : ByteArray := prog_19_method_11_code
def yX3_links : MethodName := ⟨RX3, "links", "(LGridRoom$Joins;)V"⟩
abbrev cX3_puts : ByteArray := prog_19_method_10_code
def yX3_puts : MethodName := ⟨RX3, "puts", "([ZIII)V"⟩
abbrev cX3_at : ByteArray := prog_19_method_9_code
def yX3_at : MethodName := ⟨RX3, "at", "(III)I"⟩
abbrev cX3_classes : ByteArray := prog_19_method_13_code
def yX3_classes : MethodName := ⟨RX3, "classes", "(I)V"⟩
abbrev cX3_clashes : ByteArray := prog_19_method_17_code
def yX3_clashes : MethodName := ⟨RX3, "clashes", "()Z"⟩
abbrev cX3_reaches : ByteArray := prog_19_method_16_code
def yX3_reaches : MethodName := ⟨RX3, "reaches", "()V"⟩
abbrev cX3_clash : ByteArray := prog_19_method_18_code
def yX3_clash : MethodName := ⟨RX3, "clash", "(IIIII)V"⟩
abbrev cX3_isParted : ByteArray := prog_19_method_15_code
def yX3_isParted : MethodName := ⟨RX3, "isParted", "(III)Z"⟩
abbrev cX3_reasons : ByteArray := prog_19_method_19_code
def yX3_reasons : MethodName := ⟨RX3, "reasons", "()V"⟩
abbrev cX3_goes : ByteArray := prog_19_method_20_code
def yX3_goes : MethodName := ⟨RX3, "goes", "(I)V"⟩
abbrev cX3_isOfOne : ByteArray := prog_19_method_14_code
def yX3_isOfOne : MethodName := ⟨RX3, "isOfOne", "(III)Z"⟩
theorem q91 : (Jvm.Cond.initialized "GridRoom$View") ∈ lw_all := lw_g (lw_at lw_m1 6 rfl) rfl
theorem q173 : (Jvm.Cond.fieldLinkNest "GridRoom$View" (177 : Nat) "GridRoom$Rules" "clauses" "Ljava/util/ArrayList;" "GridRoom") ∈ lw_tbl := lw_at lw_m1 88 rfl
theorem q176 : (Jvm.Cond.fieldLinkNest "GridRoom$View" (84 : Nat) "GridRoom$Rules" "came" "I" "GridRoom") ∈ lw_tbl := lw_at lw_m1 91 rfl
theorem q183 : (Jvm.Cond.instantiable "GridRoom$View" (23 : Nat)) ∈ lw_all := lw_g (lw_at lw_m1 98 rfl) rfl
theorem q185 : (Jvm.Cond.instanceMethod ({ cls := "GridRoom$View", name := "<init>", desc := "(LGridRoom;)V" } : Jvm.MethodName)) ∈ lw_all := lw_g (lw_at lw_m1 100 rfl) rfl
theorem q186 : (Jvm.Cond.code ({ cls := "GridRoom$View", name := "<init>", desc := "(LGridRoom;)V" } : Jvm.MethodName) prog_19_method_1_code (2 : Nat) (Option.none : Option Jvm.ClassFile.FieldType)) ∈ lw_all := lw_g (lw_at lw_m1 101 rfl) rfl
theorem q187 : (Jvm.Cond.methodLink "GridRoom$View" (9 : Nat) ({ cls := "java/lang/Object", name := "<init>", desc := "()V" } : Jvm.MethodName)) ∈ lw_all := lw_g (lw_at lw_m1 102 rfl) rfl
theorem q188 : (Jvm.Cond.classLink "GridRoom$View" (22 : Nat) "[[I") ∈ lw_all := lw_g (lw_at lw_m1 103 rfl) rfl
theorem q190 : (Jvm.Cond.fieldLink "GridRoom$View" (15 : Nat) "GridRoom$View" "stands" "[I") ∈ lw_all := lw_g (lw_at lw_m1 105 rfl) rfl
theorem q193 : (Jvm.Cond.fieldLink "GridRoom$View" (19 : Nat) "GridRoom$View" "holding" "[I") ∈ lw_all := lw_g (lw_at lw_m1 108 rfl) rfl
theorem q194 : (Jvm.Cond.fieldLink "GridRoom$View" (24 : Nat) "GridRoom$View" "row" "[[I") ∈ lw_all := lw_g (lw_at lw_m1 109 rfl) rfl
theorem q195 : (Jvm.Cond.fieldLink "GridRoom$View" (27 : Nat) "GridRoom$View" "size" "[I") ∈ lw_all := lw_g (lw_at lw_m1 110 rfl) rfl
theorem q196 : (Jvm.Cond.fieldLink "GridRoom$View" (90 : Nat) "GridRoom$View" "rows" "I") ∈ lw_all := lw_g (lw_at lw_m1 111 rfl) rfl
theorem q197 : (Jvm.Cond.fieldLink "GridRoom$View" (58 : Nat) "GridRoom$View" "known" "I") ∈ lw_all := lw_g (lw_at lw_m1 112 rfl) rfl
theorem q200 : (Jvm.Cond.fieldLink "GridRoom$View" (66 : Nat) "GridRoom$View" "law" "LGridRoom$Rules;") ∈ lw_all := lw_g (lw_at lw_m1 115 rfl) rfl
theorem q202 : (Jvm.Cond.fieldLink "GridRoom$View" (30 : Nat) "GridRoom$View" "isLinked" "[Z") ∈ lw_all := lw_g (lw_at lw_m1 117 rfl) rfl
theorem q204 : (Jvm.Cond.fieldLink "GridRoom$View" (34 : Nat) "GridRoom$View" "isParted" "[Z") ∈ lw_all := lw_g (lw_at lw_m1 119 rfl) rfl
theorem q205 : (Jvm.Cond.fieldLink "GridRoom$View" (37 : Nat) "GridRoom$View" "away" "[I") ∈ lw_all := lw_g (lw_at lw_m1 120 rfl) rfl
theorem q206 : (Jvm.Cond.fieldLink "GridRoom$View" (40 : Nat) "GridRoom$View" "classes" "[I") ∈ lw_all := lw_g (lw_at lw_m1 121 rfl) rfl
theorem q208 : (Jvm.Cond.fieldLink "GridRoom$View" (43 : Nat) "GridRoom$View" "counted" "[I") ∈ lw_all := lw_g (lw_at lw_m1 123 rfl) rfl
theorem q209 : (Jvm.Cond.fieldLink "GridRoom$View" (46 : Nat) "GridRoom$View" "one" "[I") ∈ lw_all := lw_g (lw_at lw_m1 124 rfl) rfl
theorem q210 : (Jvm.Cond.fieldLink "GridRoom$View" (222 : Nat) "GridRoom$View" "clashOne" "I") ∈ lw_all := lw_g (lw_at lw_m1 125 rfl) rfl
theorem q212 : (Jvm.Cond.fieldLink "GridRoom$View" (225 : Nat) "GridRoom$View" "clashOther" "I") ∈ lw_all := lw_g (lw_at lw_m1 127 rfl) rfl
theorem q214 : (Jvm.Cond.fieldLink "GridRoom$View" (228 : Nat) "GridRoom$View" "clashKind" "I") ∈ lw_all := lw_g (lw_at lw_m1 129 rfl) rfl
theorem q216 : (Jvm.Cond.fieldLink "GridRoom$View" (231 : Nat) "GridRoom$View" "clashSort" "I") ∈ lw_all := lw_g (lw_at lw_m1 131 rfl) rfl
theorem q217 : (Jvm.Cond.fieldLink "GridRoom$View" (213 : Nat) "GridRoom$View" "clashLinks" "I") ∈ lw_all := lw_g (lw_at lw_m1 132 rfl) rfl
theorem q219 : (Jvm.Cond.fieldLink "GridRoom$View" (49 : Nat) "GridRoom$View" "wayFrom" "[I") ∈ lw_all := lw_g (lw_at lw_m1 134 rfl) rfl
theorem q221 : (Jvm.Cond.fieldLink "GridRoom$View" (52 : Nat) "GridRoom$View" "wayTo" "[I") ∈ lw_all := lw_g (lw_at lw_m1 136 rfl) rfl
theorem q223 : (Jvm.Cond.fieldLink "GridRoom$View" (55 : Nat) "GridRoom$View" "waySort" "[I") ∈ lw_all := lw_g (lw_at lw_m1 138 rfl) rfl
theorem q225 : (Jvm.Cond.fieldLink "GridRoom$View" (234 : Nat) "GridRoom$View" "wayMany" "I") ∈ lw_all := lw_g (lw_at lw_m1 140 rfl) rfl
theorem q227 : (Jvm.Cond.fieldLink "GridRoom$View" (3 : Nat) "GridRoom$View" "this$0" "LGridRoom;") ∈ lw_all := lw_g (lw_at lw_m1 142 rfl) rfl
theorem q228 : (Jvm.Cond.laysFinal "GridRoom$View" "GridRoom$View" "stands" "[I") ∈ lw_all := lw_g (lw_at lw_m1 143 rfl) rfl
theorem q229 : (Jvm.Cond.soleField "GridRoom$View" "stands") ∈ lw_all := lw_g (lw_at lw_m1 144 rfl) rfl
theorem q230 : (Jvm.Cond.laysFinal "GridRoom$View" "GridRoom$View" "holding" "[I") ∈ lw_all := lw_g (lw_at lw_m1 145 rfl) rfl
theorem q231 : (Jvm.Cond.soleField "GridRoom$View" "holding") ∈ lw_all := lw_g (lw_at lw_m1 146 rfl) rfl
theorem q232 : (Jvm.Cond.laysFinal "GridRoom$View" "GridRoom$View" "row" "[[I") ∈ lw_all := lw_g (lw_at lw_m1 147 rfl) rfl
theorem q233 : (Jvm.Cond.soleField "GridRoom$View" "row") ∈ lw_all := lw_g (lw_at lw_m1 148 rfl) rfl
theorem q234 : (Jvm.Cond.laysFinal "GridRoom$View" "GridRoom$View" "size" "[I") ∈ lw_all := lw_g (lw_at lw_m1 149 rfl) rfl
theorem q235 : (Jvm.Cond.soleField "GridRoom$View" "size") ∈ lw_all := lw_g (lw_at lw_m1 150 rfl) rfl
theorem q236 : (Jvm.Cond.lays "GridRoom$View" "GridRoom$View" "rows" "I") ∈ lw_all := lw_g (lw_at lw_m1 151 rfl) rfl
theorem q237 : (Jvm.Cond.soleField "GridRoom$View" "rows") ∈ lw_all := lw_g (lw_at lw_m1 152 rfl) rfl
theorem q238 : (Jvm.Cond.lays "GridRoom$View" "GridRoom$View" "known" "I") ∈ lw_all := lw_g (lw_at lw_m1 153 rfl) rfl
theorem q239 : (Jvm.Cond.soleField "GridRoom$View" "known") ∈ lw_all := lw_g (lw_at lw_m1 154 rfl) rfl
theorem q240 : (Jvm.Cond.lays "GridRoom$View" "GridRoom$View" "law" "LGridRoom$Rules;") ∈ lw_all := lw_g (lw_at lw_m1 155 rfl) rfl
theorem q241 : (Jvm.Cond.soleField "GridRoom$View" "law") ∈ lw_all := lw_g (lw_at lw_m1 156 rfl) rfl
theorem q242 : (Jvm.Cond.laysFinal "GridRoom$View" "GridRoom$View" "isLinked" "[Z") ∈ lw_all := lw_g (lw_at lw_m1 157 rfl) rfl
theorem q243 : (Jvm.Cond.soleField "GridRoom$View" "isLinked") ∈ lw_all := lw_g (lw_at lw_m1 158 rfl) rfl
theorem q244 : (Jvm.Cond.laysFinal "GridRoom$View" "GridRoom$View" "isParted" "[Z") ∈ lw_all := lw_g (lw_at lw_m1 159 rfl) rfl
theorem q245 : (Jvm.Cond.soleField "GridRoom$View" "isParted") ∈ lw_all := lw_g (lw_at lw_m1 160 rfl) rfl
theorem q246 : (Jvm.Cond.laysFinal "GridRoom$View" "GridRoom$View" "away" "[I") ∈ lw_all := lw_g (lw_at lw_m1 161 rfl) rfl
theorem q247 : (Jvm.Cond.soleField "GridRoom$View" "away") ∈ lw_all := lw_g (lw_at lw_m1 162 rfl) rfl
theorem q248 : (Jvm.Cond.laysFinal "GridRoom$View" "GridRoom$View" "classes" "[I") ∈ lw_all := lw_g (lw_at lw_m1 163 rfl) rfl
theorem q249 : (Jvm.Cond.soleField "GridRoom$View" "classes") ∈ lw_all := lw_g (lw_at lw_m1 164 rfl) rfl
theorem q250 : (Jvm.Cond.laysFinal "GridRoom$View" "GridRoom$View" "counted" "[I") ∈ lw_all := lw_g (lw_at lw_m1 165 rfl) rfl
theorem q251 : (Jvm.Cond.soleField "GridRoom$View" "counted") ∈ lw_all := lw_g (lw_at lw_m1 166 rfl) rfl
theorem q252 : (Jvm.Cond.laysFinal "GridRoom$View" "GridRoom$View" "one" "[I") ∈ lw_all := lw_g (lw_at lw_m1 167 rfl) rfl
theorem q253 : (Jvm.Cond.soleField "GridRoom$View" "one") ∈ lw_all := lw_g (lw_at lw_m1 168 rfl) rfl
theorem q254 : (Jvm.Cond.lays "GridRoom$View" "GridRoom$View" "clashOne" "I") ∈ lw_all := lw_g (lw_at lw_m1 169 rfl) rfl
theorem q255 : (Jvm.Cond.soleField "GridRoom$View" "clashOne") ∈ lw_all := lw_g (lw_at lw_m1 170 rfl) rfl
theorem q256 : (Jvm.Cond.lays "GridRoom$View" "GridRoom$View" "clashOther" "I") ∈ lw_all := lw_g (lw_at lw_m1 171 rfl) rfl
theorem q257 : (Jvm.Cond.soleField "GridRoom$View" "clashOther") ∈ lw_all := lw_g (lw_at lw_m1 172 rfl) rfl
theorem q258 : (Jvm.Cond.lays "GridRoom$View" "GridRoom$View" "clashKind" "I") ∈ lw_all := lw_g (lw_at lw_m1 173 rfl) rfl
theorem q259 : (Jvm.Cond.soleField "GridRoom$View" "clashKind") ∈ lw_all := lw_g (lw_at lw_m1 174 rfl) rfl
theorem q260 : (Jvm.Cond.lays "GridRoom$View" "GridRoom$View" "clashSort" "I") ∈ lw_all := lw_g (lw_at lw_m1 175 rfl) rfl
theorem q261 : (Jvm.Cond.soleField "GridRoom$View" "clashSort") ∈ lw_all := lw_g (lw_at lw_m1 176 rfl) rfl
theorem q262 : (Jvm.Cond.lays "GridRoom$View" "GridRoom$View" "clashLinks" "I") ∈ lw_all := lw_g (lw_at lw_m1 177 rfl) rfl
theorem q263 : (Jvm.Cond.soleField "GridRoom$View" "clashLinks") ∈ lw_all := lw_g (lw_at lw_m1 178 rfl) rfl
theorem q264 : (Jvm.Cond.laysFinal "GridRoom$View" "GridRoom$View" "wayFrom" "[I") ∈ lw_all := lw_g (lw_at lw_m1 179 rfl) rfl
theorem q265 : (Jvm.Cond.soleField "GridRoom$View" "wayFrom") ∈ lw_all := lw_g (lw_at lw_m1 180 rfl) rfl
theorem q266 : (Jvm.Cond.laysFinal "GridRoom$View" "GridRoom$View" "wayTo" "[I") ∈ lw_all := lw_g (lw_at lw_m1 181 rfl) rfl
theorem q267 : (Jvm.Cond.soleField "GridRoom$View" "wayTo") ∈ lw_all := lw_g (lw_at lw_m1 182 rfl) rfl
theorem q268 : (Jvm.Cond.laysFinal "GridRoom$View" "GridRoom$View" "waySort" "[I") ∈ lw_all := lw_g (lw_at lw_m1 183 rfl) rfl
theorem q269 : (Jvm.Cond.soleField "GridRoom$View" "waySort") ∈ lw_all := lw_g (lw_at lw_m1 184 rfl) rfl
theorem q270 : (Jvm.Cond.lays "GridRoom$View" "GridRoom$View" "wayMany" "I") ∈ lw_all := lw_g (lw_at lw_m1 185 rfl) rfl
theorem q271 : (Jvm.Cond.soleField "GridRoom$View" "wayMany") ∈ lw_all := lw_g (lw_at lw_m1 186 rfl) rfl
theorem q272 : (Jvm.Cond.laysFinal "GridRoom$View" "GridRoom$View" "this$0" "LGridRoom;") ∈ lw_all := lw_g (lw_at lw_m1 187 rfl) rfl
theorem q273 : (Jvm.Cond.soleField "GridRoom$View" "this$0") ∈ lw_all := lw_g (lw_at lw_m1 188 rfl) rfl
theorem q274 : (Jvm.Cond.superclass "GridRoom$View" "java/lang/Object") ∈ lw_all := lw_g (lw_at lw_m1 189 rfl) rfl
theorem q315 : (Jvm.Cond.fieldLinkNest "GridRoom$View" (93 : Nat) "GridRoom" "tablets" "Ljava/util/ArrayList;" "GridRoom") ∈ lw_tbl := lw_at lw_m1 230 rfl
theorem q318 : (Jvm.Cond.fieldLinkNest "GridRoom$View" (69 : Nat) "GridRoom" "rules" "Ljava/util/ArrayList;" "GridRoom") ∈ lw_tbl := lw_at lw_m1 233 rfl
theorem q321 : (Jvm.Cond.fieldLinkNest "GridRoom$View" (184 : Nat) "GridRoom" "shares" "Ljava/util/ArrayList;" "GridRoom") ∈ lw_tbl := lw_at lw_m1 236 rfl
theorem q324 : (Jvm.Cond.fieldLinkNest "GridRoom$View" (62 : Nat) "GridRoom" "noRules" "LGridRoom$Rules;" "GridRoom") ∈ lw_tbl := lw_at lw_m1 239 rfl
theorem q326 : (Jvm.Cond.fieldLinkNest "GridRoom$View" (127 : Nat) "GridRoom" "trusts" "[I" "GridRoom") ∈ lw_tbl := lw_at lw_m2 1 rfl
theorem q328 : (Jvm.Cond.fieldLinkNest "GridRoom$View" (130 : Nat) "GridRoom" "heldBy" "[I" "GridRoom") ∈ lw_tbl := lw_at lw_m2 3 rfl
theorem q330 : (Jvm.Cond.fieldLinkNest "GridRoom$View" (118 : Nat) "GridRoom" "heldOne" "[I" "GridRoom") ∈ lw_tbl := lw_at lw_m2 5 rfl
theorem q332 : (Jvm.Cond.fieldLinkNest "GridRoom$View" (121 : Nat) "GridRoom" "heldOther" "[I" "GridRoom") ∈ lw_tbl := lw_at lw_m2 7 rfl
theorem q334 : (Jvm.Cond.fieldLinkNest "GridRoom$View" (124 : Nat) "GridRoom" "heldAs" "[I" "GridRoom") ∈ lw_tbl := lw_at lw_m2 9 rfl
theorem q336 : (Jvm.Cond.fieldLinkNest "GridRoom$View" (112 : Nat) "GridRoom" "heldOn" "[I" "GridRoom") ∈ lw_tbl := lw_at lw_m2 11 rfl
theorem q338 : (Jvm.Cond.fieldLinkNest "GridRoom$View" (109 : Nat) "GridRoom" "held" "I" "GridRoom") ∈ lw_tbl := lw_at lw_m2 13 rfl
theorem q683 : (Jvm.Cond.fieldLinkNest "GridRoom$View" (98 : Nat) "GridRoom$Tablet" "word" "[[I" "GridRoom") ∈ lw_tbl := lw_at lw_m3 118 rfl
theorem q744 : (Jvm.Cond.selects "GridRoom$View" ({ cls := "java/lang/Object", name := "getClass", desc := "()Ljava/lang/Class;" } : Jvm.MethodName) ({ cls := "java/lang/Object", name := "getClass", desc := "()Ljava/lang/Class;" } : Jvm.MethodName)) ∈ lw_all := lw_g (lw_at lw_m3 179 rfl) rfl
theorem q921 : (Jvm.Cond.fieldLinkNest "GridRoom$View" (166 : Nat) "GridRoom$Joins" "sort" "I" "GridRoom") ∈ lw_tbl := lw_at lw_m4 116 rfl
theorem q927 : (Jvm.Cond.fieldLinkNest "GridRoom$View" (163 : Nat) "GridRoom$Joins" "count" "I" "GridRoom") ∈ lw_tbl := lw_at lw_m4 122 rfl
theorem q997 : (Jvm.Cond.fieldLinkNest "GridRoom$View" (200 : Nat) "GridRoom$Share" "sort" "I" "GridRoom") ∈ lw_tbl := lw_at lw_m4 192 rfl
theorem q999 : (Jvm.Cond.fieldLinkNest "GridRoom$View" (190 : Nat) "GridRoom$Share" "a" "I" "GridRoom") ∈ lw_tbl := lw_at lw_m4 194 rfl
theorem q1001 : (Jvm.Cond.fieldLinkNest "GridRoom$View" (193 : Nat) "GridRoom$Share" "b" "I" "GridRoom") ∈ lw_tbl := lw_at lw_m4 196 rfl
theorem q1003 : (Jvm.Cond.fieldLinkNest "GridRoom$View" (196 : Nat) "GridRoom$Share" "is" "Z" "GridRoom") ∈ lw_tbl := lw_at lw_m4 198 rfl
theorem q1024 : (Jvm.Cond.instanceMethod ({ cls := "GridRoom$View", name := "be", desc := "(I)LGridRoom$View;" } : Jvm.MethodName)) ∈ lw_all := lw_g (lw_at lw_m4 219 rfl) rfl
theorem q1025 : (Jvm.Cond.selects "GridRoom$View" ({ cls := "GridRoom$View", name := "be", desc := "(I)LGridRoom$View;" } : Jvm.MethodName) ({ cls := "GridRoom$View", name := "be", desc := "(I)LGridRoom$View;" } : Jvm.MethodName)) ∈ lw_all := lw_g (lw_at lw_m4 220 rfl) rfl
theorem q1026 : (Jvm.Cond.code ({ cls := "GridRoom$View", name := "be", desc := "(I)LGridRoom$View;" } : Jvm.MethodName) prog_19_method_2_code (5 : Nat) (Option.some (Jvm.ClassFile.FieldType.object "GridRoom$View"))) ∈ lw_all := lw_g (lw_at lw_m4 221 rfl) rfl
theorem q1027 : (Jvm.Cond.methodLink "GridRoom$View" (73 : Nat) ({ cls := "java/util/ArrayList", name := "size", desc := "()I" } : Jvm.MethodName)) ∈ lw_all := lw_g (lw_at lw_m4 222 rfl) rfl
theorem q1028 : (Jvm.Cond.methodLink "GridRoom$View" (78 : Nat) ({ cls := "java/util/ArrayList", name := "get", desc := "(I)Ljava/lang/Object;" } : Jvm.MethodName)) ∈ lw_all := lw_g (lw_at lw_m4 223 rfl) rfl
theorem q1029 : (Jvm.Cond.classLink "GridRoom$View" (82 : Nat) "GridRoom$Rules") ∈ lw_all := lw_g (lw_at lw_m4 224 rfl) rfl
theorem q1030 : (Jvm.Cond.methodLink "GridRoom$View" (87 : Nat) ({ cls := "GridRoom$View", name := "stand", desc := "()V" } : Jvm.MethodName)) ∈ lw_all := lw_g (lw_at lw_m4 225 rfl) rfl
theorem q1031 : (Jvm.Cond.privateMethod ({ cls := "GridRoom$View", name := "stand", desc := "()V" } : Jvm.MethodName)) ∈ lw_tbl := lw_at lw_m4 226 rfl
theorem q1032 : (Jvm.Cond.instanceMethod ({ cls := "GridRoom$View", name := "stand", desc := "()V" } : Jvm.MethodName)) ∈ lw_all := lw_g (lw_at lw_m4 227 rfl) rfl
theorem q1033 : (Jvm.Cond.code ({ cls := "GridRoom$View", name := "stand", desc := "()V" } : Jvm.MethodName) prog_19_method_3_code (3 : Nat) (Option.none : Option Jvm.ClassFile.FieldType)) ∈ lw_all := lw_g (lw_at lw_m4 228 rfl) rfl
theorem q1034 : (Jvm.Cond.methodLink "GridRoom$View" (115 : Nat) ({ cls := "GridRoom$View", name := "isHeldLater", desc := "(I)Z" } : Jvm.MethodName)) ∈ lw_all := lw_g (lw_at lw_m4 229 rfl) rfl
theorem q1035 : (Jvm.Cond.privateMethod ({ cls := "GridRoom$View", name := "isHeldLater", desc := "(I)Z" } : Jvm.MethodName)) ∈ lw_tbl := lw_at lw_m4 230 rfl
theorem q1036 : (Jvm.Cond.instanceMethod ({ cls := "GridRoom$View", name := "isHeldLater", desc := "(I)Z" } : Jvm.MethodName)) ∈ lw_all := lw_g (lw_at lw_m4 231 rfl) rfl
theorem q1037 : (Jvm.Cond.code ({ cls := "GridRoom$View", name := "isHeldLater", desc := "(I)Z" } : Jvm.MethodName) prog_19_method_4_code (3 : Nat) (Option.some Jvm.ClassFile.FieldType.boolean)) ∈ lw_all := lw_g (lw_at lw_m4 232 rfl) rfl
theorem q1038 : (Jvm.Cond.methodLink "GridRoom$View" (133 : Nat) ({ cls := "GridRoom$View", name := "joins", desc := "([III)V" } : Jvm.MethodName)) ∈ lw_all := lw_g (lw_at lw_m4 233 rfl) rfl
theorem q1039 : (Jvm.Cond.privateMethod ({ cls := "GridRoom$View", name := "joins", desc := "([III)V" } : Jvm.MethodName)) ∈ lw_tbl := lw_at lw_m4 234 rfl
theorem q1040 : (Jvm.Cond.instanceMethod ({ cls := "GridRoom$View", name := "joins", desc := "([III)V" } : Jvm.MethodName)) ∈ lw_all := lw_g (lw_at lw_m4 235 rfl) rfl
theorem q1041 : (Jvm.Cond.code ({ cls := "GridRoom$View", name := "joins", desc := "([III)V" } : Jvm.MethodName) prog_19_method_5_code (7 : Nat) (Option.none : Option Jvm.ClassFile.FieldType)) ∈ lw_all := lw_g (lw_at lw_m4 236 rfl) rfl
theorem q1042 : (Jvm.Cond.methodLink "GridRoom$View" (137 : Nat) ({ cls := "java/lang/Math", name := "min", desc := "(II)I" } : Jvm.MethodName)) ∈ lw_all := lw_g (lw_at lw_m4 237 rfl) rfl
theorem q1043 : (Jvm.Cond.methodLink "GridRoom$View" (143 : Nat) ({ cls := "java/lang/Math", name := "max", desc := "(II)I" } : Jvm.MethodName)) ∈ lw_all := lw_g (lw_at lw_m4 238 rfl) rfl
theorem q1044 : (Jvm.Cond.classLink "GridRoom$View" (96 : Nat) "GridRoom$Tablet") ∈ lw_all := lw_g (lw_at lw_m4 239 rfl) rfl
theorem q1045 : (Jvm.Cond.methodLink "GridRoom$View" (101 : Nat) ({ cls := "GridRoom$Tablet", name := "counts", desc := "(I)Z" } : Jvm.MethodName)) ∈ lw_all := lw_g (lw_at lw_m5 0 rfl) rfl
theorem q1051 : (Jvm.Cond.methodLink "GridRoom$View" (105 : Nat) ({ cls := "GridRoom$View", name := "adds", desc := "([I)V" } : Jvm.MethodName)) ∈ lw_all := lw_g (lw_at lw_m5 6 rfl) rfl
theorem q1052 : (Jvm.Cond.privateMethod ({ cls := "GridRoom$View", name := "adds", desc := "([I)V" } : Jvm.MethodName)) ∈ lw_tbl := lw_at lw_m5 7 rfl
theorem q1053 : (Jvm.Cond.instanceMethod ({ cls := "GridRoom$View", name := "adds", desc := "([I)V" } : Jvm.MethodName)) ∈ lw_all := lw_g (lw_at lw_m5 8 rfl) rfl
theorem q1054 : (Jvm.Cond.code ({ cls := "GridRoom$View", name := "adds", desc := "([I)V" } : Jvm.MethodName) prog_19_method_6_code (3 : Nat) (Option.none : Option Jvm.ClassFile.FieldType)) ∈ lw_all := lw_g (lw_at lw_m5 9 rfl) rfl
theorem q1055 : (Jvm.Cond.methodLink "GridRoom$View" (146 : Nat) ({ cls := "GridRoom$View", name := "unlikeAt", desc := "(II)I" } : Jvm.MethodName)) ∈ lw_all := lw_g (lw_at lw_m5 10 rfl) rfl
theorem q1056 : (Jvm.Cond.privateMethod ({ cls := "GridRoom$View", name := "unlikeAt", desc := "(II)I" } : Jvm.MethodName)) ∈ lw_tbl := lw_at lw_m5 11 rfl
theorem q1057 : (Jvm.Cond.instanceMethod ({ cls := "GridRoom$View", name := "unlikeAt", desc := "(II)I" } : Jvm.MethodName)) ∈ lw_all := lw_g (lw_at lw_m5 12 rfl) rfl
theorem q1058 : (Jvm.Cond.code ({ cls := "GridRoom$View", name := "unlikeAt", desc := "(II)I" } : Jvm.MethodName) prog_19_method_7_code (5 : Nat) (Option.some Jvm.ClassFile.FieldType.int)) ∈ lw_all := lw_g (lw_at lw_m5 13 rfl) rfl
theorem q1066 : (Jvm.Cond.instanceMethod ({ cls := "GridRoom$View", name := "pairs", desc := "(LGridRoom$Joins;II)I" } : Jvm.MethodName)) ∈ lw_all := lw_g (lw_at lw_m5 21 rfl) rfl
theorem q1067 : (Jvm.Cond.selects "GridRoom$View" ({ cls := "GridRoom$View", name := "pairs", desc := "(LGridRoom$Joins;II)I" } : Jvm.MethodName) ({ cls := "GridRoom$View", name := "pairs", desc := "(LGridRoom$Joins;II)I" } : Jvm.MethodName)) ∈ lw_all := lw_g (lw_at lw_m5 22 rfl) rfl
theorem q1068 : (Jvm.Cond.code ({ cls := "GridRoom$View", name := "pairs", desc := "(LGridRoom$Joins;II)I" } : Jvm.MethodName) prog_19_method_8_code (10 : Nat) (Option.some Jvm.ClassFile.FieldType.int)) ∈ lw_all := lw_g (lw_at lw_m5 23 rfl) rfl
theorem q1069 : (Jvm.Cond.methodLinkNest "GridRoom$View" (149 : Nat) ({ cls := "GridRoom", name := "in", desc := "(III)Z" } : Jvm.MethodName) "GridRoom") ∈ lw_tbl := lw_at lw_m5 24 rfl
theorem q1070 : (Jvm.Cond.methodLink "GridRoom$View" (153 : Nat) ({ cls := "GridRoom$Joins", name := "placeIn", desc := "(I)I" } : Jvm.MethodName)) ∈ lw_all := lw_g (lw_at lw_m5 25 rfl) rfl
theorem q1082 : (Jvm.Cond.instanceMethod ({ cls := "GridRoom$View", name := "whole", desc := "(I)LGridRoom$View;" } : Jvm.MethodName)) ∈ lw_all := lw_g (lw_at lw_m5 37 rfl) rfl
theorem q1083 : (Jvm.Cond.selects "GridRoom$View" ({ cls := "GridRoom$View", name := "whole", desc := "(I)LGridRoom$View;" } : Jvm.MethodName) ({ cls := "GridRoom$View", name := "whole", desc := "(I)LGridRoom$View;" } : Jvm.MethodName)) ∈ lw_all := lw_g (lw_at lw_m5 38 rfl) rfl
theorem q1084 : (Jvm.Cond.code ({ cls := "GridRoom$View", name := "whole", desc := "(I)LGridRoom$View;" } : Jvm.MethodName) prog_19_method_12_code (4 : Nat) (Option.some (Jvm.ClassFile.FieldType.object "GridRoom$View"))) ∈ lw_all := lw_g (lw_at lw_m5 39 rfl) rfl
theorem q1085 : (Jvm.Cond.methodLink "GridRoom$View" (173 : Nat) ({ cls := "GridRoom$View", name := "be", desc := "(I)LGridRoom$View;" } : Jvm.MethodName)) ∈ lw_all := lw_g (lw_at lw_m5 40 rfl) rfl
theorem q1086 : (Jvm.Cond.classLink "GridRoom$View" (154 : Nat) "GridRoom$Joins") ∈ lw_all := lw_g (lw_at lw_m5 41 rfl) rfl
theorem q1087 : (Jvm.Cond.methodLink "GridRoom$View" (180 : Nat) ({ cls := "GridRoom$View", name := "links", desc := "(LGridRoom$Joins;)V" } : Jvm.MethodName)) ∈ lw_all := lw_g (lw_at lw_m5 42 rfl) rfl
theorem q1088 : (Jvm.Cond.privateMethod ({ cls := "GridRoom$View", name := "links", desc := "(LGridRoom$Joins;)V" } : Jvm.MethodName)) ∈ lw_tbl := lw_at lw_m5 43 rfl
theorem q1089 : (Jvm.Cond.instanceMethod ({ cls := "GridRoom$View", name := "links", desc := "(LGridRoom$Joins;)V" } : Jvm.MethodName)) ∈ lw_all := lw_g (lw_at lw_m5 44 rfl) rfl
theorem q1090 : (Jvm.Cond.code ({ cls := "GridRoom$View", name := "links", desc := "(LGridRoom$Joins;)V" } : Jvm.MethodName) prog_19_method_11_code (5 : Nat) (Option.none : Option Jvm.ClassFile.FieldType)) ∈ lw_all := lw_g (lw_at lw_m5 45 rfl) rfl
theorem q1091 : (Jvm.Cond.methodLink "GridRoom$View" (169 : Nat) ({ cls := "GridRoom$View", name := "puts", desc := "([ZIII)V" } : Jvm.MethodName)) ∈ lw_all := lw_g (lw_at lw_m5 46 rfl) rfl
theorem q1092 : (Jvm.Cond.privateMethod ({ cls := "GridRoom$View", name := "puts", desc := "([ZIII)V" } : Jvm.MethodName)) ∈ lw_tbl := lw_at lw_m5 47 rfl
theorem q1093 : (Jvm.Cond.instanceMethod ({ cls := "GridRoom$View", name := "puts", desc := "([ZIII)V" } : Jvm.MethodName)) ∈ lw_all := lw_g (lw_at lw_m5 48 rfl) rfl
theorem q1094 : (Jvm.Cond.code ({ cls := "GridRoom$View", name := "puts", desc := "([ZIII)V" } : Jvm.MethodName) prog_19_method_10_code (5 : Nat) (Option.none : Option Jvm.ClassFile.FieldType)) ∈ lw_all := lw_g (lw_at lw_m5 49 rfl) rfl
theorem q1095 : (Jvm.Cond.methodLink "GridRoom$View" (159 : Nat) ({ cls := "GridRoom$View", name := "at", desc := "(III)I" } : Jvm.MethodName)) ∈ lw_all := lw_g (lw_at lw_m5 50 rfl) rfl
theorem q1096 : (Jvm.Cond.privateMethod ({ cls := "GridRoom$View", name := "at", desc := "(III)I" } : Jvm.MethodName)) ∈ lw_tbl := lw_at lw_m5 51 rfl
theorem q1097 : (Jvm.Cond.instanceMethod ({ cls := "GridRoom$View", name := "at", desc := "(III)I" } : Jvm.MethodName)) ∈ lw_all := lw_g (lw_at lw_m5 52 rfl) rfl
theorem q1098 : (Jvm.Cond.code ({ cls := "GridRoom$View", name := "at", desc := "(III)I" } : Jvm.MethodName) prog_19_method_9_code (4 : Nat) (Option.some Jvm.ClassFile.FieldType.int)) ∈ lw_all := lw_g (lw_at lw_m5 53 rfl) rfl
theorem q1099 : (Jvm.Cond.classLink "GridRoom$View" (187 : Nat) "GridRoom$Share") ∈ lw_all := lw_g (lw_at lw_m5 54 rfl) rfl
theorem q1100 : (Jvm.Cond.methodLink "GridRoom$View" (189 : Nat) ({ cls := "GridRoom$Share", name := "counts", desc := "(I)Z" } : Jvm.MethodName)) ∈ lw_all := lw_g (lw_at lw_m5 55 rfl) rfl
theorem q1103 : (Jvm.Cond.methodLink "GridRoom$View" (201 : Nat) ({ cls := "GridRoom$View", name := "classes", desc := "(I)V" } : Jvm.MethodName)) ∈ lw_all := lw_g (lw_at lw_m5 58 rfl) rfl
theorem q1104 : (Jvm.Cond.privateMethod ({ cls := "GridRoom$View", name := "classes", desc := "(I)V" } : Jvm.MethodName)) ∈ lw_tbl := lw_at lw_m5 59 rfl
theorem q1105 : (Jvm.Cond.instanceMethod ({ cls := "GridRoom$View", name := "classes", desc := "(I)V" } : Jvm.MethodName)) ∈ lw_all := lw_g (lw_at lw_m5 60 rfl) rfl
theorem q1106 : (Jvm.Cond.code ({ cls := "GridRoom$View", name := "classes", desc := "(I)V" } : Jvm.MethodName) prog_19_method_13_code (4 : Nat) (Option.none : Option Jvm.ClassFile.FieldType)) ∈ lw_all := lw_g (lw_at lw_m5 61 rfl) rfl
theorem q1107 : (Jvm.Cond.methodLink "GridRoom$View" (204 : Nat) ({ cls := "java/lang/System", name := "arraycopy", desc := "(Ljava/lang/Object;ILjava/lang/Object;II)V" } : Jvm.MethodName)) ∈ lw_all := lw_g (lw_at lw_m5 62 rfl) rfl
theorem q1118 : (Jvm.Cond.instanceMethod ({ cls := "GridRoom$View", name := "clashes", desc := "()Z" } : Jvm.MethodName)) ∈ lw_all := lw_g (lw_at lw_m5 73 rfl) rfl
theorem q1119 : (Jvm.Cond.selects "GridRoom$View" ({ cls := "GridRoom$View", name := "clashes", desc := "()Z" } : Jvm.MethodName) ({ cls := "GridRoom$View", name := "clashes", desc := "()Z" } : Jvm.MethodName)) ∈ lw_all := lw_g (lw_at lw_m5 74 rfl) rfl
theorem q1120 : (Jvm.Cond.code ({ cls := "GridRoom$View", name := "clashes", desc := "()Z" } : Jvm.MethodName) prog_19_method_17_code (5 : Nat) (Option.some Jvm.ClassFile.FieldType.boolean)) ∈ lw_all := lw_g (lw_at lw_m5 75 rfl) rfl
theorem q1121 : (Jvm.Cond.methodLink "GridRoom$View" (210 : Nat) ({ cls := "GridRoom$View", name := "reaches", desc := "()V" } : Jvm.MethodName)) ∈ lw_all := lw_g (lw_at lw_m5 76 rfl) rfl
theorem q1122 : (Jvm.Cond.privateMethod ({ cls := "GridRoom$View", name := "reaches", desc := "()V" } : Jvm.MethodName)) ∈ lw_tbl := lw_at lw_m5 77 rfl
theorem q1123 : (Jvm.Cond.instanceMethod ({ cls := "GridRoom$View", name := "reaches", desc := "()V" } : Jvm.MethodName)) ∈ lw_all := lw_g (lw_at lw_m5 78 rfl) rfl
theorem q1124 : (Jvm.Cond.code ({ cls := "GridRoom$View", name := "reaches", desc := "()V" } : Jvm.MethodName) prog_19_method_16_code (5 : Nat) (Option.none : Option Jvm.ClassFile.FieldType)) ∈ lw_all := lw_g (lw_at lw_m5 79 rfl) rfl
theorem q1125 : (Jvm.Cond.methodLink "GridRoom$View" (216 : Nat) ({ cls := "GridRoom$View", name := "clash", desc := "(IIIII)V" } : Jvm.MethodName)) ∈ lw_all := lw_g (lw_at lw_m5 80 rfl) rfl
theorem q1126 : (Jvm.Cond.privateMethod ({ cls := "GridRoom$View", name := "clash", desc := "(IIIII)V" } : Jvm.MethodName)) ∈ lw_tbl := lw_at lw_m5 81 rfl
theorem q1127 : (Jvm.Cond.instanceMethod ({ cls := "GridRoom$View", name := "clash", desc := "(IIIII)V" } : Jvm.MethodName)) ∈ lw_all := lw_g (lw_at lw_m5 82 rfl) rfl
theorem q1128 : (Jvm.Cond.code ({ cls := "GridRoom$View", name := "clash", desc := "(IIIII)V" } : Jvm.MethodName) prog_19_method_18_code (6 : Nat) (Option.none : Option Jvm.ClassFile.FieldType)) ∈ lw_all := lw_g (lw_at lw_m5 83 rfl) rfl
theorem q1129 : (Jvm.Cond.methodLink "GridRoom$View" (220 : Nat) ({ cls := "GridRoom$View", name := "isParted", desc := "(III)Z" } : Jvm.MethodName)) ∈ lw_all := lw_g (lw_at lw_m5 84 rfl) rfl
theorem q1130 : (Jvm.Cond.instanceMethod ({ cls := "GridRoom$View", name := "isParted", desc := "(III)Z" } : Jvm.MethodName)) ∈ lw_all := lw_g (lw_at lw_m5 85 rfl) rfl
theorem q1131 : (Jvm.Cond.selects "GridRoom$View" ({ cls := "GridRoom$View", name := "isParted", desc := "(III)Z" } : Jvm.MethodName) ({ cls := "GridRoom$View", name := "isParted", desc := "(III)Z" } : Jvm.MethodName)) ∈ lw_all := lw_g (lw_at lw_m5 86 rfl) rfl
theorem q1132 : (Jvm.Cond.code ({ cls := "GridRoom$View", name := "isParted", desc := "(III)Z" } : Jvm.MethodName) prog_19_method_15_code (4 : Nat) (Option.some Jvm.ClassFile.FieldType.boolean)) ∈ lw_all := lw_g (lw_at lw_m5 87 rfl) rfl
theorem q1138 : (Jvm.Cond.instanceMethod ({ cls := "GridRoom$View", name := "reasons", desc := "()V" } : Jvm.MethodName)) ∈ lw_all := lw_g (lw_at lw_m5 93 rfl) rfl
theorem q1139 : (Jvm.Cond.selects "GridRoom$View" ({ cls := "GridRoom$View", name := "reasons", desc := "()V" } : Jvm.MethodName) ({ cls := "GridRoom$View", name := "reasons", desc := "()V" } : Jvm.MethodName)) ∈ lw_all := lw_g (lw_at lw_m5 94 rfl) rfl
theorem q1140 : (Jvm.Cond.code ({ cls := "GridRoom$View", name := "reasons", desc := "()V" } : Jvm.MethodName) prog_19_method_19_code (2 : Nat) (Option.none : Option Jvm.ClassFile.FieldType)) ∈ lw_all := lw_g (lw_at lw_m5 95 rfl) rfl
theorem q1141 : (Jvm.Cond.methodLink "GridRoom$View" (237 : Nat) ({ cls := "GridRoom$View", name := "goes", desc := "(I)V" } : Jvm.MethodName)) ∈ lw_all := lw_g (lw_at lw_m5 96 rfl) rfl
theorem q1142 : (Jvm.Cond.privateMethod ({ cls := "GridRoom$View", name := "goes", desc := "(I)V" } : Jvm.MethodName)) ∈ lw_tbl := lw_at lw_m5 97 rfl
theorem q1143 : (Jvm.Cond.instanceMethod ({ cls := "GridRoom$View", name := "goes", desc := "(I)V" } : Jvm.MethodName)) ∈ lw_all := lw_g (lw_at lw_m5 98 rfl) rfl
theorem q1144 : (Jvm.Cond.code ({ cls := "GridRoom$View", name := "goes", desc := "(I)V" } : Jvm.MethodName) prog_19_method_20_code (4 : Nat) (Option.none : Option Jvm.ClassFile.FieldType)) ∈ lw_all := lw_g (lw_at lw_m5 99 rfl) rfl
theorem q1326 : (Jvm.Cond.instanceMethod ({ cls := "GridRoom$View", name := "isOfOne", desc := "(III)Z" } : Jvm.MethodName)) ∈ lw_all := lw_g (lw_at lw_m6 41 rfl) rfl
theorem q1327 : (Jvm.Cond.selects "GridRoom$View" ({ cls := "GridRoom$View", name := "isOfOne", desc := "(III)Z" } : Jvm.MethodName) ({ cls := "GridRoom$View", name := "isOfOne", desc := "(III)Z" } : Jvm.MethodName)) ∈ lw_all := lw_g (lw_at lw_m6 42 rfl) rfl
theorem q1328 : (Jvm.Cond.code ({ cls := "GridRoom$View", name := "isOfOne", desc := "(III)Z" } : Jvm.MethodName) prog_19_method_14_code (4 : Nat) (Option.some Jvm.ClassFile.FieldType.boolean)) ∈ lw_all := lw_g (lw_at lw_m6 43 rfl) rfl
theorem q2249 : (Jvm.Cond.castable "GridRoom$View" "java/lang/Object") ∈ lw_tbl := lw_at lw_m10 4 rfl
theorem in_X3 : ∀ w ∈ wsX30, w ∈ lw_all := lw_in wsX30 [228, 230, 232, 234, 236, 238, 240, 242, 244, 246, 248, 250, 252, 254, 256, 258, 260, 262, 264, 266, 268, 270, 272] (by decide +kernel) (by decide +kernel)
def RX4 : String := "GridRoom$Setting"
def TX4 : u_T := fun k => match k with
  | 0 => ("GridRoom$Setting", "cell", "[I", true)
  | 1 => ("GridRoom$Setting", "many", "I", false)
  | 2 => ("GridRoom$Setting", "tablet", "I", false)
  | 3 => ("GridRoom$Setting", "name", "I", false)
  | 4 => ("GridRoom$Setting", "row", "I", false)
  | _ => ("GridRoom$Setting", "this$0", "LGridRoom;", true)
def tyX4 : Nat → FieldType := fun k => match k with
  | 0 => .array .int
  | 1 => .int
  | 2 => .int
  | 3 => .int
  | 4 => .int
  | _ => .object "GridRoom"
abbrev wsX40 : List Cond := u_ws RX4 TX4 6
theorem nmX4 : ∀ a, a < 6 → ∀ b, b < 6 → a ≠ b → (TX4 a).2.1 ≠ (TX4 b).2.1 := by decide +kernel
theorem tyX4_ok : ∀ k, k < 6 → parseFieldDescriptor (TX4 k).2.2.1 = some (tyX4 k) := by decide +kernel
abbrev cX4_init : ByteArray := prog_12_method_1_code
def yX4_init : MethodName := ⟨RX4, "<init>", "(LGridRoom;)V"⟩
abbrev cX4_be : ByteArray := prog_12_method_2_code
def yX4_be : MethodName := ⟨RX4, "be", "([BII)V"⟩
theorem q92 : (Jvm.Cond.initialized "GridRoom$Setting") ∈ lw_all := lw_g (lw_at lw_m1 7 rfl) rfl
theorem q199 : (Jvm.Cond.fieldLinkNest "GridRoom$Setting" (23 : Nat) "GridRoom$View" "law" "LGridRoom$Rules;" "GridRoom") ∈ lw_tbl := lw_at lw_m1 114 rfl
theorem q284 : (Jvm.Cond.instantiable "GridRoom$Setting" (6 : Nat)) ∈ lw_all := lw_g (lw_at lw_m1 199 rfl) rfl
theorem q286 : (Jvm.Cond.instanceMethod ({ cls := "GridRoom$Setting", name := "<init>", desc := "(LGridRoom;)V" } : Jvm.MethodName)) ∈ lw_all := lw_g (lw_at lw_m1 201 rfl) rfl
theorem q287 : (Jvm.Cond.code ({ cls := "GridRoom$Setting", name := "<init>", desc := "(LGridRoom;)V" } : Jvm.MethodName) prog_12_method_1_code (2 : Nat) (Option.none : Option Jvm.ClassFile.FieldType)) ∈ lw_all := lw_g (lw_at lw_m1 202 rfl) rfl
theorem q288 : (Jvm.Cond.methodLink "GridRoom$Setting" (9 : Nat) ({ cls := "java/lang/Object", name := "<init>", desc := "()V" } : Jvm.MethodName)) ∈ lw_all := lw_g (lw_at lw_m1 203 rfl) rfl
theorem q289 : (Jvm.Cond.fieldLink "GridRoom$Setting" (15 : Nat) "GridRoom$Setting" "cell" "[I") ∈ lw_all := lw_g (lw_at lw_m1 204 rfl) rfl
theorem q291 : (Jvm.Cond.fieldLink "GridRoom$Setting" (33 : Nat) "GridRoom$Setting" "many" "I") ∈ lw_all := lw_g (lw_at lw_m1 206 rfl) rfl
theorem q293 : (Jvm.Cond.fieldLink "GridRoom$Setting" (37 : Nat) "GridRoom$Setting" "tablet" "I") ∈ lw_all := lw_g (lw_at lw_m1 208 rfl) rfl
theorem q295 : (Jvm.Cond.fieldLink "GridRoom$Setting" (40 : Nat) "GridRoom$Setting" "name" "I") ∈ lw_all := lw_g (lw_at lw_m1 210 rfl) rfl
theorem q299 : (Jvm.Cond.fieldLink "GridRoom$Setting" (3 : Nat) "GridRoom$Setting" "this$0" "LGridRoom;") ∈ lw_all := lw_g (lw_at lw_m1 214 rfl) rfl
theorem q300 : (Jvm.Cond.laysFinal "GridRoom$Setting" "GridRoom$Setting" "cell" "[I") ∈ lw_all := lw_g (lw_at lw_m1 215 rfl) rfl
theorem q301 : (Jvm.Cond.soleField "GridRoom$Setting" "cell") ∈ lw_all := lw_g (lw_at lw_m1 216 rfl) rfl
theorem q302 : (Jvm.Cond.lays "GridRoom$Setting" "GridRoom$Setting" "many" "I") ∈ lw_all := lw_g (lw_at lw_m1 217 rfl) rfl
theorem q303 : (Jvm.Cond.soleField "GridRoom$Setting" "many") ∈ lw_all := lw_g (lw_at lw_m1 218 rfl) rfl
theorem q304 : (Jvm.Cond.lays "GridRoom$Setting" "GridRoom$Setting" "tablet" "I") ∈ lw_all := lw_g (lw_at lw_m1 219 rfl) rfl
theorem q305 : (Jvm.Cond.soleField "GridRoom$Setting" "tablet") ∈ lw_all := lw_g (lw_at lw_m1 220 rfl) rfl
theorem q306 : (Jvm.Cond.lays "GridRoom$Setting" "GridRoom$Setting" "name" "I") ∈ lw_all := lw_g (lw_at lw_m1 221 rfl) rfl
theorem q307 : (Jvm.Cond.soleField "GridRoom$Setting" "name") ∈ lw_all := lw_g (lw_at lw_m1 222 rfl) rfl
theorem q308 : (Jvm.Cond.lays "GridRoom$Setting" "GridRoom$Setting" "row" "I") ∈ lw_all := lw_g (lw_at lw_m1 223 rfl) rfl
theorem q309 : (Jvm.Cond.soleField "GridRoom$Setting" "row") ∈ lw_all := lw_g (lw_at lw_m1 224 rfl) rfl
theorem q310 : (Jvm.Cond.laysFinal "GridRoom$Setting" "GridRoom$Setting" "this$0" "LGridRoom;") ∈ lw_all := lw_g (lw_at lw_m1 225 rfl) rfl
theorem q311 : (Jvm.Cond.soleField "GridRoom$Setting" "this$0") ∈ lw_all := lw_g (lw_at lw_m1 226 rfl) rfl
theorem q312 : (Jvm.Cond.superclass "GridRoom$Setting" "java/lang/Object") ∈ lw_all := lw_g (lw_at lw_m1 227 rfl) rfl
theorem q345 : (Jvm.Cond.fieldLinkNest "GridRoom$Setting" (19 : Nat) "GridRoom" "view" "LGridRoom$View;" "GridRoom") ∈ lw_tbl := lw_at lw_m2 20 rfl
theorem q738 : (Jvm.Cond.selects "GridRoom$Setting" ({ cls := "java/lang/Object", name := "getClass", desc := "()Ljava/lang/Class;" } : Jvm.MethodName) ({ cls := "java/lang/Object", name := "getClass", desc := "()Ljava/lang/Class;" } : Jvm.MethodName)) ∈ lw_all := lw_g (lw_at lw_m3 173 rfl) rfl
theorem q1258 : (Jvm.Cond.instanceMethod ({ cls := "GridRoom$Setting", name := "be", desc := "([BII)V" } : Jvm.MethodName)) ∈ lw_all := lw_g (lw_at lw_m5 213 rfl) rfl
theorem q1259 : (Jvm.Cond.selects "GridRoom$Setting" ({ cls := "GridRoom$Setting", name := "be", desc := "([BII)V" } : Jvm.MethodName) ({ cls := "GridRoom$Setting", name := "be", desc := "([BII)V" } : Jvm.MethodName)) ∈ lw_all := lw_g (lw_at lw_m5 214 rfl) rfl
theorem q1260 : (Jvm.Cond.code ({ cls := "GridRoom$Setting", name := "be", desc := "([BII)V" } : Jvm.MethodName) prog_12_method_2_code (4 : Nat) (Option.none : Option Jvm.ClassFile.FieldType)) ∈ lw_all := lw_g (lw_at lw_m5 215 rfl) rfl
theorem q1261 : (Jvm.Cond.methodLinkNest "GridRoom$Setting" (29 : Nat) ({ cls := "GridRoom", name := "spell", desc := "([BLGridRoom$Rules;[I)I" } : Jvm.MethodName) "GridRoom") ∈ lw_tbl := lw_at lw_m5 216 rfl
theorem q2245 : (Jvm.Cond.castable "GridRoom$Setting" "java/lang/Object") ∈ lw_tbl := lw_at lw_m10 0 rfl
theorem in_X4 : ∀ w ∈ wsX40, w ∈ lw_all := lw_in wsX40 [300, 302, 304, 306, 308, 310] (by decide +kernel) (by decide +kernel)
def RX5 : String := "GridRoomModel"
def TX5 : u_T := fun k => match k with
  | 0 => ("GridRoomModel", "thrown", "I", false)
  | 1 => ("GridRoomModel", "today", "I", false)
  | 2 => ("GridRoomModel", "tablets", "I", false)
  | 3 => ("GridRoomModel", "tabletCame", "[I", true)
  | 4 => ("GridRoomModel", "tabletWent", "[I", true)
  | 5 => ("GridRoomModel", "rows", "[I", true)
  | 6 => ("GridRoomModel", "size", "[I", true)
  | 7 => ("GridRoomModel", "places", "[I", true)
  | 8 => ("GridRoomModel", "texts", "I", false)
  | 9 => ("GridRoomModel", "textCame", "[I", true)
  | 10 => ("GridRoomModel", "clauses", "[I", true)
  | 11 => ("GridRoomModel", "sort", "[I", true)
  | 12 => ("GridRoomModel", "where", "[I", true)
  | 13 => ("GridRoomModel", "least", "[I", true)
  | 14 => ("GridRoomModel", "many", "[I", true)
  | 15 => ("GridRoomModel", "tape", "[B", true)
  | 16 => ("GridRoomModel", "taped", "I", false)
  | 17 => ("GridRoomModel", "at", "I", false)
  | 18 => ("GridRoomModel", "place", "I", false)
  | 19 => ("GridRoomModel", "kind", "I", false)
  | 20 => ("GridRoomModel", "value", "I", false)
  | 21 => ("GridRoomModel", "fault", "I", false)
  | 22 => ("GridRoomModel", "faultPlace", "I", false)
  | 23 => ("GridRoomModel", "lastPlace", "I", false)
  | 24 => ("GridRoomModel", "trust", "[I", true)
  | 25 => ("GridRoomModel", "held", "I", false)
  | 26 => ("GridRoomModel", "heldBy", "[I", true)
  | 27 => ("GridRoomModel", "heldA", "[I", true)
  | 28 => ("GridRoomModel", "heldB", "[I", true)
  | 29 => ("GridRoomModel", "heldFor", "[I", true)
  | 30 => ("GridRoomModel", "heldCame", "[I", true)
  | 31 => ("GridRoomModel", "stand", "[I", true)
  | 32 => ("GridRoomModel", "shares", "I", false)
  | 33 => ("GridRoomModel", "shareSort", "[I", true)
  | 34 => ("GridRoomModel", "shareA", "[I", true)
  | 35 => ("GridRoomModel", "shareB", "[I", true)
  | 36 => ("GridRoomModel", "shareIs", "[Z", true)
  | 37 => ("GridRoomModel", "shareCame", "[I", true)
  | 38 => ("GridRoomModel", "shareWent", "[I", true)
  | 39 => ("GridRoomModel", "wholes", "I", false)
  | 40 => ("GridRoomModel", "wholeSize", "[I", true)
  | 41 => ("GridRoomModel", "whole", "[I", true)
  | 42 => ("GridRoomModel", "isLink", "[Z", true)
  | 43 => ("GridRoomModel", "isParted", "[Z", true)
  | 44 => ("GridRoomModel", "classes", "[I", true)
  | 45 => ("GridRoomModel", "tally", "[I", true)
  | 46 => ("GridRoomModel", "far", "[I", true)
  | 47 => ("GridRoomModel", "clashA", "I", false)
  | 48 => ("GridRoomModel", "clashB", "I", false)
  | 49 => ("GridRoomModel", "clashKind", "I", false)
  | 50 => ("GridRoomModel", "clashSize", "I", false)
  | 51 => ("GridRoomModel", "clashSort", "I", false)
  | 52 => ("GridRoomModel", "apart", "[I", true)
  | 53 => ("GridRoomModel", "reasons", "I", false)
  | 54 => ("GridRoomModel", "reason", "[I", true)
  | 55 => ("GridRoomModel", "names", "I", false)
  | 56 => ("GridRoomModel", "nameSize", "[I", true)
  | 57 => ("GridRoomModel", "letters", "[I", true)
  | 58 => ("GridRoomModel", "nameOn", "[I", true)
  | 59 => ("GridRoomModel", "nameCame", "[I", true)
  | 60 => ("GridRoomModel", "nameWent", "[I", true)
  | 61 => ("GridRoomModel", "cells", "[I", true)
  | 62 => ("GridRoomModel", "cellMany", "[I", true)
  | 63 => ("GridRoomModel", "written", "[I", true)
  | 64 => ("GridRoomModel", "taken", "I", false)
  | 65 => ("GridRoomModel", "takenName", "[I", true)
  | 66 => ("GridRoomModel", "rowOf", "[I", true)
  | 67 => ("GridRoomModel", "given", "[I", true)
  | 68 => ("GridRoomModel", "ways", "I", false)
  | 69 => ("GridRoomModel", "wanted", "I", false)
  | 70 => ("GridRoomModel", "foundRow", "[I", true)
  | 71 => ("GridRoomModel", "foundGiven", "[I", true)
  | 72 => ("GridRoomModel", "tells", "[I", true)
  | 73 => ("GridRoomModel", "fit", "[Z", true)
  | 74 => ("GridRoomModel", "out", "[I", true)
  | _ => ("GridRoomModel", "outMany", "I", false)
def tyX5 : Nat → FieldType := fun k => match k with
  | 0 => .int
  | 1 => .int
  | 2 => .int
  | 3 => .array .int
  | 4 => .array .int
  | 5 => .array .int
  | 6 => .array .int
  | 7 => .array .int
  | 8 => .int
  | 9 => .array .int
  | 10 => .array .int
  | 11 => .array .int
  | 12 => .array .int
  | 13 => .array .int
  | 14 => .array .int
  | 15 => .array .byte
  | 16 => .int
  | 17 => .int
  | 18 => .int
  | 19 => .int
  | 20 => .int
  | 21 => .int
  | 22 => .int
  | 23 => .int
  | 24 => .array .int
  | 25 => .int
  | 26 => .array .int
  | 27 => .array .int
  | 28 => .array .int
  | 29 => .array .int
  | 30 => .array .int
  | 31 => .array .int
  | 32 => .int
  | 33 => .array .int
  | 34 => .array .int
  | 35 => .array .int
  | 36 => .array .boolean
  | 37 => .array .int
  | 38 => .array .int
  | 39 => .int
  | 40 => .array .int
  | 41 => .array .int
  | 42 => .array .boolean
  | 43 => .array .boolean
  | 44 => .array .int
  | 45 => .array .int
  | 46 => .array .int
  | 47 => .int
  | 48 => .int
  | 49 => .int
  | 50 => .int
  | 51 => .int
  | 52 => .array .int
  | 53 => .int
  | 54 => .array .int
  | 55 => .int
  | 56 => .array .int
  | 57 => .array .int
  | 58 => .array .int
  | 59 => .array .int
  | 60 => .array .int
  | 61 => .array .int
  | 62 => .array .int
  | 63 => .array .int
  | 64 => .int
  | 65 => .array .int
  | 66 => .array .int
  | 67 => .array .int
  | 68 => .int
  | 69 => .int
  | 70 => .array .int
  | 71 => .array .int
  | 72 => .array .int
  | 73 => .array .boolean
  | 74 => .array .int
  | _ => .int
abbrev wsX50 : List Cond := u_ws RX5 TX5 76
theorem nmX5 : ∀ a, a < 76 → ∀ b, b < 76 → a ≠ b → (TX5 a).2.1 ≠ (TX5 b).2.1 := by decide +kernel
theorem tyX5_ok : ∀ k, k < 76 → parseFieldDescriptor (TX5 k).2.2.1 = some (tyX5 k) := by decide +kernel
abbrev cX5_thrown : ByteArray := prog_24_method_1_code
def yX5_thrown : MethodName := ⟨RX5, "thrown", "()I"⟩
abbrev cX5_init : ByteArray := prog_24_method_3_code
def yX5_init : MethodName := ⟨RX5, "<init>", "()V"⟩
abbrev cX5_day : ByteArray := prog_24_method_4_code
def yX5_day : MethodName := ⟨RX5, "day", "(I)I"⟩
abbrev cX5_within : ByteArray := prog_24_method_2_code
def yX5_within : MethodName := ⟨RX5, "within", "(III)Z"⟩
abbrev cX5_feed : ByteArray := prog_24_method_8_code
def yX5_feed : MethodName := ⟨RX5, "feed", "(IIIII)I"⟩
abbrev cX5_end : ByteArray := prog_24_method_9_code
def yX5_end : MethodName := ⟨RX5, "end", "(I)I"⟩
abbrev cX5_place : ByteArray := prog_24_method_22_code
def yX5_place : MethodName := ⟨RX5, "place", "()I"⟩
abbrev cX5_tablet : ByteArray := prog_24_method_24_code
def yX5_tablet : MethodName := ⟨RX5, "tablet", "()I"⟩
abbrev cX5_starts : ByteArray := prog_24_method_20_code
def yX5_starts : MethodName := ⟨RX5, "starts", "()V"⟩
abbrev cX5_next : ByteArray := prog_24_method_13_code
def yX5_next : MethodName := ⟨RX5, "next", "()V"⟩
abbrev cX5_isSmall : ByteArray := prog_24_method_11_code
def yX5_isSmall : MethodName := ⟨RX5, "isSmall", "(I)Z"⟩
abbrev cX5_see : ByteArray := prog_24_method_10_code
def yX5_see : MethodName := ⟨RX5, "see", "(I)I"⟩
abbrev cX5_isDigit : ByteArray := prog_24_method_12_code
def yX5_isDigit : MethodName := ⟨RX5, "isDigit", "(I)Z"⟩
abbrev cX5_readRow : ByteArray := prog_24_method_23_code
def yX5_readRow : MethodName := ⟨RX5, "readRow", "()V"⟩
abbrev cX5_isSign : ByteArray := prog_24_method_15_code
def yX5_isSign : MethodName := ⟨RX5, "isSign", "(I)Z"⟩
abbrev cX5_fails : ByteArray := prog_24_method_17_code
def yX5_fails : MethodName := ⟨RX5, "fails", "(I)V"⟩
abbrev cX5_isWell : ByteArray := prog_24_method_16_code
def yX5_isWell : MethodName := ⟨RX5, "isWell", "()Z"⟩
abbrev cX5_number : ByteArray := prog_24_method_19_code
def yX5_number : MethodName := ⟨RX5, "number", "(II)I"⟩
abbrev cX5_wantSign : ByteArray := prog_24_method_18_code
def yX5_wantSign : MethodName := ⟨RX5, "wantSign", "(I)V"⟩
abbrev cX5_stops : ByteArray := prog_24_method_21_code
def yX5_stops : MethodName := ⟨RX5, "stops", "()I"⟩
abbrev cX5_rules : ByteArray := prog_24_method_28_code
def yX5_rules : MethodName := ⟨RX5, "rules", "()I"⟩
abbrev cX5_readClause : ByteArray := prog_24_method_27_code
def yX5_readClause : MethodName := ⟨RX5, "readClause", "()V"⟩
abbrev cX5_isWord : ByteArray := prog_24_method_14_code
def yX5_isWord : MethodName := ⟨RX5, "isWord", "(Ljava/lang/String;)Z"⟩
abbrev cX5_letterHere : ByteArray := prog_24_method_26_code
def yX5_letterHere : MethodName := ⟨RX5, "letterHere", "()I"⟩
abbrev cX5_vowel : ByteArray := prog_24_method_25_code
def yX5_vowel : MethodName := ⟨RX5, "vowel", "(I)I"⟩
abbrev cX5_trust : ByteArray := prog_24_method_31_code
def yX5_trust : MethodName := ⟨RX5, "trust", "(II)Z"⟩
abbrev cX5_holds : ByteArray := prog_24_method_32_code
def yX5_holds : MethodName := ⟨RX5, "holds", "(IIII)Z"⟩
abbrev cX5_isSignNumber : ByteArray := prog_24_method_30_code
def yX5_isSignNumber : MethodName := ⟨RX5, "isSignNumber", "(I)Z"⟩
abbrev cX5_sign : ByteArray := prog_24_method_35_code
def yX5_sign : MethodName := ⟨RX5, "sign", "(II)I"⟩
abbrev cX5_isKnown : ByteArray := prog_24_method_5_code
def yX5_isKnown : MethodName := ⟨RX5, "isKnown", "(I)Z"⟩
abbrev cX5_findStands : ByteArray := prog_24_method_34_code
def yX5_findStands : MethodName := ⟨RX5, "findStands", "(I)V"⟩
abbrev cX5_moreTrust : ByteArray := prog_24_method_33_code
def yX5_moreTrust : MethodName := ⟨RX5, "moreTrust", "(III)I"⟩
abbrev cX5_told : ByteArray := prog_24_method_36_code
def yX5_told : MethodName := ⟨RX5, "told", "(III)I"⟩
abbrev cX5_share : ByteArray := prog_24_method_37_code
def yX5_share : MethodName := ⟨RX5, "share", "(IIIZ)I"⟩
abbrev cX5_pairs : ByteArray := prog_24_method_44_code
def yX5_pairs : MethodName := ⟨RX5, "pairs", "(IIII)I"⟩
abbrev cX5_rulesBy : ByteArray := prog_24_method_29_code
def yX5_rulesBy : MethodName := ⟨RX5, "rulesBy", "(I)I"⟩
abbrev cX5_findWholes : ByteArray := prog_24_method_40_code
def yX5_findWholes : MethodName := ⟨RX5, "findWholes", "(I)V"⟩
abbrev cX5_tabletCounts : ByteArray := prog_24_method_7_code
def yX5_tabletCounts : MethodName := ⟨RX5, "tabletCounts", "(II)Z"⟩
abbrev cX5_counts : ByteArray := prog_24_method_6_code
def yX5_counts : MethodName := ⟨RX5, "counts", "(III)Z"⟩
abbrev cX5_addWhole : ByteArray := prog_24_method_39_code
def yX5_addWhole : MethodName := ⟨RX5, "addWhole", "(I)V"⟩
abbrev cX5_isAlike : ByteArray := prog_24_method_38_code
def yX5_isAlike : MethodName := ⟨RX5, "isAlike", "(II)Z"⟩
abbrev cX5_pairsOf : ByteArray := prog_24_method_43_code
def yX5_pairsOf : MethodName := ⟨RX5, "pairsOf", "(III)I"⟩
abbrev cX5_tellsBy : ByteArray := prog_24_method_42_code
def yX5_tellsBy : MethodName := ⟨RX5, "tellsBy", "(III)Z"⟩
abbrev cX5_unlikeAt : ByteArray := prog_24_method_41_code
def yX5_unlikeAt : MethodName := ⟨RX5, "unlikeAt", "(II)I"⟩
abbrev cX5_links : ByteArray := prog_24_method_49_code
def yX5_links : MethodName := ⟨RX5, "links", "(II)I"⟩
abbrev cX5_findLinks : ByteArray := prog_24_method_46_code
def yX5_findLinks : MethodName := ⟨RX5, "findLinks", "(I)V"⟩
abbrev cX5_linksBy : ByteArray := prog_24_method_47_code
def yX5_linksBy : MethodName := ⟨RX5, "linksBy", "(I)V"⟩
abbrev cX5_links_2 : ByteArray := prog_24_method_45_code
def yX5_links_2 : MethodName := ⟨RX5, "links", "(III)V"⟩
abbrev cX5_findClasses : ByteArray := prog_24_method_48_code
def yX5_findClasses : MethodName := ⟨RX5, "findClasses", "()V"⟩
abbrev cX5_classOf : ByteArray := prog_24_method_50_code
def yX5_classOf : MethodName := ⟨RX5, "classOf", "(III)I"⟩
abbrev cX5_clash : ByteArray := prog_24_method_54_code
def yX5_clash : MethodName := ⟨RX5, "clash", "(II)I"⟩
abbrev cX5_findClash : ByteArray := prog_24_method_52_code
def yX5_findClash : MethodName := ⟨RX5, "findClash", "(I)Z"⟩
abbrev cX5_findFar : ByteArray := prog_24_method_51_code
def yX5_findFar : MethodName := ⟨RX5, "findFar", "(II)V"⟩
abbrev cX5_clashes : ByteArray := prog_24_method_53_code
def yX5_clashes : MethodName := ⟨RX5, "clashes", "(IIIII)V"⟩
abbrev cX5_reason : ByteArray := prog_24_method_56_code
def yX5_reason : MethodName := ⟨RX5, "reason", "(III)I"⟩
abbrev cX5_walks : ByteArray := prog_24_method_55_code
def yX5_walks : MethodName := ⟨RX5, "walks", "(III)V"⟩
abbrev cX5_name : ByteArray := prog_24_method_59_code
def yX5_name : MethodName := ⟨RX5, "name", "(I)I"⟩
abbrev cX5_isName : ByteArray := prog_24_method_57_code
def yX5_isName : MethodName := ⟨RX5, "isName", "()Z"⟩
abbrev cX5_takesName : ByteArray := prog_24_method_58_code
def yX5_takesName : MethodName := ⟨RX5, "takesName", "(II)V"⟩
abbrev cX5_away : ByteArray := prog_24_method_60_code
def yX5_away : MethodName := ⟨RX5, "away", "(II)Z"⟩
abbrev cX5_spelled : ByteArray := prog_24_method_66_code
def yX5_spelled : MethodName := ⟨RX5, "spelled", "(II)I"⟩
abbrev cX5_spells : ByteArray := prog_24_method_65_code
def yX5_spells : MethodName := ⟨RX5, "spells", "(II)V"⟩
abbrev cX5_writes : ByteArray := prog_24_method_61_code
def yX5_writes : MethodName := ⟨RX5, "writes", "(II)I"⟩
abbrev cX5_addCell : ByteArray := prog_24_method_63_code
def yX5_addCell : MethodName := ⟨RX5, "addCell", "(III)V"⟩
abbrev cX5_vowelFor : ByteArray := prog_24_method_64_code
def yX5_vowelFor : MethodName := ⟨RX5, "vowelFor", "(II)I"⟩
abbrev cX5_drops : ByteArray := prog_24_method_62_code
def yX5_drops : MethodName := ⟨RX5, "drops", "(II)Z"⟩
abbrev cX5_cell : ByteArray := prog_24_method_67_code
def yX5_cell : MethodName := ⟨RX5, "cell", "(III)I"⟩
abbrev cX5_ways : ByteArray := prog_24_method_76_code
def yX5_ways : MethodName := ⟨RX5, "ways", "(I)I"⟩
abbrev cX5_findAll : ByteArray := prog_24_method_75_code
def yX5_findAll : MethodName := ⟨RX5, "findAll", "(I)V"⟩
abbrev cX5_takes : ByteArray := prog_24_method_74_code
def yX5_takes : MethodName := ⟨RX5, "takes", "(II)V"⟩
abbrev cX5_nameCounts : ByteArray := prog_24_method_73_code
def yX5_nameCounts : MethodName := ⟨RX5, "nameCounts", "(II)Z"⟩
abbrev cX5_goesThrough : ByteArray := prog_24_method_72_code
def yX5_goesThrough : MethodName := ⟨RX5, "goesThrough", "(II)V"⟩
abbrev cX5_meets : ByteArray := prog_24_method_71_code
def yX5_meets : MethodName := ⟨RX5, "meets", "(II)Z"⟩
abbrev cX5_marksFits : ByteArray := prog_24_method_88_code
def yX5_marksFits : MethodName := ⟨RX5, "marksFits", "(I)V"⟩
abbrev cX5_agrees : ByteArray := prog_24_method_68_code
def yX5_agrees : MethodName := ⟨RX5, "agrees", "(III)Z"⟩
abbrev cX5_agree : ByteArray := prog_24_method_69_code
def yX5_agree : MethodName := ⟨RX5, "agree", "(IIII)Z"⟩
abbrev cX5_tries : ByteArray := prog_24_method_70_code
def yX5_tries : MethodName := ⟨RX5, "tries", "(I)Z"⟩
abbrev cX5_way : ByteArray := prog_24_method_78_code
def yX5_way : MethodName := ⟨RX5, "way", "(III)I"⟩
abbrev cX5_findWay : ByteArray := prog_24_method_77_code
def yX5_findWay : MethodName := ⟨RX5, "findWay", "(II)Z"⟩
abbrev cX5_given : ByteArray := prog_24_method_79_code
def yX5_given : MethodName := ⟨RX5, "given", "(III)I"⟩
abbrev cX5_forced : ByteArray := prog_24_method_81_code
def yX5_forced : MethodName := ⟨RX5, "forced", "(II)I"⟩
abbrev cX5_forcedOf : ByteArray := prog_24_method_80_code
def yX5_forcedOf : MethodName := ⟨RX5, "forcedOf", "(I)I"⟩
abbrev cX5_reads : ByteArray := prog_24_method_83_code
def yX5_reads : MethodName := ⟨RX5, "reads", "(III)I"⟩
abbrev cX5_vowelLetter : ByteArray := prog_24_method_82_code
def yX5_vowelLetter : MethodName := ⟨RX5, "vowelLetter", "(I)I"⟩
abbrev cX5_letter : ByteArray := prog_24_method_84_code
def yX5_letter : MethodName := ⟨RX5, "letter", "(I)I"⟩
abbrev cX5_settles : ByteArray := prog_24_method_85_code
def yX5_settles : MethodName := ⟨RX5, "settles", "(II)I"⟩
abbrev cX5_would : ByteArray := prog_24_method_87_code
def yX5_would : MethodName := ⟨RX5, "would", "(II)I"⟩
abbrev cX5_waysWith : ByteArray := prog_24_method_86_code
def yX5_waysWith : MethodName := ⟨RX5, "waysWith", "(II)I"⟩
abbrev cX5_fits : ByteArray := prog_24_method_89_code
def yX5_fits : MethodName := ⟨RX5, "fits", "(I)I"⟩
abbrev cX5_doubt : ByteArray := prog_24_method_91_code
def yX5_doubt : MethodName := ⟨RX5, "doubt", "(II)I"⟩
abbrev cX5_bits : ByteArray := prog_24_method_90_code
def yX5_bits : MethodName := ⟨RX5, "bits", "(I)I"⟩
abbrev cX5_could : ByteArray := prog_24_method_92_code
def yX5_could : MethodName := ⟨RX5, "could", "(IIII)I"⟩
abbrev cX5_inGrid : ByteArray := prog_24_method_93_code
def yX5_inGrid : MethodName := ⟨RX5, "inGrid", "(II)I"⟩
abbrev cX5_where : ByteArray := prog_24_method_94_code
def yX5_where : MethodName := ⟨RX5, "where", "(I)I"⟩
abbrev cX5_often : ByteArray := prog_24_method_96_code
def yX5_often : MethodName := ⟨RX5, "often", "(III)I"⟩
abbrev cX5_oftenOf : ByteArray := prog_24_method_95_code
def yX5_oftenOf : MethodName := ⟨RX5, "oftenOf", "(III)I"⟩
abbrev cX5_rank : ByteArray := prog_24_method_97_code
def yX5_rank : MethodName := ⟨RX5, "rank", "(II)I"⟩
abbrev cX5_count : ByteArray := prog_24_method_98_code
def yX5_count : MethodName := ⟨RX5, "count", "(I)I"⟩
theorem q93 : (Jvm.Cond.initialized "GridRoomModel") ∈ lw_all := lw_g (lw_at lw_m1 8 rfl) rfl
theorem q747 : (Jvm.Cond.selects "GridRoomModel" ({ cls := "java/lang/Object", name := "getClass", desc := "()Ljava/lang/Class;" } : Jvm.MethodName) ({ cls := "java/lang/Object", name := "getClass", desc := "()Ljava/lang/Class;" } : Jvm.MethodName)) ∈ lw_all := lw_g (lw_at lw_m3 182 rfl) rfl
theorem q1588 : (Jvm.Cond.instanceMethod ({ cls := "GridRoomModel", name := "thrown", desc := "()I" } : Jvm.MethodName)) ∈ lw_all := lw_g (lw_at lw_m7 63 rfl) rfl
theorem q1589 : (Jvm.Cond.selects "GridRoomModel" ({ cls := "GridRoomModel", name := "thrown", desc := "()I" } : Jvm.MethodName) ({ cls := "GridRoomModel", name := "thrown", desc := "()I" } : Jvm.MethodName)) ∈ lw_all := lw_g (lw_at lw_m7 64 rfl) rfl
theorem q1590 : (Jvm.Cond.code ({ cls := "GridRoomModel", name := "thrown", desc := "()I" } : Jvm.MethodName) prog_24_method_1_code (1 : Nat) (Option.some Jvm.ClassFile.FieldType.int)) ∈ lw_all := lw_g (lw_at lw_m7 65 rfl) rfl
theorem q1592 : (Jvm.Cond.instantiable "GridRoomModel" (76 : Nat)) ∈ lw_all := lw_g (lw_at lw_m7 67 rfl) rfl
theorem q1594 : (Jvm.Cond.instanceMethod ({ cls := "GridRoomModel", name := "<init>", desc := "()V" } : Jvm.MethodName)) ∈ lw_all := lw_g (lw_at lw_m7 69 rfl) rfl
theorem q1595 : (Jvm.Cond.code ({ cls := "GridRoomModel", name := "<init>", desc := "()V" } : Jvm.MethodName) prog_24_method_3_code (2 : Nat) (Option.none : Option Jvm.ClassFile.FieldType)) ∈ lw_all := lw_g (lw_at lw_m7 70 rfl) rfl
theorem q1596 : (Jvm.Cond.methodLink "GridRoomModel" (7 : Nat) ({ cls := "java/lang/Object", name := "<init>", desc := "()V" } : Jvm.MethodName)) ∈ lw_all := lw_g (lw_at lw_m7 71 rfl) rfl
theorem q1597 : (Jvm.Cond.fieldLink "GridRoomModel" (1 : Nat) "GridRoomModel" "thrown" "I") ∈ lw_all := lw_g (lw_at lw_m7 72 rfl) rfl
theorem q1598 : (Jvm.Cond.fieldLink "GridRoomModel" (173 : Nat) "GridRoomModel" "today" "I") ∈ lw_all := lw_g (lw_at lw_m7 73 rfl) rfl
theorem q1599 : (Jvm.Cond.fieldLink "GridRoomModel" (243 : Nat) "GridRoomModel" "tablets" "I") ∈ lw_all := lw_g (lw_at lw_m7 74 rfl) rfl
theorem q1600 : (Jvm.Cond.fieldLink "GridRoomModel" (13 : Nat) "GridRoomModel" "tabletCame" "[I") ∈ lw_all := lw_g (lw_at lw_m7 75 rfl) rfl
theorem q1601 : (Jvm.Cond.fieldLink "GridRoomModel" (17 : Nat) "GridRoomModel" "tabletWent" "[I") ∈ lw_all := lw_g (lw_at lw_m7 76 rfl) rfl
theorem q1602 : (Jvm.Cond.fieldLink "GridRoomModel" (20 : Nat) "GridRoomModel" "rows" "[I") ∈ lw_all := lw_g (lw_at lw_m7 77 rfl) rfl
theorem q1603 : (Jvm.Cond.fieldLink "GridRoomModel" (23 : Nat) "GridRoomModel" "size" "[I") ∈ lw_all := lw_g (lw_at lw_m7 78 rfl) rfl
theorem q1604 : (Jvm.Cond.fieldLink "GridRoomModel" (26 : Nat) "GridRoomModel" "places" "[I") ∈ lw_all := lw_g (lw_at lw_m7 79 rfl) rfl
theorem q1605 : (Jvm.Cond.fieldLink "GridRoomModel" (282 : Nat) "GridRoomModel" "texts" "I") ∈ lw_all := lw_g (lw_at lw_m7 80 rfl) rfl
theorem q1606 : (Jvm.Cond.fieldLink "GridRoomModel" (29 : Nat) "GridRoomModel" "textCame" "[I") ∈ lw_all := lw_g (lw_at lw_m7 81 rfl) rfl
theorem q1607 : (Jvm.Cond.fieldLink "GridRoomModel" (32 : Nat) "GridRoomModel" "clauses" "[I") ∈ lw_all := lw_g (lw_at lw_m7 82 rfl) rfl
theorem q1608 : (Jvm.Cond.fieldLink "GridRoomModel" (35 : Nat) "GridRoomModel" "sort" "[I") ∈ lw_all := lw_g (lw_at lw_m7 83 rfl) rfl
theorem q1609 : (Jvm.Cond.fieldLink "GridRoomModel" (38 : Nat) "GridRoomModel" "where" "[I") ∈ lw_all := lw_g (lw_at lw_m7 84 rfl) rfl
theorem q1610 : (Jvm.Cond.fieldLink "GridRoomModel" (41 : Nat) "GridRoomModel" "least" "[I") ∈ lw_all := lw_g (lw_at lw_m7 85 rfl) rfl
theorem q1611 : (Jvm.Cond.fieldLink "GridRoomModel" (44 : Nat) "GridRoomModel" "many" "[I") ∈ lw_all := lw_g (lw_at lw_m7 86 rfl) rfl
theorem q1612 : (Jvm.Cond.fieldLink "GridRoomModel" (47 : Nat) "GridRoomModel" "tape" "[B") ∈ lw_all := lw_g (lw_at lw_m7 87 rfl) rfl
theorem q1613 : (Jvm.Cond.fieldLink "GridRoomModel" (180 : Nat) "GridRoomModel" "taped" "I") ∈ lw_all := lw_g (lw_at lw_m7 88 rfl) rfl
theorem q1614 : (Jvm.Cond.fieldLink "GridRoomModel" (183 : Nat) "GridRoomModel" "at" "I") ∈ lw_all := lw_g (lw_at lw_m7 89 rfl) rfl
theorem q1615 : (Jvm.Cond.fieldLink "GridRoomModel" (186 : Nat) "GridRoomModel" "place" "I") ∈ lw_all := lw_g (lw_at lw_m7 90 rfl) rfl
theorem q1616 : (Jvm.Cond.fieldLink "GridRoomModel" (189 : Nat) "GridRoomModel" "kind" "I") ∈ lw_all := lw_g (lw_at lw_m7 91 rfl) rfl
theorem q1617 : (Jvm.Cond.fieldLink "GridRoomModel" (192 : Nat) "GridRoomModel" "value" "I") ∈ lw_all := lw_g (lw_at lw_m7 92 rfl) rfl
theorem q1618 : (Jvm.Cond.fieldLink "GridRoomModel" (216 : Nat) "GridRoomModel" "fault" "I") ∈ lw_all := lw_g (lw_at lw_m7 93 rfl) rfl
theorem q1619 : (Jvm.Cond.fieldLink "GridRoomModel" (219 : Nat) "GridRoomModel" "faultPlace" "I") ∈ lw_all := lw_g (lw_at lw_m7 94 rfl) rfl
theorem q1620 : (Jvm.Cond.fieldLink "GridRoomModel" (51 : Nat) "GridRoomModel" "lastPlace" "I") ∈ lw_all := lw_g (lw_at lw_m7 95 rfl) rfl
theorem q1621 : (Jvm.Cond.fieldLink "GridRoomModel" (54 : Nat) "GridRoomModel" "trust" "[I") ∈ lw_all := lw_g (lw_at lw_m7 96 rfl) rfl
theorem q1622 : (Jvm.Cond.fieldLink "GridRoomModel" (291 : Nat) "GridRoomModel" "held" "I") ∈ lw_all := lw_g (lw_at lw_m7 97 rfl) rfl
theorem q1623 : (Jvm.Cond.fieldLink "GridRoomModel" (57 : Nat) "GridRoomModel" "heldBy" "[I") ∈ lw_all := lw_g (lw_at lw_m7 98 rfl) rfl
theorem q1624 : (Jvm.Cond.fieldLink "GridRoomModel" (60 : Nat) "GridRoomModel" "heldA" "[I") ∈ lw_all := lw_g (lw_at lw_m7 99 rfl) rfl
theorem q1625 : (Jvm.Cond.fieldLink "GridRoomModel" (63 : Nat) "GridRoomModel" "heldB" "[I") ∈ lw_all := lw_g (lw_at lw_m7 100 rfl) rfl
theorem q1626 : (Jvm.Cond.fieldLink "GridRoomModel" (66 : Nat) "GridRoomModel" "heldFor" "[I") ∈ lw_all := lw_g (lw_at lw_m7 101 rfl) rfl
theorem q1627 : (Jvm.Cond.fieldLink "GridRoomModel" (69 : Nat) "GridRoomModel" "heldCame" "[I") ∈ lw_all := lw_g (lw_at lw_m7 102 rfl) rfl
theorem q1628 : (Jvm.Cond.fieldLink "GridRoomModel" (72 : Nat) "GridRoomModel" "stand" "[I") ∈ lw_all := lw_g (lw_at lw_m7 103 rfl) rfl
theorem q1629 : (Jvm.Cond.fieldLink "GridRoomModel" (304 : Nat) "GridRoomModel" "shares" "I") ∈ lw_all := lw_g (lw_at lw_m7 104 rfl) rfl
theorem q1630 : (Jvm.Cond.fieldLink "GridRoomModel" (75 : Nat) "GridRoomModel" "shareSort" "[I") ∈ lw_all := lw_g (lw_at lw_m7 105 rfl) rfl
theorem q1631 : (Jvm.Cond.fieldLink "GridRoomModel" (78 : Nat) "GridRoomModel" "shareA" "[I") ∈ lw_all := lw_g (lw_at lw_m7 106 rfl) rfl
theorem q1632 : (Jvm.Cond.fieldLink "GridRoomModel" (81 : Nat) "GridRoomModel" "shareB" "[I") ∈ lw_all := lw_g (lw_at lw_m7 107 rfl) rfl
theorem q1633 : (Jvm.Cond.fieldLink "GridRoomModel" (84 : Nat) "GridRoomModel" "shareIs" "[Z") ∈ lw_all := lw_g (lw_at lw_m7 108 rfl) rfl
theorem q1634 : (Jvm.Cond.fieldLink "GridRoomModel" (88 : Nat) "GridRoomModel" "shareCame" "[I") ∈ lw_all := lw_g (lw_at lw_m7 109 rfl) rfl
theorem q1635 : (Jvm.Cond.fieldLink "GridRoomModel" (91 : Nat) "GridRoomModel" "shareWent" "[I") ∈ lw_all := lw_g (lw_at lw_m7 110 rfl) rfl
theorem q1636 : (Jvm.Cond.fieldLink "GridRoomModel" (307 : Nat) "GridRoomModel" "wholes" "I") ∈ lw_all := lw_g (lw_at lw_m7 111 rfl) rfl
theorem q1637 : (Jvm.Cond.fieldLink "GridRoomModel" (94 : Nat) "GridRoomModel" "wholeSize" "[I") ∈ lw_all := lw_g (lw_at lw_m7 112 rfl) rfl
theorem q1638 : (Jvm.Cond.fieldLink "GridRoomModel" (97 : Nat) "GridRoomModel" "whole" "[I") ∈ lw_all := lw_g (lw_at lw_m7 113 rfl) rfl
theorem q1639 : (Jvm.Cond.fieldLink "GridRoomModel" (100 : Nat) "GridRoomModel" "isLink" "[Z") ∈ lw_all := lw_g (lw_at lw_m7 114 rfl) rfl
theorem q1640 : (Jvm.Cond.fieldLink "GridRoomModel" (103 : Nat) "GridRoomModel" "isParted" "[Z") ∈ lw_all := lw_g (lw_at lw_m7 115 rfl) rfl
theorem q1641 : (Jvm.Cond.fieldLink "GridRoomModel" (106 : Nat) "GridRoomModel" "classes" "[I") ∈ lw_all := lw_g (lw_at lw_m7 116 rfl) rfl
theorem q1642 : (Jvm.Cond.fieldLink "GridRoomModel" (109 : Nat) "GridRoomModel" "tally" "[I") ∈ lw_all := lw_g (lw_at lw_m7 117 rfl) rfl
theorem q1643 : (Jvm.Cond.fieldLink "GridRoomModel" (112 : Nat) "GridRoomModel" "far" "[I") ∈ lw_all := lw_g (lw_at lw_m7 118 rfl) rfl
theorem q1644 : (Jvm.Cond.fieldLink "GridRoomModel" (359 : Nat) "GridRoomModel" "clashA" "I") ∈ lw_all := lw_g (lw_at lw_m7 119 rfl) rfl
theorem q1645 : (Jvm.Cond.fieldLink "GridRoomModel" (362 : Nat) "GridRoomModel" "clashB" "I") ∈ lw_all := lw_g (lw_at lw_m7 120 rfl) rfl
theorem q1646 : (Jvm.Cond.fieldLink "GridRoomModel" (365 : Nat) "GridRoomModel" "clashKind" "I") ∈ lw_all := lw_g (lw_at lw_m7 121 rfl) rfl
theorem q1647 : (Jvm.Cond.fieldLink "GridRoomModel" (352 : Nat) "GridRoomModel" "clashSize" "I") ∈ lw_all := lw_g (lw_at lw_m7 122 rfl) rfl
theorem q1648 : (Jvm.Cond.fieldLink "GridRoomModel" (368 : Nat) "GridRoomModel" "clashSort" "I") ∈ lw_all := lw_g (lw_at lw_m7 123 rfl) rfl
theorem q1649 : (Jvm.Cond.fieldLink "GridRoomModel" (115 : Nat) "GridRoomModel" "apart" "[I") ∈ lw_all := lw_g (lw_at lw_m7 124 rfl) rfl
theorem q1650 : (Jvm.Cond.fieldLink "GridRoomModel" (374 : Nat) "GridRoomModel" "reasons" "I") ∈ lw_all := lw_g (lw_at lw_m7 125 rfl) rfl
theorem q1651 : (Jvm.Cond.fieldLink "GridRoomModel" (118 : Nat) "GridRoomModel" "reason" "[I") ∈ lw_all := lw_g (lw_at lw_m7 126 rfl) rfl
theorem q1652 : (Jvm.Cond.fieldLink "GridRoomModel" (383 : Nat) "GridRoomModel" "names" "I") ∈ lw_all := lw_g (lw_at lw_m7 127 rfl) rfl
theorem q1653 : (Jvm.Cond.fieldLink "GridRoomModel" (121 : Nat) "GridRoomModel" "nameSize" "[I") ∈ lw_all := lw_g (lw_at lw_m7 128 rfl) rfl
theorem q1654 : (Jvm.Cond.fieldLink "GridRoomModel" (124 : Nat) "GridRoomModel" "letters" "[I") ∈ lw_all := lw_g (lw_at lw_m7 129 rfl) rfl
theorem q1655 : (Jvm.Cond.fieldLink "GridRoomModel" (127 : Nat) "GridRoomModel" "nameOn" "[I") ∈ lw_all := lw_g (lw_at lw_m7 130 rfl) rfl
theorem q1656 : (Jvm.Cond.fieldLink "GridRoomModel" (130 : Nat) "GridRoomModel" "nameCame" "[I") ∈ lw_all := lw_g (lw_at lw_m7 131 rfl) rfl
theorem q1657 : (Jvm.Cond.fieldLink "GridRoomModel" (133 : Nat) "GridRoomModel" "nameWent" "[I") ∈ lw_all := lw_g (lw_at lw_m7 132 rfl) rfl
theorem q1658 : (Jvm.Cond.fieldLink "GridRoomModel" (136 : Nat) "GridRoomModel" "cells" "[I") ∈ lw_all := lw_g (lw_at lw_m7 133 rfl) rfl
theorem q1659 : (Jvm.Cond.fieldLink "GridRoomModel" (139 : Nat) "GridRoomModel" "cellMany" "[I") ∈ lw_all := lw_g (lw_at lw_m7 134 rfl) rfl
theorem q1660 : (Jvm.Cond.fieldLink "GridRoomModel" (142 : Nat) "GridRoomModel" "written" "[I") ∈ lw_all := lw_g (lw_at lw_m7 135 rfl) rfl
theorem q1661 : (Jvm.Cond.fieldLink "GridRoomModel" (414 : Nat) "GridRoomModel" "taken" "I") ∈ lw_all := lw_g (lw_at lw_m7 136 rfl) rfl
theorem q1662 : (Jvm.Cond.fieldLink "GridRoomModel" (145 : Nat) "GridRoomModel" "takenName" "[I") ∈ lw_all := lw_g (lw_at lw_m7 137 rfl) rfl
theorem q1663 : (Jvm.Cond.fieldLink "GridRoomModel" (148 : Nat) "GridRoomModel" "rowOf" "[I") ∈ lw_all := lw_g (lw_at lw_m7 138 rfl) rfl
theorem q1664 : (Jvm.Cond.fieldLink "GridRoomModel" (151 : Nat) "GridRoomModel" "given" "[I") ∈ lw_all := lw_g (lw_at lw_m7 139 rfl) rfl
theorem q1665 : (Jvm.Cond.fieldLink "GridRoomModel" (411 : Nat) "GridRoomModel" "ways" "I") ∈ lw_all := lw_g (lw_at lw_m7 140 rfl) rfl
theorem q1666 : (Jvm.Cond.fieldLink "GridRoomModel" (417 : Nat) "GridRoomModel" "wanted" "I") ∈ lw_all := lw_g (lw_at lw_m7 141 rfl) rfl
theorem q1667 : (Jvm.Cond.fieldLink "GridRoomModel" (154 : Nat) "GridRoomModel" "foundRow" "[I") ∈ lw_all := lw_g (lw_at lw_m7 142 rfl) rfl
theorem q1668 : (Jvm.Cond.fieldLink "GridRoomModel" (157 : Nat) "GridRoomModel" "foundGiven" "[I") ∈ lw_all := lw_g (lw_at lw_m7 143 rfl) rfl
theorem q1669 : (Jvm.Cond.fieldLink "GridRoomModel" (160 : Nat) "GridRoomModel" "tells" "[I") ∈ lw_all := lw_g (lw_at lw_m7 144 rfl) rfl
theorem q1670 : (Jvm.Cond.fieldLink "GridRoomModel" (163 : Nat) "GridRoomModel" "fit" "[Z") ∈ lw_all := lw_g (lw_at lw_m7 145 rfl) rfl
theorem q1671 : (Jvm.Cond.fieldLink "GridRoomModel" (166 : Nat) "GridRoomModel" "out" "[I") ∈ lw_all := lw_g (lw_at lw_m7 146 rfl) rfl
theorem q1672 : (Jvm.Cond.fieldLink "GridRoomModel" (447 : Nat) "GridRoomModel" "outMany" "I") ∈ lw_all := lw_g (lw_at lw_m7 147 rfl) rfl
theorem q1673 : (Jvm.Cond.lays "GridRoomModel" "GridRoomModel" "thrown" "I") ∈ lw_all := lw_g (lw_at lw_m7 148 rfl) rfl
theorem q1674 : (Jvm.Cond.soleField "GridRoomModel" "thrown") ∈ lw_all := lw_g (lw_at lw_m7 149 rfl) rfl
theorem q1675 : (Jvm.Cond.lays "GridRoomModel" "GridRoomModel" "today" "I") ∈ lw_all := lw_g (lw_at lw_m7 150 rfl) rfl
theorem q1676 : (Jvm.Cond.soleField "GridRoomModel" "today") ∈ lw_all := lw_g (lw_at lw_m7 151 rfl) rfl
theorem q1677 : (Jvm.Cond.lays "GridRoomModel" "GridRoomModel" "tablets" "I") ∈ lw_all := lw_g (lw_at lw_m7 152 rfl) rfl
theorem q1678 : (Jvm.Cond.soleField "GridRoomModel" "tablets") ∈ lw_all := lw_g (lw_at lw_m7 153 rfl) rfl
theorem q1679 : (Jvm.Cond.laysFinal "GridRoomModel" "GridRoomModel" "tabletCame" "[I") ∈ lw_all := lw_g (lw_at lw_m7 154 rfl) rfl
theorem q1680 : (Jvm.Cond.soleField "GridRoomModel" "tabletCame") ∈ lw_all := lw_g (lw_at lw_m7 155 rfl) rfl
theorem q1681 : (Jvm.Cond.laysFinal "GridRoomModel" "GridRoomModel" "tabletWent" "[I") ∈ lw_all := lw_g (lw_at lw_m7 156 rfl) rfl
theorem q1682 : (Jvm.Cond.soleField "GridRoomModel" "tabletWent") ∈ lw_all := lw_g (lw_at lw_m7 157 rfl) rfl
theorem q1683 : (Jvm.Cond.laysFinal "GridRoomModel" "GridRoomModel" "rows" "[I") ∈ lw_all := lw_g (lw_at lw_m7 158 rfl) rfl
theorem q1684 : (Jvm.Cond.soleField "GridRoomModel" "rows") ∈ lw_all := lw_g (lw_at lw_m7 159 rfl) rfl
theorem q1685 : (Jvm.Cond.laysFinal "GridRoomModel" "GridRoomModel" "size" "[I") ∈ lw_all := lw_g (lw_at lw_m7 160 rfl) rfl
theorem q1686 : (Jvm.Cond.soleField "GridRoomModel" "size") ∈ lw_all := lw_g (lw_at lw_m7 161 rfl) rfl
theorem q1687 : (Jvm.Cond.laysFinal "GridRoomModel" "GridRoomModel" "places" "[I") ∈ lw_all := lw_g (lw_at lw_m7 162 rfl) rfl
theorem q1688 : (Jvm.Cond.soleField "GridRoomModel" "places") ∈ lw_all := lw_g (lw_at lw_m7 163 rfl) rfl
theorem q1689 : (Jvm.Cond.lays "GridRoomModel" "GridRoomModel" "texts" "I") ∈ lw_all := lw_g (lw_at lw_m7 164 rfl) rfl
theorem q1690 : (Jvm.Cond.soleField "GridRoomModel" "texts") ∈ lw_all := lw_g (lw_at lw_m7 165 rfl) rfl
theorem q1691 : (Jvm.Cond.laysFinal "GridRoomModel" "GridRoomModel" "textCame" "[I") ∈ lw_all := lw_g (lw_at lw_m7 166 rfl) rfl
theorem q1692 : (Jvm.Cond.soleField "GridRoomModel" "textCame") ∈ lw_all := lw_g (lw_at lw_m7 167 rfl) rfl
theorem q1693 : (Jvm.Cond.laysFinal "GridRoomModel" "GridRoomModel" "clauses" "[I") ∈ lw_all := lw_g (lw_at lw_m7 168 rfl) rfl
theorem q1694 : (Jvm.Cond.soleField "GridRoomModel" "clauses") ∈ lw_all := lw_g (lw_at lw_m7 169 rfl) rfl
theorem q1695 : (Jvm.Cond.laysFinal "GridRoomModel" "GridRoomModel" "sort" "[I") ∈ lw_all := lw_g (lw_at lw_m7 170 rfl) rfl
theorem q1696 : (Jvm.Cond.soleField "GridRoomModel" "sort") ∈ lw_all := lw_g (lw_at lw_m7 171 rfl) rfl
theorem q1697 : (Jvm.Cond.laysFinal "GridRoomModel" "GridRoomModel" "where" "[I") ∈ lw_all := lw_g (lw_at lw_m7 172 rfl) rfl
theorem q1698 : (Jvm.Cond.soleField "GridRoomModel" "where") ∈ lw_all := lw_g (lw_at lw_m7 173 rfl) rfl
theorem q1699 : (Jvm.Cond.laysFinal "GridRoomModel" "GridRoomModel" "least" "[I") ∈ lw_all := lw_g (lw_at lw_m7 174 rfl) rfl
theorem q1700 : (Jvm.Cond.soleField "GridRoomModel" "least") ∈ lw_all := lw_g (lw_at lw_m7 175 rfl) rfl
theorem q1701 : (Jvm.Cond.laysFinal "GridRoomModel" "GridRoomModel" "many" "[I") ∈ lw_all := lw_g (lw_at lw_m7 176 rfl) rfl
theorem q1702 : (Jvm.Cond.soleField "GridRoomModel" "many") ∈ lw_all := lw_g (lw_at lw_m7 177 rfl) rfl
theorem q1703 : (Jvm.Cond.laysFinal "GridRoomModel" "GridRoomModel" "tape" "[B") ∈ lw_all := lw_g (lw_at lw_m7 178 rfl) rfl
theorem q1704 : (Jvm.Cond.soleField "GridRoomModel" "tape") ∈ lw_all := lw_g (lw_at lw_m7 179 rfl) rfl
theorem q1705 : (Jvm.Cond.lays "GridRoomModel" "GridRoomModel" "taped" "I") ∈ lw_all := lw_g (lw_at lw_m7 180 rfl) rfl
theorem q1706 : (Jvm.Cond.soleField "GridRoomModel" "taped") ∈ lw_all := lw_g (lw_at lw_m7 181 rfl) rfl
theorem q1707 : (Jvm.Cond.lays "GridRoomModel" "GridRoomModel" "at" "I") ∈ lw_all := lw_g (lw_at lw_m7 182 rfl) rfl
theorem q1708 : (Jvm.Cond.soleField "GridRoomModel" "at") ∈ lw_all := lw_g (lw_at lw_m7 183 rfl) rfl
theorem q1709 : (Jvm.Cond.lays "GridRoomModel" "GridRoomModel" "place" "I") ∈ lw_all := lw_g (lw_at lw_m7 184 rfl) rfl
theorem q1710 : (Jvm.Cond.soleField "GridRoomModel" "place") ∈ lw_all := lw_g (lw_at lw_m7 185 rfl) rfl
theorem q1711 : (Jvm.Cond.lays "GridRoomModel" "GridRoomModel" "kind" "I") ∈ lw_all := lw_g (lw_at lw_m7 186 rfl) rfl
theorem q1712 : (Jvm.Cond.soleField "GridRoomModel" "kind") ∈ lw_all := lw_g (lw_at lw_m7 187 rfl) rfl
theorem q1713 : (Jvm.Cond.lays "GridRoomModel" "GridRoomModel" "value" "I") ∈ lw_all := lw_g (lw_at lw_m7 188 rfl) rfl
theorem q1714 : (Jvm.Cond.soleField "GridRoomModel" "value") ∈ lw_all := lw_g (lw_at lw_m7 189 rfl) rfl
theorem q1715 : (Jvm.Cond.lays "GridRoomModel" "GridRoomModel" "fault" "I") ∈ lw_all := lw_g (lw_at lw_m7 190 rfl) rfl
theorem q1716 : (Jvm.Cond.soleField "GridRoomModel" "fault") ∈ lw_all := lw_g (lw_at lw_m7 191 rfl) rfl
theorem q1717 : (Jvm.Cond.lays "GridRoomModel" "GridRoomModel" "faultPlace" "I") ∈ lw_all := lw_g (lw_at lw_m7 192 rfl) rfl
theorem q1718 : (Jvm.Cond.soleField "GridRoomModel" "faultPlace") ∈ lw_all := lw_g (lw_at lw_m7 193 rfl) rfl
theorem q1719 : (Jvm.Cond.lays "GridRoomModel" "GridRoomModel" "lastPlace" "I") ∈ lw_all := lw_g (lw_at lw_m7 194 rfl) rfl
theorem q1720 : (Jvm.Cond.soleField "GridRoomModel" "lastPlace") ∈ lw_all := lw_g (lw_at lw_m7 195 rfl) rfl
theorem q1721 : (Jvm.Cond.laysFinal "GridRoomModel" "GridRoomModel" "trust" "[I") ∈ lw_all := lw_g (lw_at lw_m7 196 rfl) rfl
theorem q1722 : (Jvm.Cond.soleField "GridRoomModel" "trust") ∈ lw_all := lw_g (lw_at lw_m7 197 rfl) rfl
theorem q1723 : (Jvm.Cond.lays "GridRoomModel" "GridRoomModel" "held" "I") ∈ lw_all := lw_g (lw_at lw_m7 198 rfl) rfl
theorem q1724 : (Jvm.Cond.soleField "GridRoomModel" "held") ∈ lw_all := lw_g (lw_at lw_m7 199 rfl) rfl
theorem q1725 : (Jvm.Cond.laysFinal "GridRoomModel" "GridRoomModel" "heldBy" "[I") ∈ lw_all := lw_g (lw_at lw_m7 200 rfl) rfl
theorem q1726 : (Jvm.Cond.soleField "GridRoomModel" "heldBy") ∈ lw_all := lw_g (lw_at lw_m7 201 rfl) rfl
theorem q1727 : (Jvm.Cond.laysFinal "GridRoomModel" "GridRoomModel" "heldA" "[I") ∈ lw_all := lw_g (lw_at lw_m7 202 rfl) rfl
theorem q1728 : (Jvm.Cond.soleField "GridRoomModel" "heldA") ∈ lw_all := lw_g (lw_at lw_m7 203 rfl) rfl
theorem q1729 : (Jvm.Cond.laysFinal "GridRoomModel" "GridRoomModel" "heldB" "[I") ∈ lw_all := lw_g (lw_at lw_m7 204 rfl) rfl
theorem q1730 : (Jvm.Cond.soleField "GridRoomModel" "heldB") ∈ lw_all := lw_g (lw_at lw_m7 205 rfl) rfl
theorem q1731 : (Jvm.Cond.laysFinal "GridRoomModel" "GridRoomModel" "heldFor" "[I") ∈ lw_all := lw_g (lw_at lw_m7 206 rfl) rfl
theorem q1732 : (Jvm.Cond.soleField "GridRoomModel" "heldFor") ∈ lw_all := lw_g (lw_at lw_m7 207 rfl) rfl
theorem q1733 : (Jvm.Cond.laysFinal "GridRoomModel" "GridRoomModel" "heldCame" "[I") ∈ lw_all := lw_g (lw_at lw_m7 208 rfl) rfl
theorem q1734 : (Jvm.Cond.soleField "GridRoomModel" "heldCame") ∈ lw_all := lw_g (lw_at lw_m7 209 rfl) rfl
theorem q1735 : (Jvm.Cond.laysFinal "GridRoomModel" "GridRoomModel" "stand" "[I") ∈ lw_all := lw_g (lw_at lw_m7 210 rfl) rfl
theorem q1736 : (Jvm.Cond.soleField "GridRoomModel" "stand") ∈ lw_all := lw_g (lw_at lw_m7 211 rfl) rfl
theorem q1737 : (Jvm.Cond.lays "GridRoomModel" "GridRoomModel" "shares" "I") ∈ lw_all := lw_g (lw_at lw_m7 212 rfl) rfl
theorem q1738 : (Jvm.Cond.soleField "GridRoomModel" "shares") ∈ lw_all := lw_g (lw_at lw_m7 213 rfl) rfl
theorem q1739 : (Jvm.Cond.laysFinal "GridRoomModel" "GridRoomModel" "shareSort" "[I") ∈ lw_all := lw_g (lw_at lw_m7 214 rfl) rfl
theorem q1740 : (Jvm.Cond.soleField "GridRoomModel" "shareSort") ∈ lw_all := lw_g (lw_at lw_m7 215 rfl) rfl
theorem q1741 : (Jvm.Cond.laysFinal "GridRoomModel" "GridRoomModel" "shareA" "[I") ∈ lw_all := lw_g (lw_at lw_m7 216 rfl) rfl
theorem q1742 : (Jvm.Cond.soleField "GridRoomModel" "shareA") ∈ lw_all := lw_g (lw_at lw_m7 217 rfl) rfl
theorem q1743 : (Jvm.Cond.laysFinal "GridRoomModel" "GridRoomModel" "shareB" "[I") ∈ lw_all := lw_g (lw_at lw_m7 218 rfl) rfl
theorem q1744 : (Jvm.Cond.soleField "GridRoomModel" "shareB") ∈ lw_all := lw_g (lw_at lw_m7 219 rfl) rfl
theorem q1745 : (Jvm.Cond.laysFinal "GridRoomModel" "GridRoomModel" "shareIs" "[Z") ∈ lw_all := lw_g (lw_at lw_m7 220 rfl) rfl
theorem q1746 : (Jvm.Cond.soleField "GridRoomModel" "shareIs") ∈ lw_all := lw_g (lw_at lw_m7 221 rfl) rfl
theorem q1747 : (Jvm.Cond.laysFinal "GridRoomModel" "GridRoomModel" "shareCame" "[I") ∈ lw_all := lw_g (lw_at lw_m7 222 rfl) rfl
theorem q1748 : (Jvm.Cond.soleField "GridRoomModel" "shareCame") ∈ lw_all := lw_g (lw_at lw_m7 223 rfl) rfl
theorem q1749 : (Jvm.Cond.laysFinal "GridRoomModel" "GridRoomModel" "shareWent" "[I") ∈ lw_all := lw_g (lw_at lw_m7 224 rfl) rfl
theorem q1750 : (Jvm.Cond.soleField "GridRoomModel" "shareWent") ∈ lw_all := lw_g (lw_at lw_m7 225 rfl) rfl
theorem q1751 : (Jvm.Cond.lays "GridRoomModel" "GridRoomModel" "wholes" "I") ∈ lw_all := lw_g (lw_at lw_m7 226 rfl) rfl
theorem q1752 : (Jvm.Cond.soleField "GridRoomModel" "wholes") ∈ lw_all := lw_g (lw_at lw_m7 227 rfl) rfl
theorem q1753 : (Jvm.Cond.laysFinal "GridRoomModel" "GridRoomModel" "wholeSize" "[I") ∈ lw_all := lw_g (lw_at lw_m7 228 rfl) rfl
theorem q1754 : (Jvm.Cond.soleField "GridRoomModel" "wholeSize") ∈ lw_all := lw_g (lw_at lw_m7 229 rfl) rfl
theorem q1755 : (Jvm.Cond.laysFinal "GridRoomModel" "GridRoomModel" "whole" "[I") ∈ lw_all := lw_g (lw_at lw_m7 230 rfl) rfl
theorem q1756 : (Jvm.Cond.soleField "GridRoomModel" "whole") ∈ lw_all := lw_g (lw_at lw_m7 231 rfl) rfl
theorem q1757 : (Jvm.Cond.laysFinal "GridRoomModel" "GridRoomModel" "isLink" "[Z") ∈ lw_all := lw_g (lw_at lw_m7 232 rfl) rfl
theorem q1758 : (Jvm.Cond.soleField "GridRoomModel" "isLink") ∈ lw_all := lw_g (lw_at lw_m7 233 rfl) rfl
theorem q1759 : (Jvm.Cond.laysFinal "GridRoomModel" "GridRoomModel" "isParted" "[Z") ∈ lw_all := lw_g (lw_at lw_m7 234 rfl) rfl
theorem q1760 : (Jvm.Cond.soleField "GridRoomModel" "isParted") ∈ lw_all := lw_g (lw_at lw_m7 235 rfl) rfl
theorem q1761 : (Jvm.Cond.laysFinal "GridRoomModel" "GridRoomModel" "classes" "[I") ∈ lw_all := lw_g (lw_at lw_m7 236 rfl) rfl
theorem q1762 : (Jvm.Cond.soleField "GridRoomModel" "classes") ∈ lw_all := lw_g (lw_at lw_m7 237 rfl) rfl
theorem q1763 : (Jvm.Cond.laysFinal "GridRoomModel" "GridRoomModel" "tally" "[I") ∈ lw_all := lw_g (lw_at lw_m7 238 rfl) rfl
theorem q1764 : (Jvm.Cond.soleField "GridRoomModel" "tally") ∈ lw_all := lw_g (lw_at lw_m7 239 rfl) rfl
theorem q1765 : (Jvm.Cond.laysFinal "GridRoomModel" "GridRoomModel" "far" "[I") ∈ lw_all := lw_g (lw_at lw_m8 0 rfl) rfl
theorem q1766 : (Jvm.Cond.soleField "GridRoomModel" "far") ∈ lw_all := lw_g (lw_at lw_m8 1 rfl) rfl
theorem q1767 : (Jvm.Cond.lays "GridRoomModel" "GridRoomModel" "clashA" "I") ∈ lw_all := lw_g (lw_at lw_m8 2 rfl) rfl
theorem q1768 : (Jvm.Cond.soleField "GridRoomModel" "clashA") ∈ lw_all := lw_g (lw_at lw_m8 3 rfl) rfl
theorem q1769 : (Jvm.Cond.lays "GridRoomModel" "GridRoomModel" "clashB" "I") ∈ lw_all := lw_g (lw_at lw_m8 4 rfl) rfl
theorem q1770 : (Jvm.Cond.soleField "GridRoomModel" "clashB") ∈ lw_all := lw_g (lw_at lw_m8 5 rfl) rfl
theorem q1771 : (Jvm.Cond.lays "GridRoomModel" "GridRoomModel" "clashKind" "I") ∈ lw_all := lw_g (lw_at lw_m8 6 rfl) rfl
theorem q1772 : (Jvm.Cond.soleField "GridRoomModel" "clashKind") ∈ lw_all := lw_g (lw_at lw_m8 7 rfl) rfl
theorem q1773 : (Jvm.Cond.lays "GridRoomModel" "GridRoomModel" "clashSize" "I") ∈ lw_all := lw_g (lw_at lw_m8 8 rfl) rfl
theorem q1774 : (Jvm.Cond.soleField "GridRoomModel" "clashSize") ∈ lw_all := lw_g (lw_at lw_m8 9 rfl) rfl
theorem q1775 : (Jvm.Cond.lays "GridRoomModel" "GridRoomModel" "clashSort" "I") ∈ lw_all := lw_g (lw_at lw_m8 10 rfl) rfl
theorem q1776 : (Jvm.Cond.soleField "GridRoomModel" "clashSort") ∈ lw_all := lw_g (lw_at lw_m8 11 rfl) rfl
theorem q1777 : (Jvm.Cond.laysFinal "GridRoomModel" "GridRoomModel" "apart" "[I") ∈ lw_all := lw_g (lw_at lw_m8 12 rfl) rfl
theorem q1778 : (Jvm.Cond.soleField "GridRoomModel" "apart") ∈ lw_all := lw_g (lw_at lw_m8 13 rfl) rfl
theorem q1779 : (Jvm.Cond.lays "GridRoomModel" "GridRoomModel" "reasons" "I") ∈ lw_all := lw_g (lw_at lw_m8 14 rfl) rfl
theorem q1780 : (Jvm.Cond.soleField "GridRoomModel" "reasons") ∈ lw_all := lw_g (lw_at lw_m8 15 rfl) rfl
theorem q1781 : (Jvm.Cond.laysFinal "GridRoomModel" "GridRoomModel" "reason" "[I") ∈ lw_all := lw_g (lw_at lw_m8 16 rfl) rfl
theorem q1782 : (Jvm.Cond.soleField "GridRoomModel" "reason") ∈ lw_all := lw_g (lw_at lw_m8 17 rfl) rfl
theorem q1783 : (Jvm.Cond.lays "GridRoomModel" "GridRoomModel" "names" "I") ∈ lw_all := lw_g (lw_at lw_m8 18 rfl) rfl
theorem q1784 : (Jvm.Cond.soleField "GridRoomModel" "names") ∈ lw_all := lw_g (lw_at lw_m8 19 rfl) rfl
theorem q1785 : (Jvm.Cond.laysFinal "GridRoomModel" "GridRoomModel" "nameSize" "[I") ∈ lw_all := lw_g (lw_at lw_m8 20 rfl) rfl
theorem q1786 : (Jvm.Cond.soleField "GridRoomModel" "nameSize") ∈ lw_all := lw_g (lw_at lw_m8 21 rfl) rfl
theorem q1787 : (Jvm.Cond.laysFinal "GridRoomModel" "GridRoomModel" "letters" "[I") ∈ lw_all := lw_g (lw_at lw_m8 22 rfl) rfl
theorem q1788 : (Jvm.Cond.soleField "GridRoomModel" "letters") ∈ lw_all := lw_g (lw_at lw_m8 23 rfl) rfl
theorem q1789 : (Jvm.Cond.laysFinal "GridRoomModel" "GridRoomModel" "nameOn" "[I") ∈ lw_all := lw_g (lw_at lw_m8 24 rfl) rfl
theorem q1790 : (Jvm.Cond.soleField "GridRoomModel" "nameOn") ∈ lw_all := lw_g (lw_at lw_m8 25 rfl) rfl
theorem q1791 : (Jvm.Cond.laysFinal "GridRoomModel" "GridRoomModel" "nameCame" "[I") ∈ lw_all := lw_g (lw_at lw_m8 26 rfl) rfl
theorem q1792 : (Jvm.Cond.soleField "GridRoomModel" "nameCame") ∈ lw_all := lw_g (lw_at lw_m8 27 rfl) rfl
theorem q1793 : (Jvm.Cond.laysFinal "GridRoomModel" "GridRoomModel" "nameWent" "[I") ∈ lw_all := lw_g (lw_at lw_m8 28 rfl) rfl
theorem q1794 : (Jvm.Cond.soleField "GridRoomModel" "nameWent") ∈ lw_all := lw_g (lw_at lw_m8 29 rfl) rfl
theorem q1795 : (Jvm.Cond.laysFinal "GridRoomModel" "GridRoomModel" "cells" "[I") ∈ lw_all := lw_g (lw_at lw_m8 30 rfl) rfl
theorem q1796 : (Jvm.Cond.soleField "GridRoomModel" "cells") ∈ lw_all := lw_g (lw_at lw_m8 31 rfl) rfl
theorem q1797 : (Jvm.Cond.laysFinal "GridRoomModel" "GridRoomModel" "cellMany" "[I") ∈ lw_all := lw_g (lw_at lw_m8 32 rfl) rfl
theorem q1798 : (Jvm.Cond.soleField "GridRoomModel" "cellMany") ∈ lw_all := lw_g (lw_at lw_m8 33 rfl) rfl
theorem q1799 : (Jvm.Cond.laysFinal "GridRoomModel" "GridRoomModel" "written" "[I") ∈ lw_all := lw_g (lw_at lw_m8 34 rfl) rfl
theorem q1800 : (Jvm.Cond.soleField "GridRoomModel" "written") ∈ lw_all := lw_g (lw_at lw_m8 35 rfl) rfl
theorem q1801 : (Jvm.Cond.lays "GridRoomModel" "GridRoomModel" "taken" "I") ∈ lw_all := lw_g (lw_at lw_m8 36 rfl) rfl
theorem q1802 : (Jvm.Cond.soleField "GridRoomModel" "taken") ∈ lw_all := lw_g (lw_at lw_m8 37 rfl) rfl
theorem q1803 : (Jvm.Cond.laysFinal "GridRoomModel" "GridRoomModel" "takenName" "[I") ∈ lw_all := lw_g (lw_at lw_m8 38 rfl) rfl
theorem q1804 : (Jvm.Cond.soleField "GridRoomModel" "takenName") ∈ lw_all := lw_g (lw_at lw_m8 39 rfl) rfl
theorem q1805 : (Jvm.Cond.laysFinal "GridRoomModel" "GridRoomModel" "rowOf" "[I") ∈ lw_all := lw_g (lw_at lw_m8 40 rfl) rfl
theorem q1806 : (Jvm.Cond.soleField "GridRoomModel" "rowOf") ∈ lw_all := lw_g (lw_at lw_m8 41 rfl) rfl
theorem q1807 : (Jvm.Cond.laysFinal "GridRoomModel" "GridRoomModel" "given" "[I") ∈ lw_all := lw_g (lw_at lw_m8 42 rfl) rfl
theorem q1808 : (Jvm.Cond.soleField "GridRoomModel" "given") ∈ lw_all := lw_g (lw_at lw_m8 43 rfl) rfl
theorem q1809 : (Jvm.Cond.lays "GridRoomModel" "GridRoomModel" "ways" "I") ∈ lw_all := lw_g (lw_at lw_m8 44 rfl) rfl
theorem q1810 : (Jvm.Cond.soleField "GridRoomModel" "ways") ∈ lw_all := lw_g (lw_at lw_m8 45 rfl) rfl
theorem q1811 : (Jvm.Cond.lays "GridRoomModel" "GridRoomModel" "wanted" "I") ∈ lw_all := lw_g (lw_at lw_m8 46 rfl) rfl
theorem q1812 : (Jvm.Cond.soleField "GridRoomModel" "wanted") ∈ lw_all := lw_g (lw_at lw_m8 47 rfl) rfl
theorem q1813 : (Jvm.Cond.laysFinal "GridRoomModel" "GridRoomModel" "foundRow" "[I") ∈ lw_all := lw_g (lw_at lw_m8 48 rfl) rfl
theorem q1814 : (Jvm.Cond.soleField "GridRoomModel" "foundRow") ∈ lw_all := lw_g (lw_at lw_m8 49 rfl) rfl
theorem q1815 : (Jvm.Cond.laysFinal "GridRoomModel" "GridRoomModel" "foundGiven" "[I") ∈ lw_all := lw_g (lw_at lw_m8 50 rfl) rfl
theorem q1816 : (Jvm.Cond.soleField "GridRoomModel" "foundGiven") ∈ lw_all := lw_g (lw_at lw_m8 51 rfl) rfl
theorem q1817 : (Jvm.Cond.laysFinal "GridRoomModel" "GridRoomModel" "tells" "[I") ∈ lw_all := lw_g (lw_at lw_m8 52 rfl) rfl
theorem q1818 : (Jvm.Cond.soleField "GridRoomModel" "tells") ∈ lw_all := lw_g (lw_at lw_m8 53 rfl) rfl
theorem q1819 : (Jvm.Cond.laysFinal "GridRoomModel" "GridRoomModel" "fit" "[Z") ∈ lw_all := lw_g (lw_at lw_m8 54 rfl) rfl
theorem q1820 : (Jvm.Cond.soleField "GridRoomModel" "fit") ∈ lw_all := lw_g (lw_at lw_m8 55 rfl) rfl
theorem q1821 : (Jvm.Cond.laysFinal "GridRoomModel" "GridRoomModel" "out" "[I") ∈ lw_all := lw_g (lw_at lw_m8 56 rfl) rfl
theorem q1822 : (Jvm.Cond.soleField "GridRoomModel" "out") ∈ lw_all := lw_g (lw_at lw_m8 57 rfl) rfl
theorem q1823 : (Jvm.Cond.lays "GridRoomModel" "GridRoomModel" "outMany" "I") ∈ lw_all := lw_g (lw_at lw_m8 58 rfl) rfl
theorem q1824 : (Jvm.Cond.soleField "GridRoomModel" "outMany") ∈ lw_all := lw_g (lw_at lw_m8 59 rfl) rfl
theorem q1825 : (Jvm.Cond.superclass "GridRoomModel" "java/lang/Object") ∈ lw_all := lw_g (lw_at lw_m8 60 rfl) rfl
theorem q1827 : (Jvm.Cond.instanceMethod ({ cls := "GridRoomModel", name := "day", desc := "(I)I" } : Jvm.MethodName)) ∈ lw_all := lw_g (lw_at lw_m8 62 rfl) rfl
theorem q1828 : (Jvm.Cond.selects "GridRoomModel" ({ cls := "GridRoomModel", name := "day", desc := "(I)I" } : Jvm.MethodName) ({ cls := "GridRoomModel", name := "day", desc := "(I)I" } : Jvm.MethodName)) ∈ lw_all := lw_g (lw_at lw_m8 63 rfl) rfl
theorem q1829 : (Jvm.Cond.code ({ cls := "GridRoomModel", name := "day", desc := "(I)I" } : Jvm.MethodName) prog_24_method_4_code (2 : Nat) (Option.some Jvm.ClassFile.FieldType.int)) ∈ lw_all := lw_g (lw_at lw_m8 64 rfl) rfl
theorem q1830 : (Jvm.Cond.methodLink "GridRoomModel" (169 : Nat) ({ cls := "GridRoomModel", name := "within", desc := "(III)Z" } : Jvm.MethodName)) ∈ lw_all := lw_g (lw_at lw_m8 65 rfl) rfl
theorem q1831 : (Jvm.Cond.static ({ cls := "GridRoomModel", name := "within", desc := "(III)Z" } : Jvm.MethodName)) ∈ lw_all := lw_g (lw_at lw_m8 66 rfl) rfl
theorem q1832 : (Jvm.Cond.code ({ cls := "GridRoomModel", name := "within", desc := "(III)Z" } : Jvm.MethodName) prog_24_method_2_code (3 : Nat) (Option.some Jvm.ClassFile.FieldType.boolean)) ∈ lw_all := lw_g (lw_at lw_m8 67 rfl) rfl
theorem q1833 : (Jvm.Cond.constant "GridRoomModel" (176 : Nat) (100000 : Int32)) ∈ lw_all := lw_g (lw_at lw_m8 68 rfl) rfl
theorem q1835 : (Jvm.Cond.instanceMethod ({ cls := "GridRoomModel", name := "feed", desc := "(IIIII)I" } : Jvm.MethodName)) ∈ lw_all := lw_g (lw_at lw_m8 70 rfl) rfl
theorem q1836 : (Jvm.Cond.selects "GridRoomModel" ({ cls := "GridRoomModel", name := "feed", desc := "(IIIII)I" } : Jvm.MethodName) ({ cls := "GridRoomModel", name := "feed", desc := "(IIIII)I" } : Jvm.MethodName)) ∈ lw_all := lw_g (lw_at lw_m8 71 rfl) rfl
theorem q1837 : (Jvm.Cond.code ({ cls := "GridRoomModel", name := "feed", desc := "(IIIII)I" } : Jvm.MethodName) prog_24_method_8_code (8 : Nat) (Option.some Jvm.ClassFile.FieldType.int)) ∈ lw_all := lw_g (lw_at lw_m8 72 rfl) rfl
theorem q1839 : (Jvm.Cond.instanceMethod ({ cls := "GridRoomModel", name := "end", desc := "(I)I" } : Jvm.MethodName)) ∈ lw_all := lw_g (lw_at lw_m8 74 rfl) rfl
theorem q1840 : (Jvm.Cond.selects "GridRoomModel" ({ cls := "GridRoomModel", name := "end", desc := "(I)I" } : Jvm.MethodName) ({ cls := "GridRoomModel", name := "end", desc := "(I)I" } : Jvm.MethodName)) ∈ lw_all := lw_g (lw_at lw_m8 75 rfl) rfl
theorem q1841 : (Jvm.Cond.code ({ cls := "GridRoomModel", name := "end", desc := "(I)I" } : Jvm.MethodName) prog_24_method_9_code (2 : Nat) (Option.some Jvm.ClassFile.FieldType.int)) ∈ lw_all := lw_g (lw_at lw_m8 76 rfl) rfl
theorem q1843 : (Jvm.Cond.instanceMethod ({ cls := "GridRoomModel", name := "place", desc := "()I" } : Jvm.MethodName)) ∈ lw_all := lw_g (lw_at lw_m8 78 rfl) rfl
theorem q1844 : (Jvm.Cond.selects "GridRoomModel" ({ cls := "GridRoomModel", name := "place", desc := "()I" } : Jvm.MethodName) ({ cls := "GridRoomModel", name := "place", desc := "()I" } : Jvm.MethodName)) ∈ lw_all := lw_g (lw_at lw_m8 79 rfl) rfl
theorem q1845 : (Jvm.Cond.code ({ cls := "GridRoomModel", name := "place", desc := "()I" } : Jvm.MethodName) prog_24_method_22_code (1 : Nat) (Option.some Jvm.ClassFile.FieldType.int)) ∈ lw_all := lw_g (lw_at lw_m8 80 rfl) rfl
theorem q1847 : (Jvm.Cond.instanceMethod ({ cls := "GridRoomModel", name := "tablet", desc := "()I" } : Jvm.MethodName)) ∈ lw_all := lw_g (lw_at lw_m8 82 rfl) rfl
theorem q1848 : (Jvm.Cond.selects "GridRoomModel" ({ cls := "GridRoomModel", name := "tablet", desc := "()I" } : Jvm.MethodName) ({ cls := "GridRoomModel", name := "tablet", desc := "()I" } : Jvm.MethodName)) ∈ lw_all := lw_g (lw_at lw_m8 83 rfl) rfl
theorem q1849 : (Jvm.Cond.code ({ cls := "GridRoomModel", name := "tablet", desc := "()I" } : Jvm.MethodName) prog_24_method_24_code (5 : Nat) (Option.some Jvm.ClassFile.FieldType.int)) ∈ lw_all := lw_g (lw_at lw_m8 84 rfl) rfl
theorem q1850 : (Jvm.Cond.methodLink "GridRoomModel" (246 : Nat) ({ cls := "GridRoomModel", name := "starts", desc := "()V" } : Jvm.MethodName)) ∈ lw_all := lw_g (lw_at lw_m8 85 rfl) rfl
theorem q1851 : (Jvm.Cond.privateMethod ({ cls := "GridRoomModel", name := "starts", desc := "()V" } : Jvm.MethodName)) ∈ lw_tbl := lw_at lw_m8 86 rfl
theorem q1852 : (Jvm.Cond.instanceMethod ({ cls := "GridRoomModel", name := "starts", desc := "()V" } : Jvm.MethodName)) ∈ lw_all := lw_g (lw_at lw_m8 87 rfl) rfl
theorem q1853 : (Jvm.Cond.code ({ cls := "GridRoomModel", name := "starts", desc := "()V" } : Jvm.MethodName) prog_24_method_20_code (1 : Nat) (Option.none : Option Jvm.ClassFile.FieldType)) ∈ lw_all := lw_g (lw_at lw_m8 88 rfl) rfl
theorem q1854 : (Jvm.Cond.methodLink "GridRoomModel" (229 : Nat) ({ cls := "GridRoomModel", name := "next", desc := "()V" } : Jvm.MethodName)) ∈ lw_all := lw_g (lw_at lw_m8 89 rfl) rfl
theorem q1855 : (Jvm.Cond.privateMethod ({ cls := "GridRoomModel", name := "next", desc := "()V" } : Jvm.MethodName)) ∈ lw_tbl := lw_at lw_m8 90 rfl
theorem q1856 : (Jvm.Cond.instanceMethod ({ cls := "GridRoomModel", name := "next", desc := "()V" } : Jvm.MethodName)) ∈ lw_all := lw_g (lw_at lw_m8 91 rfl) rfl
theorem q1857 : (Jvm.Cond.code ({ cls := "GridRoomModel", name := "next", desc := "()V" } : Jvm.MethodName) prog_24_method_13_code (2 : Nat) (Option.none : Option Jvm.ClassFile.FieldType)) ∈ lw_all := lw_g (lw_at lw_m8 92 rfl) rfl
theorem q1858 : (Jvm.Cond.methodLink "GridRoomModel" (195 : Nat) ({ cls := "GridRoomModel", name := "isSmall", desc := "(I)Z" } : Jvm.MethodName)) ∈ lw_all := lw_g (lw_at lw_m8 93 rfl) rfl
theorem q1859 : (Jvm.Cond.static ({ cls := "GridRoomModel", name := "isSmall", desc := "(I)Z" } : Jvm.MethodName)) ∈ lw_all := lw_g (lw_at lw_m8 94 rfl) rfl
theorem q1860 : (Jvm.Cond.code ({ cls := "GridRoomModel", name := "isSmall", desc := "(I)Z" } : Jvm.MethodName) prog_24_method_11_code (1 : Nat) (Option.some Jvm.ClassFile.FieldType.boolean)) ∈ lw_all := lw_g (lw_at lw_m8 95 rfl) rfl
theorem q1861 : (Jvm.Cond.methodLink "GridRoomModel" (199 : Nat) ({ cls := "GridRoomModel", name := "see", desc := "(I)I" } : Jvm.MethodName)) ∈ lw_all := lw_g (lw_at lw_m8 96 rfl) rfl
theorem q1862 : (Jvm.Cond.privateMethod ({ cls := "GridRoomModel", name := "see", desc := "(I)I" } : Jvm.MethodName)) ∈ lw_tbl := lw_at lw_m8 97 rfl
theorem q1863 : (Jvm.Cond.instanceMethod ({ cls := "GridRoomModel", name := "see", desc := "(I)I" } : Jvm.MethodName)) ∈ lw_all := lw_g (lw_at lw_m8 98 rfl) rfl
theorem q1864 : (Jvm.Cond.code ({ cls := "GridRoomModel", name := "see", desc := "(I)I" } : Jvm.MethodName) prog_24_method_10_code (2 : Nat) (Option.some Jvm.ClassFile.FieldType.int)) ∈ lw_all := lw_g (lw_at lw_m8 99 rfl) rfl
theorem q1865 : (Jvm.Cond.methodLink "GridRoomModel" (203 : Nat) ({ cls := "GridRoomModel", name := "isDigit", desc := "(I)Z" } : Jvm.MethodName)) ∈ lw_all := lw_g (lw_at lw_m8 100 rfl) rfl
theorem q1866 : (Jvm.Cond.static ({ cls := "GridRoomModel", name := "isDigit", desc := "(I)Z" } : Jvm.MethodName)) ∈ lw_all := lw_g (lw_at lw_m8 101 rfl) rfl
theorem q1867 : (Jvm.Cond.code ({ cls := "GridRoomModel", name := "isDigit", desc := "(I)Z" } : Jvm.MethodName) prog_24_method_12_code (1 : Nat) (Option.some Jvm.ClassFile.FieldType.boolean)) ∈ lw_all := lw_g (lw_at lw_m8 102 rfl) rfl
theorem q1868 : (Jvm.Cond.methodLink "GridRoomModel" (249 : Nat) ({ cls := "GridRoomModel", name := "readRow", desc := "()V" } : Jvm.MethodName)) ∈ lw_all := lw_g (lw_at lw_m8 103 rfl) rfl
theorem q1869 : (Jvm.Cond.privateMethod ({ cls := "GridRoomModel", name := "readRow", desc := "()V" } : Jvm.MethodName)) ∈ lw_tbl := lw_at lw_m8 104 rfl
theorem q1870 : (Jvm.Cond.instanceMethod ({ cls := "GridRoomModel", name := "readRow", desc := "()V" } : Jvm.MethodName)) ∈ lw_all := lw_g (lw_at lw_m8 105 rfl) rfl
theorem q1871 : (Jvm.Cond.code ({ cls := "GridRoomModel", name := "readRow", desc := "()V" } : Jvm.MethodName) prog_24_method_23_code (3 : Nat) (Option.none : Option Jvm.ClassFile.FieldType)) ∈ lw_all := lw_g (lw_at lw_m8 106 rfl) rfl
theorem q1872 : (Jvm.Cond.methodLink "GridRoomModel" (226 : Nat) ({ cls := "GridRoomModel", name := "isSign", desc := "(I)Z" } : Jvm.MethodName)) ∈ lw_all := lw_g (lw_at lw_m8 107 rfl) rfl
theorem q1873 : (Jvm.Cond.privateMethod ({ cls := "GridRoomModel", name := "isSign", desc := "(I)Z" } : Jvm.MethodName)) ∈ lw_tbl := lw_at lw_m8 108 rfl
theorem q1874 : (Jvm.Cond.instanceMethod ({ cls := "GridRoomModel", name := "isSign", desc := "(I)Z" } : Jvm.MethodName)) ∈ lw_all := lw_g (lw_at lw_m8 109 rfl) rfl
theorem q1875 : (Jvm.Cond.code ({ cls := "GridRoomModel", name := "isSign", desc := "(I)Z" } : Jvm.MethodName) prog_24_method_15_code (2 : Nat) (Option.some Jvm.ClassFile.FieldType.boolean)) ∈ lw_all := lw_g (lw_at lw_m8 110 rfl) rfl
theorem q1876 : (Jvm.Cond.methodLink "GridRoomModel" (232 : Nat) ({ cls := "GridRoomModel", name := "fails", desc := "(I)V" } : Jvm.MethodName)) ∈ lw_all := lw_g (lw_at lw_m8 111 rfl) rfl
theorem q1877 : (Jvm.Cond.privateMethod ({ cls := "GridRoomModel", name := "fails", desc := "(I)V" } : Jvm.MethodName)) ∈ lw_tbl := lw_at lw_m8 112 rfl
theorem q1878 : (Jvm.Cond.instanceMethod ({ cls := "GridRoomModel", name := "fails", desc := "(I)V" } : Jvm.MethodName)) ∈ lw_all := lw_g (lw_at lw_m8 113 rfl) rfl
theorem q1879 : (Jvm.Cond.code ({ cls := "GridRoomModel", name := "fails", desc := "(I)V" } : Jvm.MethodName) prog_24_method_17_code (2 : Nat) (Option.none : Option Jvm.ClassFile.FieldType)) ∈ lw_all := lw_g (lw_at lw_m8 114 rfl) rfl
theorem q1880 : (Jvm.Cond.methodLink "GridRoomModel" (222 : Nat) ({ cls := "GridRoomModel", name := "isWell", desc := "()Z" } : Jvm.MethodName)) ∈ lw_all := lw_g (lw_at lw_m8 115 rfl) rfl
theorem q1881 : (Jvm.Cond.privateMethod ({ cls := "GridRoomModel", name := "isWell", desc := "()Z" } : Jvm.MethodName)) ∈ lw_tbl := lw_at lw_m8 116 rfl
theorem q1882 : (Jvm.Cond.instanceMethod ({ cls := "GridRoomModel", name := "isWell", desc := "()Z" } : Jvm.MethodName)) ∈ lw_all := lw_g (lw_at lw_m8 117 rfl) rfl
theorem q1883 : (Jvm.Cond.code ({ cls := "GridRoomModel", name := "isWell", desc := "()Z" } : Jvm.MethodName) prog_24_method_16_code (1 : Nat) (Option.some Jvm.ClassFile.FieldType.boolean)) ∈ lw_all := lw_g (lw_at lw_m8 118 rfl) rfl
theorem q1884 : (Jvm.Cond.methodLink "GridRoomModel" (236 : Nat) ({ cls := "GridRoomModel", name := "number", desc := "(II)I" } : Jvm.MethodName)) ∈ lw_all := lw_g (lw_at lw_m8 119 rfl) rfl
theorem q1885 : (Jvm.Cond.privateMethod ({ cls := "GridRoomModel", name := "number", desc := "(II)I" } : Jvm.MethodName)) ∈ lw_tbl := lw_at lw_m8 120 rfl
theorem q1886 : (Jvm.Cond.instanceMethod ({ cls := "GridRoomModel", name := "number", desc := "(II)I" } : Jvm.MethodName)) ∈ lw_all := lw_g (lw_at lw_m8 121 rfl) rfl
theorem q1887 : (Jvm.Cond.code ({ cls := "GridRoomModel", name := "number", desc := "(II)I" } : Jvm.MethodName) prog_24_method_19_code (4 : Nat) (Option.some Jvm.ClassFile.FieldType.int)) ∈ lw_all := lw_g (lw_at lw_m8 122 rfl) rfl
theorem q1888 : (Jvm.Cond.methodLink "GridRoomModel" (240 : Nat) ({ cls := "GridRoomModel", name := "wantSign", desc := "(I)V" } : Jvm.MethodName)) ∈ lw_all := lw_g (lw_at lw_m8 123 rfl) rfl
theorem q1889 : (Jvm.Cond.privateMethod ({ cls := "GridRoomModel", name := "wantSign", desc := "(I)V" } : Jvm.MethodName)) ∈ lw_tbl := lw_at lw_m8 124 rfl
theorem q1890 : (Jvm.Cond.instanceMethod ({ cls := "GridRoomModel", name := "wantSign", desc := "(I)V" } : Jvm.MethodName)) ∈ lw_all := lw_g (lw_at lw_m8 125 rfl) rfl
theorem q1891 : (Jvm.Cond.code ({ cls := "GridRoomModel", name := "wantSign", desc := "(I)V" } : Jvm.MethodName) prog_24_method_18_code (2 : Nat) (Option.none : Option Jvm.ClassFile.FieldType)) ∈ lw_all := lw_g (lw_at lw_m8 126 rfl) rfl
theorem q1892 : (Jvm.Cond.methodLink "GridRoomModel" (252 : Nat) ({ cls := "GridRoomModel", name := "stops", desc := "()I" } : Jvm.MethodName)) ∈ lw_all := lw_g (lw_at lw_m8 127 rfl) rfl
theorem q1893 : (Jvm.Cond.privateMethod ({ cls := "GridRoomModel", name := "stops", desc := "()I" } : Jvm.MethodName)) ∈ lw_tbl := lw_at lw_m8 128 rfl
theorem q1894 : (Jvm.Cond.instanceMethod ({ cls := "GridRoomModel", name := "stops", desc := "()I" } : Jvm.MethodName)) ∈ lw_all := lw_g (lw_at lw_m8 129 rfl) rfl
theorem q1895 : (Jvm.Cond.code ({ cls := "GridRoomModel", name := "stops", desc := "()I" } : Jvm.MethodName) prog_24_method_21_code (1 : Nat) (Option.some Jvm.ClassFile.FieldType.int)) ∈ lw_all := lw_g (lw_at lw_m8 130 rfl) rfl
theorem q1896 : (Jvm.Cond.constant "GridRoomModel" (255 : Nat) (1000000 : Int32)) ∈ lw_all := lw_g (lw_at lw_m8 131 rfl) rfl
theorem q1898 : (Jvm.Cond.instanceMethod ({ cls := "GridRoomModel", name := "rules", desc := "()I" } : Jvm.MethodName)) ∈ lw_all := lw_g (lw_at lw_m8 133 rfl) rfl
theorem q1899 : (Jvm.Cond.selects "GridRoomModel" ({ cls := "GridRoomModel", name := "rules", desc := "()I" } : Jvm.MethodName) ({ cls := "GridRoomModel", name := "rules", desc := "()I" } : Jvm.MethodName)) ∈ lw_all := lw_g (lw_at lw_m8 134 rfl) rfl
theorem q1900 : (Jvm.Cond.code ({ cls := "GridRoomModel", name := "rules", desc := "()I" } : Jvm.MethodName) prog_24_method_28_code (3 : Nat) (Option.some Jvm.ClassFile.FieldType.int)) ∈ lw_all := lw_g (lw_at lw_m8 135 rfl) rfl
theorem q1901 : (Jvm.Cond.methodLink "GridRoomModel" (285 : Nat) ({ cls := "GridRoomModel", name := "readClause", desc := "()V" } : Jvm.MethodName)) ∈ lw_all := lw_g (lw_at lw_m8 136 rfl) rfl
theorem q1902 : (Jvm.Cond.privateMethod ({ cls := "GridRoomModel", name := "readClause", desc := "()V" } : Jvm.MethodName)) ∈ lw_tbl := lw_at lw_m8 137 rfl
theorem q1903 : (Jvm.Cond.instanceMethod ({ cls := "GridRoomModel", name := "readClause", desc := "()V" } : Jvm.MethodName)) ∈ lw_all := lw_g (lw_at lw_m8 138 rfl) rfl
theorem q1904 : (Jvm.Cond.code ({ cls := "GridRoomModel", name := "readClause", desc := "()V" } : Jvm.MethodName) prog_24_method_27_code (3 : Nat) (Option.none : Option Jvm.ClassFile.FieldType)) ∈ lw_all := lw_g (lw_at lw_m8 139 rfl) rfl
theorem q1905 : (Jvm.Cond.stringRef "GridRoomModel" (256 : Nat) "consonant") ∈ lw_tbl := lw_at lw_m8 140 rfl
theorem q1906 : (Jvm.Cond.methodLink "GridRoomModel" (258 : Nat) ({ cls := "GridRoomModel", name := "isWord", desc := "(Ljava/lang/String;)Z" } : Jvm.MethodName)) ∈ lw_all := lw_g (lw_at lw_m8 141 rfl) rfl
theorem q1907 : (Jvm.Cond.privateMethod ({ cls := "GridRoomModel", name := "isWord", desc := "(Ljava/lang/String;)Z" } : Jvm.MethodName)) ∈ lw_tbl := lw_at lw_m8 142 rfl
theorem q1908 : (Jvm.Cond.instanceMethod ({ cls := "GridRoomModel", name := "isWord", desc := "(Ljava/lang/String;)Z" } : Jvm.MethodName)) ∈ lw_all := lw_g (lw_at lw_m8 143 rfl) rfl
theorem q1909 : (Jvm.Cond.code ({ cls := "GridRoomModel", name := "isWord", desc := "(Ljava/lang/String;)Z" } : Jvm.MethodName) prog_24_method_14_code (3 : Nat) (Option.some Jvm.ClassFile.FieldType.boolean)) ∈ lw_all := lw_g (lw_at lw_m8 144 rfl) rfl
theorem q1910 : (Jvm.Cond.methodLink "GridRoomModel" (206 : Nat) ({ cls := "java/lang/String", name := "length", desc := "()I" } : Jvm.MethodName)) ∈ lw_all := lw_g (lw_at lw_m8 145 rfl) rfl
theorem q1911 : (Jvm.Cond.methodLink "GridRoomModel" (212 : Nat) ({ cls := "java/lang/String", name := "charAt", desc := "(I)C" } : Jvm.MethodName)) ∈ lw_all := lw_g (lw_at lw_m8 146 rfl) rfl
theorem q1912 : (Jvm.Cond.stringRef "GridRoomModel" (262 : Nat) "vowel") ∈ lw_tbl := lw_at lw_m8 147 rfl
theorem q1913 : (Jvm.Cond.stringRef "GridRoomModel" (264 : Nat) "write") ∈ lw_tbl := lw_at lw_m8 148 rfl
theorem q1914 : (Jvm.Cond.stringRef "GridRoomModel" (266 : Nat) "drop") ∈ lw_tbl := lw_at lw_m8 149 rfl
theorem q1915 : (Jvm.Cond.stringRef "GridRoomModel" (268 : Nat) "first") ∈ lw_tbl := lw_at lw_m8 150 rfl
theorem q1916 : (Jvm.Cond.stringRef "GridRoomModel" (270 : Nat) "last") ∈ lw_tbl := lw_at lw_m8 151 rfl
theorem q1917 : (Jvm.Cond.stringRef "GridRoomModel" (272 : Nat) "length") ∈ lw_tbl := lw_at lw_m8 152 rfl
theorem q1918 : (Jvm.Cond.stringRef "GridRoomModel" (273 : Nat) "count") ∈ lw_tbl := lw_at lw_m8 153 rfl
theorem q1919 : (Jvm.Cond.methodLink "GridRoomModel" (275 : Nat) ({ cls := "GridRoomModel", name := "letterHere", desc := "()I" } : Jvm.MethodName)) ∈ lw_all := lw_g (lw_at lw_m8 154 rfl) rfl
theorem q1920 : (Jvm.Cond.privateMethod ({ cls := "GridRoomModel", name := "letterHere", desc := "()I" } : Jvm.MethodName)) ∈ lw_tbl := lw_at lw_m8 155 rfl
theorem q1921 : (Jvm.Cond.instanceMethod ({ cls := "GridRoomModel", name := "letterHere", desc := "()I" } : Jvm.MethodName)) ∈ lw_all := lw_g (lw_at lw_m8 156 rfl) rfl
theorem q1922 : (Jvm.Cond.code ({ cls := "GridRoomModel", name := "letterHere", desc := "()I" } : Jvm.MethodName) prog_24_method_26_code (1 : Nat) (Option.some Jvm.ClassFile.FieldType.int)) ∈ lw_all := lw_g (lw_at lw_m8 157 rfl) rfl
theorem q1923 : (Jvm.Cond.methodLink "GridRoomModel" (278 : Nat) ({ cls := "GridRoomModel", name := "vowel", desc := "(I)I" } : Jvm.MethodName)) ∈ lw_all := lw_g (lw_at lw_m8 158 rfl) rfl
theorem q1924 : (Jvm.Cond.static ({ cls := "GridRoomModel", name := "vowel", desc := "(I)I" } : Jvm.MethodName)) ∈ lw_all := lw_g (lw_at lw_m8 159 rfl) rfl
theorem q1925 : (Jvm.Cond.code ({ cls := "GridRoomModel", name := "vowel", desc := "(I)I" } : Jvm.MethodName) prog_24_method_25_code (1 : Nat) (Option.some Jvm.ClassFile.FieldType.int)) ∈ lw_all := lw_g (lw_at lw_m8 160 rfl) rfl
theorem q1926 : (Jvm.Cond.stringRef "GridRoomModel" (280 : Nat) "as") ∈ lw_tbl := lw_at lw_m8 161 rfl
theorem q1928 : (Jvm.Cond.instanceMethod ({ cls := "GridRoomModel", name := "trust", desc := "(II)Z" } : Jvm.MethodName)) ∈ lw_all := lw_g (lw_at lw_m8 163 rfl) rfl
theorem q1929 : (Jvm.Cond.selects "GridRoomModel" ({ cls := "GridRoomModel", name := "trust", desc := "(II)Z" } : Jvm.MethodName) ({ cls := "GridRoomModel", name := "trust", desc := "(II)Z" } : Jvm.MethodName)) ∈ lw_all := lw_g (lw_at lw_m8 164 rfl) rfl
theorem q1930 : (Jvm.Cond.code ({ cls := "GridRoomModel", name := "trust", desc := "(II)Z" } : Jvm.MethodName) prog_24_method_31_code (3 : Nat) (Option.some Jvm.ClassFile.FieldType.boolean)) ∈ lw_all := lw_g (lw_at lw_m8 165 rfl) rfl
theorem q1932 : (Jvm.Cond.instanceMethod ({ cls := "GridRoomModel", name := "holds", desc := "(IIII)Z" } : Jvm.MethodName)) ∈ lw_all := lw_g (lw_at lw_m8 167 rfl) rfl
theorem q1933 : (Jvm.Cond.selects "GridRoomModel" ({ cls := "GridRoomModel", name := "holds", desc := "(IIII)Z" } : Jvm.MethodName) ({ cls := "GridRoomModel", name := "holds", desc := "(IIII)Z" } : Jvm.MethodName)) ∈ lw_all := lw_g (lw_at lw_m8 168 rfl) rfl
theorem q1934 : (Jvm.Cond.code ({ cls := "GridRoomModel", name := "holds", desc := "(IIII)Z" } : Jvm.MethodName) prog_24_method_32_code (5 : Nat) (Option.some Jvm.ClassFile.FieldType.boolean)) ∈ lw_all := lw_g (lw_at lw_m8 169 rfl) rfl
theorem q1935 : (Jvm.Cond.methodLink "GridRoomModel" (288 : Nat) ({ cls := "GridRoomModel", name := "isSignNumber", desc := "(I)Z" } : Jvm.MethodName)) ∈ lw_all := lw_g (lw_at lw_m8 170 rfl) rfl
theorem q1936 : (Jvm.Cond.static ({ cls := "GridRoomModel", name := "isSignNumber", desc := "(I)Z" } : Jvm.MethodName)) ∈ lw_all := lw_g (lw_at lw_m8 171 rfl) rfl
theorem q1937 : (Jvm.Cond.code ({ cls := "GridRoomModel", name := "isSignNumber", desc := "(I)Z" } : Jvm.MethodName) prog_24_method_30_code (1 : Nat) (Option.some Jvm.ClassFile.FieldType.boolean)) ∈ lw_all := lw_g (lw_at lw_m8 172 rfl) rfl
theorem q1939 : (Jvm.Cond.instanceMethod ({ cls := "GridRoomModel", name := "sign", desc := "(II)I" } : Jvm.MethodName)) ∈ lw_all := lw_g (lw_at lw_m8 174 rfl) rfl
theorem q1940 : (Jvm.Cond.selects "GridRoomModel" ({ cls := "GridRoomModel", name := "sign", desc := "(II)I" } : Jvm.MethodName) ({ cls := "GridRoomModel", name := "sign", desc := "(II)I" } : Jvm.MethodName)) ∈ lw_all := lw_g (lw_at lw_m8 175 rfl) rfl
theorem q1941 : (Jvm.Cond.code ({ cls := "GridRoomModel", name := "sign", desc := "(II)I" } : Jvm.MethodName) prog_24_method_35_code (3 : Nat) (Option.some Jvm.ClassFile.FieldType.int)) ∈ lw_all := lw_g (lw_at lw_m8 176 rfl) rfl
theorem q1942 : (Jvm.Cond.methodLink "GridRoomModel" (298 : Nat) ({ cls := "GridRoomModel", name := "isKnown", desc := "(I)Z" } : Jvm.MethodName)) ∈ lw_all := lw_g (lw_at lw_m8 177 rfl) rfl
theorem q1943 : (Jvm.Cond.privateMethod ({ cls := "GridRoomModel", name := "isKnown", desc := "(I)Z" } : Jvm.MethodName)) ∈ lw_tbl := lw_at lw_m8 178 rfl
theorem q1944 : (Jvm.Cond.instanceMethod ({ cls := "GridRoomModel", name := "isKnown", desc := "(I)Z" } : Jvm.MethodName)) ∈ lw_all := lw_g (lw_at lw_m8 179 rfl) rfl
theorem q1945 : (Jvm.Cond.code ({ cls := "GridRoomModel", name := "isKnown", desc := "(I)Z" } : Jvm.MethodName) prog_24_method_5_code (2 : Nat) (Option.some Jvm.ClassFile.FieldType.boolean)) ∈ lw_all := lw_g (lw_at lw_m8 180 rfl) rfl
theorem q1946 : (Jvm.Cond.methodLink "GridRoomModel" (301 : Nat) ({ cls := "GridRoomModel", name := "findStands", desc := "(I)V" } : Jvm.MethodName)) ∈ lw_all := lw_g (lw_at lw_m8 181 rfl) rfl
theorem q1947 : (Jvm.Cond.privateMethod ({ cls := "GridRoomModel", name := "findStands", desc := "(I)V" } : Jvm.MethodName)) ∈ lw_tbl := lw_at lw_m8 182 rfl
theorem q1948 : (Jvm.Cond.instanceMethod ({ cls := "GridRoomModel", name := "findStands", desc := "(I)V" } : Jvm.MethodName)) ∈ lw_all := lw_g (lw_at lw_m8 183 rfl) rfl
theorem q1949 : (Jvm.Cond.code ({ cls := "GridRoomModel", name := "findStands", desc := "(I)V" } : Jvm.MethodName) prog_24_method_34_code (6 : Nat) (Option.none : Option Jvm.ClassFile.FieldType)) ∈ lw_all := lw_g (lw_at lw_m8 184 rfl) rfl
theorem q1950 : (Jvm.Cond.methodLink "GridRoomModel" (294 : Nat) ({ cls := "GridRoomModel", name := "moreTrust", desc := "(III)I" } : Jvm.MethodName)) ∈ lw_all := lw_g (lw_at lw_m8 185 rfl) rfl
theorem q1951 : (Jvm.Cond.privateMethod ({ cls := "GridRoomModel", name := "moreTrust", desc := "(III)I" } : Jvm.MethodName)) ∈ lw_tbl := lw_at lw_m8 186 rfl
theorem q1952 : (Jvm.Cond.instanceMethod ({ cls := "GridRoomModel", name := "moreTrust", desc := "(III)I" } : Jvm.MethodName)) ∈ lw_all := lw_g (lw_at lw_m8 187 rfl) rfl
theorem q1953 : (Jvm.Cond.code ({ cls := "GridRoomModel", name := "moreTrust", desc := "(III)I" } : Jvm.MethodName) prog_24_method_33_code (8 : Nat) (Option.some Jvm.ClassFile.FieldType.int)) ∈ lw_all := lw_g (lw_at lw_m8 188 rfl) rfl
theorem q1955 : (Jvm.Cond.instanceMethod ({ cls := "GridRoomModel", name := "told", desc := "(III)I" } : Jvm.MethodName)) ∈ lw_all := lw_g (lw_at lw_m8 190 rfl) rfl
theorem q1956 : (Jvm.Cond.selects "GridRoomModel" ({ cls := "GridRoomModel", name := "told", desc := "(III)I" } : Jvm.MethodName) ({ cls := "GridRoomModel", name := "told", desc := "(III)I" } : Jvm.MethodName)) ∈ lw_all := lw_g (lw_at lw_m8 191 rfl) rfl
theorem q1957 : (Jvm.Cond.code ({ cls := "GridRoomModel", name := "told", desc := "(III)I" } : Jvm.MethodName) prog_24_method_36_code (4 : Nat) (Option.some Jvm.ClassFile.FieldType.int)) ∈ lw_all := lw_g (lw_at lw_m8 192 rfl) rfl
theorem q1959 : (Jvm.Cond.instanceMethod ({ cls := "GridRoomModel", name := "share", desc := "(IIIZ)I" } : Jvm.MethodName)) ∈ lw_all := lw_g (lw_at lw_m8 194 rfl) rfl
theorem q1960 : (Jvm.Cond.selects "GridRoomModel" ({ cls := "GridRoomModel", name := "share", desc := "(IIIZ)I" } : Jvm.MethodName) ({ cls := "GridRoomModel", name := "share", desc := "(IIIZ)I" } : Jvm.MethodName)) ∈ lw_all := lw_g (lw_at lw_m8 195 rfl) rfl
theorem q1961 : (Jvm.Cond.code ({ cls := "GridRoomModel", name := "share", desc := "(IIIZ)I" } : Jvm.MethodName) prog_24_method_37_code (5 : Nat) (Option.some Jvm.ClassFile.FieldType.int)) ∈ lw_all := lw_g (lw_at lw_m8 196 rfl) rfl
theorem q1963 : (Jvm.Cond.instanceMethod ({ cls := "GridRoomModel", name := "pairs", desc := "(IIII)I" } : Jvm.MethodName)) ∈ lw_all := lw_g (lw_at lw_m8 198 rfl) rfl
theorem q1964 : (Jvm.Cond.selects "GridRoomModel" ({ cls := "GridRoomModel", name := "pairs", desc := "(IIII)I" } : Jvm.MethodName) ({ cls := "GridRoomModel", name := "pairs", desc := "(IIII)I" } : Jvm.MethodName)) ∈ lw_all := lw_g (lw_at lw_m8 199 rfl) rfl
theorem q1965 : (Jvm.Cond.code ({ cls := "GridRoomModel", name := "pairs", desc := "(IIII)I" } : Jvm.MethodName) prog_24_method_44_code (6 : Nat) (Option.some Jvm.ClassFile.FieldType.int)) ∈ lw_all := lw_g (lw_at lw_m8 200 rfl) rfl
theorem q1966 : (Jvm.Cond.methodLink "GridRoomModel" (326 : Nat) ({ cls := "GridRoomModel", name := "rulesBy", desc := "(I)I" } : Jvm.MethodName)) ∈ lw_all := lw_g (lw_at lw_m8 201 rfl) rfl
theorem q1967 : (Jvm.Cond.privateMethod ({ cls := "GridRoomModel", name := "rulesBy", desc := "(I)I" } : Jvm.MethodName)) ∈ lw_tbl := lw_at lw_m8 202 rfl
theorem q1968 : (Jvm.Cond.instanceMethod ({ cls := "GridRoomModel", name := "rulesBy", desc := "(I)I" } : Jvm.MethodName)) ∈ lw_all := lw_g (lw_at lw_m8 203 rfl) rfl
theorem q1969 : (Jvm.Cond.code ({ cls := "GridRoomModel", name := "rulesBy", desc := "(I)I" } : Jvm.MethodName) prog_24_method_29_code (4 : Nat) (Option.some Jvm.ClassFile.FieldType.int)) ∈ lw_all := lw_g (lw_at lw_m8 204 rfl) rfl
theorem q1970 : (Jvm.Cond.methodLink "GridRoomModel" (329 : Nat) ({ cls := "GridRoomModel", name := "findWholes", desc := "(I)V" } : Jvm.MethodName)) ∈ lw_all := lw_g (lw_at lw_m8 205 rfl) rfl
theorem q1971 : (Jvm.Cond.privateMethod ({ cls := "GridRoomModel", name := "findWholes", desc := "(I)V" } : Jvm.MethodName)) ∈ lw_tbl := lw_at lw_m8 206 rfl
theorem q1972 : (Jvm.Cond.instanceMethod ({ cls := "GridRoomModel", name := "findWholes", desc := "(I)V" } : Jvm.MethodName)) ∈ lw_all := lw_g (lw_at lw_m8 207 rfl) rfl
theorem q1973 : (Jvm.Cond.code ({ cls := "GridRoomModel", name := "findWholes", desc := "(I)V" } : Jvm.MethodName) prog_24_method_40_code (4 : Nat) (Option.none : Option Jvm.ClassFile.FieldType)) ∈ lw_all := lw_g (lw_at lw_m8 208 rfl) rfl
theorem q1974 : (Jvm.Cond.methodLink "GridRoomModel" (314 : Nat) ({ cls := "GridRoomModel", name := "tabletCounts", desc := "(II)Z" } : Jvm.MethodName)) ∈ lw_all := lw_g (lw_at lw_m8 209 rfl) rfl
theorem q1975 : (Jvm.Cond.privateMethod ({ cls := "GridRoomModel", name := "tabletCounts", desc := "(II)Z" } : Jvm.MethodName)) ∈ lw_tbl := lw_at lw_m8 210 rfl
theorem q1976 : (Jvm.Cond.instanceMethod ({ cls := "GridRoomModel", name := "tabletCounts", desc := "(II)Z" } : Jvm.MethodName)) ∈ lw_all := lw_g (lw_at lw_m8 211 rfl) rfl
theorem q1977 : (Jvm.Cond.code ({ cls := "GridRoomModel", name := "tabletCounts", desc := "(II)Z" } : Jvm.MethodName) prog_24_method_7_code (3 : Nat) (Option.some Jvm.ClassFile.FieldType.boolean)) ∈ lw_all := lw_g (lw_at lw_m8 212 rfl) rfl
theorem q1978 : (Jvm.Cond.methodLink "GridRoomModel" (177 : Nat) ({ cls := "GridRoomModel", name := "counts", desc := "(III)Z" } : Jvm.MethodName)) ∈ lw_all := lw_g (lw_at lw_m8 213 rfl) rfl
theorem q1979 : (Jvm.Cond.static ({ cls := "GridRoomModel", name := "counts", desc := "(III)Z" } : Jvm.MethodName)) ∈ lw_all := lw_g (lw_at lw_m8 214 rfl) rfl
theorem q1980 : (Jvm.Cond.code ({ cls := "GridRoomModel", name := "counts", desc := "(III)Z" } : Jvm.MethodName) prog_24_method_6_code (3 : Nat) (Option.some Jvm.ClassFile.FieldType.boolean)) ∈ lw_all := lw_g (lw_at lw_m8 215 rfl) rfl
theorem q1981 : (Jvm.Cond.methodLink "GridRoomModel" (317 : Nat) ({ cls := "GridRoomModel", name := "addWhole", desc := "(I)V" } : Jvm.MethodName)) ∈ lw_all := lw_g (lw_at lw_m8 216 rfl) rfl
theorem q1982 : (Jvm.Cond.privateMethod ({ cls := "GridRoomModel", name := "addWhole", desc := "(I)V" } : Jvm.MethodName)) ∈ lw_tbl := lw_at lw_m8 217 rfl
theorem q1983 : (Jvm.Cond.instanceMethod ({ cls := "GridRoomModel", name := "addWhole", desc := "(I)V" } : Jvm.MethodName)) ∈ lw_all := lw_g (lw_at lw_m8 218 rfl) rfl
theorem q1984 : (Jvm.Cond.code ({ cls := "GridRoomModel", name := "addWhole", desc := "(I)V" } : Jvm.MethodName) prog_24_method_39_code (4 : Nat) (Option.none : Option Jvm.ClassFile.FieldType)) ∈ lw_all := lw_g (lw_at lw_m8 219 rfl) rfl
theorem q1985 : (Jvm.Cond.methodLink "GridRoomModel" (310 : Nat) ({ cls := "GridRoomModel", name := "isAlike", desc := "(II)Z" } : Jvm.MethodName)) ∈ lw_all := lw_g (lw_at lw_m8 220 rfl) rfl
theorem q1986 : (Jvm.Cond.privateMethod ({ cls := "GridRoomModel", name := "isAlike", desc := "(II)Z" } : Jvm.MethodName)) ∈ lw_tbl := lw_at lw_m8 221 rfl
theorem q1987 : (Jvm.Cond.instanceMethod ({ cls := "GridRoomModel", name := "isAlike", desc := "(II)Z" } : Jvm.MethodName)) ∈ lw_all := lw_g (lw_at lw_m8 222 rfl) rfl
theorem q1988 : (Jvm.Cond.code ({ cls := "GridRoomModel", name := "isAlike", desc := "(II)Z" } : Jvm.MethodName) prog_24_method_38_code (5 : Nat) (Option.some Jvm.ClassFile.FieldType.boolean)) ∈ lw_all := lw_g (lw_at lw_m8 223 rfl) rfl
theorem q1989 : (Jvm.Cond.methodLink "GridRoomModel" (332 : Nat) ({ cls := "GridRoomModel", name := "pairsOf", desc := "(III)I" } : Jvm.MethodName)) ∈ lw_all := lw_g (lw_at lw_m8 224 rfl) rfl
theorem q1990 : (Jvm.Cond.privateMethod ({ cls := "GridRoomModel", name := "pairsOf", desc := "(III)I" } : Jvm.MethodName)) ∈ lw_tbl := lw_at lw_m8 225 rfl
theorem q1991 : (Jvm.Cond.instanceMethod ({ cls := "GridRoomModel", name := "pairsOf", desc := "(III)I" } : Jvm.MethodName)) ∈ lw_all := lw_g (lw_at lw_m8 226 rfl) rfl
theorem q1992 : (Jvm.Cond.code ({ cls := "GridRoomModel", name := "pairsOf", desc := "(III)I" } : Jvm.MethodName) prog_24_method_43_code (10 : Nat) (Option.some Jvm.ClassFile.FieldType.int)) ∈ lw_all := lw_g (lw_at lw_m8 227 rfl) rfl
theorem q1993 : (Jvm.Cond.methodLink "GridRoomModel" (323 : Nat) ({ cls := "GridRoomModel", name := "tellsBy", desc := "(III)Z" } : Jvm.MethodName)) ∈ lw_all := lw_g (lw_at lw_m8 228 rfl) rfl
theorem q1994 : (Jvm.Cond.privateMethod ({ cls := "GridRoomModel", name := "tellsBy", desc := "(III)Z" } : Jvm.MethodName)) ∈ lw_tbl := lw_at lw_m8 229 rfl
theorem q1995 : (Jvm.Cond.instanceMethod ({ cls := "GridRoomModel", name := "tellsBy", desc := "(III)Z" } : Jvm.MethodName)) ∈ lw_all := lw_g (lw_at lw_m8 230 rfl) rfl
theorem q1996 : (Jvm.Cond.code ({ cls := "GridRoomModel", name := "tellsBy", desc := "(III)Z" } : Jvm.MethodName) prog_24_method_42_code (5 : Nat) (Option.some Jvm.ClassFile.FieldType.boolean)) ∈ lw_all := lw_g (lw_at lw_m8 231 rfl) rfl
theorem q1997 : (Jvm.Cond.methodLink "GridRoomModel" (320 : Nat) ({ cls := "GridRoomModel", name := "unlikeAt", desc := "(II)I" } : Jvm.MethodName)) ∈ lw_all := lw_g (lw_at lw_m8 232 rfl) rfl
theorem q1998 : (Jvm.Cond.privateMethod ({ cls := "GridRoomModel", name := "unlikeAt", desc := "(II)I" } : Jvm.MethodName)) ∈ lw_tbl := lw_at lw_m8 233 rfl
theorem q1999 : (Jvm.Cond.instanceMethod ({ cls := "GridRoomModel", name := "unlikeAt", desc := "(II)I" } : Jvm.MethodName)) ∈ lw_all := lw_g (lw_at lw_m8 234 rfl) rfl
theorem q2000 : (Jvm.Cond.code ({ cls := "GridRoomModel", name := "unlikeAt", desc := "(II)I" } : Jvm.MethodName) prog_24_method_41_code (5 : Nat) (Option.some Jvm.ClassFile.FieldType.int)) ∈ lw_all := lw_g (lw_at lw_m8 235 rfl) rfl
theorem q2002 : (Jvm.Cond.instanceMethod ({ cls := "GridRoomModel", name := "links", desc := "(II)I" } : Jvm.MethodName)) ∈ lw_all := lw_g (lw_at lw_m8 237 rfl) rfl
theorem q2003 : (Jvm.Cond.selects "GridRoomModel" ({ cls := "GridRoomModel", name := "links", desc := "(II)I" } : Jvm.MethodName) ({ cls := "GridRoomModel", name := "links", desc := "(II)I" } : Jvm.MethodName)) ∈ lw_all := lw_g (lw_at lw_m8 238 rfl) rfl
theorem q2004 : (Jvm.Cond.code ({ cls := "GridRoomModel", name := "links", desc := "(II)I" } : Jvm.MethodName) prog_24_method_49_code (5 : Nat) (Option.some Jvm.ClassFile.FieldType.int)) ∈ lw_all := lw_g (lw_at lw_m8 239 rfl) rfl
theorem q2005 : (Jvm.Cond.methodLink "GridRoomModel" (345 : Nat) ({ cls := "GridRoomModel", name := "findLinks", desc := "(I)V" } : Jvm.MethodName)) ∈ lw_all := lw_g (lw_at lw_m9 0 rfl) rfl
theorem q2006 : (Jvm.Cond.privateMethod ({ cls := "GridRoomModel", name := "findLinks", desc := "(I)V" } : Jvm.MethodName)) ∈ lw_tbl := lw_at lw_m9 1 rfl
theorem q2007 : (Jvm.Cond.instanceMethod ({ cls := "GridRoomModel", name := "findLinks", desc := "(I)V" } : Jvm.MethodName)) ∈ lw_all := lw_g (lw_at lw_m9 2 rfl) rfl
theorem q2008 : (Jvm.Cond.code ({ cls := "GridRoomModel", name := "findLinks", desc := "(I)V" } : Jvm.MethodName) prog_24_method_46_code (6 : Nat) (Option.none : Option Jvm.ClassFile.FieldType)) ∈ lw_all := lw_g (lw_at lw_m9 3 rfl) rfl
theorem q2009 : (Jvm.Cond.methodLink "GridRoomModel" (335 : Nat) ({ cls := "GridRoomModel", name := "linksBy", desc := "(I)V" } : Jvm.MethodName)) ∈ lw_all := lw_g (lw_at lw_m9 4 rfl) rfl
theorem q2010 : (Jvm.Cond.privateMethod ({ cls := "GridRoomModel", name := "linksBy", desc := "(I)V" } : Jvm.MethodName)) ∈ lw_tbl := lw_at lw_m9 5 rfl
theorem q2011 : (Jvm.Cond.instanceMethod ({ cls := "GridRoomModel", name := "linksBy", desc := "(I)V" } : Jvm.MethodName)) ∈ lw_all := lw_g (lw_at lw_m9 6 rfl) rfl
theorem q2012 : (Jvm.Cond.code ({ cls := "GridRoomModel", name := "linksBy", desc := "(I)V" } : Jvm.MethodName) prog_24_method_47_code (7 : Nat) (Option.none : Option Jvm.ClassFile.FieldType)) ∈ lw_all := lw_g (lw_at lw_m9 7 rfl) rfl
theorem q2013 : (Jvm.Cond.methodLink "GridRoomModel" (338 : Nat) ({ cls := "GridRoomModel", name := "links", desc := "(III)V" } : Jvm.MethodName)) ∈ lw_all := lw_g (lw_at lw_m9 8 rfl) rfl
theorem q2014 : (Jvm.Cond.privateMethod ({ cls := "GridRoomModel", name := "links", desc := "(III)V" } : Jvm.MethodName)) ∈ lw_tbl := lw_at lw_m9 9 rfl
theorem q2015 : (Jvm.Cond.instanceMethod ({ cls := "GridRoomModel", name := "links", desc := "(III)V" } : Jvm.MethodName)) ∈ lw_all := lw_g (lw_at lw_m9 10 rfl) rfl
theorem q2016 : (Jvm.Cond.code ({ cls := "GridRoomModel", name := "links", desc := "(III)V" } : Jvm.MethodName) prog_24_method_45_code (4 : Nat) (Option.none : Option Jvm.ClassFile.FieldType)) ∈ lw_all := lw_g (lw_at lw_m9 11 rfl) rfl
theorem q2017 : (Jvm.Cond.methodLink "GridRoomModel" (342 : Nat) ({ cls := "GridRoomModel", name := "findClasses", desc := "()V" } : Jvm.MethodName)) ∈ lw_all := lw_g (lw_at lw_m9 12 rfl) rfl
theorem q2018 : (Jvm.Cond.privateMethod ({ cls := "GridRoomModel", name := "findClasses", desc := "()V" } : Jvm.MethodName)) ∈ lw_tbl := lw_at lw_m9 13 rfl
theorem q2019 : (Jvm.Cond.instanceMethod ({ cls := "GridRoomModel", name := "findClasses", desc := "()V" } : Jvm.MethodName)) ∈ lw_all := lw_g (lw_at lw_m9 14 rfl) rfl
theorem q2020 : (Jvm.Cond.code ({ cls := "GridRoomModel", name := "findClasses", desc := "()V" } : Jvm.MethodName) prog_24_method_48_code (6 : Nat) (Option.none : Option Jvm.ClassFile.FieldType)) ∈ lw_all := lw_g (lw_at lw_m9 15 rfl) rfl
theorem q2022 : (Jvm.Cond.instanceMethod ({ cls := "GridRoomModel", name := "classOf", desc := "(III)I" } : Jvm.MethodName)) ∈ lw_all := lw_g (lw_at lw_m9 17 rfl) rfl
theorem q2023 : (Jvm.Cond.selects "GridRoomModel" ({ cls := "GridRoomModel", name := "classOf", desc := "(III)I" } : Jvm.MethodName) ({ cls := "GridRoomModel", name := "classOf", desc := "(III)I" } : Jvm.MethodName)) ∈ lw_all := lw_g (lw_at lw_m9 18 rfl) rfl
theorem q2024 : (Jvm.Cond.code ({ cls := "GridRoomModel", name := "classOf", desc := "(III)I" } : Jvm.MethodName) prog_24_method_50_code (4 : Nat) (Option.some Jvm.ClassFile.FieldType.int)) ∈ lw_all := lw_g (lw_at lw_m9 19 rfl) rfl
theorem q2026 : (Jvm.Cond.instanceMethod ({ cls := "GridRoomModel", name := "clash", desc := "(II)I" } : Jvm.MethodName)) ∈ lw_all := lw_g (lw_at lw_m9 21 rfl) rfl
theorem q2027 : (Jvm.Cond.selects "GridRoomModel" ({ cls := "GridRoomModel", name := "clash", desc := "(II)I" } : Jvm.MethodName) ({ cls := "GridRoomModel", name := "clash", desc := "(II)I" } : Jvm.MethodName)) ∈ lw_all := lw_g (lw_at lw_m9 22 rfl) rfl
theorem q2028 : (Jvm.Cond.code ({ cls := "GridRoomModel", name := "clash", desc := "(II)I" } : Jvm.MethodName) prog_24_method_54_code (3 : Nat) (Option.some Jvm.ClassFile.FieldType.int)) ∈ lw_all := lw_g (lw_at lw_m9 23 rfl) rfl
theorem q2029 : (Jvm.Cond.methodLink "GridRoomModel" (371 : Nat) ({ cls := "GridRoomModel", name := "findClash", desc := "(I)Z" } : Jvm.MethodName)) ∈ lw_all := lw_g (lw_at lw_m9 24 rfl) rfl
theorem q2030 : (Jvm.Cond.privateMethod ({ cls := "GridRoomModel", name := "findClash", desc := "(I)Z" } : Jvm.MethodName)) ∈ lw_tbl := lw_at lw_m9 25 rfl
theorem q2031 : (Jvm.Cond.instanceMethod ({ cls := "GridRoomModel", name := "findClash", desc := "(I)Z" } : Jvm.MethodName)) ∈ lw_all := lw_g (lw_at lw_m9 26 rfl) rfl
theorem q2032 : (Jvm.Cond.code ({ cls := "GridRoomModel", name := "findClash", desc := "(I)Z" } : Jvm.MethodName) prog_24_method_52_code (7 : Nat) (Option.some Jvm.ClassFile.FieldType.boolean)) ∈ lw_all := lw_g (lw_at lw_m9 27 rfl) rfl
theorem q2033 : (Jvm.Cond.methodLink "GridRoomModel" (348 : Nat) ({ cls := "GridRoomModel", name := "findFar", desc := "(II)V" } : Jvm.MethodName)) ∈ lw_all := lw_g (lw_at lw_m9 28 rfl) rfl
theorem q2034 : (Jvm.Cond.privateMethod ({ cls := "GridRoomModel", name := "findFar", desc := "(II)V" } : Jvm.MethodName)) ∈ lw_tbl := lw_at lw_m9 29 rfl
theorem q2035 : (Jvm.Cond.instanceMethod ({ cls := "GridRoomModel", name := "findFar", desc := "(II)V" } : Jvm.MethodName)) ∈ lw_all := lw_g (lw_at lw_m9 30 rfl) rfl
theorem q2036 : (Jvm.Cond.code ({ cls := "GridRoomModel", name := "findFar", desc := "(II)V" } : Jvm.MethodName) prog_24_method_51_code (5 : Nat) (Option.none : Option Jvm.ClassFile.FieldType)) ∈ lw_all := lw_g (lw_at lw_m9 31 rfl) rfl
theorem q2037 : (Jvm.Cond.methodLink "GridRoomModel" (355 : Nat) ({ cls := "GridRoomModel", name := "clashes", desc := "(IIIII)V" } : Jvm.MethodName)) ∈ lw_all := lw_g (lw_at lw_m9 32 rfl) rfl
theorem q2038 : (Jvm.Cond.privateMethod ({ cls := "GridRoomModel", name := "clashes", desc := "(IIIII)V" } : Jvm.MethodName)) ∈ lw_tbl := lw_at lw_m9 33 rfl
theorem q2039 : (Jvm.Cond.instanceMethod ({ cls := "GridRoomModel", name := "clashes", desc := "(IIIII)V" } : Jvm.MethodName)) ∈ lw_all := lw_g (lw_at lw_m9 34 rfl) rfl
theorem q2040 : (Jvm.Cond.code ({ cls := "GridRoomModel", name := "clashes", desc := "(IIIII)V" } : Jvm.MethodName) prog_24_method_53_code (6 : Nat) (Option.none : Option Jvm.ClassFile.FieldType)) ∈ lw_all := lw_g (lw_at lw_m9 35 rfl) rfl
theorem q2042 : (Jvm.Cond.instanceMethod ({ cls := "GridRoomModel", name := "reason", desc := "(III)I" } : Jvm.MethodName)) ∈ lw_all := lw_g (lw_at lw_m9 37 rfl) rfl
theorem q2043 : (Jvm.Cond.selects "GridRoomModel" ({ cls := "GridRoomModel", name := "reason", desc := "(III)I" } : Jvm.MethodName) ({ cls := "GridRoomModel", name := "reason", desc := "(III)I" } : Jvm.MethodName)) ∈ lw_all := lw_g (lw_at lw_m9 38 rfl) rfl
theorem q2044 : (Jvm.Cond.code ({ cls := "GridRoomModel", name := "reason", desc := "(III)I" } : Jvm.MethodName) prog_24_method_56_code (4 : Nat) (Option.some Jvm.ClassFile.FieldType.int)) ∈ lw_all := lw_g (lw_at lw_m9 39 rfl) rfl
theorem q2045 : (Jvm.Cond.methodLink "GridRoomModel" (377 : Nat) ({ cls := "GridRoomModel", name := "walks", desc := "(III)V" } : Jvm.MethodName)) ∈ lw_all := lw_g (lw_at lw_m9 40 rfl) rfl
theorem q2046 : (Jvm.Cond.privateMethod ({ cls := "GridRoomModel", name := "walks", desc := "(III)V" } : Jvm.MethodName)) ∈ lw_tbl := lw_at lw_m9 41 rfl
theorem q2047 : (Jvm.Cond.instanceMethod ({ cls := "GridRoomModel", name := "walks", desc := "(III)V" } : Jvm.MethodName)) ∈ lw_all := lw_g (lw_at lw_m9 42 rfl) rfl
theorem q2048 : (Jvm.Cond.code ({ cls := "GridRoomModel", name := "walks", desc := "(III)V" } : Jvm.MethodName) prog_24_method_55_code (6 : Nat) (Option.none : Option Jvm.ClassFile.FieldType)) ∈ lw_all := lw_g (lw_at lw_m9 43 rfl) rfl
theorem q2050 : (Jvm.Cond.instanceMethod ({ cls := "GridRoomModel", name := "name", desc := "(I)I" } : Jvm.MethodName)) ∈ lw_all := lw_g (lw_at lw_m9 45 rfl) rfl
theorem q2051 : (Jvm.Cond.selects "GridRoomModel" ({ cls := "GridRoomModel", name := "name", desc := "(I)I" } : Jvm.MethodName) ({ cls := "GridRoomModel", name := "name", desc := "(I)I" } : Jvm.MethodName)) ∈ lw_all := lw_g (lw_at lw_m9 46 rfl) rfl
theorem q2052 : (Jvm.Cond.code ({ cls := "GridRoomModel", name := "name", desc := "(I)I" } : Jvm.MethodName) prog_24_method_59_code (2 : Nat) (Option.some Jvm.ClassFile.FieldType.int)) ∈ lw_all := lw_g (lw_at lw_m9 47 rfl) rfl
theorem q2053 : (Jvm.Cond.methodLink "GridRoomModel" (380 : Nat) ({ cls := "GridRoomModel", name := "isName", desc := "()Z" } : Jvm.MethodName)) ∈ lw_all := lw_g (lw_at lw_m9 48 rfl) rfl
theorem q2054 : (Jvm.Cond.privateMethod ({ cls := "GridRoomModel", name := "isName", desc := "()Z" } : Jvm.MethodName)) ∈ lw_tbl := lw_at lw_m9 49 rfl
theorem q2055 : (Jvm.Cond.instanceMethod ({ cls := "GridRoomModel", name := "isName", desc := "()Z" } : Jvm.MethodName)) ∈ lw_all := lw_g (lw_at lw_m9 50 rfl) rfl
theorem q2056 : (Jvm.Cond.code ({ cls := "GridRoomModel", name := "isName", desc := "()Z" } : Jvm.MethodName) prog_24_method_57_code (3 : Nat) (Option.some Jvm.ClassFile.FieldType.boolean)) ∈ lw_all := lw_g (lw_at lw_m9 51 rfl) rfl
theorem q2057 : (Jvm.Cond.methodLink "GridRoomModel" (386 : Nat) ({ cls := "GridRoomModel", name := "takesName", desc := "(II)V" } : Jvm.MethodName)) ∈ lw_all := lw_g (lw_at lw_m9 52 rfl) rfl
theorem q2058 : (Jvm.Cond.privateMethod ({ cls := "GridRoomModel", name := "takesName", desc := "(II)V" } : Jvm.MethodName)) ∈ lw_tbl := lw_at lw_m9 53 rfl
theorem q2059 : (Jvm.Cond.instanceMethod ({ cls := "GridRoomModel", name := "takesName", desc := "(II)V" } : Jvm.MethodName)) ∈ lw_all := lw_g (lw_at lw_m9 54 rfl) rfl
theorem q2060 : (Jvm.Cond.code ({ cls := "GridRoomModel", name := "takesName", desc := "(II)V" } : Jvm.MethodName) prog_24_method_58_code (4 : Nat) (Option.none : Option Jvm.ClassFile.FieldType)) ∈ lw_all := lw_g (lw_at lw_m9 55 rfl) rfl
theorem q2062 : (Jvm.Cond.instanceMethod ({ cls := "GridRoomModel", name := "away", desc := "(II)Z" } : Jvm.MethodName)) ∈ lw_all := lw_g (lw_at lw_m9 57 rfl) rfl
theorem q2063 : (Jvm.Cond.selects "GridRoomModel" ({ cls := "GridRoomModel", name := "away", desc := "(II)Z" } : Jvm.MethodName) ({ cls := "GridRoomModel", name := "away", desc := "(II)Z" } : Jvm.MethodName)) ∈ lw_all := lw_g (lw_at lw_m9 58 rfl) rfl
theorem q2064 : (Jvm.Cond.code ({ cls := "GridRoomModel", name := "away", desc := "(II)Z" } : Jvm.MethodName) prog_24_method_60_code (5 : Nat) (Option.some Jvm.ClassFile.FieldType.boolean)) ∈ lw_all := lw_g (lw_at lw_m9 59 rfl) rfl
theorem q2066 : (Jvm.Cond.instanceMethod ({ cls := "GridRoomModel", name := "spelled", desc := "(II)I" } : Jvm.MethodName)) ∈ lw_all := lw_g (lw_at lw_m9 61 rfl) rfl
theorem q2067 : (Jvm.Cond.selects "GridRoomModel" ({ cls := "GridRoomModel", name := "spelled", desc := "(II)I" } : Jvm.MethodName) ({ cls := "GridRoomModel", name := "spelled", desc := "(II)I" } : Jvm.MethodName)) ∈ lw_all := lw_g (lw_at lw_m9 62 rfl) rfl
theorem q2068 : (Jvm.Cond.code ({ cls := "GridRoomModel", name := "spelled", desc := "(II)I" } : Jvm.MethodName) prog_24_method_66_code (3 : Nat) (Option.some Jvm.ClassFile.FieldType.int)) ∈ lw_all := lw_g (lw_at lw_m9 63 rfl) rfl
theorem q2069 : (Jvm.Cond.methodLink "GridRoomModel" (401 : Nat) ({ cls := "GridRoomModel", name := "spells", desc := "(II)V" } : Jvm.MethodName)) ∈ lw_all := lw_g (lw_at lw_m9 64 rfl) rfl
theorem q2070 : (Jvm.Cond.privateMethod ({ cls := "GridRoomModel", name := "spells", desc := "(II)V" } : Jvm.MethodName)) ∈ lw_tbl := lw_at lw_m9 65 rfl
theorem q2071 : (Jvm.Cond.instanceMethod ({ cls := "GridRoomModel", name := "spells", desc := "(II)V" } : Jvm.MethodName)) ∈ lw_all := lw_g (lw_at lw_m9 66 rfl) rfl
theorem q2072 : (Jvm.Cond.code ({ cls := "GridRoomModel", name := "spells", desc := "(II)V" } : Jvm.MethodName) prog_24_method_65_code (8 : Nat) (Option.none : Option Jvm.ClassFile.FieldType)) ∈ lw_all := lw_g (lw_at lw_m9 67 rfl) rfl
theorem q2073 : (Jvm.Cond.methodLink "GridRoomModel" (389 : Nat) ({ cls := "GridRoomModel", name := "writes", desc := "(II)I" } : Jvm.MethodName)) ∈ lw_all := lw_g (lw_at lw_m9 68 rfl) rfl
theorem q2074 : (Jvm.Cond.privateMethod ({ cls := "GridRoomModel", name := "writes", desc := "(II)I" } : Jvm.MethodName)) ∈ lw_tbl := lw_at lw_m9 69 rfl
theorem q2075 : (Jvm.Cond.instanceMethod ({ cls := "GridRoomModel", name := "writes", desc := "(II)I" } : Jvm.MethodName)) ∈ lw_all := lw_g (lw_at lw_m9 70 rfl) rfl
theorem q2076 : (Jvm.Cond.code ({ cls := "GridRoomModel", name := "writes", desc := "(II)I" } : Jvm.MethodName) prog_24_method_61_code (5 : Nat) (Option.some Jvm.ClassFile.FieldType.int)) ∈ lw_all := lw_g (lw_at lw_m9 71 rfl) rfl
theorem q2077 : (Jvm.Cond.methodLink "GridRoomModel" (392 : Nat) ({ cls := "GridRoomModel", name := "addCell", desc := "(III)V" } : Jvm.MethodName)) ∈ lw_all := lw_g (lw_at lw_m9 72 rfl) rfl
theorem q2078 : (Jvm.Cond.privateMethod ({ cls := "GridRoomModel", name := "addCell", desc := "(III)V" } : Jvm.MethodName)) ∈ lw_tbl := lw_at lw_m9 73 rfl
theorem q2079 : (Jvm.Cond.instanceMethod ({ cls := "GridRoomModel", name := "addCell", desc := "(III)V" } : Jvm.MethodName)) ∈ lw_all := lw_g (lw_at lw_m9 74 rfl) rfl
theorem q2080 : (Jvm.Cond.code ({ cls := "GridRoomModel", name := "addCell", desc := "(III)V" } : Jvm.MethodName) prog_24_method_63_code (4 : Nat) (Option.none : Option Jvm.ClassFile.FieldType)) ∈ lw_all := lw_g (lw_at lw_m9 75 rfl) rfl
theorem q2081 : (Jvm.Cond.methodLink "GridRoomModel" (395 : Nat) ({ cls := "GridRoomModel", name := "vowelFor", desc := "(II)I" } : Jvm.MethodName)) ∈ lw_all := lw_g (lw_at lw_m9 76 rfl) rfl
theorem q2082 : (Jvm.Cond.privateMethod ({ cls := "GridRoomModel", name := "vowelFor", desc := "(II)I" } : Jvm.MethodName)) ∈ lw_tbl := lw_at lw_m9 77 rfl
theorem q2083 : (Jvm.Cond.instanceMethod ({ cls := "GridRoomModel", name := "vowelFor", desc := "(II)I" } : Jvm.MethodName)) ∈ lw_all := lw_g (lw_at lw_m9 78 rfl) rfl
theorem q2084 : (Jvm.Cond.code ({ cls := "GridRoomModel", name := "vowelFor", desc := "(II)I" } : Jvm.MethodName) prog_24_method_64_code (4 : Nat) (Option.some Jvm.ClassFile.FieldType.int)) ∈ lw_all := lw_g (lw_at lw_m9 79 rfl) rfl
theorem q2085 : (Jvm.Cond.methodLink "GridRoomModel" (398 : Nat) ({ cls := "GridRoomModel", name := "drops", desc := "(II)Z" } : Jvm.MethodName)) ∈ lw_all := lw_g (lw_at lw_m9 80 rfl) rfl
theorem q2086 : (Jvm.Cond.privateMethod ({ cls := "GridRoomModel", name := "drops", desc := "(II)Z" } : Jvm.MethodName)) ∈ lw_tbl := lw_at lw_m9 81 rfl
theorem q2087 : (Jvm.Cond.instanceMethod ({ cls := "GridRoomModel", name := "drops", desc := "(II)Z" } : Jvm.MethodName)) ∈ lw_all := lw_g (lw_at lw_m9 82 rfl) rfl
theorem q2088 : (Jvm.Cond.code ({ cls := "GridRoomModel", name := "drops", desc := "(II)Z" } : Jvm.MethodName) prog_24_method_62_code (5 : Nat) (Option.some Jvm.ClassFile.FieldType.boolean)) ∈ lw_all := lw_g (lw_at lw_m9 83 rfl) rfl
theorem q2090 : (Jvm.Cond.instanceMethod ({ cls := "GridRoomModel", name := "cell", desc := "(III)I" } : Jvm.MethodName)) ∈ lw_all := lw_g (lw_at lw_m9 85 rfl) rfl
theorem q2091 : (Jvm.Cond.selects "GridRoomModel" ({ cls := "GridRoomModel", name := "cell", desc := "(III)I" } : Jvm.MethodName) ({ cls := "GridRoomModel", name := "cell", desc := "(III)I" } : Jvm.MethodName)) ∈ lw_all := lw_g (lw_at lw_m9 86 rfl) rfl
theorem q2092 : (Jvm.Cond.code ({ cls := "GridRoomModel", name := "cell", desc := "(III)I" } : Jvm.MethodName) prog_24_method_67_code (4 : Nat) (Option.some Jvm.ClassFile.FieldType.int)) ∈ lw_all := lw_g (lw_at lw_m9 87 rfl) rfl
theorem q2094 : (Jvm.Cond.instanceMethod ({ cls := "GridRoomModel", name := "ways", desc := "(I)I" } : Jvm.MethodName)) ∈ lw_all := lw_g (lw_at lw_m9 89 rfl) rfl
theorem q2095 : (Jvm.Cond.selects "GridRoomModel" ({ cls := "GridRoomModel", name := "ways", desc := "(I)I" } : Jvm.MethodName) ({ cls := "GridRoomModel", name := "ways", desc := "(I)I" } : Jvm.MethodName)) ∈ lw_all := lw_g (lw_at lw_m9 90 rfl) rfl
theorem q2096 : (Jvm.Cond.code ({ cls := "GridRoomModel", name := "ways", desc := "(I)I" } : Jvm.MethodName) prog_24_method_76_code (2 : Nat) (Option.some Jvm.ClassFile.FieldType.int)) ∈ lw_all := lw_g (lw_at lw_m9 91 rfl) rfl
theorem q2097 : (Jvm.Cond.methodLink "GridRoomModel" (438 : Nat) ({ cls := "GridRoomModel", name := "findAll", desc := "(I)V" } : Jvm.MethodName)) ∈ lw_all := lw_g (lw_at lw_m9 92 rfl) rfl
theorem q2098 : (Jvm.Cond.privateMethod ({ cls := "GridRoomModel", name := "findAll", desc := "(I)V" } : Jvm.MethodName)) ∈ lw_tbl := lw_at lw_m9 93 rfl
theorem q2099 : (Jvm.Cond.instanceMethod ({ cls := "GridRoomModel", name := "findAll", desc := "(I)V" } : Jvm.MethodName)) ∈ lw_all := lw_g (lw_at lw_m9 94 rfl) rfl
theorem q2100 : (Jvm.Cond.code ({ cls := "GridRoomModel", name := "findAll", desc := "(I)V" } : Jvm.MethodName) prog_24_method_75_code (3 : Nat) (Option.none : Option Jvm.ClassFile.FieldType)) ∈ lw_all := lw_g (lw_at lw_m9 95 rfl) rfl
theorem q2101 : (Jvm.Cond.methodLink "GridRoomModel" (432 : Nat) ({ cls := "GridRoomModel", name := "takes", desc := "(II)V" } : Jvm.MethodName)) ∈ lw_all := lw_g (lw_at lw_m9 96 rfl) rfl
theorem q2102 : (Jvm.Cond.privateMethod ({ cls := "GridRoomModel", name := "takes", desc := "(II)V" } : Jvm.MethodName)) ∈ lw_tbl := lw_at lw_m9 97 rfl
theorem q2103 : (Jvm.Cond.instanceMethod ({ cls := "GridRoomModel", name := "takes", desc := "(II)V" } : Jvm.MethodName)) ∈ lw_all := lw_g (lw_at lw_m9 98 rfl) rfl
theorem q2104 : (Jvm.Cond.code ({ cls := "GridRoomModel", name := "takes", desc := "(II)V" } : Jvm.MethodName) prog_24_method_74_code (4 : Nat) (Option.none : Option Jvm.ClassFile.FieldType)) ∈ lw_all := lw_g (lw_at lw_m9 99 rfl) rfl
theorem q2105 : (Jvm.Cond.methodLink "GridRoomModel" (429 : Nat) ({ cls := "GridRoomModel", name := "nameCounts", desc := "(II)Z" } : Jvm.MethodName)) ∈ lw_all := lw_g (lw_at lw_m9 100 rfl) rfl
theorem q2106 : (Jvm.Cond.privateMethod ({ cls := "GridRoomModel", name := "nameCounts", desc := "(II)Z" } : Jvm.MethodName)) ∈ lw_tbl := lw_at lw_m9 101 rfl
theorem q2107 : (Jvm.Cond.instanceMethod ({ cls := "GridRoomModel", name := "nameCounts", desc := "(II)Z" } : Jvm.MethodName)) ∈ lw_all := lw_g (lw_at lw_m9 102 rfl) rfl
theorem q2108 : (Jvm.Cond.code ({ cls := "GridRoomModel", name := "nameCounts", desc := "(II)Z" } : Jvm.MethodName) prog_24_method_73_code (3 : Nat) (Option.some Jvm.ClassFile.FieldType.boolean)) ∈ lw_all := lw_g (lw_at lw_m9 103 rfl) rfl
theorem q2109 : (Jvm.Cond.methodLink "GridRoomModel" (435 : Nat) ({ cls := "GridRoomModel", name := "goesThrough", desc := "(II)V" } : Jvm.MethodName)) ∈ lw_all := lw_g (lw_at lw_m9 104 rfl) rfl
theorem q2110 : (Jvm.Cond.privateMethod ({ cls := "GridRoomModel", name := "goesThrough", desc := "(II)V" } : Jvm.MethodName)) ∈ lw_tbl := lw_at lw_m9 105 rfl
theorem q2111 : (Jvm.Cond.instanceMethod ({ cls := "GridRoomModel", name := "goesThrough", desc := "(II)V" } : Jvm.MethodName)) ∈ lw_all := lw_g (lw_at lw_m9 106 rfl) rfl
theorem q2112 : (Jvm.Cond.code ({ cls := "GridRoomModel", name := "goesThrough", desc := "(II)V" } : Jvm.MethodName) prog_24_method_72_code (5 : Nat) (Option.none : Option Jvm.ClassFile.FieldType)) ∈ lw_all := lw_g (lw_at lw_m9 107 rfl) rfl
theorem q2113 : (Jvm.Cond.methodLink "GridRoomModel" (423 : Nat) ({ cls := "GridRoomModel", name := "meets", desc := "(II)Z" } : Jvm.MethodName)) ∈ lw_all := lw_g (lw_at lw_m9 108 rfl) rfl
theorem q2114 : (Jvm.Cond.privateMethod ({ cls := "GridRoomModel", name := "meets", desc := "(II)Z" } : Jvm.MethodName)) ∈ lw_tbl := lw_at lw_m9 109 rfl
theorem q2115 : (Jvm.Cond.instanceMethod ({ cls := "GridRoomModel", name := "meets", desc := "(II)Z" } : Jvm.MethodName)) ∈ lw_all := lw_g (lw_at lw_m9 110 rfl) rfl
theorem q2116 : (Jvm.Cond.code ({ cls := "GridRoomModel", name := "meets", desc := "(II)Z" } : Jvm.MethodName) prog_24_method_71_code (5 : Nat) (Option.some Jvm.ClassFile.FieldType.boolean)) ∈ lw_all := lw_g (lw_at lw_m9 111 rfl) rfl
theorem q2117 : (Jvm.Cond.methodLink "GridRoomModel" (420 : Nat) ({ cls := "GridRoomModel", name := "marksFits", desc := "(I)V" } : Jvm.MethodName)) ∈ lw_all := lw_g (lw_at lw_m9 112 rfl) rfl
theorem q2118 : (Jvm.Cond.privateMethod ({ cls := "GridRoomModel", name := "marksFits", desc := "(I)V" } : Jvm.MethodName)) ∈ lw_tbl := lw_at lw_m9 113 rfl
theorem q2119 : (Jvm.Cond.instanceMethod ({ cls := "GridRoomModel", name := "marksFits", desc := "(I)V" } : Jvm.MethodName)) ∈ lw_all := lw_g (lw_at lw_m9 114 rfl) rfl
theorem q2120 : (Jvm.Cond.code ({ cls := "GridRoomModel", name := "marksFits", desc := "(I)V" } : Jvm.MethodName) prog_24_method_88_code (6 : Nat) (Option.none : Option Jvm.ClassFile.FieldType)) ∈ lw_all := lw_g (lw_at lw_m9 115 rfl) rfl
theorem q2121 : (Jvm.Cond.methodLink "GridRoomModel" (408 : Nat) ({ cls := "GridRoomModel", name := "agrees", desc := "(III)Z" } : Jvm.MethodName)) ∈ lw_all := lw_g (lw_at lw_m9 116 rfl) rfl
theorem q2122 : (Jvm.Cond.privateMethod ({ cls := "GridRoomModel", name := "agrees", desc := "(III)Z" } : Jvm.MethodName)) ∈ lw_tbl := lw_at lw_m9 117 rfl
theorem q2123 : (Jvm.Cond.instanceMethod ({ cls := "GridRoomModel", name := "agrees", desc := "(III)Z" } : Jvm.MethodName)) ∈ lw_all := lw_g (lw_at lw_m9 118 rfl) rfl
theorem q2124 : (Jvm.Cond.code ({ cls := "GridRoomModel", name := "agrees", desc := "(III)Z" } : Jvm.MethodName) prog_24_method_68_code (10 : Nat) (Option.some Jvm.ClassFile.FieldType.boolean)) ∈ lw_all := lw_g (lw_at lw_m9 119 rfl) rfl
theorem q2125 : (Jvm.Cond.methodLink "GridRoomModel" (404 : Nat) ({ cls := "GridRoomModel", name := "agree", desc := "(IIII)Z" } : Jvm.MethodName)) ∈ lw_all := lw_g (lw_at lw_m9 120 rfl) rfl
theorem q2126 : (Jvm.Cond.privateMethod ({ cls := "GridRoomModel", name := "agree", desc := "(IIII)Z" } : Jvm.MethodName)) ∈ lw_tbl := lw_at lw_m9 121 rfl
theorem q2127 : (Jvm.Cond.instanceMethod ({ cls := "GridRoomModel", name := "agree", desc := "(IIII)Z" } : Jvm.MethodName)) ∈ lw_all := lw_g (lw_at lw_m9 122 rfl) rfl
theorem q2128 : (Jvm.Cond.code ({ cls := "GridRoomModel", name := "agree", desc := "(IIII)Z" } : Jvm.MethodName) prog_24_method_69_code (5 : Nat) (Option.some Jvm.ClassFile.FieldType.boolean)) ∈ lw_all := lw_g (lw_at lw_m9 123 rfl) rfl
theorem q2129 : (Jvm.Cond.methodLink "GridRoomModel" (426 : Nat) ({ cls := "GridRoomModel", name := "tries", desc := "(I)Z" } : Jvm.MethodName)) ∈ lw_all := lw_g (lw_at lw_m9 124 rfl) rfl
theorem q2130 : (Jvm.Cond.privateMethod ({ cls := "GridRoomModel", name := "tries", desc := "(I)Z" } : Jvm.MethodName)) ∈ lw_tbl := lw_at lw_m9 125 rfl
theorem q2131 : (Jvm.Cond.instanceMethod ({ cls := "GridRoomModel", name := "tries", desc := "(I)Z" } : Jvm.MethodName)) ∈ lw_all := lw_g (lw_at lw_m9 126 rfl) rfl
theorem q2132 : (Jvm.Cond.code ({ cls := "GridRoomModel", name := "tries", desc := "(I)Z" } : Jvm.MethodName) prog_24_method_70_code (4 : Nat) (Option.some Jvm.ClassFile.FieldType.boolean)) ∈ lw_all := lw_g (lw_at lw_m9 127 rfl) rfl
theorem q2134 : (Jvm.Cond.instanceMethod ({ cls := "GridRoomModel", name := "way", desc := "(III)I" } : Jvm.MethodName)) ∈ lw_all := lw_g (lw_at lw_m9 129 rfl) rfl
theorem q2135 : (Jvm.Cond.selects "GridRoomModel" ({ cls := "GridRoomModel", name := "way", desc := "(III)I" } : Jvm.MethodName) ({ cls := "GridRoomModel", name := "way", desc := "(III)I" } : Jvm.MethodName)) ∈ lw_all := lw_g (lw_at lw_m9 130 rfl) rfl
theorem q2136 : (Jvm.Cond.code ({ cls := "GridRoomModel", name := "way", desc := "(III)I" } : Jvm.MethodName) prog_24_method_78_code (5 : Nat) (Option.some Jvm.ClassFile.FieldType.int)) ∈ lw_all := lw_g (lw_at lw_m9 131 rfl) rfl
theorem q2137 : (Jvm.Cond.methodLink "GridRoomModel" (441 : Nat) ({ cls := "GridRoomModel", name := "findWay", desc := "(II)Z" } : Jvm.MethodName)) ∈ lw_all := lw_g (lw_at lw_m9 132 rfl) rfl
theorem q2138 : (Jvm.Cond.privateMethod ({ cls := "GridRoomModel", name := "findWay", desc := "(II)Z" } : Jvm.MethodName)) ∈ lw_tbl := lw_at lw_m9 133 rfl
theorem q2139 : (Jvm.Cond.instanceMethod ({ cls := "GridRoomModel", name := "findWay", desc := "(II)Z" } : Jvm.MethodName)) ∈ lw_all := lw_g (lw_at lw_m9 134 rfl) rfl
theorem q2140 : (Jvm.Cond.code ({ cls := "GridRoomModel", name := "findWay", desc := "(II)Z" } : Jvm.MethodName) prog_24_method_77_code (3 : Nat) (Option.some Jvm.ClassFile.FieldType.boolean)) ∈ lw_all := lw_g (lw_at lw_m9 135 rfl) rfl
theorem q2142 : (Jvm.Cond.instanceMethod ({ cls := "GridRoomModel", name := "given", desc := "(III)I" } : Jvm.MethodName)) ∈ lw_all := lw_g (lw_at lw_m9 137 rfl) rfl
theorem q2143 : (Jvm.Cond.selects "GridRoomModel" ({ cls := "GridRoomModel", name := "given", desc := "(III)I" } : Jvm.MethodName) ({ cls := "GridRoomModel", name := "given", desc := "(III)I" } : Jvm.MethodName)) ∈ lw_all := lw_g (lw_at lw_m9 138 rfl) rfl
theorem q2144 : (Jvm.Cond.code ({ cls := "GridRoomModel", name := "given", desc := "(III)I" } : Jvm.MethodName) prog_24_method_79_code (4 : Nat) (Option.some Jvm.ClassFile.FieldType.int)) ∈ lw_all := lw_g (lw_at lw_m9 139 rfl) rfl
theorem q2146 : (Jvm.Cond.instanceMethod ({ cls := "GridRoomModel", name := "forced", desc := "(II)I" } : Jvm.MethodName)) ∈ lw_all := lw_g (lw_at lw_m9 141 rfl) rfl
theorem q2147 : (Jvm.Cond.selects "GridRoomModel" ({ cls := "GridRoomModel", name := "forced", desc := "(II)I" } : Jvm.MethodName) ({ cls := "GridRoomModel", name := "forced", desc := "(II)I" } : Jvm.MethodName)) ∈ lw_all := lw_g (lw_at lw_m9 142 rfl) rfl
theorem q2148 : (Jvm.Cond.code ({ cls := "GridRoomModel", name := "forced", desc := "(II)I" } : Jvm.MethodName) prog_24_method_81_code (3 : Nat) (Option.some Jvm.ClassFile.FieldType.int)) ∈ lw_all := lw_g (lw_at lw_m9 143 rfl) rfl
theorem q2149 : (Jvm.Cond.methodLink "GridRoomModel" (444 : Nat) ({ cls := "GridRoomModel", name := "forcedOf", desc := "(I)I" } : Jvm.MethodName)) ∈ lw_all := lw_g (lw_at lw_m9 144 rfl) rfl
theorem q2150 : (Jvm.Cond.privateMethod ({ cls := "GridRoomModel", name := "forcedOf", desc := "(I)I" } : Jvm.MethodName)) ∈ lw_tbl := lw_at lw_m9 145 rfl
theorem q2151 : (Jvm.Cond.instanceMethod ({ cls := "GridRoomModel", name := "forcedOf", desc := "(I)I" } : Jvm.MethodName)) ∈ lw_all := lw_g (lw_at lw_m9 146 rfl) rfl
theorem q2152 : (Jvm.Cond.code ({ cls := "GridRoomModel", name := "forcedOf", desc := "(I)I" } : Jvm.MethodName) prog_24_method_80_code (4 : Nat) (Option.some Jvm.ClassFile.FieldType.int)) ∈ lw_all := lw_g (lw_at lw_m9 147 rfl) rfl
theorem q2154 : (Jvm.Cond.instanceMethod ({ cls := "GridRoomModel", name := "reads", desc := "(III)I" } : Jvm.MethodName)) ∈ lw_all := lw_g (lw_at lw_m9 149 rfl) rfl
theorem q2155 : (Jvm.Cond.selects "GridRoomModel" ({ cls := "GridRoomModel", name := "reads", desc := "(III)I" } : Jvm.MethodName) ({ cls := "GridRoomModel", name := "reads", desc := "(III)I" } : Jvm.MethodName)) ∈ lw_all := lw_g (lw_at lw_m9 150 rfl) rfl
theorem q2156 : (Jvm.Cond.code ({ cls := "GridRoomModel", name := "reads", desc := "(III)I" } : Jvm.MethodName) prog_24_method_83_code (8 : Nat) (Option.some Jvm.ClassFile.FieldType.int)) ∈ lw_all := lw_g (lw_at lw_m9 151 rfl) rfl
theorem q2157 : (Jvm.Cond.methodLink "GridRoomModel" (450 : Nat) ({ cls := "GridRoomModel", name := "vowelLetter", desc := "(I)I" } : Jvm.MethodName)) ∈ lw_all := lw_g (lw_at lw_m9 152 rfl) rfl
theorem q2158 : (Jvm.Cond.static ({ cls := "GridRoomModel", name := "vowelLetter", desc := "(I)I" } : Jvm.MethodName)) ∈ lw_all := lw_g (lw_at lw_m9 153 rfl) rfl
theorem q2159 : (Jvm.Cond.code ({ cls := "GridRoomModel", name := "vowelLetter", desc := "(I)I" } : Jvm.MethodName) prog_24_method_82_code (1 : Nat) (Option.some Jvm.ClassFile.FieldType.int)) ∈ lw_all := lw_g (lw_at lw_m9 154 rfl) rfl
theorem q2161 : (Jvm.Cond.instanceMethod ({ cls := "GridRoomModel", name := "letter", desc := "(I)I" } : Jvm.MethodName)) ∈ lw_all := lw_g (lw_at lw_m9 156 rfl) rfl
theorem q2162 : (Jvm.Cond.selects "GridRoomModel" ({ cls := "GridRoomModel", name := "letter", desc := "(I)I" } : Jvm.MethodName) ({ cls := "GridRoomModel", name := "letter", desc := "(I)I" } : Jvm.MethodName)) ∈ lw_all := lw_g (lw_at lw_m9 157 rfl) rfl
theorem q2163 : (Jvm.Cond.code ({ cls := "GridRoomModel", name := "letter", desc := "(I)I" } : Jvm.MethodName) prog_24_method_84_code (2 : Nat) (Option.some Jvm.ClassFile.FieldType.int)) ∈ lw_all := lw_g (lw_at lw_m9 158 rfl) rfl
theorem q2165 : (Jvm.Cond.instanceMethod ({ cls := "GridRoomModel", name := "settles", desc := "(II)I" } : Jvm.MethodName)) ∈ lw_all := lw_g (lw_at lw_m9 160 rfl) rfl
theorem q2166 : (Jvm.Cond.selects "GridRoomModel" ({ cls := "GridRoomModel", name := "settles", desc := "(II)I" } : Jvm.MethodName) ({ cls := "GridRoomModel", name := "settles", desc := "(II)I" } : Jvm.MethodName)) ∈ lw_all := lw_g (lw_at lw_m9 161 rfl) rfl
theorem q2167 : (Jvm.Cond.code ({ cls := "GridRoomModel", name := "settles", desc := "(II)I" } : Jvm.MethodName) prog_24_method_85_code (8 : Nat) (Option.some Jvm.ClassFile.FieldType.int)) ∈ lw_all := lw_g (lw_at lw_m9 162 rfl) rfl
theorem q2169 : (Jvm.Cond.instanceMethod ({ cls := "GridRoomModel", name := "would", desc := "(II)I" } : Jvm.MethodName)) ∈ lw_all := lw_g (lw_at lw_m9 164 rfl) rfl
theorem q2170 : (Jvm.Cond.selects "GridRoomModel" ({ cls := "GridRoomModel", name := "would", desc := "(II)I" } : Jvm.MethodName) ({ cls := "GridRoomModel", name := "would", desc := "(II)I" } : Jvm.MethodName)) ∈ lw_all := lw_g (lw_at lw_m9 165 rfl) rfl
theorem q2171 : (Jvm.Cond.code ({ cls := "GridRoomModel", name := "would", desc := "(II)I" } : Jvm.MethodName) prog_24_method_87_code (3 : Nat) (Option.some Jvm.ClassFile.FieldType.int)) ∈ lw_all := lw_g (lw_at lw_m9 166 rfl) rfl
theorem q2172 : (Jvm.Cond.methodLink "GridRoomModel" (453 : Nat) ({ cls := "GridRoomModel", name := "waysWith", desc := "(II)I" } : Jvm.MethodName)) ∈ lw_all := lw_g (lw_at lw_m9 167 rfl) rfl
theorem q2173 : (Jvm.Cond.privateMethod ({ cls := "GridRoomModel", name := "waysWith", desc := "(II)I" } : Jvm.MethodName)) ∈ lw_tbl := lw_at lw_m9 168 rfl
theorem q2174 : (Jvm.Cond.instanceMethod ({ cls := "GridRoomModel", name := "waysWith", desc := "(II)I" } : Jvm.MethodName)) ∈ lw_all := lw_g (lw_at lw_m9 169 rfl) rfl
theorem q2175 : (Jvm.Cond.code ({ cls := "GridRoomModel", name := "waysWith", desc := "(II)I" } : Jvm.MethodName) prog_24_method_86_code (3 : Nat) (Option.some Jvm.ClassFile.FieldType.int)) ∈ lw_all := lw_g (lw_at lw_m9 170 rfl) rfl
theorem q2177 : (Jvm.Cond.instanceMethod ({ cls := "GridRoomModel", name := "fits", desc := "(I)I" } : Jvm.MethodName)) ∈ lw_all := lw_g (lw_at lw_m9 172 rfl) rfl
theorem q2178 : (Jvm.Cond.selects "GridRoomModel" ({ cls := "GridRoomModel", name := "fits", desc := "(I)I" } : Jvm.MethodName) ({ cls := "GridRoomModel", name := "fits", desc := "(I)I" } : Jvm.MethodName)) ∈ lw_all := lw_g (lw_at lw_m9 173 rfl) rfl
theorem q2179 : (Jvm.Cond.code ({ cls := "GridRoomModel", name := "fits", desc := "(I)I" } : Jvm.MethodName) prog_24_method_89_code (4 : Nat) (Option.some Jvm.ClassFile.FieldType.int)) ∈ lw_all := lw_g (lw_at lw_m9 174 rfl) rfl
theorem q2181 : (Jvm.Cond.instanceMethod ({ cls := "GridRoomModel", name := "doubt", desc := "(II)I" } : Jvm.MethodName)) ∈ lw_all := lw_g (lw_at lw_m9 176 rfl) rfl
theorem q2182 : (Jvm.Cond.selects "GridRoomModel" ({ cls := "GridRoomModel", name := "doubt", desc := "(II)I" } : Jvm.MethodName) ({ cls := "GridRoomModel", name := "doubt", desc := "(II)I" } : Jvm.MethodName)) ∈ lw_all := lw_g (lw_at lw_m9 177 rfl) rfl
theorem q2183 : (Jvm.Cond.code ({ cls := "GridRoomModel", name := "doubt", desc := "(II)I" } : Jvm.MethodName) prog_24_method_91_code (6 : Nat) (Option.some Jvm.ClassFile.FieldType.int)) ∈ lw_all := lw_g (lw_at lw_m9 178 rfl) rfl
theorem q2184 : (Jvm.Cond.methodLink "GridRoomModel" (456 : Nat) ({ cls := "GridRoomModel", name := "bits", desc := "(I)I" } : Jvm.MethodName)) ∈ lw_all := lw_g (lw_at lw_m9 179 rfl) rfl
theorem q2185 : (Jvm.Cond.static ({ cls := "GridRoomModel", name := "bits", desc := "(I)I" } : Jvm.MethodName)) ∈ lw_all := lw_g (lw_at lw_m9 180 rfl) rfl
theorem q2186 : (Jvm.Cond.code ({ cls := "GridRoomModel", name := "bits", desc := "(I)I" } : Jvm.MethodName) prog_24_method_90_code (3 : Nat) (Option.some Jvm.ClassFile.FieldType.int)) ∈ lw_all := lw_g (lw_at lw_m9 181 rfl) rfl
theorem q2188 : (Jvm.Cond.instanceMethod ({ cls := "GridRoomModel", name := "could", desc := "(IIII)I" } : Jvm.MethodName)) ∈ lw_all := lw_g (lw_at lw_m9 183 rfl) rfl
theorem q2189 : (Jvm.Cond.selects "GridRoomModel" ({ cls := "GridRoomModel", name := "could", desc := "(IIII)I" } : Jvm.MethodName) ({ cls := "GridRoomModel", name := "could", desc := "(IIII)I" } : Jvm.MethodName)) ∈ lw_all := lw_g (lw_at lw_m9 184 rfl) rfl
theorem q2190 : (Jvm.Cond.code ({ cls := "GridRoomModel", name := "could", desc := "(IIII)I" } : Jvm.MethodName) prog_24_method_92_code (8 : Nat) (Option.some Jvm.ClassFile.FieldType.int)) ∈ lw_all := lw_g (lw_at lw_m9 185 rfl) rfl
theorem q2192 : (Jvm.Cond.instanceMethod ({ cls := "GridRoomModel", name := "inGrid", desc := "(II)I" } : Jvm.MethodName)) ∈ lw_all := lw_g (lw_at lw_m9 187 rfl) rfl
theorem q2193 : (Jvm.Cond.selects "GridRoomModel" ({ cls := "GridRoomModel", name := "inGrid", desc := "(II)I" } : Jvm.MethodName) ({ cls := "GridRoomModel", name := "inGrid", desc := "(II)I" } : Jvm.MethodName)) ∈ lw_all := lw_g (lw_at lw_m9 188 rfl) rfl
theorem q2194 : (Jvm.Cond.code ({ cls := "GridRoomModel", name := "inGrid", desc := "(II)I" } : Jvm.MethodName) prog_24_method_93_code (4 : Nat) (Option.some Jvm.ClassFile.FieldType.int)) ∈ lw_all := lw_g (lw_at lw_m9 189 rfl) rfl
theorem q2196 : (Jvm.Cond.instanceMethod ({ cls := "GridRoomModel", name := "where", desc := "(I)I" } : Jvm.MethodName)) ∈ lw_all := lw_g (lw_at lw_m9 191 rfl) rfl
theorem q2197 : (Jvm.Cond.selects "GridRoomModel" ({ cls := "GridRoomModel", name := "where", desc := "(I)I" } : Jvm.MethodName) ({ cls := "GridRoomModel", name := "where", desc := "(I)I" } : Jvm.MethodName)) ∈ lw_all := lw_g (lw_at lw_m9 192 rfl) rfl
theorem q2198 : (Jvm.Cond.code ({ cls := "GridRoomModel", name := "where", desc := "(I)I" } : Jvm.MethodName) prog_24_method_94_code (6 : Nat) (Option.some Jvm.ClassFile.FieldType.int)) ∈ lw_all := lw_g (lw_at lw_m9 193 rfl) rfl
theorem q2200 : (Jvm.Cond.instanceMethod ({ cls := "GridRoomModel", name := "often", desc := "(III)I" } : Jvm.MethodName)) ∈ lw_all := lw_g (lw_at lw_m9 195 rfl) rfl
theorem q2201 : (Jvm.Cond.selects "GridRoomModel" ({ cls := "GridRoomModel", name := "often", desc := "(III)I" } : Jvm.MethodName) ({ cls := "GridRoomModel", name := "often", desc := "(III)I" } : Jvm.MethodName)) ∈ lw_all := lw_g (lw_at lw_m9 196 rfl) rfl
theorem q2202 : (Jvm.Cond.code ({ cls := "GridRoomModel", name := "often", desc := "(III)I" } : Jvm.MethodName) prog_24_method_96_code (4 : Nat) (Option.some Jvm.ClassFile.FieldType.int)) ∈ lw_all := lw_g (lw_at lw_m9 197 rfl) rfl
theorem q2203 : (Jvm.Cond.methodLink "GridRoomModel" (459 : Nat) ({ cls := "GridRoomModel", name := "oftenOf", desc := "(III)I" } : Jvm.MethodName)) ∈ lw_all := lw_g (lw_at lw_m9 198 rfl) rfl
theorem q2204 : (Jvm.Cond.privateMethod ({ cls := "GridRoomModel", name := "oftenOf", desc := "(III)I" } : Jvm.MethodName)) ∈ lw_tbl := lw_at lw_m9 199 rfl
theorem q2205 : (Jvm.Cond.instanceMethod ({ cls := "GridRoomModel", name := "oftenOf", desc := "(III)I" } : Jvm.MethodName)) ∈ lw_all := lw_g (lw_at lw_m9 200 rfl) rfl
theorem q2206 : (Jvm.Cond.code ({ cls := "GridRoomModel", name := "oftenOf", desc := "(III)I" } : Jvm.MethodName) prog_24_method_95_code (9 : Nat) (Option.some Jvm.ClassFile.FieldType.int)) ∈ lw_all := lw_g (lw_at lw_m9 201 rfl) rfl
theorem q2208 : (Jvm.Cond.instanceMethod ({ cls := "GridRoomModel", name := "rank", desc := "(II)I" } : Jvm.MethodName)) ∈ lw_all := lw_g (lw_at lw_m9 203 rfl) rfl
theorem q2209 : (Jvm.Cond.selects "GridRoomModel" ({ cls := "GridRoomModel", name := "rank", desc := "(II)I" } : Jvm.MethodName) ({ cls := "GridRoomModel", name := "rank", desc := "(II)I" } : Jvm.MethodName)) ∈ lw_all := lw_g (lw_at lw_m9 204 rfl) rfl
theorem q2210 : (Jvm.Cond.code ({ cls := "GridRoomModel", name := "rank", desc := "(II)I" } : Jvm.MethodName) prog_24_method_97_code (9 : Nat) (Option.some Jvm.ClassFile.FieldType.int)) ∈ lw_all := lw_g (lw_at lw_m9 205 rfl) rfl
theorem q2212 : (Jvm.Cond.instanceMethod ({ cls := "GridRoomModel", name := "count", desc := "(I)I" } : Jvm.MethodName)) ∈ lw_all := lw_g (lw_at lw_m9 207 rfl) rfl
theorem q2213 : (Jvm.Cond.selects "GridRoomModel" ({ cls := "GridRoomModel", name := "count", desc := "(I)I" } : Jvm.MethodName) ({ cls := "GridRoomModel", name := "count", desc := "(I)I" } : Jvm.MethodName)) ∈ lw_all := lw_g (lw_at lw_m9 208 rfl) rfl
theorem q2214 : (Jvm.Cond.code ({ cls := "GridRoomModel", name := "count", desc := "(I)I" } : Jvm.MethodName) prog_24_method_98_code (4 : Nat) (Option.some Jvm.ClassFile.FieldType.int)) ∈ lw_all := lw_g (lw_at lw_m9 209 rfl) rfl
theorem q2250 : (Jvm.Cond.castable "GridRoomModel" "java/lang/Object") ∈ lw_tbl := lw_at lw_m10 5 rfl
theorem in_X5 : ∀ w ∈ wsX50, w ∈ lw_all := lw_in wsX50 [1673, 1675, 1677, 1679, 1681, 1683, 1685, 1687, 1689, 1691, 1693, 1695, 1697, 1699, 1701, 1703, 1705, 1707, 1709, 1711, 1713, 1715, 1717, 1719, 1721, 1723, 1725, 1727, 1729, 1731, 1733, 1735, 1737, 1739, 1741, 1743, 1745, 1747, 1749, 1751, 1753, 1755, 1757, 1759, 1761, 1763, 1765, 1767, 1769, 1771, 1773, 1775, 1777, 1779, 1781, 1783, 1785, 1787, 1789, 1791, 1793, 1795, 1797, 1799, 1801, 1803, 1805, 1807, 1809, 1811, 1813, 1815, 1817, 1819, 1821, 1823] (by decide +kernel) (by decide +kernel)
def RX6 : String := "GridRoom$Told"
abbrev cX6_init : ByteArray := prog_18_method_1_code
def yX6_init : MethodName := ⟨RX6, "<init>", "(I)V"⟩
abbrev cX6_goes : ByteArray := prog_18_method_3_code
def yX6_goes : MethodName := ⟨RX6, "goes", "(I)Z"⟩
abbrev cX6_counts : ByteArray := prog_18_method_2_code
def yX6_counts : MethodName := ⟨RX6, "counts", "(I)Z"⟩
theorem q94 : (Jvm.Cond.initialized "GridRoom$Told") ∈ lw_all := lw_g (lw_at lw_m1 9 rfl) rfl
theorem q677 : (Jvm.Cond.instanceMethod ({ cls := "GridRoom$Told", name := "<init>", desc := "(I)V" } : Jvm.MethodName)) ∈ lw_all := lw_g (lw_at lw_m3 112 rfl) rfl
theorem q678 : (Jvm.Cond.code ({ cls := "GridRoom$Told", name := "<init>", desc := "(I)V" } : Jvm.MethodName) prog_18_method_1_code (2 : Nat) (Option.none : Option Jvm.ClassFile.FieldType)) ∈ lw_all := lw_g (lw_at lw_m3 113 rfl) rfl
theorem q679 : (Jvm.Cond.methodLink "GridRoom$Told" (3 : Nat) ({ cls := "java/lang/Object", name := "<init>", desc := "()V" } : Jvm.MethodName)) ∈ lw_all := lw_g (lw_at lw_m3 114 rfl) rfl
theorem q680 : (Jvm.Cond.constant "GridRoom$Told" (9 : Nat) (100001 : Int32)) ∈ lw_all := lw_g (lw_at lw_m3 115 rfl) rfl
theorem q686 : (Jvm.Cond.fieldLink "GridRoom$Told" (16 : Nat) "GridRoom$Told" "came" "I") ∈ lw_all := lw_g (lw_at lw_m3 121 rfl) rfl
theorem q687 : (Jvm.Cond.fieldLink "GridRoom$Told" (10 : Nat) "GridRoom$Told" "gone" "I") ∈ lw_all := lw_g (lw_at lw_m3 122 rfl) rfl
theorem q691 : (Jvm.Cond.soleField "GridRoom$Told" "came") ∈ lw_all := lw_g (lw_at lw_m3 126 rfl) rfl
theorem q693 : (Jvm.Cond.soleField "GridRoom$Told" "gone") ∈ lw_all := lw_g (lw_at lw_m3 128 rfl) rfl
theorem q966 : (Jvm.Cond.instanceMethod ({ cls := "GridRoom$Told", name := "goes", desc := "(I)Z" } : Jvm.MethodName)) ∈ lw_all := lw_g (lw_at lw_m4 161 rfl) rfl
theorem q967 : (Jvm.Cond.sameMethod "GridRoom$Told" "GridRoom$Told" "goes" "(I)Z") ∈ lw_all := lw_g (lw_at lw_m4 162 rfl) rfl
theorem q971 : (Jvm.Cond.code ({ cls := "GridRoom$Told", name := "goes", desc := "(I)Z" } : Jvm.MethodName) prog_18_method_3_code (2 : Nat) (Option.some Jvm.ClassFile.FieldType.boolean)) ∈ lw_all := lw_g (lw_at lw_m4 166 rfl) rfl
theorem q972 : (Jvm.Cond.constant "GridRoom$Told" (19 : Nat) (100000 : Int32)) ∈ lw_all := lw_g (lw_at lw_m4 167 rfl) rfl
theorem q1047 : (Jvm.Cond.declares ({ cls := "GridRoom$Told", name := "counts", desc := "(I)Z" } : Jvm.MethodName)) ∈ lw_tbl := lw_at lw_m5 2 rfl
theorem q1049 : (Jvm.Cond.instanceMethod ({ cls := "GridRoom$Told", name := "counts", desc := "(I)Z" } : Jvm.MethodName)) ∈ lw_all := lw_g (lw_at lw_m5 4 rfl) rfl
theorem q1050 : (Jvm.Cond.code ({ cls := "GridRoom$Told", name := "counts", desc := "(I)Z" } : Jvm.MethodName) prog_18_method_2_code (2 : Nat) (Option.some Jvm.ClassFile.FieldType.boolean)) ∈ lw_all := lw_g (lw_at lw_m5 5 rfl) rfl
def RX7 : String := "GridRoom$Tablet"
def TX7 : u_T := fun k => match k with
  | 0 => ("GridRoom$Told", "came", "I", true)
  | 1 => ("GridRoom$Told", "gone", "I", false)
  | _ => ("GridRoom$Tablet", "word", "[[I", true)
def tyX7 : Nat → FieldType := fun k => match k with
  | 0 => .int
  | 1 => .int
  | _ => .array (.array .int)
abbrev wsX70 : List Cond := u_ws RX7 TX7 3
theorem nmX7 : ∀ a, a < 3 → ∀ b, b < 3 → a ≠ b → (TX7 a).2.1 ≠ (TX7 b).2.1 := by decide +kernel
theorem tyX7_ok : ∀ k, k < 3 → parseFieldDescriptor (TX7 k).2.2.1 = some (tyX7 k) := by decide +kernel
abbrev cX7_init : ByteArray := prog_15_method_1_code
def yX7_init : MethodName := ⟨RX7, "<init>", "(I[[I)V"⟩
theorem q95 : (Jvm.Cond.initialized "GridRoom$Tablet") ∈ lw_all := lw_g (lw_at lw_m1 10 rfl) rfl
theorem q451 : (Jvm.Cond.instantiable "GridRoom$Tablet" (3 : Nat)) ∈ lw_all := lw_g (lw_at lw_m2 126 rfl) rfl
theorem q674 : (Jvm.Cond.instanceMethod ({ cls := "GridRoom$Tablet", name := "<init>", desc := "(I[[I)V" } : Jvm.MethodName)) ∈ lw_all := lw_g (lw_at lw_m3 109 rfl) rfl
theorem q675 : (Jvm.Cond.code ({ cls := "GridRoom$Tablet", name := "<init>", desc := "(I[[I)V" } : Jvm.MethodName) prog_15_method_1_code (3 : Nat) (Option.none : Option Jvm.ClassFile.FieldType)) ∈ lw_all := lw_g (lw_at lw_m3 110 rfl) rfl
theorem q676 : (Jvm.Cond.methodLink "GridRoom$Tablet" (1 : Nat) ({ cls := "GridRoom$Told", name := "<init>", desc := "(I)V" } : Jvm.MethodName)) ∈ lw_all := lw_g (lw_at lw_m3 111 rfl) rfl
theorem q681 : (Jvm.Cond.fieldLink "GridRoom$Tablet" (7 : Nat) "GridRoom$Tablet" "word" "[[I") ∈ lw_all := lw_g (lw_at lw_m3 116 rfl) rfl
theorem q688 : (Jvm.Cond.laysFinal "GridRoom$Tablet" "GridRoom$Tablet" "word" "[[I") ∈ lw_all := lw_g (lw_at lw_m3 123 rfl) rfl
theorem q689 : (Jvm.Cond.soleField "GridRoom$Tablet" "word") ∈ lw_all := lw_g (lw_at lw_m3 124 rfl) rfl
theorem q690 : (Jvm.Cond.laysFinal "GridRoom$Tablet" "GridRoom$Told" "came" "I") ∈ lw_all := lw_g (lw_at lw_m3 125 rfl) rfl
theorem q692 : (Jvm.Cond.lays "GridRoom$Tablet" "GridRoom$Told" "gone" "I") ∈ lw_all := lw_g (lw_at lw_m3 127 rfl) rfl
theorem q694 : (Jvm.Cond.superclass "GridRoom$Tablet" "GridRoom$Told") ∈ lw_all := lw_g (lw_at lw_m3 129 rfl) rfl
theorem q741 : (Jvm.Cond.selects "GridRoom$Tablet" ({ cls := "java/lang/Object", name := "getClass", desc := "()Ljava/lang/Class;" } : Jvm.MethodName) ({ cls := "java/lang/Object", name := "getClass", desc := "()Ljava/lang/Class;" } : Jvm.MethodName)) ∈ lw_all := lw_g (lw_at lw_m3 176 rfl) rfl
theorem q970 : (Jvm.Cond.selects "GridRoom$Tablet" ({ cls := "GridRoom$Told", name := "goes", desc := "(I)Z" } : Jvm.MethodName) ({ cls := "GridRoom$Told", name := "goes", desc := "(I)Z" } : Jvm.MethodName)) ∈ lw_all := lw_g (lw_at lw_m4 165 rfl) rfl
theorem q1046 : (Jvm.Cond.sameMethod "GridRoom$Tablet" "GridRoom$Told" "counts" "(I)Z") ∈ lw_all := lw_g (lw_at lw_m5 1 rfl) rfl
theorem q1048 : (Jvm.Cond.selects "GridRoom$Tablet" ({ cls := "GridRoom$Tablet", name := "counts", desc := "(I)Z" } : Jvm.MethodName) ({ cls := "GridRoom$Told", name := "counts", desc := "(I)Z" } : Jvm.MethodName)) ∈ lw_all := lw_g (lw_at lw_m5 3 rfl) rfl
theorem q2241 : (Jvm.Cond.castable "GridRoom$Tablet" "GridRoom$Told") ∈ lw_tbl := lw_at lw_m9 236 rfl
theorem q2251 : (Jvm.Cond.castable "GridRoom$Tablet" "java/lang/Object") ∈ lw_tbl := lw_at lw_m10 6 rfl
theorem in_X7 : ∀ w ∈ wsX70, w ∈ lw_all := lw_in wsX70 [690, 692, 688] (by decide +kernel) (by decide +kernel)
def RX8 : String := "GridRoom$Reader"
abbrev cX8_init : ByteArray := prog_8_method_1_code
def yX8_init : MethodName := ⟨RX8, "<init>", "([BI)V"⟩
abbrev cX8_cut : ByteArray := prog_8_method_3_code
def yX8_cut : MethodName := ⟨RX8, "cut", "()V"⟩
abbrev cX8_byteAt : ByteArray := prog_8_method_2_code
def yX8_byteAt : MethodName := ⟨RX8, "byteAt", "(I)I"⟩
abbrev cX8_isNumber : ByteArray := prog_8_method_5_code
def yX8_isNumber : MethodName := ⟨RX8, "isNumber", "()Z"⟩
abbrev cX8_is : ByteArray := prog_8_method_6_code
def yX8_is : MethodName := ⟨RX8, "is", "(Ljava/lang/String;)Z"⟩
abbrev cX8_need : ByteArray := prog_8_method_8_code
def yX8_need : MethodName := ⟨RX8, "need", "(ZI)V"⟩
abbrev cX8_may : ByteArray := prog_8_method_7_code
def yX8_may : MethodName := ⟨RX8, "may", "(Ljava/lang/String;)Z"⟩
abbrev cX8_number : ByteArray := prog_8_method_10_code
def yX8_number : MethodName := ⟨RX8, "number", "(II)I"⟩
abbrev cX8_takes : ByteArray := prog_8_method_9_code
def yX8_takes : MethodName := ⟨RX8, "takes", "(Ljava/lang/String;)V"⟩
abbrev cX8_isEnd : ByteArray := prog_8_method_4_code
def yX8_isEnd : MethodName := ⟨RX8, "isEnd", "()Z"⟩
abbrev cX8_letter : ByteArray := prog_8_method_11_code
def yX8_letter : MethodName := ⟨RX8, "letter", "()I"⟩
theorem q96 : (Jvm.Cond.initialized "GridRoom$Reader") ∈ lw_all := lw_g (lw_at lw_m1 11 rfl) rfl
theorem q462 : (Jvm.Cond.instanceMethod ({ cls := "GridRoom$Reader", name := "<init>", desc := "([BI)V" } : Jvm.MethodName)) ∈ lw_all := lw_g (lw_at lw_m2 137 rfl) rfl
theorem q463 : (Jvm.Cond.code ({ cls := "GridRoom$Reader", name := "<init>", desc := "([BI)V" } : Jvm.MethodName) prog_8_method_1_code (3 : Nat) (Option.none : Option Jvm.ClassFile.FieldType)) ∈ lw_all := lw_g (lw_at lw_m2 138 rfl) rfl
theorem q464 : (Jvm.Cond.methodLink "GridRoom$Reader" (1 : Nat) ({ cls := "java/lang/Object", name := "<init>", desc := "()V" } : Jvm.MethodName)) ∈ lw_all := lw_g (lw_at lw_m2 139 rfl) rfl
theorem q465 : (Jvm.Cond.methodLink "GridRoom$Reader" (17 : Nat) ({ cls := "GridRoom$Reader", name := "cut", desc := "()V" } : Jvm.MethodName)) ∈ lw_all := lw_g (lw_at lw_m2 140 rfl) rfl
theorem q466 : (Jvm.Cond.instanceMethod ({ cls := "GridRoom$Reader", name := "cut", desc := "()V" } : Jvm.MethodName)) ∈ lw_all := lw_g (lw_at lw_m2 141 rfl) rfl
theorem q467 : (Jvm.Cond.sameMethod "GridRoom$Reader" "GridRoom$Reader" "cut" "()V") ∈ lw_all := lw_g (lw_at lw_m2 142 rfl) rfl
theorem q470 : (Jvm.Cond.code ({ cls := "GridRoom$Reader", name := "cut", desc := "()V" } : Jvm.MethodName) prog_8_method_3_code (1 : Nat) (Option.none : Option Jvm.ClassFile.FieldType)) ∈ lw_all := lw_g (lw_at lw_m2 145 rfl) rfl
theorem q471 : (Jvm.Cond.methodLink "GridRoom$Reader" (29 : Nat) ({ cls := "GridRoom$Reader", name := "byteAt", desc := "(I)I" } : Jvm.MethodName)) ∈ lw_all := lw_g (lw_at lw_m2 146 rfl) rfl
theorem q472 : (Jvm.Cond.privateMethod ({ cls := "GridRoom$Reader", name := "byteAt", desc := "(I)I" } : Jvm.MethodName)) ∈ lw_tbl := lw_at lw_m2 147 rfl
theorem q473 : (Jvm.Cond.instanceMethod ({ cls := "GridRoom$Reader", name := "byteAt", desc := "(I)I" } : Jvm.MethodName)) ∈ lw_all := lw_g (lw_at lw_m2 148 rfl) rfl
theorem q474 : (Jvm.Cond.instantiable "GridRoom$Reader" (7 : Nat)) ∈ lw_all := lw_g (lw_at lw_m2 149 rfl) rfl
theorem q475 : (Jvm.Cond.code ({ cls := "GridRoom$Reader", name := "byteAt", desc := "(I)I" } : Jvm.MethodName) prog_8_method_2_code (2 : Nat) (Option.some Jvm.ClassFile.FieldType.int)) ∈ lw_all := lw_g (lw_at lw_m2 150 rfl) rfl
theorem q476 : (Jvm.Cond.methodLinkNest "GridRoom$Reader" (33 : Nat) ({ cls := "GridRoom", name := "in", desc := "(III)Z" } : Jvm.MethodName) "GridRoom") ∈ lw_tbl := lw_at lw_m2 151 rfl
theorem q477 : (Jvm.Cond.fieldLink "GridRoom$Reader" (7 : Nat) "GridRoom$Reader" "text" "[B") ∈ lw_all := lw_g (lw_at lw_m2 152 rfl) rfl
theorem q478 : (Jvm.Cond.fieldLink "GridRoom$Reader" (13 : Nat) "GridRoom$Reader" "end" "I") ∈ lw_all := lw_g (lw_at lw_m2 153 rfl) rfl
theorem q479 : (Jvm.Cond.fieldLink "GridRoom$Reader" (20 : Nat) "GridRoom$Reader" "at" "I") ∈ lw_all := lw_g (lw_at lw_m2 154 rfl) rfl
theorem q480 : (Jvm.Cond.fieldLink "GridRoom$Reader" (23 : Nat) "GridRoom$Reader" "size" "I") ∈ lw_all := lw_g (lw_at lw_m2 155 rfl) rfl
theorem q481 : (Jvm.Cond.fieldLink "GridRoom$Reader" (26 : Nat) "GridRoom$Reader" "value" "I") ∈ lw_all := lw_g (lw_at lw_m2 156 rfl) rfl
theorem q482 : (Jvm.Cond.fieldLink "GridRoom$Reader" (39 : Nat) "GridRoom$Reader" "isWord" "Z") ∈ lw_all := lw_g (lw_at lw_m2 157 rfl) rfl
theorem q483 : (Jvm.Cond.fieldLink "GridRoom$Reader" (43 : Nat) "GridRoom$Reader" "isNumber" "Z") ∈ lw_all := lw_g (lw_at lw_m2 158 rfl) rfl
theorem q485 : (Jvm.Cond.soleField "GridRoom$Reader" "text") ∈ lw_all := lw_g (lw_at lw_m2 160 rfl) rfl
theorem q487 : (Jvm.Cond.soleField "GridRoom$Reader" "end") ∈ lw_all := lw_g (lw_at lw_m2 162 rfl) rfl
theorem q489 : (Jvm.Cond.soleField "GridRoom$Reader" "at") ∈ lw_all := lw_g (lw_at lw_m2 164 rfl) rfl
theorem q491 : (Jvm.Cond.soleField "GridRoom$Reader" "size") ∈ lw_all := lw_g (lw_at lw_m2 166 rfl) rfl
theorem q493 : (Jvm.Cond.soleField "GridRoom$Reader" "value") ∈ lw_all := lw_g (lw_at lw_m2 168 rfl) rfl
theorem q495 : (Jvm.Cond.soleField "GridRoom$Reader" "isWord") ∈ lw_all := lw_g (lw_at lw_m2 170 rfl) rfl
theorem q497 : (Jvm.Cond.soleField "GridRoom$Reader" "isNumber") ∈ lw_all := lw_g (lw_at lw_m2 172 rfl) rfl
theorem q506 : (Jvm.Cond.declares ({ cls := "GridRoom$Reader", name := "isNumber", desc := "()Z" } : Jvm.MethodName)) ∈ lw_tbl := lw_at lw_m2 181 rfl
theorem q508 : (Jvm.Cond.instanceMethod ({ cls := "GridRoom$Reader", name := "isNumber", desc := "()Z" } : Jvm.MethodName)) ∈ lw_all := lw_g (lw_at lw_m2 183 rfl) rfl
theorem q509 : (Jvm.Cond.code ({ cls := "GridRoom$Reader", name := "isNumber", desc := "()Z" } : Jvm.MethodName) prog_8_method_5_code (1 : Nat) (Option.some Jvm.ClassFile.FieldType.boolean)) ∈ lw_all := lw_g (lw_at lw_m2 184 rfl) rfl
theorem q513 : (Jvm.Cond.declares ({ cls := "GridRoom$Reader", name := "is", desc := "(Ljava/lang/String;)Z" } : Jvm.MethodName)) ∈ lw_tbl := lw_at lw_m2 188 rfl
theorem q515 : (Jvm.Cond.instanceMethod ({ cls := "GridRoom$Reader", name := "is", desc := "(Ljava/lang/String;)Z" } : Jvm.MethodName)) ∈ lw_all := lw_g (lw_at lw_m2 190 rfl) rfl
theorem q516 : (Jvm.Cond.code ({ cls := "GridRoom$Reader", name := "is", desc := "(Ljava/lang/String;)Z" } : Jvm.MethodName) prog_8_method_6_code (3 : Nat) (Option.some Jvm.ClassFile.FieldType.boolean)) ∈ lw_all := lw_g (lw_at lw_m2 191 rfl) rfl
theorem q517 : (Jvm.Cond.methodLink "GridRoom$Reader" (46 : Nat) ({ cls := "java/lang/String", name := "length", desc := "()I" } : Jvm.MethodName)) ∈ lw_all := lw_g (lw_at lw_m2 192 rfl) rfl
theorem q527 : (Jvm.Cond.methodLink "GridRoom$Reader" (52 : Nat) ({ cls := "java/lang/String", name := "charAt", desc := "(I)C" } : Jvm.MethodName)) ∈ lw_all := lw_g (lw_at lw_m2 202 rfl) rfl
theorem q567 : (Jvm.Cond.declares ({ cls := "GridRoom$Reader", name := "need", desc := "(ZI)V" } : Jvm.MethodName)) ∈ lw_tbl := lw_at lw_m3 2 rfl
theorem q569 : (Jvm.Cond.instanceMethod ({ cls := "GridRoom$Reader", name := "need", desc := "(ZI)V" } : Jvm.MethodName)) ∈ lw_all := lw_g (lw_at lw_m3 4 rfl) rfl
theorem q570 : (Jvm.Cond.code ({ cls := "GridRoom$Reader", name := "need", desc := "(ZI)V" } : Jvm.MethodName) prog_8_method_8_code (3 : Nat) (Option.none : Option Jvm.ClassFile.FieldType)) ∈ lw_all := lw_g (lw_at lw_m3 5 rfl) rfl
theorem q571 : (Jvm.Cond.classLink "GridRoom$Reader" (60 : Nat) "GridRoom$Wrong") ∈ lw_all := lw_g (lw_at lw_m3 6 rfl) rfl
theorem q609 : (Jvm.Cond.methodLink "GridRoom$Reader" (62 : Nat) ({ cls := "GridRoom$Wrong", name := "<init>", desc := "(II)V" } : Jvm.MethodName)) ∈ lw_all := lw_g (lw_at lw_m3 44 rfl) rfl
theorem q645 : (Jvm.Cond.declares ({ cls := "GridRoom$Reader", name := "may", desc := "(Ljava/lang/String;)Z" } : Jvm.MethodName)) ∈ lw_tbl := lw_at lw_m3 80 rfl
theorem q647 : (Jvm.Cond.instanceMethod ({ cls := "GridRoom$Reader", name := "may", desc := "(Ljava/lang/String;)Z" } : Jvm.MethodName)) ∈ lw_all := lw_g (lw_at lw_m3 82 rfl) rfl
theorem q648 : (Jvm.Cond.code ({ cls := "GridRoom$Reader", name := "may", desc := "(Ljava/lang/String;)Z" } : Jvm.MethodName) prog_8_method_7_code (3 : Nat) (Option.some Jvm.ClassFile.FieldType.boolean)) ∈ lw_all := lw_g (lw_at lw_m3 83 rfl) rfl
theorem q649 : (Jvm.Cond.methodLink "GridRoom$Reader" (56 : Nat) ({ cls := "GridRoom$Reader", name := "is", desc := "(Ljava/lang/String;)Z" } : Jvm.MethodName)) ∈ lw_all := lw_g (lw_at lw_m3 84 rfl) rfl
theorem q652 : (Jvm.Cond.declares ({ cls := "GridRoom$Reader", name := "number", desc := "(II)I" } : Jvm.MethodName)) ∈ lw_tbl := lw_at lw_m3 87 rfl
theorem q654 : (Jvm.Cond.instanceMethod ({ cls := "GridRoom$Reader", name := "number", desc := "(II)I" } : Jvm.MethodName)) ∈ lw_all := lw_g (lw_at lw_m3 89 rfl) rfl
theorem q655 : (Jvm.Cond.code ({ cls := "GridRoom$Reader", name := "number", desc := "(II)I" } : Jvm.MethodName) prog_8_method_10_code (4 : Nat) (Option.some Jvm.ClassFile.FieldType.int)) ∈ lw_all := lw_g (lw_at lw_m3 90 rfl) rfl
theorem q656 : (Jvm.Cond.methodLink "GridRoom$Reader" (65 : Nat) ({ cls := "GridRoom$Reader", name := "need", desc := "(ZI)V" } : Jvm.MethodName)) ∈ lw_all := lw_g (lw_at lw_m3 91 rfl) rfl
theorem q660 : (Jvm.Cond.declares ({ cls := "GridRoom$Reader", name := "takes", desc := "(Ljava/lang/String;)V" } : Jvm.MethodName)) ∈ lw_tbl := lw_at lw_m3 95 rfl
theorem q662 : (Jvm.Cond.instanceMethod ({ cls := "GridRoom$Reader", name := "takes", desc := "(Ljava/lang/String;)V" } : Jvm.MethodName)) ∈ lw_all := lw_g (lw_at lw_m3 97 rfl) rfl
theorem q663 : (Jvm.Cond.code ({ cls := "GridRoom$Reader", name := "takes", desc := "(Ljava/lang/String;)V" } : Jvm.MethodName) prog_8_method_9_code (2 : Nat) (Option.none : Option Jvm.ClassFile.FieldType)) ∈ lw_all := lw_g (lw_at lw_m3 98 rfl) rfl
theorem q669 : (Jvm.Cond.declares ({ cls := "GridRoom$Reader", name := "isEnd", desc := "()Z" } : Jvm.MethodName)) ∈ lw_tbl := lw_at lw_m3 104 rfl
theorem q671 : (Jvm.Cond.instanceMethod ({ cls := "GridRoom$Reader", name := "isEnd", desc := "()Z" } : Jvm.MethodName)) ∈ lw_all := lw_g (lw_at lw_m3 106 rfl) rfl
theorem q672 : (Jvm.Cond.code ({ cls := "GridRoom$Reader", name := "isEnd", desc := "()Z" } : Jvm.MethodName) prog_8_method_4_code (1 : Nat) (Option.some Jvm.ClassFile.FieldType.boolean)) ∈ lw_all := lw_g (lw_at lw_m3 107 rfl) rfl
theorem q812 : (Jvm.Cond.declares ({ cls := "GridRoom$Reader", name := "letter", desc := "()I" } : Jvm.MethodName)) ∈ lw_tbl := lw_at lw_m4 7 rfl
theorem q814 : (Jvm.Cond.instanceMethod ({ cls := "GridRoom$Reader", name := "letter", desc := "()I" } : Jvm.MethodName)) ∈ lw_all := lw_g (lw_at lw_m4 9 rfl) rfl
theorem q815 : (Jvm.Cond.code ({ cls := "GridRoom$Reader", name := "letter", desc := "()I" } : Jvm.MethodName) prog_8_method_11_code (1 : Nat) (Option.some Jvm.ClassFile.FieldType.int)) ∈ lw_all := lw_g (lw_at lw_m4 10 rfl) rfl
theorem q818 : (Jvm.Cond.declares ({ cls := "GridRoom$Reader", name := "cut", desc := "()V" } : Jvm.MethodName)) ∈ lw_tbl := lw_at lw_m4 13 rfl
theorem q2216 : (Jvm.Cond.sameMethod "GridRoom$Reader" "GridRoom$Reader" "byteAt" "(I)I") ∈ lw_all := lw_g (lw_at lw_m9 211 rfl) rfl
theorem q2218 : (Jvm.Cond.sameMethod "GridRoom$Reader" "GridRoom$Reader" "is" "(Ljava/lang/String;)Z") ∈ lw_all := lw_g (lw_at lw_m9 213 rfl) rfl
theorem q2221 : (Jvm.Cond.sameMethod "GridRoom$Reader" "GridRoom$Reader" "need" "(ZI)V") ∈ lw_all := lw_g (lw_at lw_m9 216 rfl) rfl
theorem q2266 : (Jvm.Cond.castable "GridRoom$Reader" "java/lang/Object") ∈ lw_tbl := lw_at lw_m10 21 rfl
def RX9 : String := "GridRoom$TabletReader"
def TX9 : u_T := fun k => match k with
  | 0 => ("GridRoom$Reader", "text", "[B", true)
  | 1 => ("GridRoom$Reader", "end", "I", true)
  | 2 => ("GridRoom$Reader", "at", "I", false)
  | 3 => ("GridRoom$Reader", "size", "I", false)
  | 4 => ("GridRoom$Reader", "value", "I", false)
  | 5 => ("GridRoom$Reader", "isWord", "Z", false)
  | _ => ("GridRoom$Reader", "isNumber", "Z", false)
def tyX9 : Nat → FieldType := fun k => match k with
  | 0 => .array .byte
  | 1 => .int
  | 2 => .int
  | 3 => .int
  | 4 => .int
  | 5 => .boolean
  | _ => .boolean
abbrev wsX90 : List Cond := u_ws RX9 TX9 7
theorem nmX9 : ∀ a, a < 7 → ∀ b, b < 7 → a ≠ b → (TX9 a).2.1 ≠ (TX9 b).2.1 := by decide +kernel
theorem tyX9_ok : ∀ k, k < 7 → parseFieldDescriptor (TX9 k).2.2.1 = some (tyX9 k) := by decide +kernel
abbrev cX9_init : ByteArray := prog_16_method_1_code
def yX9_init : MethodName := ⟨RX9, "<init>", "([BI)V"⟩
abbrev cX9_read : ByteArray := prog_16_method_2_code
def yX9_read : MethodName := ⟨RX9, "read", "()[[I"⟩
abbrev cX9_row : ByteArray := prog_16_method_3_code
def yX9_row : MethodName := ⟨RX9, "row", "()[I"⟩
theorem q97 : (Jvm.Cond.initialized "GridRoom$TabletReader") ∈ lw_all := lw_g (lw_at lw_m1 12 rfl) rfl
theorem q453 : (Jvm.Cond.instantiable "GridRoom$TabletReader" (7 : Nat)) ∈ lw_all := lw_g (lw_at lw_m2 128 rfl) rfl
theorem q459 : (Jvm.Cond.instanceMethod ({ cls := "GridRoom$TabletReader", name := "<init>", desc := "([BI)V" } : Jvm.MethodName)) ∈ lw_all := lw_g (lw_at lw_m2 134 rfl) rfl
theorem q460 : (Jvm.Cond.code ({ cls := "GridRoom$TabletReader", name := "<init>", desc := "([BI)V" } : Jvm.MethodName) prog_16_method_1_code (3 : Nat) (Option.none : Option Jvm.ClassFile.FieldType)) ∈ lw_all := lw_g (lw_at lw_m2 135 rfl) rfl
theorem q461 : (Jvm.Cond.methodLink "GridRoom$TabletReader" (3 : Nat) ({ cls := "GridRoom$Reader", name := "<init>", desc := "([BI)V" } : Jvm.MethodName)) ∈ lw_all := lw_g (lw_at lw_m2 136 rfl) rfl
theorem q469 : (Jvm.Cond.selects "GridRoom$TabletReader" ({ cls := "GridRoom$Reader", name := "cut", desc := "()V" } : Jvm.MethodName) ({ cls := "GridRoom$Reader", name := "cut", desc := "()V" } : Jvm.MethodName)) ∈ lw_all := lw_g (lw_at lw_m2 144 rfl) rfl
theorem q484 : (Jvm.Cond.laysFinal "GridRoom$TabletReader" "GridRoom$Reader" "text" "[B") ∈ lw_all := lw_g (lw_at lw_m2 159 rfl) rfl
theorem q486 : (Jvm.Cond.laysFinal "GridRoom$TabletReader" "GridRoom$Reader" "end" "I") ∈ lw_all := lw_g (lw_at lw_m2 161 rfl) rfl
theorem q488 : (Jvm.Cond.lays "GridRoom$TabletReader" "GridRoom$Reader" "at" "I") ∈ lw_all := lw_g (lw_at lw_m2 163 rfl) rfl
theorem q490 : (Jvm.Cond.lays "GridRoom$TabletReader" "GridRoom$Reader" "size" "I") ∈ lw_all := lw_g (lw_at lw_m2 165 rfl) rfl
theorem q492 : (Jvm.Cond.lays "GridRoom$TabletReader" "GridRoom$Reader" "value" "I") ∈ lw_all := lw_g (lw_at lw_m2 167 rfl) rfl
theorem q494 : (Jvm.Cond.lays "GridRoom$TabletReader" "GridRoom$Reader" "isWord" "Z") ∈ lw_all := lw_g (lw_at lw_m2 169 rfl) rfl
theorem q496 : (Jvm.Cond.lays "GridRoom$TabletReader" "GridRoom$Reader" "isNumber" "Z") ∈ lw_all := lw_g (lw_at lw_m2 171 rfl) rfl
theorem q498 : (Jvm.Cond.superclass "GridRoom$TabletReader" "GridRoom$Reader") ∈ lw_all := lw_g (lw_at lw_m2 173 rfl) rfl
theorem q500 : (Jvm.Cond.instanceMethod ({ cls := "GridRoom$TabletReader", name := "read", desc := "()[[I" } : Jvm.MethodName)) ∈ lw_all := lw_g (lw_at lw_m2 175 rfl) rfl
theorem q501 : (Jvm.Cond.selects "GridRoom$TabletReader" ({ cls := "GridRoom$TabletReader", name := "read", desc := "()[[I" } : Jvm.MethodName) ({ cls := "GridRoom$TabletReader", name := "read", desc := "()[[I" } : Jvm.MethodName)) ∈ lw_all := lw_g (lw_at lw_m2 176 rfl) rfl
theorem q502 : (Jvm.Cond.code ({ cls := "GridRoom$TabletReader", name := "read", desc := "()[[I" } : Jvm.MethodName) prog_16_method_2_code (5 : Nat) (Option.some (Jvm.ClassFile.FieldType.array (Jvm.ClassFile.FieldType.array Jvm.ClassFile.FieldType.int)))) ∈ lw_all := lw_g (lw_at lw_m2 177 rfl) rfl
theorem q503 : (Jvm.Cond.classLink "GridRoom$TabletReader" (9 : Nat) "[I") ∈ lw_all := lw_g (lw_at lw_m2 178 rfl) rfl
theorem q504 : (Jvm.Cond.methodLink "GridRoom$TabletReader" (11 : Nat) ({ cls := "GridRoom$TabletReader", name := "isNumber", desc := "()Z" } : Jvm.MethodName)) ∈ lw_all := lw_g (lw_at lw_m2 179 rfl) rfl
theorem q505 : (Jvm.Cond.sameMethod "GridRoom$TabletReader" "GridRoom$Reader" "isNumber" "()Z") ∈ lw_all := lw_g (lw_at lw_m2 180 rfl) rfl
theorem q507 : (Jvm.Cond.selects "GridRoom$TabletReader" ({ cls := "GridRoom$TabletReader", name := "isNumber", desc := "()Z" } : Jvm.MethodName) ({ cls := "GridRoom$Reader", name := "isNumber", desc := "()Z" } : Jvm.MethodName)) ∈ lw_all := lw_g (lw_at lw_m2 182 rfl) rfl
theorem q510 : (Jvm.Cond.stringRef "GridRoom$TabletReader" (17 : Nat) "?") ∈ lw_tbl := lw_at lw_m2 185 rfl
theorem q511 : (Jvm.Cond.methodLink "GridRoom$TabletReader" (19 : Nat) ({ cls := "GridRoom$TabletReader", name := "is", desc := "(Ljava/lang/String;)Z" } : Jvm.MethodName)) ∈ lw_all := lw_g (lw_at lw_m2 186 rfl) rfl
theorem q512 : (Jvm.Cond.sameMethod "GridRoom$TabletReader" "GridRoom$Reader" "is" "(Ljava/lang/String;)Z") ∈ lw_all := lw_g (lw_at lw_m2 187 rfl) rfl
theorem q514 : (Jvm.Cond.selects "GridRoom$TabletReader" ({ cls := "GridRoom$TabletReader", name := "is", desc := "(Ljava/lang/String;)Z" } : Jvm.MethodName) ({ cls := "GridRoom$Reader", name := "is", desc := "(Ljava/lang/String;)Z" } : Jvm.MethodName)) ∈ lw_all := lw_g (lw_at lw_m2 189 rfl) rfl
theorem q565 : (Jvm.Cond.methodLink "GridRoom$TabletReader" (23 : Nat) ({ cls := "GridRoom$TabletReader", name := "need", desc := "(ZI)V" } : Jvm.MethodName)) ∈ lw_all := lw_g (lw_at lw_m3 0 rfl) rfl
theorem q566 : (Jvm.Cond.sameMethod "GridRoom$TabletReader" "GridRoom$Reader" "need" "(ZI)V") ∈ lw_all := lw_g (lw_at lw_m3 1 rfl) rfl
theorem q568 : (Jvm.Cond.selects "GridRoom$TabletReader" ({ cls := "GridRoom$TabletReader", name := "need", desc := "(ZI)V" } : Jvm.MethodName) ({ cls := "GridRoom$Reader", name := "need", desc := "(ZI)V" } : Jvm.MethodName)) ∈ lw_all := lw_g (lw_at lw_m3 3 rfl) rfl
theorem q639 : (Jvm.Cond.methodLink "GridRoom$TabletReader" (27 : Nat) ({ cls := "GridRoom$TabletReader", name := "row", desc := "()[I" } : Jvm.MethodName)) ∈ lw_all := lw_g (lw_at lw_m3 74 rfl) rfl
theorem q640 : (Jvm.Cond.privateMethod ({ cls := "GridRoom$TabletReader", name := "row", desc := "()[I" } : Jvm.MethodName)) ∈ lw_tbl := lw_at lw_m3 75 rfl
theorem q641 : (Jvm.Cond.instanceMethod ({ cls := "GridRoom$TabletReader", name := "row", desc := "()[I" } : Jvm.MethodName)) ∈ lw_all := lw_g (lw_at lw_m3 76 rfl) rfl
theorem q642 : (Jvm.Cond.code ({ cls := "GridRoom$TabletReader", name := "row", desc := "()[I" } : Jvm.MethodName) prog_16_method_3_code (4 : Nat) (Option.some (Jvm.ClassFile.FieldType.array Jvm.ClassFile.FieldType.int))) ∈ lw_all := lw_g (lw_at lw_m3 77 rfl) rfl
theorem q643 : (Jvm.Cond.methodLink "GridRoom$TabletReader" (34 : Nat) ({ cls := "GridRoom$TabletReader", name := "may", desc := "(Ljava/lang/String;)Z" } : Jvm.MethodName)) ∈ lw_all := lw_g (lw_at lw_m3 78 rfl) rfl
theorem q644 : (Jvm.Cond.sameMethod "GridRoom$TabletReader" "GridRoom$Reader" "may" "(Ljava/lang/String;)Z") ∈ lw_all := lw_g (lw_at lw_m3 79 rfl) rfl
theorem q646 : (Jvm.Cond.selects "GridRoom$TabletReader" ({ cls := "GridRoom$TabletReader", name := "may", desc := "(Ljava/lang/String;)Z" } : Jvm.MethodName) ({ cls := "GridRoom$Reader", name := "may", desc := "(Ljava/lang/String;)Z" } : Jvm.MethodName)) ∈ lw_all := lw_g (lw_at lw_m3 81 rfl) rfl
theorem q650 : (Jvm.Cond.methodLink "GridRoom$TabletReader" (37 : Nat) ({ cls := "GridRoom$TabletReader", name := "number", desc := "(II)I" } : Jvm.MethodName)) ∈ lw_all := lw_g (lw_at lw_m3 85 rfl) rfl
theorem q651 : (Jvm.Cond.sameMethod "GridRoom$TabletReader" "GridRoom$Reader" "number" "(II)I") ∈ lw_all := lw_g (lw_at lw_m3 86 rfl) rfl
theorem q653 : (Jvm.Cond.selects "GridRoom$TabletReader" ({ cls := "GridRoom$TabletReader", name := "number", desc := "(II)I" } : Jvm.MethodName) ({ cls := "GridRoom$Reader", name := "number", desc := "(II)I" } : Jvm.MethodName)) ∈ lw_all := lw_g (lw_at lw_m3 88 rfl) rfl
theorem q657 : (Jvm.Cond.stringRef "GridRoom$TabletReader" (41 : Nat) ".") ∈ lw_tbl := lw_at lw_m3 92 rfl
theorem q658 : (Jvm.Cond.methodLink "GridRoom$TabletReader" (43 : Nat) ({ cls := "GridRoom$TabletReader", name := "takes", desc := "(Ljava/lang/String;)V" } : Jvm.MethodName)) ∈ lw_all := lw_g (lw_at lw_m3 93 rfl) rfl
theorem q659 : (Jvm.Cond.sameMethod "GridRoom$TabletReader" "GridRoom$Reader" "takes" "(Ljava/lang/String;)V") ∈ lw_all := lw_g (lw_at lw_m3 94 rfl) rfl
theorem q661 : (Jvm.Cond.selects "GridRoom$TabletReader" ({ cls := "GridRoom$TabletReader", name := "takes", desc := "(Ljava/lang/String;)V" } : Jvm.MethodName) ({ cls := "GridRoom$Reader", name := "takes", desc := "(Ljava/lang/String;)V" } : Jvm.MethodName)) ∈ lw_all := lw_g (lw_at lw_m3 96 rfl) rfl
theorem q664 : (Jvm.Cond.methodLink "GridRoom$TabletReader" (47 : Nat) ({ cls := "java/lang/System", name := "arraycopy", desc := "(Ljava/lang/Object;ILjava/lang/Object;II)V" } : Jvm.MethodName)) ∈ lw_all := lw_g (lw_at lw_m3 99 rfl) rfl
theorem q667 : (Jvm.Cond.methodLink "GridRoom$TabletReader" (31 : Nat) ({ cls := "GridRoom$TabletReader", name := "isEnd", desc := "()Z" } : Jvm.MethodName)) ∈ lw_all := lw_g (lw_at lw_m3 102 rfl) rfl
theorem q668 : (Jvm.Cond.sameMethod "GridRoom$TabletReader" "GridRoom$Reader" "isEnd" "()Z") ∈ lw_all := lw_g (lw_at lw_m3 103 rfl) rfl
theorem q670 : (Jvm.Cond.selects "GridRoom$TabletReader" ({ cls := "GridRoom$TabletReader", name := "isEnd", desc := "()Z" } : Jvm.MethodName) ({ cls := "GridRoom$Reader", name := "isEnd", desc := "()Z" } : Jvm.MethodName)) ∈ lw_all := lw_g (lw_at lw_m3 105 rfl) rfl
theorem q742 : (Jvm.Cond.selects "GridRoom$TabletReader" ({ cls := "java/lang/Object", name := "getClass", desc := "()Ljava/lang/Class;" } : Jvm.MethodName) ({ cls := "java/lang/Object", name := "getClass", desc := "()Ljava/lang/Class;" } : Jvm.MethodName)) ∈ lw_all := lw_g (lw_at lw_m3 177 rfl) rfl
theorem q2220 : (Jvm.Cond.selects "GridRoom$TabletReader" ({ cls := "GridRoom$Reader", name := "is", desc := "(Ljava/lang/String;)Z" } : Jvm.MethodName) ({ cls := "GridRoom$Reader", name := "is", desc := "(Ljava/lang/String;)Z" } : Jvm.MethodName)) ∈ lw_all := lw_g (lw_at lw_m9 215 rfl) rfl
theorem q2223 : (Jvm.Cond.selects "GridRoom$TabletReader" ({ cls := "GridRoom$Reader", name := "need", desc := "(ZI)V" } : Jvm.MethodName) ({ cls := "GridRoom$Reader", name := "need", desc := "(ZI)V" } : Jvm.MethodName)) ∈ lw_all := lw_g (lw_at lw_m9 218 rfl) rfl
theorem q2252 : (Jvm.Cond.castable "GridRoom$TabletReader" "java/lang/Object") ∈ lw_tbl := lw_at lw_m10 7 rfl
theorem in_X9 : ∀ w ∈ wsX90, w ∈ lw_all := lw_in wsX90 [484, 486, 488, 490, 492, 494, 496] (by decide +kernel) (by decide +kernel)
def RJ3 : String := "java/lang/String"
abbrev cJ3_length : ByteArray := prog_33_method_54_code
def yJ3_length : MethodName := ⟨RJ3, "length", "()I"⟩
abbrev cJ3_coder : ByteArray := prog_33_method_152_code
def yJ3_coder : MethodName := ⟨RJ3, "coder", "()B"⟩
abbrev cJ3_charAt : ByteArray := prog_33_method_56_code
def yJ3_charAt : MethodName := ⟨RJ3, "charAt", "(I)C"⟩
abbrev cJ3_isLatin1 : ByteArray := prog_33_method_154_code
def yJ3_isLatin1 : MethodName := ⟨RJ3, "isLatin1", "()Z"⟩
abbrev cJ3_checkIndex : ByteArray := prog_33_method_155_code
def yJ3_checkIndex : MethodName := ⟨RJ3, "checkIndex", "(II)V"⟩
abbrev cJ3_indexOf : ByteArray := prog_33_method_79_code
def yJ3_indexOf : MethodName := ⟨RJ3, "indexOf", "(I)I"⟩
abbrev cJ3_indexOf_2 : ByteArray := prog_33_method_80_code
def yJ3_indexOf_2 : MethodName := ⟨RJ3, "indexOf", "(II)I"⟩
abbrev cJ3_checkBoundsBeginEnd : ByteArray := prog_33_method_158_code
def yJ3_checkBoundsBeginEnd : MethodName := ⟨RJ3, "checkBoundsBeginEnd", "(III)V"⟩
theorem q98 : (Jvm.Cond.initialized "java/lang/String") ∈ lw_all := lw_g (lw_at lw_m1 13 rfl) rfl
theorem q518 : (Jvm.Cond.instanceMethod ({ cls := "java/lang/String", name := "length", desc := "()I" } : Jvm.MethodName)) ∈ lw_all := lw_g (lw_at lw_m2 193 rfl) rfl
theorem q519 : (Jvm.Cond.selects "java/lang/String" ({ cls := "java/lang/String", name := "length", desc := "()I" } : Jvm.MethodName) ({ cls := "java/lang/String", name := "length", desc := "()I" } : Jvm.MethodName)) ∈ lw_all := lw_g (lw_at lw_m2 194 rfl) rfl
theorem q520 : (Jvm.Cond.code ({ cls := "java/lang/String", name := "length", desc := "()I" } : Jvm.MethodName) prog_33_method_54_code (1 : Nat) (Option.some Jvm.ClassFile.FieldType.int)) ∈ lw_all := lw_g (lw_at lw_m2 195 rfl) rfl
theorem q521 : (Jvm.Cond.methodLink "java/lang/String" (335 : Nat) ({ cls := "java/lang/String", name := "coder", desc := "()B" } : Jvm.MethodName)) ∈ lw_all := lw_g (lw_at lw_m2 196 rfl) rfl
theorem q522 : (Jvm.Cond.instanceMethod ({ cls := "java/lang/String", name := "coder", desc := "()B" } : Jvm.MethodName)) ∈ lw_all := lw_g (lw_at lw_m2 197 rfl) rfl
theorem q523 : (Jvm.Cond.selects "java/lang/String" ({ cls := "java/lang/String", name := "coder", desc := "()B" } : Jvm.MethodName) ({ cls := "java/lang/String", name := "coder", desc := "()B" } : Jvm.MethodName)) ∈ lw_all := lw_g (lw_at lw_m2 198 rfl) rfl
theorem q524 : (Jvm.Cond.code ({ cls := "java/lang/String", name := "coder", desc := "()B" } : Jvm.MethodName) prog_33_method_152_code (1 : Nat) (Option.some Jvm.ClassFile.FieldType.byte)) ∈ lw_all := lw_g (lw_at lw_m2 199 rfl) rfl
theorem q525 : (Jvm.Cond.fieldLink "java/lang/String" (38 : Nat) "java/lang/String" "COMPACT_STRINGS" "Z") ∈ lw_all := lw_g (lw_at lw_m2 200 rfl) rfl
theorem q526 : (Jvm.Cond.laysStatic "java/lang/String" "COMPACT_STRINGS" "Z") ∈ lw_tbl := lw_at lw_m2 201 rfl
theorem q528 : (Jvm.Cond.instanceMethod ({ cls := "java/lang/String", name := "charAt", desc := "(I)C" } : Jvm.MethodName)) ∈ lw_all := lw_g (lw_at lw_m2 203 rfl) rfl
theorem q529 : (Jvm.Cond.selects "java/lang/String" ({ cls := "java/lang/String", name := "charAt", desc := "(I)C" } : Jvm.MethodName) ({ cls := "java/lang/String", name := "charAt", desc := "(I)C" } : Jvm.MethodName)) ∈ lw_all := lw_g (lw_at lw_m2 204 rfl) rfl
theorem q530 : (Jvm.Cond.code ({ cls := "java/lang/String", name := "charAt", desc := "(I)C" } : Jvm.MethodName) prog_33_method_56_code (2 : Nat) (Option.some Jvm.ClassFile.FieldType.char)) ∈ lw_all := lw_g (lw_at lw_m2 205 rfl) rfl
theorem q531 : (Jvm.Cond.methodLink "java/lang/String" (492 : Nat) ({ cls := "java/lang/String", name := "isLatin1", desc := "()Z" } : Jvm.MethodName)) ∈ lw_all := lw_g (lw_at lw_m2 206 rfl) rfl
theorem q532 : (Jvm.Cond.instanceMethod ({ cls := "java/lang/String", name := "isLatin1", desc := "()Z" } : Jvm.MethodName)) ∈ lw_all := lw_g (lw_at lw_m2 207 rfl) rfl
theorem q533 : (Jvm.Cond.selects "java/lang/String" ({ cls := "java/lang/String", name := "isLatin1", desc := "()Z" } : Jvm.MethodName) ({ cls := "java/lang/String", name := "isLatin1", desc := "()Z" } : Jvm.MethodName)) ∈ lw_all := lw_g (lw_at lw_m2 208 rfl) rfl
theorem q534 : (Jvm.Cond.code ({ cls := "java/lang/String", name := "isLatin1", desc := "()Z" } : Jvm.MethodName) prog_33_method_154_code (1 : Nat) (Option.some Jvm.ClassFile.FieldType.boolean)) ∈ lw_all := lw_g (lw_at lw_m2 209 rfl) rfl
theorem q535 : (Jvm.Cond.methodLink "java/lang/String" (495 : Nat) ({ cls := "java/lang/StringLatin1", name := "charAt", desc := "([BI)C" } : Jvm.MethodName)) ∈ lw_all := lw_g (lw_at lw_m2 210 rfl) rfl
theorem q539 : (Jvm.Cond.static ({ cls := "java/lang/String", name := "checkIndex", desc := "(II)V" } : Jvm.MethodName)) ∈ lw_all := lw_g (lw_at lw_m2 214 rfl) rfl
theorem q540 : (Jvm.Cond.code ({ cls := "java/lang/String", name := "checkIndex", desc := "(II)V" } : Jvm.MethodName) prog_33_method_155_code (2 : Nat) (Option.none : Option Jvm.ClassFile.FieldType)) ∈ lw_all := lw_g (lw_at lw_m2 215 rfl) rfl
theorem q541 : (Jvm.Cond.fieldLink "java/lang/String" (1053 : Nat) "jdk/internal/util/Preconditions" "SIOOBE_FORMATTER" "Ljava/util/function/BiFunction;") ∈ lw_all := lw_g (lw_at lw_m2 216 rfl) rfl
theorem q543 : (Jvm.Cond.methodLink "java/lang/String" (1059 : Nat) ({ cls := "jdk/internal/util/Preconditions", name := "checkIndex", desc := "(IILjava/util/function/BiFunction;)I" } : Jvm.MethodName)) ∈ lw_all := lw_g (lw_at lw_m2 218 rfl) rfl
theorem q546 : (Jvm.Cond.methodLink "java/lang/String" (498 : Nat) ({ cls := "java/lang/StringUTF16", name := "charAt", desc := "([BI)C" } : Jvm.MethodName)) ∈ lw_all := lw_g (lw_at lw_m2 221 rfl) rfl
theorem q829 : (Jvm.Cond.instanceMethod ({ cls := "java/lang/String", name := "indexOf", desc := "(I)I" } : Jvm.MethodName)) ∈ lw_all := lw_g (lw_at lw_m4 24 rfl) rfl
theorem q830 : (Jvm.Cond.selects "java/lang/String" ({ cls := "java/lang/String", name := "indexOf", desc := "(I)I" } : Jvm.MethodName) ({ cls := "java/lang/String", name := "indexOf", desc := "(I)I" } : Jvm.MethodName)) ∈ lw_all := lw_g (lw_at lw_m4 25 rfl) rfl
theorem q831 : (Jvm.Cond.code ({ cls := "java/lang/String", name := "indexOf", desc := "(I)I" } : Jvm.MethodName) prog_33_method_79_code (2 : Nat) (Option.some Jvm.ClassFile.FieldType.int)) ∈ lw_all := lw_g (lw_at lw_m4 26 rfl) rfl
theorem q832 : (Jvm.Cond.methodLink "java/lang/String" (633 : Nat) ({ cls := "java/lang/String", name := "indexOf", desc := "(II)I" } : Jvm.MethodName)) ∈ lw_all := lw_g (lw_at lw_m4 27 rfl) rfl
theorem q833 : (Jvm.Cond.instanceMethod ({ cls := "java/lang/String", name := "indexOf", desc := "(II)I" } : Jvm.MethodName)) ∈ lw_all := lw_g (lw_at lw_m4 28 rfl) rfl
theorem q834 : (Jvm.Cond.selects "java/lang/String" ({ cls := "java/lang/String", name := "indexOf", desc := "(II)I" } : Jvm.MethodName) ({ cls := "java/lang/String", name := "indexOf", desc := "(II)I" } : Jvm.MethodName)) ∈ lw_all := lw_g (lw_at lw_m4 29 rfl) rfl
theorem q835 : (Jvm.Cond.code ({ cls := "java/lang/String", name := "indexOf", desc := "(II)I" } : Jvm.MethodName) prog_33_method_80_code (3 : Nat) (Option.some Jvm.ClassFile.FieldType.int)) ∈ lw_all := lw_g (lw_at lw_m4 30 rfl) rfl
theorem q836 : (Jvm.Cond.methodLink "java/lang/String" (505 : Nat) ({ cls := "java/lang/String", name := "length", desc := "()I" } : Jvm.MethodName)) ∈ lw_all := lw_g (lw_at lw_m4 31 rfl) rfl
theorem q837 : (Jvm.Cond.methodLink "java/lang/String" (637 : Nat) ({ cls := "java/lang/StringLatin1", name := "indexOf", desc := "([BIII)I" } : Jvm.MethodName)) ∈ lw_all := lw_g (lw_at lw_m4 32 rfl) rfl
theorem q848 : (Jvm.Cond.methodLink "java/lang/String" (640 : Nat) ({ cls := "java/lang/StringUTF16", name := "indexOf", desc := "([BIII)I" } : Jvm.MethodName)) ∈ lw_all := lw_g (lw_at lw_m4 43 rfl) rfl
theorem q861 : (Jvm.Cond.static ({ cls := "java/lang/String", name := "checkBoundsBeginEnd", desc := "(III)V" } : Jvm.MethodName)) ∈ lw_all := lw_g (lw_at lw_m4 56 rfl) rfl
theorem q862 : (Jvm.Cond.code ({ cls := "java/lang/String", name := "checkBoundsBeginEnd", desc := "(III)V" } : Jvm.MethodName) prog_33_method_158_code (3 : Nat) (Option.none : Option Jvm.ClassFile.FieldType)) ∈ lw_all := lw_g (lw_at lw_m4 57 rfl) rfl
theorem q863 : (Jvm.Cond.methodLink "java/lang/String" (1062 : Nat) ({ cls := "jdk/internal/util/Preconditions", name := "checkFromToIndex", desc := "(IIILjava/util/function/BiFunction;)I" } : Jvm.MethodName)) ∈ lw_all := lw_g (lw_at lw_m4 58 rfl) rfl
theorem q2268 : (Jvm.Cond.castable "java/lang/String" "java/lang/Object") ∈ lw_tbl := lw_at lw_m10 23 rfl
theorem q2279 : (Jvm.Cond.fieldLink "java/lang/String" (9 : Nat) "java/lang/String" "value" "[B") ∈ lw_all := lw_g (lw_at lw_m10 34 rfl) rfl
theorem q2280 : (Jvm.Cond.fieldLink "java/lang/String" (15 : Nat) "java/lang/String" "coder" "B") ∈ lw_all := lw_g (lw_at lw_m10 35 rfl) rfl
def RJ4 : String := "java/lang/StringLatin1"
abbrev cJ4_charAt : ByteArray := prog_34_method_2_code
def yJ4_charAt : MethodName := ⟨RJ4, "charAt", "([BI)C"⟩
abbrev cJ4_indexOf : ByteArray := prog_34_method_22_code
def yJ4_indexOf : MethodName := ⟨RJ4, "indexOf", "([BIII)I"⟩
abbrev cJ4_canEncode : ByteArray := prog_34_method_4_code
def yJ4_canEncode : MethodName := ⟨RJ4, "canEncode", "(I)Z"⟩
abbrev cJ4_indexOfChar : ByteArray := prog_34_method_23_code
def yJ4_indexOfChar : MethodName := ⟨RJ4, "indexOfChar", "([BIII)I"⟩
theorem q99 : (Jvm.Cond.initialized "java/lang/StringLatin1") ∈ lw_all := lw_g (lw_at lw_m1 14 rfl) rfl
theorem q536 : (Jvm.Cond.static ({ cls := "java/lang/StringLatin1", name := "charAt", desc := "([BI)C" } : Jvm.MethodName)) ∈ lw_all := lw_g (lw_at lw_m2 211 rfl) rfl
theorem q537 : (Jvm.Cond.code ({ cls := "java/lang/StringLatin1", name := "charAt", desc := "([BI)C" } : Jvm.MethodName) prog_34_method_2_code (2 : Nat) (Option.some Jvm.ClassFile.FieldType.char)) ∈ lw_all := lw_g (lw_at lw_m2 212 rfl) rfl
theorem q538 : (Jvm.Cond.methodLink "java/lang/StringLatin1" (9 : Nat) ({ cls := "java/lang/String", name := "checkIndex", desc := "(II)V" } : Jvm.MethodName)) ∈ lw_all := lw_g (lw_at lw_m2 213 rfl) rfl
theorem q838 : (Jvm.Cond.static ({ cls := "java/lang/StringLatin1", name := "indexOf", desc := "([BIII)I" } : Jvm.MethodName)) ∈ lw_all := lw_g (lw_at lw_m4 33 rfl) rfl
theorem q839 : (Jvm.Cond.code ({ cls := "java/lang/StringLatin1", name := "indexOf", desc := "([BIII)I" } : Jvm.MethodName) prog_34_method_22_code (4 : Nat) (Option.some Jvm.ClassFile.FieldType.int)) ∈ lw_all := lw_g (lw_at lw_m4 34 rfl) rfl
theorem q840 : (Jvm.Cond.methodLink "java/lang/StringLatin1" (88 : Nat) ({ cls := "java/lang/StringLatin1", name := "canEncode", desc := "(I)Z" } : Jvm.MethodName)) ∈ lw_all := lw_g (lw_at lw_m4 35 rfl) rfl
theorem q841 : (Jvm.Cond.static ({ cls := "java/lang/StringLatin1", name := "canEncode", desc := "(I)Z" } : Jvm.MethodName)) ∈ lw_all := lw_g (lw_at lw_m4 36 rfl) rfl
theorem q842 : (Jvm.Cond.code ({ cls := "java/lang/StringLatin1", name := "canEncode", desc := "(I)Z" } : Jvm.MethodName) prog_34_method_4_code (1 : Nat) (Option.some Jvm.ClassFile.FieldType.boolean)) ∈ lw_all := lw_g (lw_at lw_m4 37 rfl) rfl
theorem q843 : (Jvm.Cond.methodLink "java/lang/StringLatin1" (92 : Nat) ({ cls := "java/lang/Math", name := "max", desc := "(II)I" } : Jvm.MethodName)) ∈ lw_all := lw_g (lw_at lw_m4 38 rfl) rfl
theorem q844 : (Jvm.Cond.methodLink "java/lang/StringLatin1" (38 : Nat) ({ cls := "java/lang/Math", name := "min", desc := "(II)I" } : Jvm.MethodName)) ∈ lw_all := lw_g (lw_at lw_m4 39 rfl) rfl
theorem q845 : (Jvm.Cond.methodLink "java/lang/StringLatin1" (95 : Nat) ({ cls := "java/lang/StringLatin1", name := "indexOfChar", desc := "([BIII)I" } : Jvm.MethodName)) ∈ lw_all := lw_g (lw_at lw_m4 40 rfl) rfl
theorem q846 : (Jvm.Cond.static ({ cls := "java/lang/StringLatin1", name := "indexOfChar", desc := "([BIII)I" } : Jvm.MethodName)) ∈ lw_all := lw_g (lw_at lw_m4 41 rfl) rfl
theorem q847 : (Jvm.Cond.code ({ cls := "java/lang/StringLatin1", name := "indexOfChar", desc := "([BIII)I" } : Jvm.MethodName) prog_34_method_23_code (6 : Nat) (Option.some Jvm.ClassFile.FieldType.int)) ∈ lw_all := lw_g (lw_at lw_m4 42 rfl) rfl
def RJ5 : String := "jdk/internal/util/Preconditions"
abbrev cJ5_checkIndex : ByteArray := prog_49_method_11_code
def yJ5_checkIndex : MethodName := ⟨RJ5, "checkIndex", "(IILjava/util/function/BiFunction;)I"⟩
abbrev cJ5_checkFromToIndex : ByteArray := prog_49_method_12_code
def yJ5_checkFromToIndex : MethodName := ⟨RJ5, "checkFromToIndex", "(IIILjava/util/function/BiFunction;)I"⟩
theorem q100 : (Jvm.Cond.initialized "jdk/internal/util/Preconditions") ∈ lw_all := lw_g (lw_at lw_m1 15 rfl) rfl
theorem q542 : (Jvm.Cond.laysStatic "jdk/internal/util/Preconditions" "SIOOBE_FORMATTER" "Ljava/util/function/BiFunction;") ∈ lw_tbl := lw_at lw_m2 217 rfl
theorem q544 : (Jvm.Cond.static ({ cls := "jdk/internal/util/Preconditions", name := "checkIndex", desc := "(IILjava/util/function/BiFunction;)I" } : Jvm.MethodName)) ∈ lw_all := lw_g (lw_at lw_m2 219 rfl) rfl
theorem q545 : (Jvm.Cond.code ({ cls := "jdk/internal/util/Preconditions", name := "checkIndex", desc := "(IILjava/util/function/BiFunction;)I" } : Jvm.MethodName) prog_49_method_11_code (3 : Nat) (Option.some Jvm.ClassFile.FieldType.int)) ∈ lw_all := lw_g (lw_at lw_m2 220 rfl) rfl
theorem q864 : (Jvm.Cond.static ({ cls := "jdk/internal/util/Preconditions", name := "checkFromToIndex", desc := "(IIILjava/util/function/BiFunction;)I" } : Jvm.MethodName)) ∈ lw_all := lw_g (lw_at lw_m4 59 rfl) rfl
theorem q865 : (Jvm.Cond.code ({ cls := "jdk/internal/util/Preconditions", name := "checkFromToIndex", desc := "(IIILjava/util/function/BiFunction;)I" } : Jvm.MethodName) prog_49_method_12_code (4 : Nat) (Option.some Jvm.ClassFile.FieldType.int)) ∈ lw_all := lw_g (lw_at lw_m4 60 rfl) rfl
def RJ6 : String := "java/lang/StringUTF16"
abbrev cJ6_charAt : ByteArray := prog_35_method_83_code
def yJ6_charAt : MethodName := ⟨RJ6, "charAt", "([BI)C"⟩
abbrev cJ6_checkIndex : ByteArray := prog_35_method_91_code
def yJ6_checkIndex : MethodName := ⟨RJ6, "checkIndex", "(I[B)V"⟩
abbrev cJ6_length : ByteArray := prog_35_method_6_code
def yJ6_length : MethodName := ⟨RJ6, "length", "([B)I"⟩
abbrev cJ6_getChar : ByteArray := prog_35_method_5_code
def yJ6_getChar : MethodName := ⟨RJ6, "getChar", "([BI)C"⟩
abbrev cJ6_indexOf : ByteArray := prog_35_method_40_code
def yJ6_indexOf : MethodName := ⟨RJ6, "indexOf", "([BIII)I"⟩
abbrev cJ6_indexOfChar : ByteArray := prog_35_method_47_code
def yJ6_indexOfChar : MethodName := ⟨RJ6, "indexOfChar", "([BIII)I"⟩
abbrev cJ6_checkBoundsBeginEnd : ByteArray := prog_35_method_93_code
def yJ6_checkBoundsBeginEnd : MethodName := ⟨RJ6, "checkBoundsBeginEnd", "(II[B)V"⟩
abbrev cJ6_indexOfCharUnsafe : ByteArray := prog_35_method_48_code
def yJ6_indexOfCharUnsafe : MethodName := ⟨RJ6, "indexOfCharUnsafe", "([BIII)I"⟩
abbrev cJ6_indexOfSupplementary : ByteArray := prog_35_method_49_code
def yJ6_indexOfSupplementary : MethodName := ⟨RJ6, "indexOfSupplementary", "([BIII)I"⟩
theorem q101 : (Jvm.Cond.initialized "java/lang/StringUTF16") ∈ lw_all := lw_g (lw_at lw_m1 16 rfl) rfl
theorem q547 : (Jvm.Cond.static ({ cls := "java/lang/StringUTF16", name := "charAt", desc := "([BI)C" } : Jvm.MethodName)) ∈ lw_all := lw_g (lw_at lw_m2 222 rfl) rfl
theorem q548 : (Jvm.Cond.code ({ cls := "java/lang/StringUTF16", name := "charAt", desc := "([BI)C" } : Jvm.MethodName) prog_35_method_83_code (2 : Nat) (Option.some Jvm.ClassFile.FieldType.char)) ∈ lw_all := lw_g (lw_at lw_m2 223 rfl) rfl
theorem q549 : (Jvm.Cond.methodLink "java/lang/StringUTF16" (67 : Nat) ({ cls := "java/lang/StringUTF16", name := "checkIndex", desc := "(I[B)V" } : Jvm.MethodName)) ∈ lw_all := lw_g (lw_at lw_m2 224 rfl) rfl
theorem q550 : (Jvm.Cond.static ({ cls := "java/lang/StringUTF16", name := "checkIndex", desc := "(I[B)V" } : Jvm.MethodName)) ∈ lw_all := lw_g (lw_at lw_m2 225 rfl) rfl
theorem q551 : (Jvm.Cond.code ({ cls := "java/lang/StringUTF16", name := "checkIndex", desc := "(I[B)V" } : Jvm.MethodName) prog_35_method_91_code (2 : Nat) (Option.none : Option Jvm.ClassFile.FieldType)) ∈ lw_all := lw_g (lw_at lw_m2 226 rfl) rfl
theorem q552 : (Jvm.Cond.methodLink "java/lang/StringUTF16" (48 : Nat) ({ cls := "java/lang/StringUTF16", name := "length", desc := "([B)I" } : Jvm.MethodName)) ∈ lw_all := lw_g (lw_at lw_m2 227 rfl) rfl
theorem q553 : (Jvm.Cond.static ({ cls := "java/lang/StringUTF16", name := "length", desc := "([B)I" } : Jvm.MethodName)) ∈ lw_all := lw_g (lw_at lw_m2 228 rfl) rfl
theorem q554 : (Jvm.Cond.code ({ cls := "java/lang/StringUTF16", name := "length", desc := "([B)I" } : Jvm.MethodName) prog_35_method_6_code (1 : Nat) (Option.some Jvm.ClassFile.FieldType.int)) ∈ lw_all := lw_g (lw_at lw_m2 229 rfl) rfl
theorem q555 : (Jvm.Cond.methodLink "java/lang/StringUTF16" (414 : Nat) ({ cls := "java/lang/String", name := "checkIndex", desc := "(II)V" } : Jvm.MethodName)) ∈ lw_all := lw_g (lw_at lw_m2 230 rfl) rfl
theorem q556 : (Jvm.Cond.methodLink "java/lang/StringUTF16" (71 : Nat) ({ cls := "java/lang/StringUTF16", name := "getChar", desc := "([BI)C" } : Jvm.MethodName)) ∈ lw_all := lw_g (lw_at lw_m2 231 rfl) rfl
theorem q557 : (Jvm.Cond.static ({ cls := "java/lang/StringUTF16", name := "getChar", desc := "([BI)C" } : Jvm.MethodName)) ∈ lw_all := lw_g (lw_at lw_m2 232 rfl) rfl
theorem q558 : (Jvm.Cond.code ({ cls := "java/lang/StringUTF16", name := "getChar", desc := "([BI)C" } : Jvm.MethodName) prog_35_method_5_code (2 : Nat) (Option.some Jvm.ClassFile.FieldType.char)) ∈ lw_all := lw_g (lw_at lw_m2 233 rfl) rfl
theorem q559 : (Jvm.Cond.fieldLink "java/lang/StringUTF16" (44 : Nat) "java/lang/StringUTF16" "$assertionsDisabled" "Z") ∈ lw_all := lw_g (lw_at lw_m2 234 rfl) rfl
theorem q560 : (Jvm.Cond.laysStatic "java/lang/StringUTF16" "$assertionsDisabled" "Z") ∈ lw_tbl := lw_at lw_m2 235 rfl
theorem q561 : (Jvm.Cond.fieldLink "java/lang/StringUTF16" (59 : Nat) "java/lang/StringUTF16" "HI_BYTE_SHIFT" "I") ∈ lw_all := lw_g (lw_at lw_m2 236 rfl) rfl
theorem q562 : (Jvm.Cond.laysStatic "java/lang/StringUTF16" "HI_BYTE_SHIFT" "I") ∈ lw_tbl := lw_at lw_m2 237 rfl
theorem q563 : (Jvm.Cond.fieldLink "java/lang/StringUTF16" (63 : Nat) "java/lang/StringUTF16" "LO_BYTE_SHIFT" "I") ∈ lw_all := lw_g (lw_at lw_m2 238 rfl) rfl
theorem q564 : (Jvm.Cond.laysStatic "java/lang/StringUTF16" "LO_BYTE_SHIFT" "I") ∈ lw_tbl := lw_at lw_m2 239 rfl
theorem q849 : (Jvm.Cond.static ({ cls := "java/lang/StringUTF16", name := "indexOf", desc := "([BIII)I" } : Jvm.MethodName)) ∈ lw_all := lw_g (lw_at lw_m4 44 rfl) rfl
theorem q850 : (Jvm.Cond.code ({ cls := "java/lang/StringUTF16", name := "indexOf", desc := "([BIII)I" } : Jvm.MethodName) prog_35_method_40_code (4 : Nat) (Option.some Jvm.ClassFile.FieldType.int)) ∈ lw_all := lw_g (lw_at lw_m4 45 rfl) rfl
theorem q851 : (Jvm.Cond.methodLink "java/lang/StringUTF16" (224 : Nat) ({ cls := "java/lang/Math", name := "max", desc := "(II)I" } : Jvm.MethodName)) ∈ lw_all := lw_g (lw_at lw_m4 46 rfl) rfl
theorem q852 : (Jvm.Cond.methodLink "java/lang/StringUTF16" (183 : Nat) ({ cls := "java/lang/Math", name := "min", desc := "(II)I" } : Jvm.MethodName)) ∈ lw_all := lw_g (lw_at lw_m4 47 rfl) rfl
theorem q853 : (Jvm.Cond.constant "java/lang/StringUTF16" (227 : Nat) (65536 : Int32)) ∈ lw_all := lw_g (lw_at lw_m4 48 rfl) rfl
theorem q854 : (Jvm.Cond.methodLink "java/lang/StringUTF16" (228 : Nat) ({ cls := "java/lang/StringUTF16", name := "indexOfChar", desc := "([BIII)I" } : Jvm.MethodName)) ∈ lw_all := lw_g (lw_at lw_m4 49 rfl) rfl
theorem q855 : (Jvm.Cond.static ({ cls := "java/lang/StringUTF16", name := "indexOfChar", desc := "([BIII)I" } : Jvm.MethodName)) ∈ lw_all := lw_g (lw_at lw_m4 50 rfl) rfl
theorem q856 : (Jvm.Cond.code ({ cls := "java/lang/StringUTF16", name := "indexOfChar", desc := "([BIII)I" } : Jvm.MethodName) prog_35_method_47_code (4 : Nat) (Option.some Jvm.ClassFile.FieldType.int)) ∈ lw_all := lw_g (lw_at lw_m4 51 rfl) rfl
theorem q857 : (Jvm.Cond.methodLink "java/lang/StringUTF16" (96 : Nat) ({ cls := "java/lang/StringUTF16", name := "checkBoundsBeginEnd", desc := "(II[B)V" } : Jvm.MethodName)) ∈ lw_all := lw_g (lw_at lw_m4 52 rfl) rfl
theorem q858 : (Jvm.Cond.static ({ cls := "java/lang/StringUTF16", name := "checkBoundsBeginEnd", desc := "(II[B)V" } : Jvm.MethodName)) ∈ lw_all := lw_g (lw_at lw_m4 53 rfl) rfl
theorem q859 : (Jvm.Cond.code ({ cls := "java/lang/StringUTF16", name := "checkBoundsBeginEnd", desc := "(II[B)V" } : Jvm.MethodName) prog_35_method_93_code (3 : Nat) (Option.none : Option Jvm.ClassFile.FieldType)) ∈ lw_all := lw_g (lw_at lw_m4 54 rfl) rfl
theorem q860 : (Jvm.Cond.methodLink "java/lang/StringUTF16" (241 : Nat) ({ cls := "java/lang/String", name := "checkBoundsBeginEnd", desc := "(III)V" } : Jvm.MethodName)) ∈ lw_all := lw_g (lw_at lw_m4 55 rfl) rfl
theorem q866 : (Jvm.Cond.methodLink "java/lang/StringUTF16" (244 : Nat) ({ cls := "java/lang/StringUTF16", name := "indexOfCharUnsafe", desc := "([BIII)I" } : Jvm.MethodName)) ∈ lw_all := lw_g (lw_at lw_m4 61 rfl) rfl
theorem q867 : (Jvm.Cond.static ({ cls := "java/lang/StringUTF16", name := "indexOfCharUnsafe", desc := "([BIII)I" } : Jvm.MethodName)) ∈ lw_all := lw_g (lw_at lw_m4 62 rfl) rfl
theorem q868 : (Jvm.Cond.code ({ cls := "java/lang/StringUTF16", name := "indexOfCharUnsafe", desc := "([BIII)I" } : Jvm.MethodName) prog_35_method_48_code (5 : Nat) (Option.some Jvm.ClassFile.FieldType.int)) ∈ lw_all := lw_g (lw_at lw_m4 63 rfl) rfl
theorem q869 : (Jvm.Cond.methodLink "java/lang/StringUTF16" (232 : Nat) ({ cls := "java/lang/StringUTF16", name := "indexOfSupplementary", desc := "([BIII)I" } : Jvm.MethodName)) ∈ lw_all := lw_g (lw_at lw_m4 64 rfl) rfl
theorem q870 : (Jvm.Cond.static ({ cls := "java/lang/StringUTF16", name := "indexOfSupplementary", desc := "([BIII)I" } : Jvm.MethodName)) ∈ lw_all := lw_g (lw_at lw_m4 65 rfl) rfl
theorem q871 : (Jvm.Cond.code ({ cls := "java/lang/StringUTF16", name := "indexOfSupplementary", desc := "([BIII)I" } : Jvm.MethodName) prog_35_method_49_code (7 : Nat) (Option.some Jvm.ClassFile.FieldType.int)) ∈ lw_all := lw_g (lw_at lw_m4 66 rfl) rfl
theorem q872 : (Jvm.Cond.methodLink "java/lang/StringUTF16" (164 : Nat) ({ cls := "java/lang/Character", name := "isValidCodePoint", desc := "(I)Z" } : Jvm.MethodName)) ∈ lw_all := lw_g (lw_at lw_m4 67 rfl) rfl
theorem q875 : (Jvm.Cond.methodLink "java/lang/StringUTF16" (157 : Nat) ({ cls := "java/lang/Character", name := "highSurrogate", desc := "(I)C" } : Jvm.MethodName)) ∈ lw_all := lw_g (lw_at lw_m4 70 rfl) rfl
theorem q879 : (Jvm.Cond.methodLink "java/lang/StringUTF16" (161 : Nat) ({ cls := "java/lang/Character", name := "lowSurrogate", desc := "(I)C" } : Jvm.MethodName)) ∈ lw_all := lw_g (lw_at lw_m4 74 rfl) rfl
def RJ7 : String := "java/lang/Throwable"
def TJ7 : u_T := fun k => match k with
  | 0 => ("java/lang/Throwable", "cause", "Ljava/lang/Throwable;", false)
  | 1 => ("java/lang/Throwable", "stackTrace", "[Ljava/lang/StackTraceElement;", false)
  | 2 => ("java/lang/Throwable", "suppressedExceptions", "Ljava/util/List;", false)
  | 3 => ("java/lang/Throwable", "detailMessage", "Ljava/lang/String;", false)
  | _ => ("java/lang/Throwable", "backtrace", "Ljava/lang/Object;", false)
def tyJ7 : Nat → FieldType := fun k => match k with
  | 0 => .object "java/lang/Throwable"
  | 1 => .array (.object "java/lang/StackTraceElement")
  | 2 => .object "java/util/List"
  | 3 => .object "java/lang/String"
  | _ => .object "java/lang/Object"
abbrev wsJ70 : List Cond := u_ws RJ7 TJ7 5
theorem nmJ7 : ∀ a, a < 5 → ∀ b, b < 5 → a ≠ b → (TJ7 a).2.1 ≠ (TJ7 b).2.1 := by decide +kernel
theorem tyJ7_ok : ∀ k, k < 5 → parseFieldDescriptor (TJ7 k).2.2.1 = some (tyJ7 k) := by decide +kernel
abbrev cJ7_init : ByteArray := prog_37_method_1_code
def yJ7_init : MethodName := ⟨RJ7, "<init>", "()V"⟩
abbrev cJ7_init_2 : ByteArray := prog_37_method_5_code
def yJ7_init_2 : MethodName := ⟨RJ7, "<init>", "(Ljava/lang/String;Ljava/lang/Throwable;ZZ)V"⟩
theorem q102 : (Jvm.Cond.initialized "java/lang/Throwable") ∈ lw_all := lw_g (lw_at lw_m1 17 rfl) rfl
theorem q576 : (Jvm.Cond.declares ({ cls := "java/lang/Throwable", name := "<init>", desc := "()V" } : Jvm.MethodName)) ∈ lw_tbl := lw_at lw_m3 11 rfl
theorem q577 : (Jvm.Cond.declares ({ cls := "java/lang/Throwable", name := "<init>", desc := "(Ljava/lang/String;)V" } : Jvm.MethodName)) ∈ lw_tbl := lw_at lw_m3 12 rfl
theorem q581 : (Jvm.Cond.lays "java/lang/Throwable" "java/lang/Throwable" "cause" "Ljava/lang/Throwable;") ∈ lw_all := lw_g (lw_at lw_m3 16 rfl) rfl
theorem q583 : (Jvm.Cond.lays "java/lang/Throwable" "java/lang/Throwable" "stackTrace" "[Ljava/lang/StackTraceElement;") ∈ lw_all := lw_g (lw_at lw_m3 18 rfl) rfl
theorem q585 : (Jvm.Cond.lays "java/lang/Throwable" "java/lang/Throwable" "suppressedExceptions" "Ljava/util/List;") ∈ lw_all := lw_g (lw_at lw_m3 20 rfl) rfl
theorem q587 : (Jvm.Cond.lays "java/lang/Throwable" "java/lang/Throwable" "detailMessage" "Ljava/lang/String;") ∈ lw_all := lw_g (lw_at lw_m3 22 rfl) rfl
theorem q589 : (Jvm.Cond.lays "java/lang/Throwable" "java/lang/Throwable" "backtrace" "Ljava/lang/Object;") ∈ lw_all := lw_g (lw_at lw_m3 24 rfl) rfl
theorem q590 : (Jvm.Cond.fieldLink "java/lang/Throwable" (198 : Nat) "java/lang/Throwable" "backtrace" "Ljava/lang/Object;") ∈ lw_all := lw_g (lw_at lw_m3 25 rfl) rfl
theorem q591 : (Jvm.Cond.superclass "java/lang/Throwable" "java/lang/Object") ∈ lw_all := lw_g (lw_at lw_m3 26 rfl) rfl
theorem q592 : (Jvm.Cond.instanceMethod ({ cls := "java/lang/Throwable", name := "<init>", desc := "()V" } : Jvm.MethodName)) ∈ lw_all := lw_g (lw_at lw_m3 27 rfl) rfl
theorem q593 : (Jvm.Cond.code ({ cls := "java/lang/Throwable", name := "<init>", desc := "()V" } : Jvm.MethodName) prog_37_method_1_code (1 : Nat) (Option.none : Option Jvm.ClassFile.FieldType)) ∈ lw_all := lw_g (lw_at lw_m3 28 rfl) rfl
theorem q594 : (Jvm.Cond.methodLink "java/lang/Throwable" (1 : Nat) ({ cls := "java/lang/Object", name := "<init>", desc := "()V" } : Jvm.MethodName)) ∈ lw_all := lw_g (lw_at lw_m3 29 rfl) rfl
theorem q595 : (Jvm.Cond.fieldLink "java/lang/Throwable" (13 : Nat) "java/lang/Throwable" "UNASSIGNED_STACK" "[Ljava/lang/StackTraceElement;") ∈ lw_all := lw_g (lw_at lw_m3 30 rfl) rfl
theorem q596 : (Jvm.Cond.laysStatic "java/lang/Throwable" "UNASSIGNED_STACK" "[Ljava/lang/StackTraceElement;") ∈ lw_tbl := lw_at lw_m3 31 rfl
theorem q597 : (Jvm.Cond.fieldLink "java/lang/Throwable" (20 : Nat) "java/lang/Throwable" "SUPPRESSED_SENTINEL" "Ljava/util/List;") ∈ lw_all := lw_g (lw_at lw_m3 32 rfl) rfl
theorem q598 : (Jvm.Cond.laysStatic "java/lang/Throwable" "SUPPRESSED_SENTINEL" "Ljava/util/List;") ∈ lw_tbl := lw_at lw_m3 33 rfl
theorem q599 : (Jvm.Cond.methodLink "java/lang/Throwable" (27 : Nat) ({ cls := "java/lang/Throwable", name := "fillInStackTrace", desc := "()Ljava/lang/Throwable;" } : Jvm.MethodName)) ∈ lw_all := lw_g (lw_at lw_m3 34 rfl) rfl
theorem q600 : (Jvm.Cond.instanceMethod ({ cls := "java/lang/Throwable", name := "fillInStackTrace", desc := "()Ljava/lang/Throwable;" } : Jvm.MethodName)) ∈ lw_all := lw_g (lw_at lw_m3 35 rfl) rfl
theorem q601 : (Jvm.Cond.sameMethod "java/lang/Throwable" "java/lang/Throwable" "fillInStackTrace" "()Ljava/lang/Throwable;") ∈ lw_all := lw_g (lw_at lw_m3 36 rfl) rfl
theorem q603 : (Jvm.Cond.codeSync ({ cls := "java/lang/Throwable", name := "fillInStackTrace", desc := "()Ljava/lang/Throwable;" } : Jvm.MethodName) prog_37_method_18_code (1 : Nat) (Option.some (Jvm.ClassFile.FieldType.object "java/lang/Throwable"))) ∈ lw_all := lw_g (lw_at lw_m3 38 rfl) rfl
theorem q604 : (Jvm.Cond.methodLink "java/lang/Throwable" (202 : Nat) ({ cls := "java/lang/Throwable", name := "fillInStackTrace", desc := "(I)Ljava/lang/Throwable;" } : Jvm.MethodName)) ∈ lw_all := lw_g (lw_at lw_m3 39 rfl) rfl
theorem q605 : (Jvm.Cond.privateMethod ({ cls := "java/lang/Throwable", name := "fillInStackTrace", desc := "(I)Ljava/lang/Throwable;" } : Jvm.MethodName)) ∈ lw_tbl := lw_at lw_m3 40 rfl
theorem q606 : (Jvm.Cond.instanceMethod ({ cls := "java/lang/Throwable", name := "fillInStackTrace", desc := "(I)Ljava/lang/Throwable;" } : Jvm.MethodName)) ∈ lw_all := lw_g (lw_at lw_m3 41 rfl) rfl
theorem q607 : (Jvm.Cond.instantiable "java/lang/Throwable" (6 : Nat)) ∈ lw_all := lw_g (lw_at lw_m3 42 rfl) rfl
theorem q608 : (Jvm.Cond.native ({ cls := "java/lang/Throwable", name := "fillInStackTrace", desc := "(I)Ljava/lang/Throwable;" } : Jvm.MethodName)) ∈ lw_all := lw_g (lw_at lw_m3 43 rfl) rfl
theorem q616 : (Jvm.Cond.instanceMethod ({ cls := "java/lang/Throwable", name := "<init>", desc := "(Ljava/lang/String;Ljava/lang/Throwable;ZZ)V" } : Jvm.MethodName)) ∈ lw_all := lw_g (lw_at lw_m3 51 rfl) rfl
theorem q617 : (Jvm.Cond.code ({ cls := "java/lang/Throwable", name := "<init>", desc := "(Ljava/lang/String;Ljava/lang/Throwable;ZZ)V" } : Jvm.MethodName) prog_37_method_5_code (5 : Nat) (Option.none : Option Jvm.ClassFile.FieldType)) ∈ lw_all := lw_g (lw_at lw_m3 52 rfl) rfl
theorem q622 : (Jvm.Cond.fieldLink "java/lang/Throwable" (198 : Nat) "java/lang/Throwable" "backtrace" "Ljava/lang/Object;") ∈ lw_all := lw_g (lw_at lw_m3 57 rfl) rfl
theorem q623 : (Jvm.Cond.fieldLink "java/lang/Throwable" (31 : Nat) "java/lang/Throwable" "detailMessage" "Ljava/lang/String;") ∈ lw_all := lw_g (lw_at lw_m3 58 rfl) rfl
theorem q624 : (Jvm.Cond.fieldLink "java/lang/Throwable" (7 : Nat) "java/lang/Throwable" "cause" "Ljava/lang/Throwable;") ∈ lw_all := lw_g (lw_at lw_m3 59 rfl) rfl
theorem q625 : (Jvm.Cond.fieldLink "java/lang/Throwable" (17 : Nat) "java/lang/Throwable" "stackTrace" "[Ljava/lang/StackTraceElement;") ∈ lw_all := lw_g (lw_at lw_m3 60 rfl) rfl
theorem q626 : (Jvm.Cond.fieldLink "java/lang/Throwable" (24 : Nat) "java/lang/Throwable" "suppressedExceptions" "Ljava/util/List;") ∈ lw_all := lw_g (lw_at lw_m3 61 rfl) rfl
theorem q631 : (Jvm.Cond.soleField "java/lang/Throwable" "backtrace") ∈ lw_all := lw_g (lw_at lw_m3 66 rfl) rfl
theorem q632 : (Jvm.Cond.soleField "java/lang/Throwable" "detailMessage") ∈ lw_all := lw_g (lw_at lw_m3 67 rfl) rfl
theorem q633 : (Jvm.Cond.soleField "java/lang/Throwable" "cause") ∈ lw_all := lw_g (lw_at lw_m3 68 rfl) rfl
theorem q634 : (Jvm.Cond.soleField "java/lang/Throwable" "stackTrace") ∈ lw_all := lw_g (lw_at lw_m3 69 rfl) rfl
theorem q636 : (Jvm.Cond.soleField "java/lang/Throwable" "depth") ∈ lw_all := lw_g (lw_at lw_m3 71 rfl) rfl
theorem q637 : (Jvm.Cond.soleField "java/lang/Throwable" "suppressedExceptions") ∈ lw_all := lw_g (lw_at lw_m3 72 rfl) rfl
theorem q2217 : (Jvm.Cond.sameMethod "java/lang/Throwable" "java/lang/Throwable" "fillInStackTrace" "(I)Ljava/lang/Throwable;") ∈ lw_all := lw_g (lw_at lw_m9 212 rfl) rfl
theorem q2267 : (Jvm.Cond.castable "java/lang/Throwable" "java/lang/Object") ∈ lw_tbl := lw_at lw_m10 22 rfl
theorem in_J7 : ∀ w ∈ wsJ70, w ∈ lw_all := lw_in wsJ70 [581, 583, 585, 587, 589] (by decide +kernel) (by decide +kernel)
def RJ8 : String := "java/lang/Exception"
abbrev cJ8_init : ByteArray := prog_28_method_5_code
def yJ8_init : MethodName := ⟨RJ8, "<init>", "(Ljava/lang/String;Ljava/lang/Throwable;ZZ)V"⟩
abbrev cJ8_init_2 : ByteArray := prog_28_method_1_code
def yJ8_init_2 : MethodName := ⟨RJ8, "<init>", "()V"⟩
theorem q103 : (Jvm.Cond.initialized "java/lang/Exception") ∈ lw_all := lw_g (lw_at lw_m1 18 rfl) rfl
theorem q574 : (Jvm.Cond.declares ({ cls := "java/lang/Exception", name := "<init>", desc := "()V" } : Jvm.MethodName)) ∈ lw_tbl := lw_at lw_m3 9 rfl
theorem q575 : (Jvm.Cond.declares ({ cls := "java/lang/Exception", name := "<init>", desc := "(Ljava/lang/String;)V" } : Jvm.MethodName)) ∈ lw_tbl := lw_at lw_m3 10 rfl
theorem q613 : (Jvm.Cond.instanceMethod ({ cls := "java/lang/Exception", name := "<init>", desc := "(Ljava/lang/String;Ljava/lang/Throwable;ZZ)V" } : Jvm.MethodName)) ∈ lw_all := lw_g (lw_at lw_m3 48 rfl) rfl
theorem q614 : (Jvm.Cond.code ({ cls := "java/lang/Exception", name := "<init>", desc := "(Ljava/lang/String;Ljava/lang/Throwable;ZZ)V" } : Jvm.MethodName) prog_28_method_5_code (5 : Nat) (Option.none : Option Jvm.ClassFile.FieldType)) ∈ lw_all := lw_g (lw_at lw_m3 49 rfl) rfl
theorem q615 : (Jvm.Cond.methodLink "java/lang/Exception" (16 : Nat) ({ cls := "java/lang/Throwable", name := "<init>", desc := "(Ljava/lang/String;Ljava/lang/Throwable;ZZ)V" } : Jvm.MethodName)) ∈ lw_all := lw_g (lw_at lw_m3 50 rfl) rfl
theorem q1582 : (Jvm.Cond.instanceMethod ({ cls := "java/lang/Exception", name := "<init>", desc := "()V" } : Jvm.MethodName)) ∈ lw_all := lw_g (lw_at lw_m7 57 rfl) rfl
theorem q1583 : (Jvm.Cond.code ({ cls := "java/lang/Exception", name := "<init>", desc := "()V" } : Jvm.MethodName) prog_28_method_1_code (1 : Nat) (Option.none : Option Jvm.ClassFile.FieldType)) ∈ lw_all := lw_g (lw_at lw_m7 58 rfl) rfl
theorem q1584 : (Jvm.Cond.methodLink "java/lang/Exception" (1 : Nat) ({ cls := "java/lang/Throwable", name := "<init>", desc := "()V" } : Jvm.MethodName)) ∈ lw_all := lw_g (lw_at lw_m7 59 rfl) rfl
def RX10 : String := "GridRoom$Wrong"
def TX10 : u_T := fun k => match k with
  | 0 => ("java/lang/Throwable", "cause", "Ljava/lang/Throwable;", false)
  | 1 => ("java/lang/Throwable", "stackTrace", "[Ljava/lang/StackTraceElement;", false)
  | 2 => ("java/lang/Throwable", "suppressedExceptions", "Ljava/util/List;", false)
  | 3 => ("java/lang/Throwable", "detailMessage", "Ljava/lang/String;", false)
  | 4 => ("java/lang/Throwable", "backtrace", "Ljava/lang/Object;", false)
  | 5 => ("java/lang/Throwable", "depth", "I", false)
  | 6 => ("GridRoom$Wrong", "kind", "I", true)
  | _ => ("GridRoom$Wrong", "place", "I", true)
def tyX10 : Nat → FieldType := fun k => match k with
  | 0 => .object "java/lang/Throwable"
  | 1 => .array (.object "java/lang/StackTraceElement")
  | 2 => .object "java/util/List"
  | 3 => .object "java/lang/String"
  | 4 => .object "java/lang/Object"
  | 5 => .int
  | 6 => .int
  | _ => .int
abbrev wsX100 : List Cond := u_ws RX10 TX10 8
theorem nmX10 : ∀ a, a < 8 → ∀ b, b < 8 → a ≠ b → (TX10 a).2.1 ≠ (TX10 b).2.1 := by decide +kernel
theorem tyX10_ok : ∀ k, k < 8 → parseFieldDescriptor (TX10 k).2.2.1 = some (tyX10 k) := by decide +kernel
abbrev cX10_init : ByteArray := prog_22_method_1_code
def yX10_init : MethodName := ⟨RX10, "<init>", "(II)V"⟩
theorem q104 : (Jvm.Cond.initialized "GridRoom$Wrong") ∈ lw_all := lw_g (lw_at lw_m1 19 rfl) rfl
theorem q572 : (Jvm.Cond.instantiable "GridRoom$Wrong" (8 : Nat)) ∈ lw_all := lw_g (lw_at lw_m3 7 rfl) rfl
theorem q573 : (Jvm.Cond.castable "GridRoom$Wrong" "GridRoom$Wrong") ∈ lw_tbl := lw_at lw_m3 8 rfl
theorem q578 : (Jvm.Cond.selects "GridRoom$Wrong" ({ cls := "java/lang/Throwable", name := "fillInStackTrace", desc := "(I)Ljava/lang/Throwable;" } : Jvm.MethodName) ({ cls := "java/lang/Throwable", name := "fillInStackTrace", desc := "(I)Ljava/lang/Throwable;" } : Jvm.MethodName)) ∈ lw_all := lw_g (lw_at lw_m3 13 rfl) rfl
theorem q579 : (Jvm.Cond.selects "GridRoom$Wrong" ({ cls := "java/lang/Throwable", name := "fillInStackTrace", desc := "()Ljava/lang/Throwable;" } : Jvm.MethodName) ({ cls := "java/lang/Throwable", name := "fillInStackTrace", desc := "()Ljava/lang/Throwable;" } : Jvm.MethodName)) ∈ lw_all := lw_g (lw_at lw_m3 14 rfl) rfl
theorem q580 : (Jvm.Cond.lays "GridRoom$Wrong" "java/lang/Throwable" "cause" "Ljava/lang/Throwable;") ∈ lw_all := lw_g (lw_at lw_m3 15 rfl) rfl
theorem q582 : (Jvm.Cond.lays "GridRoom$Wrong" "java/lang/Throwable" "stackTrace" "[Ljava/lang/StackTraceElement;") ∈ lw_all := lw_g (lw_at lw_m3 17 rfl) rfl
theorem q584 : (Jvm.Cond.lays "GridRoom$Wrong" "java/lang/Throwable" "suppressedExceptions" "Ljava/util/List;") ∈ lw_all := lw_g (lw_at lw_m3 19 rfl) rfl
theorem q586 : (Jvm.Cond.lays "GridRoom$Wrong" "java/lang/Throwable" "detailMessage" "Ljava/lang/String;") ∈ lw_all := lw_g (lw_at lw_m3 21 rfl) rfl
theorem q588 : (Jvm.Cond.lays "GridRoom$Wrong" "java/lang/Throwable" "backtrace" "Ljava/lang/Object;") ∈ lw_all := lw_g (lw_at lw_m3 23 rfl) rfl
theorem q610 : (Jvm.Cond.instanceMethod ({ cls := "GridRoom$Wrong", name := "<init>", desc := "(II)V" } : Jvm.MethodName)) ∈ lw_all := lw_g (lw_at lw_m3 45 rfl) rfl
theorem q611 : (Jvm.Cond.code ({ cls := "GridRoom$Wrong", name := "<init>", desc := "(II)V" } : Jvm.MethodName) prog_22_method_1_code (3 : Nat) (Option.none : Option Jvm.ClassFile.FieldType)) ∈ lw_all := lw_g (lw_at lw_m3 46 rfl) rfl
theorem q612 : (Jvm.Cond.methodLink "GridRoom$Wrong" (1 : Nat) ({ cls := "java/lang/Exception", name := "<init>", desc := "(Ljava/lang/String;Ljava/lang/Throwable;ZZ)V" } : Jvm.MethodName)) ∈ lw_all := lw_g (lw_at lw_m3 47 rfl) rfl
theorem q618 : (Jvm.Cond.fieldLink "GridRoom$Wrong" (7 : Nat) "GridRoom$Wrong" "kind" "I") ∈ lw_all := lw_g (lw_at lw_m3 53 rfl) rfl
theorem q620 : (Jvm.Cond.fieldLink "GridRoom$Wrong" (13 : Nat) "GridRoom$Wrong" "place" "I") ∈ lw_all := lw_g (lw_at lw_m3 55 rfl) rfl
theorem q627 : (Jvm.Cond.laysFinal "GridRoom$Wrong" "GridRoom$Wrong" "kind" "I") ∈ lw_all := lw_g (lw_at lw_m3 62 rfl) rfl
theorem q628 : (Jvm.Cond.soleField "GridRoom$Wrong" "kind") ∈ lw_all := lw_g (lw_at lw_m3 63 rfl) rfl
theorem q629 : (Jvm.Cond.laysFinal "GridRoom$Wrong" "GridRoom$Wrong" "place" "I") ∈ lw_all := lw_g (lw_at lw_m3 64 rfl) rfl
theorem q630 : (Jvm.Cond.soleField "GridRoom$Wrong" "place") ∈ lw_all := lw_g (lw_at lw_m3 65 rfl) rfl
theorem q635 : (Jvm.Cond.lays "GridRoom$Wrong" "java/lang/Throwable" "depth" "I") ∈ lw_all := lw_g (lw_at lw_m3 70 rfl) rfl
theorem q638 : (Jvm.Cond.superclass "GridRoom$Wrong" "java/lang/Exception") ∈ lw_all := lw_g (lw_at lw_m3 73 rfl) rfl
theorem q746 : (Jvm.Cond.selects "GridRoom$Wrong" ({ cls := "java/lang/Object", name := "getClass", desc := "()Ljava/lang/Class;" } : Jvm.MethodName) ({ cls := "java/lang/Object", name := "getClass", desc := "()Ljava/lang/Class;" } : Jvm.MethodName)) ∈ lw_all := lw_g (lw_at lw_m3 181 rfl) rfl
theorem q2253 : (Jvm.Cond.castable "GridRoom$Wrong" "java/lang/Object") ∈ lw_tbl := lw_at lw_m10 8 rfl
theorem in_X10 : ∀ w ∈ wsX100, w ∈ lw_all := lw_in wsX100 [580, 582, 584, 586, 588, 635, 627, 629] (by decide +kernel) (by decide +kernel)
def RJ9 : String := "jdk/internal/util/ArraysSupport"
abbrev cJ9_newLength : ByteArray := prog_48_method_27_code
def yJ9_newLength : MethodName := ⟨RJ9, "newLength", "(III)I"⟩
abbrev cJ9_hugeLength : ByteArray := prog_48_method_28_code
def yJ9_hugeLength : MethodName := ⟨RJ9, "hugeLength", "(II)I"⟩
theorem q106 : (Jvm.Cond.initialized "jdk/internal/util/ArraysSupport") ∈ lw_all := lw_g (lw_at lw_m1 21 rfl) rfl
theorem q714 : (Jvm.Cond.static ({ cls := "jdk/internal/util/ArraysSupport", name := "newLength", desc := "(III)I" } : Jvm.MethodName)) ∈ lw_all := lw_g (lw_at lw_m3 149 rfl) rfl
theorem q715 : (Jvm.Cond.code ({ cls := "jdk/internal/util/ArraysSupport", name := "newLength", desc := "(III)I" } : Jvm.MethodName) prog_48_method_27_code (4 : Nat) (Option.some Jvm.ClassFile.FieldType.int)) ∈ lw_all := lw_g (lw_at lw_m3 150 rfl) rfl
theorem q716 : (Jvm.Cond.methodLink "jdk/internal/util/ArraysSupport" (194 : Nat) ({ cls := "java/lang/Math", name := "max", desc := "(II)I" } : Jvm.MethodName)) ∈ lw_all := lw_g (lw_at lw_m3 151 rfl) rfl
theorem q719 : (Jvm.Cond.constant "jdk/internal/util/ArraysSupport" (200 : Nat) (2147483639 : Int32)) ∈ lw_all := lw_g (lw_at lw_m3 154 rfl) rfl
theorem q720 : (Jvm.Cond.methodLink "jdk/internal/util/ArraysSupport" (201 : Nat) ({ cls := "jdk/internal/util/ArraysSupport", name := "hugeLength", desc := "(II)I" } : Jvm.MethodName)) ∈ lw_all := lw_g (lw_at lw_m3 155 rfl) rfl
theorem q721 : (Jvm.Cond.static ({ cls := "jdk/internal/util/ArraysSupport", name := "hugeLength", desc := "(II)I" } : Jvm.MethodName)) ∈ lw_all := lw_g (lw_at lw_m3 156 rfl) rfl
theorem q722 : (Jvm.Cond.code ({ cls := "jdk/internal/util/ArraysSupport", name := "hugeLength", desc := "(II)I" } : Jvm.MethodName) prog_48_method_28_code (3 : Nat) (Option.some Jvm.ClassFile.FieldType.int)) ∈ lw_all := lw_g (lw_at lw_m3 157 rfl) rfl
def RJ10 : String := "java/lang/Math"
abbrev cJ10_max : ByteArray := prog_31_method_65_code
def yJ10_max : MethodName := ⟨RJ10, "max", "(II)I"⟩
abbrev cJ10_min : ByteArray := prog_31_method_69_code
def yJ10_min : MethodName := ⟨RJ10, "min", "(II)I"⟩
theorem q107 : (Jvm.Cond.initialized "java/lang/Math") ∈ lw_all := lw_g (lw_at lw_m1 22 rfl) rfl
theorem q717 : (Jvm.Cond.static ({ cls := "java/lang/Math", name := "max", desc := "(II)I" } : Jvm.MethodName)) ∈ lw_all := lw_g (lw_at lw_m3 152 rfl) rfl
theorem q718 : (Jvm.Cond.code ({ cls := "java/lang/Math", name := "max", desc := "(II)I" } : Jvm.MethodName) prog_31_method_65_code (2 : Nat) (Option.some Jvm.ClassFile.FieldType.int)) ∈ lw_all := lw_g (lw_at lw_m3 153 rfl) rfl
theorem q757 : (Jvm.Cond.static ({ cls := "java/lang/Math", name := "min", desc := "(II)I" } : Jvm.MethodName)) ∈ lw_all := lw_g (lw_at lw_m3 192 rfl) rfl
theorem q758 : (Jvm.Cond.code ({ cls := "java/lang/Math", name := "min", desc := "(II)I" } : Jvm.MethodName) prog_31_method_69_code (2 : Nat) (Option.some Jvm.ClassFile.FieldType.int)) ∈ lw_all := lw_g (lw_at lw_m3 193 rfl) rfl
def RJ11 : String := "java/util/Arrays"
abbrev cJ11_copyOf : ByteArray := prog_41_method_119_code
def yJ11_copyOf : MethodName := ⟨RJ11, "copyOf", "([Ljava/lang/Object;I)[Ljava/lang/Object;"⟩
abbrev cJ11_copyOf_2 : ByteArray := prog_41_method_120_code
def yJ11_copyOf_2 : MethodName := ⟨RJ11, "copyOf", "([Ljava/lang/Object;ILjava/lang/Class;)[Ljava/lang/Object;"⟩
theorem q108 : (Jvm.Cond.initialized "java/util/Arrays") ∈ lw_all := lw_g (lw_at lw_m1 23 rfl) rfl
theorem q724 : (Jvm.Cond.static ({ cls := "java/util/Arrays", name := "copyOf", desc := "([Ljava/lang/Object;I)[Ljava/lang/Object;" } : Jvm.MethodName)) ∈ lw_all := lw_g (lw_at lw_m3 159 rfl) rfl
theorem q725 : (Jvm.Cond.code ({ cls := "java/util/Arrays", name := "copyOf", desc := "([Ljava/lang/Object;I)[Ljava/lang/Object;" } : Jvm.MethodName) prog_41_method_119_code (2 : Nat) (Option.some (Jvm.ClassFile.FieldType.array (Jvm.ClassFile.FieldType.object "java/lang/Object")))) ∈ lw_all := lw_g (lw_at lw_m3 160 rfl) rfl
theorem q726 : (Jvm.Cond.methodLink "java/util/Arrays" (86 : Nat) ({ cls := "java/lang/Object", name := "getClass", desc := "()Ljava/lang/Class;" } : Jvm.MethodName)) ∈ lw_all := lw_g (lw_at lw_m3 161 rfl) rfl
theorem q751 : (Jvm.Cond.methodLink "java/util/Arrays" (300 : Nat) ({ cls := "java/util/Arrays", name := "copyOf", desc := "([Ljava/lang/Object;ILjava/lang/Class;)[Ljava/lang/Object;" } : Jvm.MethodName)) ∈ lw_all := lw_g (lw_at lw_m3 186 rfl) rfl
theorem q752 : (Jvm.Cond.static ({ cls := "java/util/Arrays", name := "copyOf", desc := "([Ljava/lang/Object;ILjava/lang/Class;)[Ljava/lang/Object;" } : Jvm.MethodName)) ∈ lw_all := lw_g (lw_at lw_m3 187 rfl) rfl
theorem q753 : (Jvm.Cond.code ({ cls := "java/util/Arrays", name := "copyOf", desc := "([Ljava/lang/Object;ILjava/lang/Class;)[Ljava/lang/Object;" } : Jvm.MethodName) prog_41_method_120_code (4 : Nat) (Option.some (Jvm.ClassFile.FieldType.array (Jvm.ClassFile.FieldType.object "java/lang/Object")))) ∈ lw_all := lw_g (lw_at lw_m3 188 rfl) rfl
theorem q754 : (Jvm.Cond.classLink "java/util/Arrays" (110 : Nat) "[Ljava/lang/Object;") ∈ lw_all := lw_g (lw_at lw_m3 189 rfl) rfl
theorem q755 : (Jvm.Cond.classLink "java/util/Arrays" (2 : Nat) "java/lang/Object") ∈ lw_all := lw_g (lw_at lw_m3 190 rfl) rfl
theorem q756 : (Jvm.Cond.methodLink "java/util/Arrays" (304 : Nat) ({ cls := "java/lang/Math", name := "min", desc := "(II)I" } : Jvm.MethodName)) ∈ lw_all := lw_g (lw_at lw_m3 191 rfl) rfl
theorem q759 : (Jvm.Cond.methodLink "java/util/Arrays" (150 : Nat) ({ cls := "java/lang/System", name := "arraycopy", desc := "(Ljava/lang/Object;ILjava/lang/Object;II)V" } : Jvm.MethodName)) ∈ lw_all := lw_g (lw_at lw_m3 194 rfl) rfl
def RX11 : String := "GridRoom$RuleReader"
def TX11 : u_T := fun k => match k with
  | 0 => ("GridRoom$Reader", "text", "[B", true)
  | 1 => ("GridRoom$Reader", "end", "I", true)
  | 2 => ("GridRoom$Reader", "at", "I", false)
  | 3 => ("GridRoom$Reader", "size", "I", false)
  | 4 => ("GridRoom$Reader", "value", "I", false)
  | 5 => ("GridRoom$Reader", "isWord", "Z", false)
  | _ => ("GridRoom$Reader", "isNumber", "Z", false)
def tyX11 : Nat → FieldType := fun k => match k with
  | 0 => .array .byte
  | 1 => .int
  | 2 => .int
  | 3 => .int
  | 4 => .int
  | 5 => .boolean
  | _ => .boolean
abbrev wsX110 : List Cond := u_ws RX11 TX11 7
theorem nmX11 : ∀ a, a < 7 → ∀ b, b < 7 → a ≠ b → (TX11 a).2.1 ≠ (TX11 b).2.1 := by decide +kernel
theorem tyX11_ok : ∀ k, k < 7 → parseFieldDescriptor (TX11 k).2.2.1 = some (tyX11 k) := by decide +kernel
abbrev cX11_init : ByteArray := prog_9_method_1_code
def yX11_init : MethodName := ⟨RX11, "<init>", "([BI)V"⟩
abbrev cX11_read : ByteArray := prog_9_method_2_code
def yX11_read : MethodName := ⟨RX11, "read", "(I)LGridRoom$Rules;"⟩
abbrev cX11_clause : ByteArray := prog_9_method_3_code
def yX11_clause : MethodName := ⟨RX11, "clause", "()LGridRoom$Clause;"⟩
theorem q109 : (Jvm.Cond.initialized "GridRoom$RuleReader") ∈ lw_all := lw_g (lw_at lw_m1 24 rfl) rfl
theorem q172 : (Jvm.Cond.fieldLinkNest "GridRoom$RuleReader" (36 : Nat) "GridRoom$Rules" "clauses" "Ljava/util/ArrayList;" "GridRoom") ∈ lw_tbl := lw_at lw_m1 87 rfl
theorem q468 : (Jvm.Cond.selects "GridRoom$RuleReader" ({ cls := "GridRoom$Reader", name := "cut", desc := "()V" } : Jvm.MethodName) ({ cls := "GridRoom$Reader", name := "cut", desc := "()V" } : Jvm.MethodName)) ∈ lw_all := lw_g (lw_at lw_m2 143 rfl) rfl
theorem q735 : (Jvm.Cond.selects "GridRoom$RuleReader" ({ cls := "java/lang/Object", name := "getClass", desc := "()Ljava/lang/Class;" } : Jvm.MethodName) ({ cls := "java/lang/Object", name := "getClass", desc := "()Ljava/lang/Class;" } : Jvm.MethodName)) ∈ lw_all := lw_g (lw_at lw_m3 170 rfl) rfl
theorem q770 : (Jvm.Cond.instantiable "GridRoom$RuleReader" (7 : Nat)) ∈ lw_all := lw_g (lw_at lw_m3 205 rfl) rfl
theorem q772 : (Jvm.Cond.instanceMethod ({ cls := "GridRoom$RuleReader", name := "<init>", desc := "([BI)V" } : Jvm.MethodName)) ∈ lw_all := lw_g (lw_at lw_m3 207 rfl) rfl
theorem q773 : (Jvm.Cond.code ({ cls := "GridRoom$RuleReader", name := "<init>", desc := "([BI)V" } : Jvm.MethodName) prog_9_method_1_code (3 : Nat) (Option.none : Option Jvm.ClassFile.FieldType)) ∈ lw_all := lw_g (lw_at lw_m3 208 rfl) rfl
theorem q774 : (Jvm.Cond.methodLink "GridRoom$RuleReader" (3 : Nat) ({ cls := "GridRoom$Reader", name := "<init>", desc := "([BI)V" } : Jvm.MethodName)) ∈ lw_all := lw_g (lw_at lw_m3 209 rfl) rfl
theorem q775 : (Jvm.Cond.laysFinal "GridRoom$RuleReader" "GridRoom$Reader" "text" "[B") ∈ lw_all := lw_g (lw_at lw_m3 210 rfl) rfl
theorem q776 : (Jvm.Cond.laysFinal "GridRoom$RuleReader" "GridRoom$Reader" "end" "I") ∈ lw_all := lw_g (lw_at lw_m3 211 rfl) rfl
theorem q777 : (Jvm.Cond.lays "GridRoom$RuleReader" "GridRoom$Reader" "at" "I") ∈ lw_all := lw_g (lw_at lw_m3 212 rfl) rfl
theorem q778 : (Jvm.Cond.lays "GridRoom$RuleReader" "GridRoom$Reader" "size" "I") ∈ lw_all := lw_g (lw_at lw_m3 213 rfl) rfl
theorem q779 : (Jvm.Cond.lays "GridRoom$RuleReader" "GridRoom$Reader" "value" "I") ∈ lw_all := lw_g (lw_at lw_m3 214 rfl) rfl
theorem q780 : (Jvm.Cond.lays "GridRoom$RuleReader" "GridRoom$Reader" "isWord" "Z") ∈ lw_all := lw_g (lw_at lw_m3 215 rfl) rfl
theorem q781 : (Jvm.Cond.lays "GridRoom$RuleReader" "GridRoom$Reader" "isNumber" "Z") ∈ lw_all := lw_g (lw_at lw_m3 216 rfl) rfl
theorem q782 : (Jvm.Cond.superclass "GridRoom$RuleReader" "GridRoom$Reader") ∈ lw_all := lw_g (lw_at lw_m3 217 rfl) rfl
theorem q784 : (Jvm.Cond.instanceMethod ({ cls := "GridRoom$RuleReader", name := "read", desc := "(I)LGridRoom$Rules;" } : Jvm.MethodName)) ∈ lw_all := lw_g (lw_at lw_m3 219 rfl) rfl
theorem q785 : (Jvm.Cond.selects "GridRoom$RuleReader" ({ cls := "GridRoom$RuleReader", name := "read", desc := "(I)LGridRoom$Rules;" } : Jvm.MethodName) ({ cls := "GridRoom$RuleReader", name := "read", desc := "(I)LGridRoom$Rules;" } : Jvm.MethodName)) ∈ lw_all := lw_g (lw_at lw_m3 220 rfl) rfl
theorem q786 : (Jvm.Cond.code ({ cls := "GridRoom$RuleReader", name := "read", desc := "(I)LGridRoom$Rules;" } : Jvm.MethodName) prog_9_method_2_code (3 : Nat) (Option.some (Jvm.ClassFile.FieldType.object "GridRoom$Rules"))) ∈ lw_all := lw_g (lw_at lw_m3 221 rfl) rfl
theorem q787 : (Jvm.Cond.classLink "GridRoom$RuleReader" (9 : Nat) "GridRoom$Rules") ∈ lw_all := lw_g (lw_at lw_m3 222 rfl) rfl
theorem q788 : (Jvm.Cond.methodLink "GridRoom$RuleReader" (11 : Nat) ({ cls := "GridRoom$Rules", name := "<init>", desc := "(I)V" } : Jvm.MethodName)) ∈ lw_all := lw_g (lw_at lw_m3 223 rfl) rfl
theorem q789 : (Jvm.Cond.methodLink "GridRoom$RuleReader" (14 : Nat) ({ cls := "GridRoom$RuleReader", name := "isEnd", desc := "()Z" } : Jvm.MethodName)) ∈ lw_all := lw_g (lw_at lw_m3 224 rfl) rfl
theorem q790 : (Jvm.Cond.sameMethod "GridRoom$RuleReader" "GridRoom$Reader" "isEnd" "()Z") ∈ lw_all := lw_g (lw_at lw_m3 225 rfl) rfl
theorem q791 : (Jvm.Cond.selects "GridRoom$RuleReader" ({ cls := "GridRoom$RuleReader", name := "isEnd", desc := "()Z" } : Jvm.MethodName) ({ cls := "GridRoom$Reader", name := "isEnd", desc := "()Z" } : Jvm.MethodName)) ∈ lw_all := lw_g (lw_at lw_m3 226 rfl) rfl
theorem q792 : (Jvm.Cond.stringRef "GridRoom$RuleReader" (20 : Nat) "consonant") ∈ lw_tbl := lw_at lw_m3 227 rfl
theorem q793 : (Jvm.Cond.methodLink "GridRoom$RuleReader" (22 : Nat) ({ cls := "GridRoom$RuleReader", name := "is", desc := "(Ljava/lang/String;)Z" } : Jvm.MethodName)) ∈ lw_all := lw_g (lw_at lw_m3 228 rfl) rfl
theorem q794 : (Jvm.Cond.sameMethod "GridRoom$RuleReader" "GridRoom$Reader" "is" "(Ljava/lang/String;)Z") ∈ lw_all := lw_g (lw_at lw_m3 229 rfl) rfl
theorem q795 : (Jvm.Cond.selects "GridRoom$RuleReader" ({ cls := "GridRoom$RuleReader", name := "is", desc := "(Ljava/lang/String;)Z" } : Jvm.MethodName) ({ cls := "GridRoom$Reader", name := "is", desc := "(Ljava/lang/String;)Z" } : Jvm.MethodName)) ∈ lw_all := lw_g (lw_at lw_m3 230 rfl) rfl
theorem q796 : (Jvm.Cond.stringRef "GridRoom$RuleReader" (26 : Nat) "vowel") ∈ lw_tbl := lw_at lw_m3 231 rfl
theorem q797 : (Jvm.Cond.stringRef "GridRoom$RuleReader" (28 : Nat) "write") ∈ lw_tbl := lw_at lw_m3 232 rfl
theorem q798 : (Jvm.Cond.stringRef "GridRoom$RuleReader" (30 : Nat) "drop") ∈ lw_tbl := lw_at lw_m3 233 rfl
theorem q799 : (Jvm.Cond.methodLink "GridRoom$RuleReader" (32 : Nat) ({ cls := "GridRoom$RuleReader", name := "need", desc := "(ZI)V" } : Jvm.MethodName)) ∈ lw_all := lw_g (lw_at lw_m3 234 rfl) rfl
theorem q800 : (Jvm.Cond.sameMethod "GridRoom$RuleReader" "GridRoom$Reader" "need" "(ZI)V") ∈ lw_all := lw_g (lw_at lw_m3 235 rfl) rfl
theorem q801 : (Jvm.Cond.selects "GridRoom$RuleReader" ({ cls := "GridRoom$RuleReader", name := "need", desc := "(ZI)V" } : Jvm.MethodName) ({ cls := "GridRoom$Reader", name := "need", desc := "(ZI)V" } : Jvm.MethodName)) ∈ lw_all := lw_g (lw_at lw_m3 236 rfl) rfl
theorem q802 : (Jvm.Cond.methodLink "GridRoom$RuleReader" (40 : Nat) ({ cls := "java/util/ArrayList", name := "size", desc := "()I" } : Jvm.MethodName)) ∈ lw_all := lw_g (lw_at lw_m3 237 rfl) rfl
theorem q803 : (Jvm.Cond.methodLink "GridRoom$RuleReader" (46 : Nat) ({ cls := "GridRoom$RuleReader", name := "clause", desc := "()LGridRoom$Clause;" } : Jvm.MethodName)) ∈ lw_all := lw_g (lw_at lw_m3 238 rfl) rfl
theorem q804 : (Jvm.Cond.privateMethod ({ cls := "GridRoom$RuleReader", name := "clause", desc := "()LGridRoom$Clause;" } : Jvm.MethodName)) ∈ lw_tbl := lw_at lw_m3 239 rfl
theorem q805 : (Jvm.Cond.instanceMethod ({ cls := "GridRoom$RuleReader", name := "clause", desc := "()LGridRoom$Clause;" } : Jvm.MethodName)) ∈ lw_all := lw_g (lw_at lw_m4 0 rfl) rfl
theorem q806 : (Jvm.Cond.code ({ cls := "GridRoom$RuleReader", name := "clause", desc := "()LGridRoom$Clause;" } : Jvm.MethodName) prog_9_method_3_code (4 : Nat) (Option.some (Jvm.ClassFile.FieldType.object "GridRoom$Clause"))) ∈ lw_all := lw_g (lw_at lw_m4 1 rfl) rfl
theorem q807 : (Jvm.Cond.methodLink "GridRoom$RuleReader" (60 : Nat) ({ cls := "GridRoom$RuleReader", name := "may", desc := "(Ljava/lang/String;)Z" } : Jvm.MethodName)) ∈ lw_all := lw_g (lw_at lw_m4 2 rfl) rfl
theorem q808 : (Jvm.Cond.sameMethod "GridRoom$RuleReader" "GridRoom$Reader" "may" "(Ljava/lang/String;)Z") ∈ lw_all := lw_g (lw_at lw_m4 3 rfl) rfl
theorem q809 : (Jvm.Cond.selects "GridRoom$RuleReader" ({ cls := "GridRoom$RuleReader", name := "may", desc := "(Ljava/lang/String;)Z" } : Jvm.MethodName) ({ cls := "GridRoom$Reader", name := "may", desc := "(Ljava/lang/String;)Z" } : Jvm.MethodName)) ∈ lw_all := lw_g (lw_at lw_m4 4 rfl) rfl
theorem q810 : (Jvm.Cond.methodLink "GridRoom$RuleReader" (63 : Nat) ({ cls := "GridRoom$RuleReader", name := "letter", desc := "()I" } : Jvm.MethodName)) ∈ lw_all := lw_g (lw_at lw_m4 5 rfl) rfl
theorem q811 : (Jvm.Cond.sameMethod "GridRoom$RuleReader" "GridRoom$Reader" "letter" "()I") ∈ lw_all := lw_g (lw_at lw_m4 6 rfl) rfl
theorem q813 : (Jvm.Cond.selects "GridRoom$RuleReader" ({ cls := "GridRoom$RuleReader", name := "letter", desc := "()I" } : Jvm.MethodName) ({ cls := "GridRoom$Reader", name := "letter", desc := "()I" } : Jvm.MethodName)) ∈ lw_all := lw_g (lw_at lw_m4 8 rfl) rfl
theorem q816 : (Jvm.Cond.methodLink "GridRoom$RuleReader" (66 : Nat) ({ cls := "GridRoom$RuleReader", name := "cut", desc := "()V" } : Jvm.MethodName)) ∈ lw_all := lw_g (lw_at lw_m4 11 rfl) rfl
theorem q817 : (Jvm.Cond.sameMethod "GridRoom$RuleReader" "GridRoom$Reader" "cut" "()V") ∈ lw_all := lw_g (lw_at lw_m4 12 rfl) rfl
theorem q819 : (Jvm.Cond.selects "GridRoom$RuleReader" ({ cls := "GridRoom$RuleReader", name := "cut", desc := "()V" } : Jvm.MethodName) ({ cls := "GridRoom$Reader", name := "cut", desc := "()V" } : Jvm.MethodName)) ∈ lw_all := lw_g (lw_at lw_m4 14 rfl) rfl
theorem q820 : (Jvm.Cond.stringRef "GridRoom$RuleReader" (70 : Nat) "as") ∈ lw_tbl := lw_at lw_m4 15 rfl
theorem q821 : (Jvm.Cond.methodLink "GridRoom$RuleReader" (56 : Nat) ({ cls := "GridRoom$RuleReader", name := "takes", desc := "(Ljava/lang/String;)V" } : Jvm.MethodName)) ∈ lw_all := lw_g (lw_at lw_m4 16 rfl) rfl
theorem q822 : (Jvm.Cond.sameMethod "GridRoom$RuleReader" "GridRoom$Reader" "takes" "(Ljava/lang/String;)V") ∈ lw_all := lw_g (lw_at lw_m4 17 rfl) rfl
theorem q823 : (Jvm.Cond.selects "GridRoom$RuleReader" ({ cls := "GridRoom$RuleReader", name := "takes", desc := "(Ljava/lang/String;)V" } : Jvm.MethodName) ({ cls := "GridRoom$Reader", name := "takes", desc := "(Ljava/lang/String;)V" } : Jvm.MethodName)) ∈ lw_all := lw_g (lw_at lw_m4 18 rfl) rfl
theorem q824 : (Jvm.Cond.methodLinkNest "GridRoom$RuleReader" (72 : Nat) ({ cls := "GridRoom", name := "vowel", desc := "(I)I" } : Jvm.MethodName) "GridRoom") ∈ lw_tbl := lw_at lw_m4 19 rfl
theorem q883 : (Jvm.Cond.classLink "GridRoom$RuleReader" (75 : Nat) "GridRoom$Writes") ∈ lw_all := lw_g (lw_at lw_m4 78 rfl) rfl
theorem q885 : (Jvm.Cond.methodLink "GridRoom$RuleReader" (77 : Nat) ({ cls := "GridRoom$Writes", name := "<init>", desc := "(II)V" } : Jvm.MethodName)) ∈ lw_all := lw_g (lw_at lw_m4 80 rfl) rfl
theorem q899 : (Jvm.Cond.classLink "GridRoom$RuleReader" (80 : Nat) "GridRoom$Drops") ∈ lw_all := lw_g (lw_at lw_m4 94 rfl) rfl
theorem q901 : (Jvm.Cond.methodLink "GridRoom$RuleReader" (82 : Nat) ({ cls := "GridRoom$Drops", name := "<init>", desc := "(I)V" } : Jvm.MethodName)) ∈ lw_all := lw_g (lw_at lw_m4 96 rfl) rfl
theorem q909 : (Jvm.Cond.stringRef "GridRoom$RuleReader" (83 : Nat) "first") ∈ lw_tbl := lw_at lw_m4 104 rfl
theorem q910 : (Jvm.Cond.stringRef "GridRoom$RuleReader" (85 : Nat) "last") ∈ lw_tbl := lw_at lw_m4 105 rfl
theorem q911 : (Jvm.Cond.methodLink "GridRoom$RuleReader" (87 : Nat) ({ cls := "GridRoom$RuleReader", name := "number", desc := "(II)I" } : Jvm.MethodName)) ∈ lw_all := lw_g (lw_at lw_m4 106 rfl) rfl
theorem q912 : (Jvm.Cond.sameMethod "GridRoom$RuleReader" "GridRoom$Reader" "number" "(II)I") ∈ lw_all := lw_g (lw_at lw_m4 107 rfl) rfl
theorem q913 : (Jvm.Cond.selects "GridRoom$RuleReader" ({ cls := "GridRoom$RuleReader", name := "number", desc := "(II)I" } : Jvm.MethodName) ({ cls := "GridRoom$Reader", name := "number", desc := "(II)I" } : Jvm.MethodName)) ∈ lw_all := lw_g (lw_at lw_m4 108 rfl) rfl
theorem q914 : (Jvm.Cond.classLink "GridRoom$RuleReader" (91 : Nat) "GridRoom$Joins") ∈ lw_all := lw_g (lw_at lw_m4 109 rfl) rfl
theorem q916 : (Jvm.Cond.methodLink "GridRoom$RuleReader" (93 : Nat) ({ cls := "GridRoom$Joins", name := "<init>", desc := "(II)V" } : Jvm.MethodName)) ∈ lw_all := lw_g (lw_at lw_m4 111 rfl) rfl
theorem q924 : (Jvm.Cond.fieldLinkNest "GridRoom$RuleReader" (96 : Nat) "GridRoom$Joins" "length" "I" "GridRoom") ∈ lw_tbl := lw_at lw_m4 119 rfl
theorem q926 : (Jvm.Cond.fieldLinkNest "GridRoom$RuleReader" (101 : Nat) "GridRoom$Joins" "count" "I" "GridRoom") ∈ lw_tbl := lw_at lw_m4 121 rfl
theorem q937 : (Jvm.Cond.stringRef "GridRoom$RuleReader" (94 : Nat) "length") ∈ lw_tbl := lw_at lw_m4 132 rfl
theorem q938 : (Jvm.Cond.stringRef "GridRoom$RuleReader" (99 : Nat) "count") ∈ lw_tbl := lw_at lw_m4 133 rfl
theorem q939 : (Jvm.Cond.methodLink "GridRoom$RuleReader" (50 : Nat) ({ cls := "java/util/ArrayList", name := "add", desc := "(Ljava/lang/Object;)Z" } : Jvm.MethodName)) ∈ lw_all := lw_g (lw_at lw_m4 134 rfl) rfl
theorem q940 : (Jvm.Cond.stringRef "GridRoom$RuleReader" (54 : Nat) ";") ∈ lw_tbl := lw_at lw_m4 135 rfl
theorem q2219 : (Jvm.Cond.selects "GridRoom$RuleReader" ({ cls := "GridRoom$Reader", name := "is", desc := "(Ljava/lang/String;)Z" } : Jvm.MethodName) ({ cls := "GridRoom$Reader", name := "is", desc := "(Ljava/lang/String;)Z" } : Jvm.MethodName)) ∈ lw_all := lw_g (lw_at lw_m9 214 rfl) rfl
theorem q2222 : (Jvm.Cond.selects "GridRoom$RuleReader" ({ cls := "GridRoom$Reader", name := "need", desc := "(ZI)V" } : Jvm.MethodName) ({ cls := "GridRoom$Reader", name := "need", desc := "(ZI)V" } : Jvm.MethodName)) ∈ lw_all := lw_g (lw_at lw_m9 217 rfl) rfl
theorem q2254 : (Jvm.Cond.castable "GridRoom$RuleReader" "java/lang/Object") ∈ lw_tbl := lw_at lw_m10 9 rfl
theorem in_X11 : ∀ w ∈ wsX110, w ∈ lw_all := lw_in wsX110 [775, 776, 777, 778, 779, 780, 781] (by decide +kernel) (by decide +kernel)
def RJ12 : String := "java/lang/Character"
abbrev cJ12_isValidCodePoint : ByteArray := prog_26_method_11_code
def yJ12_isValidCodePoint : MethodName := ⟨RJ12, "isValidCodePoint", "(I)Z"⟩
abbrev cJ12_highSurrogate : ByteArray := prog_26_method_28_code
def yJ12_highSurrogate : MethodName := ⟨RJ12, "highSurrogate", "(I)C"⟩
abbrev cJ12_lowSurrogate : ByteArray := prog_26_method_29_code
def yJ12_lowSurrogate : MethodName := ⟨RJ12, "lowSurrogate", "(I)C"⟩
theorem q110 : (Jvm.Cond.initialized "java/lang/Character") ∈ lw_all := lw_g (lw_at lw_m1 25 rfl) rfl
theorem q873 : (Jvm.Cond.static ({ cls := "java/lang/Character", name := "isValidCodePoint", desc := "(I)Z" } : Jvm.MethodName)) ∈ lw_all := lw_g (lw_at lw_m4 68 rfl) rfl
theorem q874 : (Jvm.Cond.code ({ cls := "java/lang/Character", name := "isValidCodePoint", desc := "(I)Z" } : Jvm.MethodName) prog_26_method_11_code (2 : Nat) (Option.some Jvm.ClassFile.FieldType.boolean)) ∈ lw_all := lw_g (lw_at lw_m4 69 rfl) rfl
theorem q876 : (Jvm.Cond.static ({ cls := "java/lang/Character", name := "highSurrogate", desc := "(I)C" } : Jvm.MethodName)) ∈ lw_all := lw_g (lw_at lw_m4 71 rfl) rfl
theorem q877 : (Jvm.Cond.code ({ cls := "java/lang/Character", name := "highSurrogate", desc := "(I)C" } : Jvm.MethodName) prog_26_method_28_code (1 : Nat) (Option.some Jvm.ClassFile.FieldType.char)) ∈ lw_all := lw_g (lw_at lw_m4 72 rfl) rfl
theorem q878 : (Jvm.Cond.constant "java/lang/Character" (110 : Nat) (55232 : Int32)) ∈ lw_all := lw_g (lw_at lw_m4 73 rfl) rfl
theorem q880 : (Jvm.Cond.static ({ cls := "java/lang/Character", name := "lowSurrogate", desc := "(I)C" } : Jvm.MethodName)) ∈ lw_all := lw_g (lw_at lw_m4 75 rfl) rfl
theorem q881 : (Jvm.Cond.code ({ cls := "java/lang/Character", name := "lowSurrogate", desc := "(I)C" } : Jvm.MethodName) prog_26_method_29_code (1 : Nat) (Option.some Jvm.ClassFile.FieldType.char)) ∈ lw_all := lw_g (lw_at lw_m4 76 rfl) rfl
theorem q882 : (Jvm.Cond.constant "java/lang/Character" (76 : Nat) (56320 : Int32)) ∈ lw_all := lw_g (lw_at lw_m4 77 rfl) rfl
def RX12 : String := "GridRoom$Clause"
abbrev cX12_init : ByteArray := prog_2_method_1_code
def yX12_init : MethodName := ⟨RX12, "<init>", "()V"⟩
abbrev cX12_writes : ByteArray := prog_2_method_2_code
def yX12_writes : MethodName := ⟨RX12, "writes", "(II)I"⟩
abbrev cX12_drops : ByteArray := prog_2_method_3_code
def yX12_drops : MethodName := ⟨RX12, "drops", "(I)Z"⟩
theorem q111 : (Jvm.Cond.initialized "GridRoom$Clause") ∈ lw_all := lw_g (lw_at lw_m1 26 rfl) rfl
theorem q889 : (Jvm.Cond.instanceMethod ({ cls := "GridRoom$Clause", name := "<init>", desc := "()V" } : Jvm.MethodName)) ∈ lw_all := lw_g (lw_at lw_m4 84 rfl) rfl
theorem q890 : (Jvm.Cond.code ({ cls := "GridRoom$Clause", name := "<init>", desc := "()V" } : Jvm.MethodName) prog_2_method_1_code (1 : Nat) (Option.none : Option Jvm.ClassFile.FieldType)) ∈ lw_all := lw_g (lw_at lw_m4 85 rfl) rfl
theorem q891 : (Jvm.Cond.methodLink "GridRoom$Clause" (1 : Nat) ({ cls := "java/lang/Object", name := "<init>", desc := "()V" } : Jvm.MethodName)) ∈ lw_all := lw_g (lw_at lw_m4 86 rfl) rfl
theorem q1195 : (Jvm.Cond.instanceMethod ({ cls := "GridRoom$Clause", name := "writes", desc := "(II)I" } : Jvm.MethodName)) ∈ lw_all := lw_g (lw_at lw_m5 150 rfl) rfl
theorem q1196 : (Jvm.Cond.sameMethod "GridRoom$Clause" "GridRoom$Clause" "writes" "(II)I") ∈ lw_all := lw_g (lw_at lw_m5 151 rfl) rfl
theorem q1202 : (Jvm.Cond.code ({ cls := "GridRoom$Clause", name := "writes", desc := "(II)I" } : Jvm.MethodName) prog_2_method_2_code (3 : Nat) (Option.some Jvm.ClassFile.FieldType.int)) ∈ lw_all := lw_g (lw_at lw_m5 157 rfl) rfl
theorem q1209 : (Jvm.Cond.instanceMethod ({ cls := "GridRoom$Clause", name := "drops", desc := "(I)Z" } : Jvm.MethodName)) ∈ lw_all := lw_g (lw_at lw_m5 164 rfl) rfl
theorem q1210 : (Jvm.Cond.sameMethod "GridRoom$Clause" "GridRoom$Clause" "drops" "(I)Z") ∈ lw_all := lw_g (lw_at lw_m5 165 rfl) rfl
theorem q1216 : (Jvm.Cond.code ({ cls := "GridRoom$Clause", name := "drops", desc := "(I)Z" } : Jvm.MethodName) prog_2_method_3_code (2 : Nat) (Option.some Jvm.ClassFile.FieldType.boolean)) ∈ lw_all := lw_g (lw_at lw_m5 171 rfl) rfl
def RX13 : String := "GridRoom$Writes"
def TX13 : u_T := fun k => match k with
  | 0 => ("GridRoom$Writes", "of", "I", true)
  | _ => ("GridRoom$Writes", "as", "I", true)
def tyX13 : Nat → FieldType := fun k => match k with
  | 0 => .int
  | _ => .int
abbrev wsX130 : List Cond := u_ws RX13 TX13 2
theorem nmX13 : ∀ a, a < 2 → ∀ b, b < 2 → a ≠ b → (TX13 a).2.1 ≠ (TX13 b).2.1 := by decide +kernel
theorem tyX13_ok : ∀ k, k < 2 → parseFieldDescriptor (TX13 k).2.2.1 = some (tyX13 k) := by decide +kernel
abbrev cX13_init : ByteArray := prog_21_method_1_code
def yX13_init : MethodName := ⟨RX13, "<init>", "(II)V"⟩
abbrev cX13_writes : ByteArray := prog_21_method_2_code
def yX13_writes : MethodName := ⟨RX13, "writes", "(II)I"⟩
theorem q112 : (Jvm.Cond.initialized "GridRoom$Writes") ∈ lw_all := lw_g (lw_at lw_m1 27 rfl) rfl
theorem q745 : (Jvm.Cond.selects "GridRoom$Writes" ({ cls := "java/lang/Object", name := "getClass", desc := "()Ljava/lang/Class;" } : Jvm.MethodName) ({ cls := "java/lang/Object", name := "getClass", desc := "()Ljava/lang/Class;" } : Jvm.MethodName)) ∈ lw_all := lw_g (lw_at lw_m3 180 rfl) rfl
theorem q884 : (Jvm.Cond.instantiable "GridRoom$Writes" (2 : Nat)) ∈ lw_all := lw_g (lw_at lw_m4 79 rfl) rfl
theorem q886 : (Jvm.Cond.instanceMethod ({ cls := "GridRoom$Writes", name := "<init>", desc := "(II)V" } : Jvm.MethodName)) ∈ lw_all := lw_g (lw_at lw_m4 81 rfl) rfl
theorem q887 : (Jvm.Cond.code ({ cls := "GridRoom$Writes", name := "<init>", desc := "(II)V" } : Jvm.MethodName) prog_21_method_1_code (3 : Nat) (Option.none : Option Jvm.ClassFile.FieldType)) ∈ lw_all := lw_g (lw_at lw_m4 82 rfl) rfl
theorem q888 : (Jvm.Cond.methodLinkNest "GridRoom$Writes" (1 : Nat) ({ cls := "GridRoom$Clause", name := "<init>", desc := "()V" } : Jvm.MethodName) "GridRoom") ∈ lw_tbl := lw_at lw_m4 83 rfl
theorem q892 : (Jvm.Cond.fieldLink "GridRoom$Writes" (7 : Nat) "GridRoom$Writes" "of" "I") ∈ lw_all := lw_g (lw_at lw_m4 87 rfl) rfl
theorem q893 : (Jvm.Cond.fieldLink "GridRoom$Writes" (13 : Nat) "GridRoom$Writes" "as" "I") ∈ lw_all := lw_g (lw_at lw_m4 88 rfl) rfl
theorem q894 : (Jvm.Cond.laysFinal "GridRoom$Writes" "GridRoom$Writes" "of" "I") ∈ lw_all := lw_g (lw_at lw_m4 89 rfl) rfl
theorem q895 : (Jvm.Cond.soleField "GridRoom$Writes" "of") ∈ lw_all := lw_g (lw_at lw_m4 90 rfl) rfl
theorem q896 : (Jvm.Cond.laysFinal "GridRoom$Writes" "GridRoom$Writes" "as" "I") ∈ lw_all := lw_g (lw_at lw_m4 91 rfl) rfl
theorem q897 : (Jvm.Cond.soleField "GridRoom$Writes" "as") ∈ lw_all := lw_g (lw_at lw_m4 92 rfl) rfl
theorem q898 : (Jvm.Cond.superclass "GridRoom$Writes" "GridRoom$Clause") ∈ lw_all := lw_g (lw_at lw_m4 93 rfl) rfl
theorem q1199 : (Jvm.Cond.selects "GridRoom$Writes" ({ cls := "GridRoom$Clause", name := "writes", desc := "(II)I" } : Jvm.MethodName) ({ cls := "GridRoom$Writes", name := "writes", desc := "(II)I" } : Jvm.MethodName)) ∈ lw_all := lw_g (lw_at lw_m5 154 rfl) rfl
theorem q1200 : (Jvm.Cond.instanceMethod ({ cls := "GridRoom$Writes", name := "writes", desc := "(II)I" } : Jvm.MethodName)) ∈ lw_all := lw_g (lw_at lw_m5 155 rfl) rfl
theorem q1201 : (Jvm.Cond.code ({ cls := "GridRoom$Writes", name := "writes", desc := "(II)I" } : Jvm.MethodName) prog_21_method_2_code (3 : Nat) (Option.some Jvm.ClassFile.FieldType.int)) ∈ lw_all := lw_g (lw_at lw_m5 156 rfl) rfl
theorem q1215 : (Jvm.Cond.selects "GridRoom$Writes" ({ cls := "GridRoom$Clause", name := "drops", desc := "(I)Z" } : Jvm.MethodName) ({ cls := "GridRoom$Clause", name := "drops", desc := "(I)Z" } : Jvm.MethodName)) ∈ lw_all := lw_g (lw_at lw_m5 170 rfl) rfl
theorem q2244 : (Jvm.Cond.castable "GridRoom$Writes" "GridRoom$Clause") ∈ lw_tbl := lw_at lw_m9 239 rfl
theorem q2255 : (Jvm.Cond.castable "GridRoom$Writes" "java/lang/Object") ∈ lw_tbl := lw_at lw_m10 10 rfl
theorem in_X13 : ∀ w ∈ wsX130, w ∈ lw_all := lw_in wsX130 [894, 896] (by decide +kernel) (by decide +kernel)
def RX14 : String := "GridRoom$Drops"
def TX14 : u_T := fun k => match k with
  | _ => ("GridRoom$Drops", "of", "I", true)
def tyX14 : Nat → FieldType := fun k => match k with
  | _ => .int
abbrev wsX140 : List Cond := u_ws RX14 TX14 1
theorem nmX14 : ∀ a, a < 1 → ∀ b, b < 1 → a ≠ b → (TX14 a).2.1 ≠ (TX14 b).2.1 := by decide +kernel
theorem tyX14_ok : ∀ k, k < 1 → parseFieldDescriptor (TX14 k).2.2.1 = some (tyX14 k) := by decide +kernel
abbrev cX14_init : ByteArray := prog_4_method_1_code
def yX14_init : MethodName := ⟨RX14, "<init>", "(I)V"⟩
abbrev cX14_drops : ByteArray := prog_4_method_2_code
def yX14_drops : MethodName := ⟨RX14, "drops", "(I)Z"⟩
theorem q113 : (Jvm.Cond.initialized "GridRoom$Drops") ∈ lw_all := lw_g (lw_at lw_m1 28 rfl) rfl
theorem q731 : (Jvm.Cond.selects "GridRoom$Drops" ({ cls := "java/lang/Object", name := "getClass", desc := "()Ljava/lang/Class;" } : Jvm.MethodName) ({ cls := "java/lang/Object", name := "getClass", desc := "()Ljava/lang/Class;" } : Jvm.MethodName)) ∈ lw_all := lw_g (lw_at lw_m3 166 rfl) rfl
theorem q900 : (Jvm.Cond.instantiable "GridRoom$Drops" (1 : Nat)) ∈ lw_all := lw_g (lw_at lw_m4 95 rfl) rfl
theorem q902 : (Jvm.Cond.instanceMethod ({ cls := "GridRoom$Drops", name := "<init>", desc := "(I)V" } : Jvm.MethodName)) ∈ lw_all := lw_g (lw_at lw_m4 97 rfl) rfl
theorem q903 : (Jvm.Cond.code ({ cls := "GridRoom$Drops", name := "<init>", desc := "(I)V" } : Jvm.MethodName) prog_4_method_1_code (2 : Nat) (Option.none : Option Jvm.ClassFile.FieldType)) ∈ lw_all := lw_g (lw_at lw_m4 98 rfl) rfl
theorem q904 : (Jvm.Cond.methodLinkNest "GridRoom$Drops" (1 : Nat) ({ cls := "GridRoom$Clause", name := "<init>", desc := "()V" } : Jvm.MethodName) "GridRoom") ∈ lw_tbl := lw_at lw_m4 99 rfl
theorem q905 : (Jvm.Cond.fieldLink "GridRoom$Drops" (7 : Nat) "GridRoom$Drops" "of" "I") ∈ lw_all := lw_g (lw_at lw_m4 100 rfl) rfl
theorem q906 : (Jvm.Cond.laysFinal "GridRoom$Drops" "GridRoom$Drops" "of" "I") ∈ lw_all := lw_g (lw_at lw_m4 101 rfl) rfl
theorem q907 : (Jvm.Cond.soleField "GridRoom$Drops" "of") ∈ lw_all := lw_g (lw_at lw_m4 102 rfl) rfl
theorem q908 : (Jvm.Cond.superclass "GridRoom$Drops" "GridRoom$Clause") ∈ lw_all := lw_g (lw_at lw_m4 103 rfl) rfl
theorem q1197 : (Jvm.Cond.selects "GridRoom$Drops" ({ cls := "GridRoom$Clause", name := "writes", desc := "(II)I" } : Jvm.MethodName) ({ cls := "GridRoom$Clause", name := "writes", desc := "(II)I" } : Jvm.MethodName)) ∈ lw_all := lw_g (lw_at lw_m5 152 rfl) rfl
theorem q1211 : (Jvm.Cond.selects "GridRoom$Drops" ({ cls := "GridRoom$Clause", name := "drops", desc := "(I)Z" } : Jvm.MethodName) ({ cls := "GridRoom$Drops", name := "drops", desc := "(I)Z" } : Jvm.MethodName)) ∈ lw_all := lw_g (lw_at lw_m5 166 rfl) rfl
theorem q1212 : (Jvm.Cond.instanceMethod ({ cls := "GridRoom$Drops", name := "drops", desc := "(I)Z" } : Jvm.MethodName)) ∈ lw_all := lw_g (lw_at lw_m5 167 rfl) rfl
theorem q1213 : (Jvm.Cond.code ({ cls := "GridRoom$Drops", name := "drops", desc := "(I)Z" } : Jvm.MethodName) prog_4_method_2_code (2 : Nat) (Option.some Jvm.ClassFile.FieldType.boolean)) ∈ lw_all := lw_g (lw_at lw_m5 168 rfl) rfl
theorem q2242 : (Jvm.Cond.castable "GridRoom$Drops" "GridRoom$Clause") ∈ lw_tbl := lw_at lw_m9 237 rfl
theorem q2256 : (Jvm.Cond.castable "GridRoom$Drops" "java/lang/Object") ∈ lw_tbl := lw_at lw_m10 11 rfl
theorem in_X14 : ∀ w ∈ wsX140, w ∈ lw_all := lw_in wsX140 [906] (by decide +kernel) (by decide +kernel)
def RX15 : String := "GridRoom$Joins"
def TX15 : u_T := fun k => match k with
  | 0 => ("GridRoom$Joins", "sort", "I", true)
  | 1 => ("GridRoom$Joins", "where", "I", true)
  | 2 => ("GridRoom$Joins", "length", "I", false)
  | _ => ("GridRoom$Joins", "count", "I", false)
def tyX15 : Nat → FieldType := fun k => match k with
  | 0 => .int
  | 1 => .int
  | 2 => .int
  | _ => .int
abbrev wsX150 : List Cond := u_ws RX15 TX15 4
theorem nmX15 : ∀ a, a < 4 → ∀ b, b < 4 → a ≠ b → (TX15 a).2.1 ≠ (TX15 b).2.1 := by decide +kernel
theorem tyX15_ok : ∀ k, k < 4 → parseFieldDescriptor (TX15 k).2.2.1 = some (tyX15 k) := by decide +kernel
abbrev cX15_init : ByteArray := prog_6_method_1_code
def yX15_init : MethodName := ⟨RX15, "<init>", "(II)V"⟩
abbrev cX15_placeIn : ByteArray := prog_6_method_2_code
def yX15_placeIn : MethodName := ⟨RX15, "placeIn", "(I)I"⟩
theorem q114 : (Jvm.Cond.initialized "GridRoom$Joins") ∈ lw_all := lw_g (lw_at lw_m1 29 rfl) rfl
theorem q733 : (Jvm.Cond.selects "GridRoom$Joins" ({ cls := "java/lang/Object", name := "getClass", desc := "()Ljava/lang/Class;" } : Jvm.MethodName) ({ cls := "java/lang/Object", name := "getClass", desc := "()Ljava/lang/Class;" } : Jvm.MethodName)) ∈ lw_all := lw_g (lw_at lw_m3 168 rfl) rfl
theorem q915 : (Jvm.Cond.instantiable "GridRoom$Joins" (4 : Nat)) ∈ lw_all := lw_g (lw_at lw_m4 110 rfl) rfl
theorem q917 : (Jvm.Cond.instanceMethod ({ cls := "GridRoom$Joins", name := "<init>", desc := "(II)V" } : Jvm.MethodName)) ∈ lw_all := lw_g (lw_at lw_m4 112 rfl) rfl
theorem q918 : (Jvm.Cond.code ({ cls := "GridRoom$Joins", name := "<init>", desc := "(II)V" } : Jvm.MethodName) prog_6_method_1_code (3 : Nat) (Option.none : Option Jvm.ClassFile.FieldType)) ∈ lw_all := lw_g (lw_at lw_m4 113 rfl) rfl
theorem q919 : (Jvm.Cond.methodLinkNest "GridRoom$Joins" (3 : Nat) ({ cls := "GridRoom$Clause", name := "<init>", desc := "()V" } : Jvm.MethodName) "GridRoom") ∈ lw_tbl := lw_at lw_m4 114 rfl
theorem q920 : (Jvm.Cond.fieldLink "GridRoom$Joins" (18 : Nat) "GridRoom$Joins" "sort" "I") ∈ lw_all := lw_g (lw_at lw_m4 115 rfl) rfl
theorem q922 : (Jvm.Cond.fieldLink "GridRoom$Joins" (21 : Nat) "GridRoom$Joins" "where" "I") ∈ lw_all := lw_g (lw_at lw_m4 117 rfl) rfl
theorem q923 : (Jvm.Cond.fieldLink "GridRoom$Joins" (9 : Nat) "GridRoom$Joins" "length" "I") ∈ lw_all := lw_g (lw_at lw_m4 118 rfl) rfl
theorem q925 : (Jvm.Cond.fieldLink "GridRoom$Joins" (15 : Nat) "GridRoom$Joins" "count" "I") ∈ lw_all := lw_g (lw_at lw_m4 120 rfl) rfl
theorem q928 : (Jvm.Cond.laysFinal "GridRoom$Joins" "GridRoom$Joins" "sort" "I") ∈ lw_all := lw_g (lw_at lw_m4 123 rfl) rfl
theorem q929 : (Jvm.Cond.soleField "GridRoom$Joins" "sort") ∈ lw_all := lw_g (lw_at lw_m4 124 rfl) rfl
theorem q930 : (Jvm.Cond.laysFinal "GridRoom$Joins" "GridRoom$Joins" "where" "I") ∈ lw_all := lw_g (lw_at lw_m4 125 rfl) rfl
theorem q931 : (Jvm.Cond.soleField "GridRoom$Joins" "where") ∈ lw_all := lw_g (lw_at lw_m4 126 rfl) rfl
theorem q932 : (Jvm.Cond.lays "GridRoom$Joins" "GridRoom$Joins" "length" "I") ∈ lw_all := lw_g (lw_at lw_m4 127 rfl) rfl
theorem q933 : (Jvm.Cond.soleField "GridRoom$Joins" "length") ∈ lw_all := lw_g (lw_at lw_m4 128 rfl) rfl
theorem q934 : (Jvm.Cond.lays "GridRoom$Joins" "GridRoom$Joins" "count" "I") ∈ lw_all := lw_g (lw_at lw_m4 129 rfl) rfl
theorem q935 : (Jvm.Cond.soleField "GridRoom$Joins" "count") ∈ lw_all := lw_g (lw_at lw_m4 130 rfl) rfl
theorem q936 : (Jvm.Cond.superclass "GridRoom$Joins" "GridRoom$Clause") ∈ lw_all := lw_g (lw_at lw_m4 131 rfl) rfl
theorem q1071 : (Jvm.Cond.instanceMethod ({ cls := "GridRoom$Joins", name := "placeIn", desc := "(I)I" } : Jvm.MethodName)) ∈ lw_all := lw_g (lw_at lw_m5 26 rfl) rfl
theorem q1072 : (Jvm.Cond.selects "GridRoom$Joins" ({ cls := "GridRoom$Joins", name := "placeIn", desc := "(I)I" } : Jvm.MethodName) ({ cls := "GridRoom$Joins", name := "placeIn", desc := "(I)I" } : Jvm.MethodName)) ∈ lw_all := lw_g (lw_at lw_m5 27 rfl) rfl
theorem q1073 : (Jvm.Cond.code ({ cls := "GridRoom$Joins", name := "placeIn", desc := "(I)I" } : Jvm.MethodName) prog_6_method_2_code (2 : Nat) (Option.some Jvm.ClassFile.FieldType.int)) ∈ lw_all := lw_g (lw_at lw_m5 28 rfl) rfl
theorem q1198 : (Jvm.Cond.selects "GridRoom$Joins" ({ cls := "GridRoom$Clause", name := "writes", desc := "(II)I" } : Jvm.MethodName) ({ cls := "GridRoom$Clause", name := "writes", desc := "(II)I" } : Jvm.MethodName)) ∈ lw_all := lw_g (lw_at lw_m5 153 rfl) rfl
theorem q1214 : (Jvm.Cond.selects "GridRoom$Joins" ({ cls := "GridRoom$Clause", name := "drops", desc := "(I)Z" } : Jvm.MethodName) ({ cls := "GridRoom$Clause", name := "drops", desc := "(I)Z" } : Jvm.MethodName)) ∈ lw_all := lw_g (lw_at lw_m5 169 rfl) rfl
theorem q2243 : (Jvm.Cond.castable "GridRoom$Joins" "GridRoom$Clause") ∈ lw_tbl := lw_at lw_m9 238 rfl
theorem q2257 : (Jvm.Cond.castable "GridRoom$Joins" "java/lang/Object") ∈ lw_tbl := lw_at lw_m10 12 rfl
theorem in_X15 : ∀ w ∈ wsX150, w ∈ lw_all := lw_in wsX150 [928, 930, 932, 934] (by decide +kernel) (by decide +kernel)
def RJ13 : String := "java/util/Objects"
abbrev cJ13_checkIndex : ByteArray := prog_45_method_17_code
def yJ13_checkIndex : MethodName := ⟨RJ13, "checkIndex", "(II)I"⟩
theorem q115 : (Jvm.Cond.initialized "java/util/Objects") ∈ lw_all := lw_g (lw_at lw_m1 30 rfl) rfl
theorem q957 : (Jvm.Cond.static ({ cls := "java/util/Objects", name := "checkIndex", desc := "(II)I" } : Jvm.MethodName)) ∈ lw_all := lw_g (lw_at lw_m4 152 rfl) rfl
theorem q958 : (Jvm.Cond.code ({ cls := "java/util/Objects", name := "checkIndex", desc := "(II)I" } : Jvm.MethodName) prog_45_method_17_code (2 : Nat) (Option.some Jvm.ClassFile.FieldType.int)) ∈ lw_all := lw_g (lw_at lw_m4 153 rfl) rfl
theorem q959 : (Jvm.Cond.methodLink "java/util/Objects" (105 : Nat) ({ cls := "jdk/internal/util/Preconditions", name := "checkIndex", desc := "(IILjava/util/function/BiFunction;)I" } : Jvm.MethodName)) ∈ lw_all := lw_g (lw_at lw_m4 154 rfl) rfl
def RJ14 : String := "java/lang/RuntimeException"
abbrev cJ14_init : ByteArray := prog_32_method_1_code
def yJ14_init : MethodName := ⟨RJ14, "<init>", "()V"⟩
theorem q116 : (Jvm.Cond.initialized "java/lang/RuntimeException") ∈ lw_all := lw_g (lw_at lw_m1 31 rfl) rfl
theorem q1567 : (Jvm.Cond.declares ({ cls := "java/lang/RuntimeException", name := "<init>", desc := "()V" } : Jvm.MethodName)) ∈ lw_tbl := lw_at lw_m7 42 rfl
theorem q1568 : (Jvm.Cond.declares ({ cls := "java/lang/RuntimeException", name := "<init>", desc := "(Ljava/lang/String;)V" } : Jvm.MethodName)) ∈ lw_tbl := lw_at lw_m7 43 rfl
theorem q1579 : (Jvm.Cond.instanceMethod ({ cls := "java/lang/RuntimeException", name := "<init>", desc := "()V" } : Jvm.MethodName)) ∈ lw_all := lw_g (lw_at lw_m7 54 rfl) rfl
theorem q1580 : (Jvm.Cond.code ({ cls := "java/lang/RuntimeException", name := "<init>", desc := "()V" } : Jvm.MethodName) prog_32_method_1_code (1 : Nat) (Option.none : Option Jvm.ClassFile.FieldType)) ∈ lw_all := lw_g (lw_at lw_m7 55 rfl) rfl
theorem q1581 : (Jvm.Cond.methodLink "java/lang/RuntimeException" (1 : Nat) ({ cls := "java/lang/Exception", name := "<init>", desc := "()V" } : Jvm.MethodName)) ∈ lw_all := lw_g (lw_at lw_m7 56 rfl) rfl
def RJ15 : String := "java/util/NoSuchElementException"
def TJ15 : u_T := fun k => match k with
  | 0 => ("java/lang/Throwable", "cause", "Ljava/lang/Throwable;", false)
  | 1 => ("java/lang/Throwable", "stackTrace", "[Ljava/lang/StackTraceElement;", false)
  | 2 => ("java/lang/Throwable", "suppressedExceptions", "Ljava/util/List;", false)
  | 3 => ("java/lang/Throwable", "detailMessage", "Ljava/lang/String;", false)
  | 4 => ("java/lang/Throwable", "backtrace", "Ljava/lang/Object;", false)
  | _ => ("java/lang/Throwable", "depth", "I", false)
def tyJ15 : Nat → FieldType := fun k => match k with
  | 0 => .object "java/lang/Throwable"
  | 1 => .array (.object "java/lang/StackTraceElement")
  | 2 => .object "java/util/List"
  | 3 => .object "java/lang/String"
  | 4 => .object "java/lang/Object"
  | _ => .int
abbrev wsJ150 : List Cond := u_ws RJ15 TJ15 6
theorem nmJ15 : ∀ a, a < 6 → ∀ b, b < 6 → a ≠ b → (TJ15 a).2.1 ≠ (TJ15 b).2.1 := by decide +kernel
theorem tyJ15_ok : ∀ k, k < 6 → parseFieldDescriptor (TJ15 k).2.2.1 = some (tyJ15 k) := by decide +kernel
abbrev cJ15_init : ByteArray := prog_44_method_1_code
def yJ15_init : MethodName := ⟨RJ15, "<init>", "()V"⟩
theorem q117 : (Jvm.Cond.initialized "java/util/NoSuchElementException") ∈ lw_all := lw_g (lw_at lw_m1 32 rfl) rfl
theorem q602 : (Jvm.Cond.selects "java/util/NoSuchElementException" ({ cls := "java/lang/Throwable", name := "fillInStackTrace", desc := "()Ljava/lang/Throwable;" } : Jvm.MethodName) ({ cls := "java/lang/Throwable", name := "fillInStackTrace", desc := "()Ljava/lang/Throwable;" } : Jvm.MethodName)) ∈ lw_all := lw_g (lw_at lw_m3 37 rfl) rfl
theorem q749 : (Jvm.Cond.selects "java/util/NoSuchElementException" ({ cls := "java/lang/Object", name := "getClass", desc := "()Ljava/lang/Class;" } : Jvm.MethodName) ({ cls := "java/lang/Object", name := "getClass", desc := "()Ljava/lang/Class;" } : Jvm.MethodName)) ∈ lw_all := lw_g (lw_at lw_m3 184 rfl) rfl
theorem q1565 : (Jvm.Cond.instantiable "java/util/NoSuchElementException" (6 : Nat)) ∈ lw_all := lw_g (lw_at lw_m7 40 rfl) rfl
theorem q1566 : (Jvm.Cond.castable "java/util/NoSuchElementException" "java/util/NoSuchElementException") ∈ lw_tbl := lw_at lw_m7 41 rfl
theorem q1569 : (Jvm.Cond.selects "java/util/NoSuchElementException" ({ cls := "java/lang/Throwable", name := "fillInStackTrace", desc := "(I)Ljava/lang/Throwable;" } : Jvm.MethodName) ({ cls := "java/lang/Throwable", name := "fillInStackTrace", desc := "(I)Ljava/lang/Throwable;" } : Jvm.MethodName)) ∈ lw_all := lw_g (lw_at lw_m7 44 rfl) rfl
theorem q1570 : (Jvm.Cond.lays "java/util/NoSuchElementException" "java/lang/Throwable" "cause" "Ljava/lang/Throwable;") ∈ lw_all := lw_g (lw_at lw_m7 45 rfl) rfl
theorem q1571 : (Jvm.Cond.lays "java/util/NoSuchElementException" "java/lang/Throwable" "stackTrace" "[Ljava/lang/StackTraceElement;") ∈ lw_all := lw_g (lw_at lw_m7 46 rfl) rfl
theorem q1572 : (Jvm.Cond.lays "java/util/NoSuchElementException" "java/lang/Throwable" "suppressedExceptions" "Ljava/util/List;") ∈ lw_all := lw_g (lw_at lw_m7 47 rfl) rfl
theorem q1573 : (Jvm.Cond.lays "java/util/NoSuchElementException" "java/lang/Throwable" "detailMessage" "Ljava/lang/String;") ∈ lw_all := lw_g (lw_at lw_m7 48 rfl) rfl
theorem q1574 : (Jvm.Cond.lays "java/util/NoSuchElementException" "java/lang/Throwable" "backtrace" "Ljava/lang/Object;") ∈ lw_all := lw_g (lw_at lw_m7 49 rfl) rfl
theorem q1576 : (Jvm.Cond.instanceMethod ({ cls := "java/util/NoSuchElementException", name := "<init>", desc := "()V" } : Jvm.MethodName)) ∈ lw_all := lw_g (lw_at lw_m7 51 rfl) rfl
theorem q1577 : (Jvm.Cond.code ({ cls := "java/util/NoSuchElementException", name := "<init>", desc := "()V" } : Jvm.MethodName) prog_44_method_1_code (1 : Nat) (Option.none : Option Jvm.ClassFile.FieldType)) ∈ lw_all := lw_g (lw_at lw_m7 52 rfl) rfl
theorem q1578 : (Jvm.Cond.methodLink "java/util/NoSuchElementException" (1 : Nat) ({ cls := "java/lang/RuntimeException", name := "<init>", desc := "()V" } : Jvm.MethodName)) ∈ lw_all := lw_g (lw_at lw_m7 53 rfl) rfl
theorem q1585 : (Jvm.Cond.lays "java/util/NoSuchElementException" "java/lang/Throwable" "depth" "I") ∈ lw_all := lw_g (lw_at lw_m7 60 rfl) rfl
theorem q1586 : (Jvm.Cond.superclass "java/util/NoSuchElementException" "java/lang/RuntimeException") ∈ lw_all := lw_g (lw_at lw_m7 61 rfl) rfl
theorem q2258 : (Jvm.Cond.castable "java/util/NoSuchElementException" "java/lang/Object") ∈ lw_tbl := lw_at lw_m10 13 rfl
theorem in_J15 : ∀ w ∈ wsJ150, w ∈ lw_all := lw_in wsJ150 [1570, 1571, 1572, 1573, 1574, 1585] (by decide +kernel) (by decide +kernel)
def RX16 : String := "GridRoom$Share"
def TX16 : u_T := fun k => match k with
  | 0 => ("GridRoom$Told", "came", "I", true)
  | 1 => ("GridRoom$Told", "gone", "I", false)
  | 2 => ("GridRoom$Share", "sort", "I", true)
  | 3 => ("GridRoom$Share", "a", "I", true)
  | 4 => ("GridRoom$Share", "b", "I", true)
  | _ => ("GridRoom$Share", "is", "Z", true)
def tyX16 : Nat → FieldType := fun k => match k with
  | 0 => .int
  | 1 => .int
  | 2 => .int
  | 3 => .int
  | 4 => .int
  | _ => .boolean
abbrev wsX160 : List Cond := u_ws RX16 TX16 6
theorem nmX16 : ∀ a, a < 6 → ∀ b, b < 6 → a ≠ b → (TX16 a).2.1 ≠ (TX16 b).2.1 := by decide +kernel
theorem tyX16_ok : ∀ k, k < 6 → parseFieldDescriptor (TX16 k).2.2.1 = some (tyX16 k) := by decide +kernel
abbrev cX16_init : ByteArray := prog_13_method_1_code
def yX16_init : MethodName := ⟨RX16, "<init>", "(IIIIZ)V"⟩
theorem q118 : (Jvm.Cond.initialized "GridRoom$Share") ∈ lw_all := lw_g (lw_at lw_m1 33 rfl) rfl
theorem q739 : (Jvm.Cond.selects "GridRoom$Share" ({ cls := "java/lang/Object", name := "getClass", desc := "()Ljava/lang/Class;" } : Jvm.MethodName) ({ cls := "java/lang/Object", name := "getClass", desc := "()Ljava/lang/Class;" } : Jvm.MethodName)) ∈ lw_all := lw_g (lw_at lw_m3 174 rfl) rfl
theorem q969 : (Jvm.Cond.selects "GridRoom$Share" ({ cls := "GridRoom$Told", name := "goes", desc := "(I)Z" } : Jvm.MethodName) ({ cls := "GridRoom$Told", name := "goes", desc := "(I)Z" } : Jvm.MethodName)) ∈ lw_all := lw_g (lw_at lw_m4 164 rfl) rfl
theorem q991 : (Jvm.Cond.instantiable "GridRoom$Share" (6 : Nat)) ∈ lw_all := lw_g (lw_at lw_m4 186 rfl) rfl
theorem q993 : (Jvm.Cond.instanceMethod ({ cls := "GridRoom$Share", name := "<init>", desc := "(IIIIZ)V" } : Jvm.MethodName)) ∈ lw_all := lw_g (lw_at lw_m4 188 rfl) rfl
theorem q994 : (Jvm.Cond.code ({ cls := "GridRoom$Share", name := "<init>", desc := "(IIIIZ)V" } : Jvm.MethodName) prog_13_method_1_code (6 : Nat) (Option.none : Option Jvm.ClassFile.FieldType)) ∈ lw_all := lw_g (lw_at lw_m4 189 rfl) rfl
theorem q995 : (Jvm.Cond.methodLink "GridRoom$Share" (1 : Nat) ({ cls := "GridRoom$Told", name := "<init>", desc := "(I)V" } : Jvm.MethodName)) ∈ lw_all := lw_g (lw_at lw_m4 190 rfl) rfl
theorem q996 : (Jvm.Cond.fieldLink "GridRoom$Share" (7 : Nat) "GridRoom$Share" "sort" "I") ∈ lw_all := lw_g (lw_at lw_m4 191 rfl) rfl
theorem q998 : (Jvm.Cond.fieldLink "GridRoom$Share" (13 : Nat) "GridRoom$Share" "a" "I") ∈ lw_all := lw_g (lw_at lw_m4 193 rfl) rfl
theorem q1000 : (Jvm.Cond.fieldLink "GridRoom$Share" (16 : Nat) "GridRoom$Share" "b" "I") ∈ lw_all := lw_g (lw_at lw_m4 195 rfl) rfl
theorem q1002 : (Jvm.Cond.fieldLink "GridRoom$Share" (19 : Nat) "GridRoom$Share" "is" "Z") ∈ lw_all := lw_g (lw_at lw_m4 197 rfl) rfl
theorem q1004 : (Jvm.Cond.laysFinal "GridRoom$Share" "GridRoom$Share" "sort" "I") ∈ lw_all := lw_g (lw_at lw_m4 199 rfl) rfl
theorem q1005 : (Jvm.Cond.soleField "GridRoom$Share" "sort") ∈ lw_all := lw_g (lw_at lw_m4 200 rfl) rfl
theorem q1006 : (Jvm.Cond.laysFinal "GridRoom$Share" "GridRoom$Share" "a" "I") ∈ lw_all := lw_g (lw_at lw_m4 201 rfl) rfl
theorem q1007 : (Jvm.Cond.soleField "GridRoom$Share" "a") ∈ lw_all := lw_g (lw_at lw_m4 202 rfl) rfl
theorem q1008 : (Jvm.Cond.laysFinal "GridRoom$Share" "GridRoom$Share" "b" "I") ∈ lw_all := lw_g (lw_at lw_m4 203 rfl) rfl
theorem q1009 : (Jvm.Cond.soleField "GridRoom$Share" "b") ∈ lw_all := lw_g (lw_at lw_m4 204 rfl) rfl
theorem q1010 : (Jvm.Cond.laysFinal "GridRoom$Share" "GridRoom$Share" "is" "Z") ∈ lw_all := lw_g (lw_at lw_m4 205 rfl) rfl
theorem q1011 : (Jvm.Cond.soleField "GridRoom$Share" "is") ∈ lw_all := lw_g (lw_at lw_m4 206 rfl) rfl
theorem q1012 : (Jvm.Cond.laysFinal "GridRoom$Share" "GridRoom$Told" "came" "I") ∈ lw_all := lw_g (lw_at lw_m4 207 rfl) rfl
theorem q1013 : (Jvm.Cond.lays "GridRoom$Share" "GridRoom$Told" "gone" "I") ∈ lw_all := lw_g (lw_at lw_m4 208 rfl) rfl
theorem q1014 : (Jvm.Cond.superclass "GridRoom$Share" "GridRoom$Told") ∈ lw_all := lw_g (lw_at lw_m4 209 rfl) rfl
theorem q1101 : (Jvm.Cond.sameMethod "GridRoom$Share" "GridRoom$Told" "counts" "(I)Z") ∈ lw_all := lw_g (lw_at lw_m5 56 rfl) rfl
theorem q1102 : (Jvm.Cond.selects "GridRoom$Share" ({ cls := "GridRoom$Share", name := "counts", desc := "(I)Z" } : Jvm.MethodName) ({ cls := "GridRoom$Told", name := "counts", desc := "(I)Z" } : Jvm.MethodName)) ∈ lw_all := lw_g (lw_at lw_m5 57 rfl) rfl
theorem q2240 : (Jvm.Cond.castable "GridRoom$Share" "GridRoom$Told") ∈ lw_tbl := lw_at lw_m9 235 rfl
theorem q2259 : (Jvm.Cond.castable "GridRoom$Share" "java/lang/Object") ∈ lw_tbl := lw_at lw_m10 14 rfl
theorem in_X16 : ∀ w ∈ wsX160, w ∈ lw_all := lw_in wsX160 [1012, 1013, 1004, 1006, 1008, 1010] (by decide +kernel) (by decide +kernel)
def RX17 : String := "GridRoom$Name"
def TX17 : u_T := fun k => match k with
  | 0 => ("GridRoom$Told", "came", "I", true)
  | 1 => ("GridRoom$Told", "gone", "I", false)
  | 2 => ("GridRoom$Name", "tablet", "I", true)
  | _ => ("GridRoom$Name", "letters", "[B", true)
def tyX17 : Nat → FieldType := fun k => match k with
  | 0 => .int
  | 1 => .int
  | 2 => .int
  | _ => .array .byte
abbrev wsX170 : List Cond := u_ws RX17 TX17 4
theorem nmX17 : ∀ a, a < 4 → ∀ b, b < 4 → a ≠ b → (TX17 a).2.1 ≠ (TX17 b).2.1 := by decide +kernel
theorem tyX17_ok : ∀ k, k < 4 → parseFieldDescriptor (TX17 k).2.2.1 = some (tyX17 k) := by decide +kernel
abbrev cX17_init : ByteArray := prog_7_method_1_code
def yX17_init : MethodName := ⟨RX17, "<init>", "(II[B)V"⟩
theorem q119 : (Jvm.Cond.initialized "GridRoom$Name") ∈ lw_all := lw_g (lw_at lw_m1 34 rfl) rfl
theorem q734 : (Jvm.Cond.selects "GridRoom$Name" ({ cls := "java/lang/Object", name := "getClass", desc := "()Ljava/lang/Class;" } : Jvm.MethodName) ({ cls := "java/lang/Object", name := "getClass", desc := "()Ljava/lang/Class;" } : Jvm.MethodName)) ∈ lw_all := lw_g (lw_at lw_m3 169 rfl) rfl
theorem q968 : (Jvm.Cond.selects "GridRoom$Name" ({ cls := "GridRoom$Told", name := "goes", desc := "(I)Z" } : Jvm.MethodName) ({ cls := "GridRoom$Told", name := "goes", desc := "(I)Z" } : Jvm.MethodName)) ∈ lw_all := lw_g (lw_at lw_m4 163 rfl) rfl
theorem q1158 : (Jvm.Cond.instantiable "GridRoom$Name" (4 : Nat)) ∈ lw_all := lw_g (lw_at lw_m5 113 rfl) rfl
theorem q1160 : (Jvm.Cond.instanceMethod ({ cls := "GridRoom$Name", name := "<init>", desc := "(II[B)V" } : Jvm.MethodName)) ∈ lw_all := lw_g (lw_at lw_m5 115 rfl) rfl
theorem q1161 : (Jvm.Cond.code ({ cls := "GridRoom$Name", name := "<init>", desc := "(II[B)V" } : Jvm.MethodName) prog_7_method_1_code (4 : Nat) (Option.none : Option Jvm.ClassFile.FieldType)) ∈ lw_all := lw_g (lw_at lw_m5 116 rfl) rfl
theorem q1162 : (Jvm.Cond.methodLink "GridRoom$Name" (1 : Nat) ({ cls := "GridRoom$Told", name := "<init>", desc := "(I)V" } : Jvm.MethodName)) ∈ lw_all := lw_g (lw_at lw_m5 117 rfl) rfl
theorem q1163 : (Jvm.Cond.fieldLink "GridRoom$Name" (7 : Nat) "GridRoom$Name" "tablet" "I") ∈ lw_all := lw_g (lw_at lw_m5 118 rfl) rfl
theorem q1166 : (Jvm.Cond.fieldLink "GridRoom$Name" (13 : Nat) "GridRoom$Name" "letters" "[B") ∈ lw_all := lw_g (lw_at lw_m5 121 rfl) rfl
theorem q1169 : (Jvm.Cond.laysFinal "GridRoom$Name" "GridRoom$Name" "tablet" "I") ∈ lw_all := lw_g (lw_at lw_m5 124 rfl) rfl
theorem q1170 : (Jvm.Cond.soleField "GridRoom$Name" "tablet") ∈ lw_all := lw_g (lw_at lw_m5 125 rfl) rfl
theorem q1171 : (Jvm.Cond.laysFinal "GridRoom$Name" "GridRoom$Name" "letters" "[B") ∈ lw_all := lw_g (lw_at lw_m5 126 rfl) rfl
theorem q1172 : (Jvm.Cond.soleField "GridRoom$Name" "letters") ∈ lw_all := lw_g (lw_at lw_m5 127 rfl) rfl
theorem q1173 : (Jvm.Cond.laysFinal "GridRoom$Name" "GridRoom$Told" "came" "I") ∈ lw_all := lw_g (lw_at lw_m5 128 rfl) rfl
theorem q1174 : (Jvm.Cond.lays "GridRoom$Name" "GridRoom$Told" "gone" "I") ∈ lw_all := lw_g (lw_at lw_m5 129 rfl) rfl
theorem q1175 : (Jvm.Cond.superclass "GridRoom$Name" "GridRoom$Told") ∈ lw_all := lw_g (lw_at lw_m5 130 rfl) rfl
theorem q1245 : (Jvm.Cond.sameMethod "GridRoom$Name" "GridRoom$Told" "counts" "(I)Z") ∈ lw_all := lw_g (lw_at lw_m5 200 rfl) rfl
theorem q1246 : (Jvm.Cond.selects "GridRoom$Name" ({ cls := "GridRoom$Name", name := "counts", desc := "(I)Z" } : Jvm.MethodName) ({ cls := "GridRoom$Told", name := "counts", desc := "(I)Z" } : Jvm.MethodName)) ∈ lw_all := lw_g (lw_at lw_m5 201 rfl) rfl
theorem q2239 : (Jvm.Cond.castable "GridRoom$Name" "GridRoom$Told") ∈ lw_tbl := lw_at lw_m9 234 rfl
theorem q2260 : (Jvm.Cond.castable "GridRoom$Name" "java/lang/Object") ∈ lw_tbl := lw_at lw_m10 15 rfl
theorem in_X17 : ∀ w ∈ wsX170, w ∈ lw_all := lw_in wsX170 [1173, 1174, 1169, 1171] (by decide +kernel) (by decide +kernel)
def RX18 : String := "GridRoom$Walk"
abbrev cX18_init : ByteArray := prog_20_method_1_code
def yX18_init : MethodName := ⟨RX18, "<init>", "(LGridRoom;I)V"⟩
abbrev cX18_adds : ByteArray := prog_20_method_2_code
def yX18_adds : MethodName := ⟨RX18, "adds", "([BII)V"⟩
abbrev cX18_go : ByteArray := prog_20_method_4_code
def yX18_go : MethodName := ⟨RX18, "go", "()LGridRoom$Walk;"⟩
abbrev cX18_tries : ByteArray := prog_20_method_5_code
def yX18_tries : MethodName := ⟨RX18, "tries", "(I)Z"⟩
abbrev cX18_signs : ByteArray := prog_20_method_6_code
def yX18_signs : MethodName := ⟨RX18, "signs", "()I"⟩
abbrev cX18_sets : ByteArray := prog_20_method_7_code
def yX18_sets : MethodName := ⟨RX18, "sets", "([I[I)Z"⟩
abbrev cX18_gives : ByteArray := prog_20_method_8_code
def yX18_gives : MethodName := ⟨RX18, "gives", "(II)Z"⟩
abbrev cX18_agrees : ByteArray := prog_20_method_9_code
def yX18_agrees : MethodName := ⟨RX18, "agrees", "(IIIZ)Z"⟩
abbrev cX18_back : ByteArray := prog_20_method_10_code
def yX18_back : MethodName := ⟨RX18, "back", "(I)V"⟩
theorem q120 : (Jvm.Cond.initialized "GridRoom$Walk") ∈ lw_all := lw_g (lw_at lw_m1 35 rfl) rfl
theorem q191 : (Jvm.Cond.fieldLinkNest "GridRoom$Walk" (111 : Nat) "GridRoom$View" "stands" "[I" "GridRoom") ∈ lw_tbl := lw_at lw_m1 106 rfl
theorem q290 : (Jvm.Cond.fieldLinkNest "GridRoom$Walk" (96 : Nat) "GridRoom$Setting" "cell" "[I" "GridRoom") ∈ lw_tbl := lw_at lw_m1 205 rfl
theorem q292 : (Jvm.Cond.fieldLinkNest "GridRoom$Walk" (87 : Nat) "GridRoom$Setting" "many" "I" "GridRoom") ∈ lw_tbl := lw_at lw_m1 207 rfl
theorem q294 : (Jvm.Cond.fieldLinkNest "GridRoom$Walk" (80 : Nat) "GridRoom$Setting" "tablet" "I" "GridRoom") ∈ lw_tbl := lw_at lw_m1 209 rfl
theorem q298 : (Jvm.Cond.fieldLinkNest "GridRoom$Walk" (93 : Nat) "GridRoom$Setting" "row" "I" "GridRoom") ∈ lw_tbl := lw_at lw_m1 213 rfl
theorem q317 : (Jvm.Cond.fieldLinkNest "GridRoom$Walk" (77 : Nat) "GridRoom" "tablets" "Ljava/util/ArrayList;" "GridRoom") ∈ lw_tbl := lw_at lw_m1 232 rfl
theorem q322 : (Jvm.Cond.fieldLinkNest "GridRoom$Walk" (26 : Nat) "GridRoom" "names" "Ljava/util/ArrayList;" "GridRoom") ∈ lw_tbl := lw_at lw_m1 237 rfl
theorem q347 : (Jvm.Cond.fieldLinkNest "GridRoom$Walk" (107 : Nat) "GridRoom" "view" "LGridRoom$View;" "GridRoom") ∈ lw_tbl := lw_at lw_m2 22 rfl
theorem q349 : (Jvm.Cond.fieldLinkNest "GridRoom$Walk" (58 : Nat) "GridRoom" "setting" "[LGridRoom$Setting;" "GridRoom") ∈ lw_tbl := lw_at lw_m2 24 rfl
theorem q352 : (Jvm.Cond.fieldLinkNest "GridRoom$Walk" (22 : Nat) "GridRoom" "isChosen" "[Z" "GridRoom") ∈ lw_tbl := lw_at lw_m2 27 rfl
theorem q355 : (Jvm.Cond.fieldLinkNest "GridRoom$Walk" (15 : Nat) "GridRoom" "given" "[I" "GridRoom") ∈ lw_tbl := lw_at lw_m2 30 rfl
theorem q359 : (Jvm.Cond.fieldLinkNest "GridRoom$Walk" (19 : Nat) "GridRoom" "usedBy" "[I" "GridRoom") ∈ lw_tbl := lw_at lw_m2 34 rfl
theorem q362 : (Jvm.Cond.fieldLinkNest "GridRoom$Walk" (120 : Nat) "GridRoom" "order" "[I" "GridRoom") ∈ lw_tbl := lw_at lw_m2 37 rfl
theorem q684 : (Jvm.Cond.fieldLinkNest "GridRoom$Walk" (83 : Nat) "GridRoom$Tablet" "word" "[[I" "GridRoom") ∈ lw_tbl := lw_at lw_m3 119 rfl
theorem q1164 : (Jvm.Cond.fieldLinkNest "GridRoom$Walk" (50 : Nat) "GridRoom$Name" "tablet" "I" "GridRoom") ∈ lw_tbl := lw_at lw_m5 119 rfl
theorem q1167 : (Jvm.Cond.fieldLinkNest "GridRoom$Walk" (46 : Nat) "GridRoom$Name" "letters" "[B" "GridRoom") ∈ lw_tbl := lw_at lw_m5 122 rfl
theorem q1234 : (Jvm.Cond.instanceMethod ({ cls := "GridRoom$Walk", name := "<init>", desc := "(LGridRoom;I)V" } : Jvm.MethodName)) ∈ lw_all := lw_g (lw_at lw_m5 189 rfl) rfl
theorem q1235 : (Jvm.Cond.code ({ cls := "GridRoom$Walk", name := "<init>", desc := "(LGridRoom;I)V" } : Jvm.MethodName) prog_20_method_1_code (5 : Nat) (Option.none : Option Jvm.ClassFile.FieldType)) ∈ lw_all := lw_g (lw_at lw_m5 190 rfl) rfl
theorem q1236 : (Jvm.Cond.methodLink "GridRoom$Walk" (9 : Nat) ({ cls := "java/lang/Object", name := "<init>", desc := "()V" } : Jvm.MethodName)) ∈ lw_all := lw_g (lw_at lw_m5 191 rfl) rfl
theorem q1237 : (Jvm.Cond.methodLink "GridRoom$Walk" (30 : Nat) ({ cls := "java/util/ArrayList", name := "size", desc := "()I" } : Jvm.MethodName)) ∈ lw_all := lw_g (lw_at lw_m5 192 rfl) rfl
theorem q1238 : (Jvm.Cond.methodLink "GridRoom$Walk" (36 : Nat) ({ cls := "java/util/ArrayList", name := "get", desc := "(I)Ljava/lang/Object;" } : Jvm.MethodName)) ∈ lw_all := lw_g (lw_at lw_m5 193 rfl) rfl
theorem q1239 : (Jvm.Cond.classLink "GridRoom$Walk" (40 : Nat) "GridRoom$Name") ∈ lw_all := lw_g (lw_at lw_m5 194 rfl) rfl
theorem q1240 : (Jvm.Cond.methodLinkNest "GridRoom$Walk" (42 : Nat) ({ cls := "GridRoom", name := "isAsked", desc := "(I)Z" } : Jvm.MethodName) "GridRoom") ∈ lw_tbl := lw_at lw_m5 195 rfl
theorem q1248 : (Jvm.Cond.methodLink "GridRoom$Walk" (54 : Nat) ({ cls := "GridRoom$Walk", name := "adds", desc := "([BII)V" } : Jvm.MethodName)) ∈ lw_all := lw_g (lw_at lw_m5 203 rfl) rfl
theorem q1249 : (Jvm.Cond.instanceMethod ({ cls := "GridRoom$Walk", name := "adds", desc := "([BII)V" } : Jvm.MethodName)) ∈ lw_all := lw_g (lw_at lw_m5 204 rfl) rfl
theorem q1250 : (Jvm.Cond.sameMethod "GridRoom$Walk" "GridRoom$Walk" "adds" "([BII)V") ∈ lw_all := lw_g (lw_at lw_m5 205 rfl) rfl
theorem q1256 : (Jvm.Cond.code ({ cls := "GridRoom$Walk", name := "adds", desc := "([BII)V" } : Jvm.MethodName) prog_20_method_2_code (4 : Nat) (Option.none : Option Jvm.ClassFile.FieldType)) ∈ lw_all := lw_g (lw_at lw_m5 211 rfl) rfl
theorem q1257 : (Jvm.Cond.methodLink "GridRoom$Walk" (65 : Nat) ({ cls := "GridRoom$Setting", name := "be", desc := "([BII)V" } : Jvm.MethodName)) ∈ lw_all := lw_g (lw_at lw_m5 212 rfl) rfl
theorem q1265 : (Jvm.Cond.fieldLink "GridRoom$Walk" (62 : Nat) "GridRoom$Walk" "settings" "I") ∈ lw_all := lw_g (lw_at lw_m5 220 rfl) rfl
theorem q1267 : (Jvm.Cond.fieldLink "GridRoom$Walk" (90 : Nat) "GridRoom$Walk" "signs" "I") ∈ lw_all := lw_g (lw_at lw_m5 222 rfl) rfl
theorem q1268 : (Jvm.Cond.fieldLink "GridRoom$Walk" (3 : Nat) "GridRoom$Walk" "this$0" "LGridRoom;") ∈ lw_all := lw_g (lw_at lw_m5 223 rfl) rfl
theorem q1274 : (Jvm.Cond.soleField "GridRoom$Walk" "settings") ∈ lw_all := lw_g (lw_at lw_m5 229 rfl) rfl
theorem q1276 : (Jvm.Cond.soleField "GridRoom$Walk" "signs") ∈ lw_all := lw_g (lw_at lw_m5 231 rfl) rfl
theorem q1278 : (Jvm.Cond.soleField "GridRoom$Walk" "this$0") ∈ lw_all := lw_g (lw_at lw_m5 233 rfl) rfl
theorem q1282 : (Jvm.Cond.declares ({ cls := "GridRoom$Walk", name := "go", desc := "()LGridRoom$Walk;" } : Jvm.MethodName)) ∈ lw_tbl := lw_at lw_m5 237 rfl
theorem q1284 : (Jvm.Cond.instanceMethod ({ cls := "GridRoom$Walk", name := "go", desc := "()LGridRoom$Walk;" } : Jvm.MethodName)) ∈ lw_all := lw_g (lw_at lw_m5 239 rfl) rfl
theorem q1285 : (Jvm.Cond.code ({ cls := "GridRoom$Walk", name := "go", desc := "()LGridRoom$Walk;" } : Jvm.MethodName) prog_20_method_4_code (1 : Nat) (Option.some (Jvm.ClassFile.FieldType.object "GridRoom$Walk"))) ∈ lw_all := lw_g (lw_at lw_m6 0 rfl) rfl
theorem q1286 : (Jvm.Cond.methodLink "GridRoom$Walk" (70 : Nat) ({ cls := "GridRoom$Walk", name := "tries", desc := "(I)Z" } : Jvm.MethodName)) ∈ lw_all := lw_g (lw_at lw_m6 1 rfl) rfl
theorem q1287 : (Jvm.Cond.privateMethod ({ cls := "GridRoom$Walk", name := "tries", desc := "(I)Z" } : Jvm.MethodName)) ∈ lw_tbl := lw_at lw_m6 2 rfl
theorem q1288 : (Jvm.Cond.instanceMethod ({ cls := "GridRoom$Walk", name := "tries", desc := "(I)Z" } : Jvm.MethodName)) ∈ lw_all := lw_g (lw_at lw_m6 3 rfl) rfl
theorem q1289 : (Jvm.Cond.code ({ cls := "GridRoom$Walk", name := "tries", desc := "(I)Z" } : Jvm.MethodName) prog_20_method_5_code (7 : Nat) (Option.some Jvm.ClassFile.FieldType.boolean)) ∈ lw_all := lw_g (lw_at lw_m6 4 rfl) rfl
theorem q1290 : (Jvm.Cond.methodLink "GridRoom$Walk" (73 : Nat) ({ cls := "GridRoom$Walk", name := "is", desc := "()Z" } : Jvm.MethodName)) ∈ lw_all := lw_g (lw_at lw_m6 5 rfl) rfl
theorem q1291 : (Jvm.Cond.declares ({ cls := "GridRoom$Walk", name := "is", desc := "()Z" } : Jvm.MethodName)) ∈ lw_tbl := lw_at lw_m6 6 rfl
theorem q1292 : (Jvm.Cond.sameMethod "GridRoom$Walk" "GridRoom$Walk" "is" "()Z") ∈ lw_all := lw_g (lw_at lw_m6 7 rfl) rfl
theorem q1301 : (Jvm.Cond.declares ({ cls := "GridRoom$Walk", name := "signs", desc := "()I" } : Jvm.MethodName)) ∈ lw_tbl := lw_at lw_m6 16 rfl
theorem q1303 : (Jvm.Cond.instanceMethod ({ cls := "GridRoom$Walk", name := "signs", desc := "()I" } : Jvm.MethodName)) ∈ lw_all := lw_g (lw_at lw_m6 18 rfl) rfl
theorem q1304 : (Jvm.Cond.code ({ cls := "GridRoom$Walk", name := "signs", desc := "()I" } : Jvm.MethodName) prog_20_method_6_code (1 : Nat) (Option.some Jvm.ClassFile.FieldType.int)) ∈ lw_all := lw_g (lw_at lw_m6 19 rfl) rfl
theorem q1309 : (Jvm.Cond.declares ({ cls := "GridRoom$Walk", name := "sets", desc := "([I[I)Z" } : Jvm.MethodName)) ∈ lw_tbl := lw_at lw_m6 24 rfl
theorem q1311 : (Jvm.Cond.instanceMethod ({ cls := "GridRoom$Walk", name := "sets", desc := "([I[I)Z" } : Jvm.MethodName)) ∈ lw_all := lw_g (lw_at lw_m6 26 rfl) rfl
theorem q1312 : (Jvm.Cond.code ({ cls := "GridRoom$Walk", name := "sets", desc := "([I[I)Z" } : Jvm.MethodName) prog_20_method_7_code (5 : Nat) (Option.some Jvm.ClassFile.FieldType.boolean)) ∈ lw_all := lw_g (lw_at lw_m6 27 rfl) rfl
theorem q1313 : (Jvm.Cond.methodLink "GridRoom$Walk" (116 : Nat) ({ cls := "GridRoom$Walk", name := "gives", desc := "(II)Z" } : Jvm.MethodName)) ∈ lw_all := lw_g (lw_at lw_m6 28 rfl) rfl
theorem q1314 : (Jvm.Cond.privateMethod ({ cls := "GridRoom$Walk", name := "gives", desc := "(II)Z" } : Jvm.MethodName)) ∈ lw_tbl := lw_at lw_m6 29 rfl
theorem q1315 : (Jvm.Cond.instanceMethod ({ cls := "GridRoom$Walk", name := "gives", desc := "(II)Z" } : Jvm.MethodName)) ∈ lw_all := lw_g (lw_at lw_m6 30 rfl) rfl
theorem q1316 : (Jvm.Cond.code ({ cls := "GridRoom$Walk", name := "gives", desc := "(II)Z" } : Jvm.MethodName) prog_20_method_8_code (6 : Nat) (Option.some Jvm.ClassFile.FieldType.boolean)) ∈ lw_all := lw_g (lw_at lw_m6 31 rfl) rfl
theorem q1317 : (Jvm.Cond.methodLinkNest "GridRoom$Walk" (123 : Nat) ({ cls := "GridRoom", name := "consonant", desc := "(I)I" } : Jvm.MethodName) "GridRoom") ∈ lw_tbl := lw_at lw_m6 32 rfl
theorem q1320 : (Jvm.Cond.methodLink "GridRoom$Walk" (127 : Nat) ({ cls := "GridRoom$Walk", name := "agrees", desc := "(IIIZ)Z" } : Jvm.MethodName)) ∈ lw_all := lw_g (lw_at lw_m6 35 rfl) rfl
theorem q1321 : (Jvm.Cond.privateMethod ({ cls := "GridRoom$Walk", name := "agrees", desc := "(IIIZ)Z" } : Jvm.MethodName)) ∈ lw_tbl := lw_at lw_m6 36 rfl
theorem q1322 : (Jvm.Cond.instanceMethod ({ cls := "GridRoom$Walk", name := "agrees", desc := "(IIIZ)Z" } : Jvm.MethodName)) ∈ lw_all := lw_g (lw_at lw_m6 37 rfl) rfl
theorem q1323 : (Jvm.Cond.code ({ cls := "GridRoom$Walk", name := "agrees", desc := "(IIIZ)Z" } : Jvm.MethodName) prog_20_method_9_code (5 : Nat) (Option.some Jvm.ClassFile.FieldType.boolean)) ∈ lw_all := lw_g (lw_at lw_m6 38 rfl) rfl
theorem q1324 : (Jvm.Cond.methodLink "GridRoom$Walk" (131 : Nat) ({ cls := "GridRoom$View", name := "isParted", desc := "(III)Z" } : Jvm.MethodName)) ∈ lw_all := lw_g (lw_at lw_m6 39 rfl) rfl
theorem q1325 : (Jvm.Cond.methodLink "GridRoom$Walk" (135 : Nat) ({ cls := "GridRoom$View", name := "isOfOne", desc := "(III)Z" } : Jvm.MethodName)) ∈ lw_all := lw_g (lw_at lw_m6 40 rfl) rfl
theorem q1331 : (Jvm.Cond.declares ({ cls := "GridRoom$Walk", name := "back", desc := "(I)V" } : Jvm.MethodName)) ∈ lw_tbl := lw_at lw_m6 46 rfl
theorem q1333 : (Jvm.Cond.instanceMethod ({ cls := "GridRoom$Walk", name := "back", desc := "(I)V" } : Jvm.MethodName)) ∈ lw_all := lw_g (lw_at lw_m6 48 rfl) rfl
theorem q1334 : (Jvm.Cond.code ({ cls := "GridRoom$Walk", name := "back", desc := "(I)V" } : Jvm.MethodName) prog_20_method_10_code (2 : Nat) (Option.none : Option Jvm.ClassFile.FieldType)) ∈ lw_all := lw_g (lw_at lw_m6 49 rfl) rfl
theorem q1344 : (Jvm.Cond.classLink "GridRoom$Walk" (81 : Nat) "GridRoom$Tablet") ∈ lw_all := lw_g (lw_at lw_m6 59 rfl) rfl
theorem q1345 : (Jvm.Cond.methodLink "GridRoom$Walk" (99 : Nat) ({ cls := "GridRoom$Walk", name := "sets", desc := "([I[I)Z" } : Jvm.MethodName)) ∈ lw_all := lw_g (lw_at lw_m6 60 rfl) rfl
theorem q1346 : (Jvm.Cond.methodLink "GridRoom$Walk" (103 : Nat) ({ cls := "GridRoom$Walk", name := "back", desc := "(I)V" } : Jvm.MethodName)) ∈ lw_all := lw_g (lw_at lw_m6 61 rfl) rfl
theorem q1454 : (Jvm.Cond.declares ({ cls := "GridRoom$Walk", name := "adds", desc := "([BII)V" } : Jvm.MethodName)) ∈ lw_tbl := lw_at lw_m6 169 rfl
theorem q2224 : (Jvm.Cond.sameMethod "GridRoom$Walk" "GridRoom$Walk" "tries" "(I)Z") ∈ lw_all := lw_g (lw_at lw_m9 219 rfl) rfl
theorem q2225 : (Jvm.Cond.sameMethod "GridRoom$Walk" "GridRoom$Walk" "gives" "(II)Z") ∈ lw_all := lw_g (lw_at lw_m9 220 rfl) rfl
theorem q2226 : (Jvm.Cond.sameMethod "GridRoom$Walk" "GridRoom$Walk" "agrees" "(IIIZ)Z") ∈ lw_all := lw_g (lw_at lw_m9 221 rfl) rfl
theorem q2227 : (Jvm.Cond.sameMethod "GridRoom$Walk" "GridRoom$Walk" "sets" "([I[I)Z") ∈ lw_all := lw_g (lw_at lw_m9 222 rfl) rfl
theorem q2233 : (Jvm.Cond.sameMethod "GridRoom$Walk" "GridRoom$Walk" "back" "(I)V") ∈ lw_all := lw_g (lw_at lw_m9 228 rfl) rfl
def RX19 : String := "GridRoom$Counter"
def TX19 : u_T := fun k => match k with
  | 0 => ("GridRoom$Walk", "settings", "I", false)
  | 1 => ("GridRoom$Walk", "signs", "I", false)
  | 2 => ("GridRoom$Walk", "this$0", "LGridRoom;", true)
  | 3 => ("GridRoom$Counter", "many", "I", false)
  | _ => ("GridRoom$Counter", "this$0", "LGridRoom;", true)
def tyX19 : Nat → FieldType := fun k => match k with
  | 0 => .int
  | 1 => .int
  | 2 => .object "GridRoom"
  | 3 => .int
  | _ => .object "GridRoom"
abbrev wsX190 : List Cond := u_ws RX19 TX19 5
-- two fields of one name: no nmX19
theorem tyX19_ok : ∀ k, k < 5 → parseFieldDescriptor (TX19 k).2.2.1 = some (tyX19 k) := by decide +kernel
abbrev cX19_init : ByteArray := prog_3_method_1_code
def yX19_init : MethodName := ⟨RX19, "<init>", "(LGridRoom;)V"⟩
abbrev cX19_is : ByteArray := prog_3_method_2_code
def yX19_is : MethodName := ⟨RX19, "is", "()Z"⟩
theorem q121 : (Jvm.Cond.initialized "GridRoom$Counter") ∈ lw_all := lw_g (lw_at lw_m1 36 rfl) rfl
theorem q730 : (Jvm.Cond.selects "GridRoom$Counter" ({ cls := "java/lang/Object", name := "getClass", desc := "()Ljava/lang/Class;" } : Jvm.MethodName) ({ cls := "java/lang/Object", name := "getClass", desc := "()Ljava/lang/Class;" } : Jvm.MethodName)) ∈ lw_all := lw_g (lw_at lw_m3 165 rfl) rfl
theorem q1229 : (Jvm.Cond.instantiable "GridRoom$Counter" (5 : Nat)) ∈ lw_all := lw_g (lw_at lw_m5 184 rfl) rfl
theorem q1231 : (Jvm.Cond.instanceMethod ({ cls := "GridRoom$Counter", name := "<init>", desc := "(LGridRoom;)V" } : Jvm.MethodName)) ∈ lw_all := lw_g (lw_at lw_m5 186 rfl) rfl
theorem q1232 : (Jvm.Cond.code ({ cls := "GridRoom$Counter", name := "<init>", desc := "(LGridRoom;)V" } : Jvm.MethodName) prog_3_method_1_code (2 : Nat) (Option.none : Option Jvm.ClassFile.FieldType)) ∈ lw_all := lw_g (lw_at lw_m5 187 rfl) rfl
theorem q1233 : (Jvm.Cond.methodLink "GridRoom$Counter" (7 : Nat) ({ cls := "GridRoom$Walk", name := "<init>", desc := "(LGridRoom;I)V" } : Jvm.MethodName)) ∈ lw_all := lw_g (lw_at lw_m5 188 rfl) rfl
theorem q1251 : (Jvm.Cond.selects "GridRoom$Counter" ({ cls := "GridRoom$Walk", name := "adds", desc := "([BII)V" } : Jvm.MethodName) ({ cls := "GridRoom$Walk", name := "adds", desc := "([BII)V" } : Jvm.MethodName)) ∈ lw_all := lw_g (lw_at lw_m5 206 rfl) rfl
theorem q1262 : (Jvm.Cond.fieldLink "GridRoom$Counter" (13 : Nat) "GridRoom$Counter" "many" "I") ∈ lw_all := lw_g (lw_at lw_m5 217 rfl) rfl
theorem q1264 : (Jvm.Cond.fieldLink "GridRoom$Counter" (1 : Nat) "GridRoom$Counter" "this$0" "LGridRoom;") ∈ lw_all := lw_g (lw_at lw_m5 219 rfl) rfl
theorem q1269 : (Jvm.Cond.lays "GridRoom$Counter" "GridRoom$Counter" "many" "I") ∈ lw_all := lw_g (lw_at lw_m5 224 rfl) rfl
theorem q1270 : (Jvm.Cond.soleField "GridRoom$Counter" "many") ∈ lw_all := lw_g (lw_at lw_m5 225 rfl) rfl
theorem q1271 : (Jvm.Cond.laysFinal "GridRoom$Counter" "GridRoom$Counter" "this$0" "LGridRoom;") ∈ lw_all := lw_g (lw_at lw_m5 226 rfl) rfl
theorem q1272 : (Jvm.Cond.soleField "GridRoom$Counter" "this$0") ∈ lw_all := lw_g (lw_at lw_m5 227 rfl) rfl
theorem q1273 : (Jvm.Cond.lays "GridRoom$Counter" "GridRoom$Walk" "settings" "I") ∈ lw_all := lw_g (lw_at lw_m5 228 rfl) rfl
theorem q1275 : (Jvm.Cond.lays "GridRoom$Counter" "GridRoom$Walk" "signs" "I") ∈ lw_all := lw_g (lw_at lw_m5 230 rfl) rfl
theorem q1277 : (Jvm.Cond.laysFinal "GridRoom$Counter" "GridRoom$Walk" "this$0" "LGridRoom;") ∈ lw_all := lw_g (lw_at lw_m5 232 rfl) rfl
theorem q1279 : (Jvm.Cond.superclass "GridRoom$Counter" "GridRoom$Walk") ∈ lw_all := lw_g (lw_at lw_m5 234 rfl) rfl
theorem q1281 : (Jvm.Cond.sameMethod "GridRoom$Counter" "GridRoom$Walk" "go" "()LGridRoom$Walk;") ∈ lw_all := lw_g (lw_at lw_m5 236 rfl) rfl
theorem q1283 : (Jvm.Cond.selects "GridRoom$Counter" ({ cls := "GridRoom$Counter", name := "go", desc := "()LGridRoom$Walk;" } : Jvm.MethodName) ({ cls := "GridRoom$Walk", name := "go", desc := "()LGridRoom$Walk;" } : Jvm.MethodName)) ∈ lw_all := lw_g (lw_at lw_m5 238 rfl) rfl
theorem q1293 : (Jvm.Cond.selects "GridRoom$Counter" ({ cls := "GridRoom$Walk", name := "is", desc := "()Z" } : Jvm.MethodName) ({ cls := "GridRoom$Counter", name := "is", desc := "()Z" } : Jvm.MethodName)) ∈ lw_all := lw_g (lw_at lw_m6 8 rfl) rfl
theorem q1294 : (Jvm.Cond.instanceMethod ({ cls := "GridRoom$Counter", name := "is", desc := "()Z" } : Jvm.MethodName)) ∈ lw_all := lw_g (lw_at lw_m6 9 rfl) rfl
theorem q1295 : (Jvm.Cond.code ({ cls := "GridRoom$Counter", name := "is", desc := "()Z" } : Jvm.MethodName) prog_3_method_2_code (1 : Nat) (Option.some Jvm.ClassFile.FieldType.boolean)) ∈ lw_all := lw_g (lw_at lw_m6 10 rfl) rfl
theorem q1453 : (Jvm.Cond.sameMethod "GridRoom$Counter" "GridRoom$Walk" "adds" "([BII)V") ∈ lw_all := lw_g (lw_at lw_m6 168 rfl) rfl
theorem q1455 : (Jvm.Cond.selects "GridRoom$Counter" ({ cls := "GridRoom$Counter", name := "adds", desc := "([BII)V" } : Jvm.MethodName) ({ cls := "GridRoom$Walk", name := "adds", desc := "([BII)V" } : Jvm.MethodName)) ∈ lw_all := lw_g (lw_at lw_m6 170 rfl) rfl
theorem q2228 : (Jvm.Cond.selects "GridRoom$Counter" ({ cls := "GridRoom$Walk", name := "sets", desc := "([I[I)Z" } : Jvm.MethodName) ({ cls := "GridRoom$Walk", name := "sets", desc := "([I[I)Z" } : Jvm.MethodName)) ∈ lw_all := lw_g (lw_at lw_m9 223 rfl) rfl
theorem q2234 : (Jvm.Cond.selects "GridRoom$Counter" ({ cls := "GridRoom$Walk", name := "back", desc := "(I)V" } : Jvm.MethodName) ({ cls := "GridRoom$Walk", name := "back", desc := "(I)V" } : Jvm.MethodName)) ∈ lw_all := lw_g (lw_at lw_m9 229 rfl) rfl
theorem q2261 : (Jvm.Cond.castable "GridRoom$Counter" "java/lang/Object") ∈ lw_tbl := lw_at lw_m10 16 rfl
theorem in_X19 : ∀ w ∈ wsX190, w ∈ lw_all := lw_in wsX190 [1273, 1275, 1277, 1269, 1271] (by decide +kernel) (by decide +kernel)
def RX20 : String := "GridRoom$Seeker"
def TX20 : u_T := fun k => match k with
  | 0 => ("GridRoom$Walk", "settings", "I", false)
  | 1 => ("GridRoom$Walk", "signs", "I", false)
  | 2 => ("GridRoom$Walk", "this$0", "LGridRoom;", true)
  | 3 => ("GridRoom$Seeker", "which", "I", true)
  | 4 => ("GridRoom$Seeker", "rows", "[I", true)
  | 5 => ("GridRoom$Seeker", "cell", "[I", true)
  | 6 => ("GridRoom$Seeker", "many", "I", false)
  | 7 => ("GridRoom$Seeker", "has", "Z", false)
  | _ => ("GridRoom$Seeker", "this$0", "LGridRoom;", true)
def tyX20 : Nat → FieldType := fun k => match k with
  | 0 => .int
  | 1 => .int
  | 2 => .object "GridRoom"
  | 3 => .int
  | 4 => .array .int
  | 5 => .array .int
  | 6 => .int
  | 7 => .boolean
  | _ => .object "GridRoom"
abbrev wsX200 : List Cond := u_ws RX20 TX20 9
-- two fields of one name: no nmX20
theorem tyX20_ok : ∀ k, k < 9 → parseFieldDescriptor (TX20 k).2.2.1 = some (tyX20 k) := by decide +kernel
abbrev cX20_is : ByteArray := prog_11_method_2_code
def yX20_is : MethodName := ⟨RX20, "is", "()Z"⟩
abbrev cX20_init : ByteArray := prog_11_method_1_code
def yX20_init : MethodName := ⟨RX20, "<init>", "(LGridRoom;I)V"⟩
theorem q122 : (Jvm.Cond.initialized "GridRoom$Seeker") ∈ lw_all := lw_g (lw_at lw_m1 37 rfl) rfl
theorem q296 : (Jvm.Cond.fieldLinkNest "GridRoom$Seeker" (40 : Nat) "GridRoom$Setting" "name" "I" "GridRoom") ∈ lw_tbl := lw_at lw_m1 211 rfl
theorem q297 : (Jvm.Cond.fieldLinkNest "GridRoom$Seeker" (45 : Nat) "GridRoom$Setting" "row" "I" "GridRoom") ∈ lw_tbl := lw_at lw_m1 212 rfl
theorem q350 : (Jvm.Cond.fieldLinkNest "GridRoom$Seeker" (36 : Nat) "GridRoom" "setting" "[LGridRoom$Setting;" "GridRoom") ∈ lw_tbl := lw_at lw_m2 25 rfl
theorem q357 : (Jvm.Cond.fieldLinkNest "GridRoom$Seeker" (48 : Nat) "GridRoom" "given" "[I" "GridRoom") ∈ lw_tbl := lw_at lw_m2 32 rfl
theorem q737 : (Jvm.Cond.selects "GridRoom$Seeker" ({ cls := "java/lang/Object", name := "getClass", desc := "()Ljava/lang/Class;" } : Jvm.MethodName) ({ cls := "java/lang/Object", name := "getClass", desc := "()Ljava/lang/Class;" } : Jvm.MethodName)) ∈ lw_all := lw_g (lw_at lw_m3 172 rfl) rfl
theorem q1253 : (Jvm.Cond.selects "GridRoom$Seeker" ({ cls := "GridRoom$Walk", name := "adds", desc := "([BII)V" } : Jvm.MethodName) ({ cls := "GridRoom$Walk", name := "adds", desc := "([BII)V" } : Jvm.MethodName)) ∈ lw_all := lw_g (lw_at lw_m5 208 rfl) rfl
theorem q1266 : (Jvm.Cond.fieldLinkNest "GridRoom$Seeker" (33 : Nat) "GridRoom$Walk" "settings" "I" "GridRoom") ∈ lw_tbl := lw_at lw_m5 221 rfl
theorem q1335 : (Jvm.Cond.selects "GridRoom$Seeker" ({ cls := "GridRoom$Walk", name := "is", desc := "()Z" } : Jvm.MethodName) ({ cls := "GridRoom$Seeker", name := "is", desc := "()Z" } : Jvm.MethodName)) ∈ lw_all := lw_g (lw_at lw_m6 50 rfl) rfl
theorem q1336 : (Jvm.Cond.instanceMethod ({ cls := "GridRoom$Seeker", name := "is", desc := "()Z" } : Jvm.MethodName)) ∈ lw_all := lw_g (lw_at lw_m6 51 rfl) rfl
theorem q1337 : (Jvm.Cond.code ({ cls := "GridRoom$Seeker", name := "is", desc := "()Z" } : Jvm.MethodName) prog_11_method_2_code (2 : Nat) (Option.some Jvm.ClassFile.FieldType.boolean)) ∈ lw_all := lw_g (lw_at lw_m6 52 rfl) rfl
theorem q1356 : (Jvm.Cond.instantiable "GridRoom$Seeker" (9 : Nat)) ∈ lw_all := lw_g (lw_at lw_m6 71 rfl) rfl
theorem q1358 : (Jvm.Cond.instanceMethod ({ cls := "GridRoom$Seeker", name := "<init>", desc := "(LGridRoom;I)V" } : Jvm.MethodName)) ∈ lw_all := lw_g (lw_at lw_m6 73 rfl) rfl
theorem q1359 : (Jvm.Cond.code ({ cls := "GridRoom$Seeker", name := "<init>", desc := "(LGridRoom;I)V" } : Jvm.MethodName) prog_11_method_1_code (3 : Nat) (Option.none : Option Jvm.ClassFile.FieldType)) ∈ lw_all := lw_g (lw_at lw_m6 74 rfl) rfl
theorem q1360 : (Jvm.Cond.methodLink "GridRoom$Seeker" (9 : Nat) ({ cls := "GridRoom$Walk", name := "<init>", desc := "(LGridRoom;I)V" } : Jvm.MethodName)) ∈ lw_all := lw_g (lw_at lw_m6 75 rfl) rfl
theorem q1361 : (Jvm.Cond.fieldLink "GridRoom$Seeker" (22 : Nat) "GridRoom$Seeker" "which" "I") ∈ lw_all := lw_g (lw_at lw_m6 76 rfl) rfl
theorem q1362 : (Jvm.Cond.fieldLink "GridRoom$Seeker" (15 : Nat) "GridRoom$Seeker" "rows" "[I") ∈ lw_all := lw_g (lw_at lw_m6 77 rfl) rfl
theorem q1364 : (Jvm.Cond.fieldLink "GridRoom$Seeker" (19 : Nat) "GridRoom$Seeker" "cell" "[I") ∈ lw_all := lw_g (lw_at lw_m6 79 rfl) rfl
theorem q1366 : (Jvm.Cond.fieldLink "GridRoom$Seeker" (26 : Nat) "GridRoom$Seeker" "many" "I") ∈ lw_all := lw_g (lw_at lw_m6 81 rfl) rfl
theorem q1367 : (Jvm.Cond.fieldLink "GridRoom$Seeker" (29 : Nat) "GridRoom$Seeker" "has" "Z") ∈ lw_all := lw_g (lw_at lw_m6 82 rfl) rfl
theorem q1369 : (Jvm.Cond.fieldLink "GridRoom$Seeker" (3 : Nat) "GridRoom$Seeker" "this$0" "LGridRoom;") ∈ lw_all := lw_g (lw_at lw_m6 84 rfl) rfl
theorem q1370 : (Jvm.Cond.laysFinal "GridRoom$Seeker" "GridRoom$Seeker" "which" "I") ∈ lw_all := lw_g (lw_at lw_m6 85 rfl) rfl
theorem q1371 : (Jvm.Cond.soleField "GridRoom$Seeker" "which") ∈ lw_all := lw_g (lw_at lw_m6 86 rfl) rfl
theorem q1372 : (Jvm.Cond.laysFinal "GridRoom$Seeker" "GridRoom$Seeker" "rows" "[I") ∈ lw_all := lw_g (lw_at lw_m6 87 rfl) rfl
theorem q1373 : (Jvm.Cond.soleField "GridRoom$Seeker" "rows") ∈ lw_all := lw_g (lw_at lw_m6 88 rfl) rfl
theorem q1374 : (Jvm.Cond.laysFinal "GridRoom$Seeker" "GridRoom$Seeker" "cell" "[I") ∈ lw_all := lw_g (lw_at lw_m6 89 rfl) rfl
theorem q1375 : (Jvm.Cond.soleField "GridRoom$Seeker" "cell") ∈ lw_all := lw_g (lw_at lw_m6 90 rfl) rfl
theorem q1376 : (Jvm.Cond.lays "GridRoom$Seeker" "GridRoom$Seeker" "many" "I") ∈ lw_all := lw_g (lw_at lw_m6 91 rfl) rfl
theorem q1377 : (Jvm.Cond.soleField "GridRoom$Seeker" "many") ∈ lw_all := lw_g (lw_at lw_m6 92 rfl) rfl
theorem q1378 : (Jvm.Cond.lays "GridRoom$Seeker" "GridRoom$Seeker" "has" "Z") ∈ lw_all := lw_g (lw_at lw_m6 93 rfl) rfl
theorem q1379 : (Jvm.Cond.soleField "GridRoom$Seeker" "has") ∈ lw_all := lw_g (lw_at lw_m6 94 rfl) rfl
theorem q1380 : (Jvm.Cond.laysFinal "GridRoom$Seeker" "GridRoom$Seeker" "this$0" "LGridRoom;") ∈ lw_all := lw_g (lw_at lw_m6 95 rfl) rfl
theorem q1381 : (Jvm.Cond.soleField "GridRoom$Seeker" "this$0") ∈ lw_all := lw_g (lw_at lw_m6 96 rfl) rfl
theorem q1382 : (Jvm.Cond.lays "GridRoom$Seeker" "GridRoom$Walk" "settings" "I") ∈ lw_all := lw_g (lw_at lw_m6 97 rfl) rfl
theorem q1383 : (Jvm.Cond.lays "GridRoom$Seeker" "GridRoom$Walk" "signs" "I") ∈ lw_all := lw_g (lw_at lw_m6 98 rfl) rfl
theorem q1384 : (Jvm.Cond.laysFinal "GridRoom$Seeker" "GridRoom$Walk" "this$0" "LGridRoom;") ∈ lw_all := lw_g (lw_at lw_m6 99 rfl) rfl
theorem q1385 : (Jvm.Cond.superclass "GridRoom$Seeker" "GridRoom$Walk") ∈ lw_all := lw_g (lw_at lw_m6 100 rfl) rfl
theorem q1387 : (Jvm.Cond.sameMethod "GridRoom$Seeker" "GridRoom$Walk" "go" "()LGridRoom$Walk;") ∈ lw_all := lw_g (lw_at lw_m6 102 rfl) rfl
theorem q1388 : (Jvm.Cond.selects "GridRoom$Seeker" ({ cls := "GridRoom$Seeker", name := "go", desc := "()LGridRoom$Walk;" } : Jvm.MethodName) ({ cls := "GridRoom$Walk", name := "go", desc := "()LGridRoom$Walk;" } : Jvm.MethodName)) ∈ lw_all := lw_g (lw_at lw_m6 103 rfl) rfl
theorem q2230 : (Jvm.Cond.selects "GridRoom$Seeker" ({ cls := "GridRoom$Walk", name := "sets", desc := "([I[I)Z" } : Jvm.MethodName) ({ cls := "GridRoom$Walk", name := "sets", desc := "([I[I)Z" } : Jvm.MethodName)) ∈ lw_all := lw_g (lw_at lw_m9 225 rfl) rfl
theorem q2236 : (Jvm.Cond.selects "GridRoom$Seeker" ({ cls := "GridRoom$Walk", name := "back", desc := "(I)V" } : Jvm.MethodName) ({ cls := "GridRoom$Walk", name := "back", desc := "(I)V" } : Jvm.MethodName)) ∈ lw_all := lw_g (lw_at lw_m9 231 rfl) rfl
theorem q2262 : (Jvm.Cond.castable "GridRoom$Seeker" "java/lang/Object") ∈ lw_tbl := lw_at lw_m10 17 rfl
theorem in_X20 : ∀ w ∈ wsX200, w ∈ lw_all := lw_in wsX200 [1382, 1383, 1384, 1370, 1372, 1374, 1376, 1378, 1380] (by decide +kernel) (by decide +kernel)
def RX21 : String := "GridRoom$Tally"
def TX21 : u_T := fun k => match k with
  | 0 => ("GridRoom$Walk", "settings", "I", false)
  | 1 => ("GridRoom$Walk", "signs", "I", false)
  | 2 => ("GridRoom$Walk", "this$0", "LGridRoom;", true)
  | 3 => ("GridRoom$Tally", "ways", "I", false)
  | _ => ("GridRoom$Tally", "this$0", "LGridRoom;", true)
def tyX21 : Nat → FieldType := fun k => match k with
  | 0 => .int
  | 1 => .int
  | 2 => .object "GridRoom"
  | 3 => .int
  | _ => .object "GridRoom"
abbrev wsX210 : List Cond := u_ws RX21 TX21 5
-- two fields of one name: no nmX21
theorem tyX21_ok : ∀ k, k < 5 → parseFieldDescriptor (TX21 k).2.2.1 = some (tyX21 k) := by decide +kernel
abbrev cX21_is : ByteArray := prog_17_method_2_code
def yX21_is : MethodName := ⟨RX21, "is", "()Z"⟩
abbrev cX21_init : ByteArray := prog_17_method_1_code
def yX21_init : MethodName := ⟨RX21, "<init>", "(LGridRoom;)V"⟩
abbrev cX21_forced : ByteArray := prog_17_method_3_code
def yX21_forced : MethodName := ⟨RX21, "forced", "(I)I"⟩
abbrev cX21_most : ByteArray := prog_17_method_4_code
def yX21_most : MethodName := ⟨RX21, "most", "(I)I"⟩
theorem q123 : (Jvm.Cond.initialized "GridRoom$Tally") ∈ lw_all := lw_g (lw_at lw_m1 38 rfl) rfl
theorem q356 : (Jvm.Cond.fieldLinkNest "GridRoom$Tally" (26 : Nat) "GridRoom" "given" "[I" "GridRoom") ∈ lw_tbl := lw_at lw_m2 31 rfl
theorem q363 : (Jvm.Cond.fieldLinkNest "GridRoom$Tally" (15 : Nat) "GridRoom" "many" "[I" "GridRoom") ∈ lw_tbl := lw_at lw_m2 38 rfl
theorem q365 : (Jvm.Cond.fieldLinkNest "GridRoom$Tally" (19 : Nat) "GridRoom" "none" "[I" "GridRoom") ∈ lw_tbl := lw_at lw_m2 40 rfl
theorem q743 : (Jvm.Cond.selects "GridRoom$Tally" ({ cls := "java/lang/Object", name := "getClass", desc := "()Ljava/lang/Class;" } : Jvm.MethodName) ({ cls := "java/lang/Object", name := "getClass", desc := "()Ljava/lang/Class;" } : Jvm.MethodName)) ∈ lw_all := lw_g (lw_at lw_m3 178 rfl) rfl
theorem q1255 : (Jvm.Cond.selects "GridRoom$Tally" ({ cls := "GridRoom$Walk", name := "adds", desc := "([BII)V" } : Jvm.MethodName) ({ cls := "GridRoom$Walk", name := "adds", desc := "([BII)V" } : Jvm.MethodName)) ∈ lw_all := lw_g (lw_at lw_m5 210 rfl) rfl
theorem q1341 : (Jvm.Cond.selects "GridRoom$Tally" ({ cls := "GridRoom$Walk", name := "is", desc := "()Z" } : Jvm.MethodName) ({ cls := "GridRoom$Tally", name := "is", desc := "()Z" } : Jvm.MethodName)) ∈ lw_all := lw_g (lw_at lw_m6 56 rfl) rfl
theorem q1342 : (Jvm.Cond.instanceMethod ({ cls := "GridRoom$Tally", name := "is", desc := "()Z" } : Jvm.MethodName)) ∈ lw_all := lw_g (lw_at lw_m6 57 rfl) rfl
theorem q1343 : (Jvm.Cond.code ({ cls := "GridRoom$Tally", name := "is", desc := "()Z" } : Jvm.MethodName) prog_17_method_2_code (2 : Nat) (Option.some Jvm.ClassFile.FieldType.boolean)) ∈ lw_all := lw_g (lw_at lw_m6 58 rfl) rfl
theorem q1402 : (Jvm.Cond.instantiable "GridRoom$Tally" (5 : Nat)) ∈ lw_all := lw_g (lw_at lw_m6 117 rfl) rfl
theorem q1404 : (Jvm.Cond.instanceMethod ({ cls := "GridRoom$Tally", name := "<init>", desc := "(LGridRoom;)V" } : Jvm.MethodName)) ∈ lw_all := lw_g (lw_at lw_m6 119 rfl) rfl
theorem q1405 : (Jvm.Cond.code ({ cls := "GridRoom$Tally", name := "<init>", desc := "(LGridRoom;)V" } : Jvm.MethodName) prog_17_method_1_code (3 : Nat) (Option.none : Option Jvm.ClassFile.FieldType)) ∈ lw_all := lw_g (lw_at lw_m6 120 rfl) rfl
theorem q1406 : (Jvm.Cond.methodLink "GridRoom$Tally" (9 : Nat) ({ cls := "GridRoom$Walk", name := "<init>", desc := "(LGridRoom;I)V" } : Jvm.MethodName)) ∈ lw_all := lw_g (lw_at lw_m6 121 rfl) rfl
theorem q1407 : (Jvm.Cond.fieldLink "GridRoom$Tally" (22 : Nat) "GridRoom$Tally" "ways" "I") ∈ lw_all := lw_g (lw_at lw_m6 122 rfl) rfl
theorem q1409 : (Jvm.Cond.fieldLink "GridRoom$Tally" (3 : Nat) "GridRoom$Tally" "this$0" "LGridRoom;") ∈ lw_all := lw_g (lw_at lw_m6 124 rfl) rfl
theorem q1410 : (Jvm.Cond.lays "GridRoom$Tally" "GridRoom$Tally" "ways" "I") ∈ lw_all := lw_g (lw_at lw_m6 125 rfl) rfl
theorem q1411 : (Jvm.Cond.soleField "GridRoom$Tally" "ways") ∈ lw_all := lw_g (lw_at lw_m6 126 rfl) rfl
theorem q1412 : (Jvm.Cond.laysFinal "GridRoom$Tally" "GridRoom$Tally" "this$0" "LGridRoom;") ∈ lw_all := lw_g (lw_at lw_m6 127 rfl) rfl
theorem q1413 : (Jvm.Cond.soleField "GridRoom$Tally" "this$0") ∈ lw_all := lw_g (lw_at lw_m6 128 rfl) rfl
theorem q1414 : (Jvm.Cond.lays "GridRoom$Tally" "GridRoom$Walk" "settings" "I") ∈ lw_all := lw_g (lw_at lw_m6 129 rfl) rfl
theorem q1415 : (Jvm.Cond.lays "GridRoom$Tally" "GridRoom$Walk" "signs" "I") ∈ lw_all := lw_g (lw_at lw_m6 130 rfl) rfl
theorem q1416 : (Jvm.Cond.laysFinal "GridRoom$Tally" "GridRoom$Walk" "this$0" "LGridRoom;") ∈ lw_all := lw_g (lw_at lw_m6 131 rfl) rfl
theorem q1417 : (Jvm.Cond.superclass "GridRoom$Tally" "GridRoom$Walk") ∈ lw_all := lw_g (lw_at lw_m6 132 rfl) rfl
theorem q1419 : (Jvm.Cond.sameMethod "GridRoom$Tally" "GridRoom$Walk" "go" "()LGridRoom$Walk;") ∈ lw_all := lw_g (lw_at lw_m6 134 rfl) rfl
theorem q1420 : (Jvm.Cond.selects "GridRoom$Tally" ({ cls := "GridRoom$Tally", name := "go", desc := "()LGridRoom$Walk;" } : Jvm.MethodName) ({ cls := "GridRoom$Walk", name := "go", desc := "()LGridRoom$Walk;" } : Jvm.MethodName)) ∈ lw_all := lw_g (lw_at lw_m6 135 rfl) rfl
theorem q1422 : (Jvm.Cond.instanceMethod ({ cls := "GridRoom$Tally", name := "forced", desc := "(I)I" } : Jvm.MethodName)) ∈ lw_all := lw_g (lw_at lw_m6 137 rfl) rfl
theorem q1423 : (Jvm.Cond.selects "GridRoom$Tally" ({ cls := "GridRoom$Tally", name := "forced", desc := "(I)I" } : Jvm.MethodName) ({ cls := "GridRoom$Tally", name := "forced", desc := "(I)I" } : Jvm.MethodName)) ∈ lw_all := lw_g (lw_at lw_m6 138 rfl) rfl
theorem q1424 : (Jvm.Cond.code ({ cls := "GridRoom$Tally", name := "forced", desc := "(I)I" } : Jvm.MethodName) prog_17_method_3_code (3 : Nat) (Option.some Jvm.ClassFile.FieldType.int)) ∈ lw_all := lw_g (lw_at lw_m6 139 rfl) rfl
theorem q1444 : (Jvm.Cond.instanceMethod ({ cls := "GridRoom$Tally", name := "most", desc := "(I)I" } : Jvm.MethodName)) ∈ lw_all := lw_g (lw_at lw_m6 159 rfl) rfl
theorem q1445 : (Jvm.Cond.selects "GridRoom$Tally" ({ cls := "GridRoom$Tally", name := "most", desc := "(I)I" } : Jvm.MethodName) ({ cls := "GridRoom$Tally", name := "most", desc := "(I)I" } : Jvm.MethodName)) ∈ lw_all := lw_g (lw_at lw_m6 160 rfl) rfl
theorem q1446 : (Jvm.Cond.code ({ cls := "GridRoom$Tally", name := "most", desc := "(I)I" } : Jvm.MethodName) prog_17_method_4_code (4 : Nat) (Option.some Jvm.ClassFile.FieldType.int)) ∈ lw_all := lw_g (lw_at lw_m6 161 rfl) rfl
theorem q1447 : (Jvm.Cond.methodLink "GridRoom$Tally" (29 : Nat) ({ cls := "java/lang/Math", name := "max", desc := "(II)I" } : Jvm.MethodName)) ∈ lw_all := lw_g (lw_at lw_m6 162 rfl) rfl
theorem q2232 : (Jvm.Cond.selects "GridRoom$Tally" ({ cls := "GridRoom$Walk", name := "sets", desc := "([I[I)Z" } : Jvm.MethodName) ({ cls := "GridRoom$Walk", name := "sets", desc := "([I[I)Z" } : Jvm.MethodName)) ∈ lw_all := lw_g (lw_at lw_m9 227 rfl) rfl
theorem q2238 : (Jvm.Cond.selects "GridRoom$Tally" ({ cls := "GridRoom$Walk", name := "back", desc := "(I)V" } : Jvm.MethodName) ({ cls := "GridRoom$Walk", name := "back", desc := "(I)V" } : Jvm.MethodName)) ∈ lw_all := lw_g (lw_at lw_m9 233 rfl) rfl
theorem q2263 : (Jvm.Cond.castable "GridRoom$Tally" "java/lang/Object") ∈ lw_tbl := lw_at lw_m10 18 rfl
theorem in_X21 : ∀ w ∈ wsX210, w ∈ lw_all := lw_in wsX210 [1414, 1415, 1416, 1410, 1412] (by decide +kernel) (by decide +kernel)
def RX22 : String := "GridRoom$Fitter"
def TX22 : u_T := fun k => match k with
  | 0 => ("GridRoom$Walk", "settings", "I", false)
  | 1 => ("GridRoom$Walk", "signs", "I", false)
  | 2 => ("GridRoom$Walk", "this$0", "LGridRoom;", true)
  | 3 => ("GridRoom$Fitter", "tablet", "I", true)
  | 4 => ("GridRoom$Fitter", "w", "I", true)
  | 5 => ("GridRoom$Fitter", "cell", "[I", true)
  | 6 => ("GridRoom$Fitter", "fits", "Z", false)
  | _ => ("GridRoom$Fitter", "this$0", "LGridRoom;", true)
def tyX22 : Nat → FieldType := fun k => match k with
  | 0 => .int
  | 1 => .int
  | 2 => .object "GridRoom"
  | 3 => .int
  | 4 => .int
  | 5 => .array .int
  | 6 => .boolean
  | _ => .object "GridRoom"
abbrev wsX220 : List Cond := u_ws RX22 TX22 8
-- two fields of one name: no nmX22
theorem tyX22_ok : ∀ k, k < 8 → parseFieldDescriptor (TX22 k).2.2.1 = some (tyX22 k) := by decide +kernel
abbrev cX22_is : ByteArray := prog_5_method_2_code
def yX22_is : MethodName := ⟨RX22, "is", "()Z"⟩
abbrev cX22_init : ByteArray := prog_5_method_1_code
def yX22_init : MethodName := ⟨RX22, "<init>", "(LGridRoom;II[I)V"⟩
theorem q124 : (Jvm.Cond.initialized "GridRoom$Fitter") ∈ lw_all := lw_g (lw_at lw_m1 39 rfl) rfl
theorem q314 : (Jvm.Cond.fieldLinkNest "GridRoom$Fitter" (34 : Nat) "GridRoom" "tablets" "Ljava/util/ArrayList;" "GridRoom") ∈ lw_tbl := lw_at lw_m1 229 rfl
theorem q353 : (Jvm.Cond.fieldLinkNest "GridRoom$Fitter" (26 : Nat) "GridRoom" "isChosen" "[Z" "GridRoom") ∈ lw_tbl := lw_at lw_m2 28 rfl
theorem q682 : (Jvm.Cond.fieldLinkNest "GridRoom$Fitter" (46 : Nat) "GridRoom$Tablet" "word" "[[I" "GridRoom") ∈ lw_tbl := lw_at lw_m3 117 rfl
theorem q732 : (Jvm.Cond.selects "GridRoom$Fitter" ({ cls := "java/lang/Object", name := "getClass", desc := "()Ljava/lang/Class;" } : Jvm.MethodName) ({ cls := "java/lang/Object", name := "getClass", desc := "()Ljava/lang/Class;" } : Jvm.MethodName)) ∈ lw_all := lw_g (lw_at lw_m3 167 rfl) rfl
theorem q1252 : (Jvm.Cond.selects "GridRoom$Fitter" ({ cls := "GridRoom$Walk", name := "adds", desc := "([BII)V" } : Jvm.MethodName) ({ cls := "GridRoom$Walk", name := "adds", desc := "([BII)V" } : Jvm.MethodName)) ∈ lw_all := lw_g (lw_at lw_m5 207 rfl) rfl
theorem q1296 : (Jvm.Cond.selects "GridRoom$Fitter" ({ cls := "GridRoom$Walk", name := "is", desc := "()Z" } : Jvm.MethodName) ({ cls := "GridRoom$Fitter", name := "is", desc := "()Z" } : Jvm.MethodName)) ∈ lw_all := lw_g (lw_at lw_m6 11 rfl) rfl
theorem q1297 : (Jvm.Cond.instanceMethod ({ cls := "GridRoom$Fitter", name := "is", desc := "()Z" } : Jvm.MethodName)) ∈ lw_all := lw_g (lw_at lw_m6 12 rfl) rfl
theorem q1298 : (Jvm.Cond.code ({ cls := "GridRoom$Fitter", name := "is", desc := "()Z" } : Jvm.MethodName) prog_5_method_2_code (2 : Nat) (Option.some Jvm.ClassFile.FieldType.boolean)) ∈ lw_all := lw_g (lw_at lw_m6 13 rfl) rfl
theorem q1299 : (Jvm.Cond.methodLink "GridRoom$Fitter" (30 : Nat) ({ cls := "GridRoom$Fitter", name := "signs", desc := "()I" } : Jvm.MethodName)) ∈ lw_all := lw_g (lw_at lw_m6 14 rfl) rfl
theorem q1300 : (Jvm.Cond.sameMethod "GridRoom$Fitter" "GridRoom$Walk" "signs" "()I") ∈ lw_all := lw_g (lw_at lw_m6 15 rfl) rfl
theorem q1302 : (Jvm.Cond.selects "GridRoom$Fitter" ({ cls := "GridRoom$Fitter", name := "signs", desc := "()I" } : Jvm.MethodName) ({ cls := "GridRoom$Walk", name := "signs", desc := "()I" } : Jvm.MethodName)) ∈ lw_all := lw_g (lw_at lw_m6 17 rfl) rfl
theorem q1305 : (Jvm.Cond.methodLink "GridRoom$Fitter" (38 : Nat) ({ cls := "java/util/ArrayList", name := "get", desc := "(I)Ljava/lang/Object;" } : Jvm.MethodName)) ∈ lw_all := lw_g (lw_at lw_m6 20 rfl) rfl
theorem q1306 : (Jvm.Cond.classLink "GridRoom$Fitter" (44 : Nat) "GridRoom$Tablet") ∈ lw_all := lw_g (lw_at lw_m6 21 rfl) rfl
theorem q1307 : (Jvm.Cond.methodLink "GridRoom$Fitter" (50 : Nat) ({ cls := "GridRoom$Fitter", name := "sets", desc := "([I[I)Z" } : Jvm.MethodName)) ∈ lw_all := lw_g (lw_at lw_m6 22 rfl) rfl
theorem q1308 : (Jvm.Cond.sameMethod "GridRoom$Fitter" "GridRoom$Walk" "sets" "([I[I)Z") ∈ lw_all := lw_g (lw_at lw_m6 23 rfl) rfl
theorem q1310 : (Jvm.Cond.selects "GridRoom$Fitter" ({ cls := "GridRoom$Fitter", name := "sets", desc := "([I[I)Z" } : Jvm.MethodName) ({ cls := "GridRoom$Walk", name := "sets", desc := "([I[I)Z" } : Jvm.MethodName)) ∈ lw_all := lw_g (lw_at lw_m6 25 rfl) rfl
theorem q1329 : (Jvm.Cond.methodLink "GridRoom$Fitter" (58 : Nat) ({ cls := "GridRoom$Fitter", name := "back", desc := "(I)V" } : Jvm.MethodName)) ∈ lw_all := lw_g (lw_at lw_m6 44 rfl) rfl
theorem q1330 : (Jvm.Cond.sameMethod "GridRoom$Fitter" "GridRoom$Walk" "back" "(I)V") ∈ lw_all := lw_g (lw_at lw_m6 45 rfl) rfl
theorem q1332 : (Jvm.Cond.selects "GridRoom$Fitter" ({ cls := "GridRoom$Fitter", name := "back", desc := "(I)V" } : Jvm.MethodName) ({ cls := "GridRoom$Walk", name := "back", desc := "(I)V" } : Jvm.MethodName)) ∈ lw_all := lw_g (lw_at lw_m6 47 rfl) rfl
theorem q1461 : (Jvm.Cond.instantiable "GridRoom$Fitter" (8 : Nat)) ∈ lw_all := lw_g (lw_at lw_m6 176 rfl) rfl
theorem q1463 : (Jvm.Cond.instanceMethod ({ cls := "GridRoom$Fitter", name := "<init>", desc := "(LGridRoom;II[I)V" } : Jvm.MethodName)) ∈ lw_all := lw_g (lw_at lw_m6 178 rfl) rfl
theorem q1464 : (Jvm.Cond.code ({ cls := "GridRoom$Fitter", name := "<init>", desc := "(LGridRoom;II[I)V" } : Jvm.MethodName) prog_5_method_1_code (5 : Nat) (Option.none : Option Jvm.ClassFile.FieldType)) ∈ lw_all := lw_g (lw_at lw_m6 179 rfl) rfl
theorem q1465 : (Jvm.Cond.methodLink "GridRoom$Fitter" (9 : Nat) ({ cls := "GridRoom$Walk", name := "<init>", desc := "(LGridRoom;I)V" } : Jvm.MethodName)) ∈ lw_all := lw_g (lw_at lw_m6 180 rfl) rfl
theorem q1466 : (Jvm.Cond.fieldLink "GridRoom$Fitter" (15 : Nat) "GridRoom$Fitter" "tablet" "I") ∈ lw_all := lw_g (lw_at lw_m6 181 rfl) rfl
theorem q1467 : (Jvm.Cond.fieldLink "GridRoom$Fitter" (19 : Nat) "GridRoom$Fitter" "w" "I") ∈ lw_all := lw_g (lw_at lw_m6 182 rfl) rfl
theorem q1468 : (Jvm.Cond.fieldLink "GridRoom$Fitter" (22 : Nat) "GridRoom$Fitter" "cell" "[I") ∈ lw_all := lw_g (lw_at lw_m6 183 rfl) rfl
theorem q1469 : (Jvm.Cond.fieldLink "GridRoom$Fitter" (54 : Nat) "GridRoom$Fitter" "fits" "Z") ∈ lw_all := lw_g (lw_at lw_m6 184 rfl) rfl
theorem q1471 : (Jvm.Cond.fieldLink "GridRoom$Fitter" (3 : Nat) "GridRoom$Fitter" "this$0" "LGridRoom;") ∈ lw_all := lw_g (lw_at lw_m6 186 rfl) rfl
theorem q1472 : (Jvm.Cond.laysFinal "GridRoom$Fitter" "GridRoom$Fitter" "tablet" "I") ∈ lw_all := lw_g (lw_at lw_m6 187 rfl) rfl
theorem q1473 : (Jvm.Cond.soleField "GridRoom$Fitter" "tablet") ∈ lw_all := lw_g (lw_at lw_m6 188 rfl) rfl
theorem q1474 : (Jvm.Cond.laysFinal "GridRoom$Fitter" "GridRoom$Fitter" "w" "I") ∈ lw_all := lw_g (lw_at lw_m6 189 rfl) rfl
theorem q1475 : (Jvm.Cond.soleField "GridRoom$Fitter" "w") ∈ lw_all := lw_g (lw_at lw_m6 190 rfl) rfl
theorem q1476 : (Jvm.Cond.laysFinal "GridRoom$Fitter" "GridRoom$Fitter" "cell" "[I") ∈ lw_all := lw_g (lw_at lw_m6 191 rfl) rfl
theorem q1477 : (Jvm.Cond.soleField "GridRoom$Fitter" "cell") ∈ lw_all := lw_g (lw_at lw_m6 192 rfl) rfl
theorem q1478 : (Jvm.Cond.lays "GridRoom$Fitter" "GridRoom$Fitter" "fits" "Z") ∈ lw_all := lw_g (lw_at lw_m6 193 rfl) rfl
theorem q1479 : (Jvm.Cond.soleField "GridRoom$Fitter" "fits") ∈ lw_all := lw_g (lw_at lw_m6 194 rfl) rfl
theorem q1480 : (Jvm.Cond.laysFinal "GridRoom$Fitter" "GridRoom$Fitter" "this$0" "LGridRoom;") ∈ lw_all := lw_g (lw_at lw_m6 195 rfl) rfl
theorem q1481 : (Jvm.Cond.soleField "GridRoom$Fitter" "this$0") ∈ lw_all := lw_g (lw_at lw_m6 196 rfl) rfl
theorem q1482 : (Jvm.Cond.lays "GridRoom$Fitter" "GridRoom$Walk" "settings" "I") ∈ lw_all := lw_g (lw_at lw_m6 197 rfl) rfl
theorem q1483 : (Jvm.Cond.lays "GridRoom$Fitter" "GridRoom$Walk" "signs" "I") ∈ lw_all := lw_g (lw_at lw_m6 198 rfl) rfl
theorem q1484 : (Jvm.Cond.laysFinal "GridRoom$Fitter" "GridRoom$Walk" "this$0" "LGridRoom;") ∈ lw_all := lw_g (lw_at lw_m6 199 rfl) rfl
theorem q1485 : (Jvm.Cond.superclass "GridRoom$Fitter" "GridRoom$Walk") ∈ lw_all := lw_g (lw_at lw_m6 200 rfl) rfl
theorem q1487 : (Jvm.Cond.sameMethod "GridRoom$Fitter" "GridRoom$Walk" "go" "()LGridRoom$Walk;") ∈ lw_all := lw_g (lw_at lw_m6 202 rfl) rfl
theorem q1488 : (Jvm.Cond.selects "GridRoom$Fitter" ({ cls := "GridRoom$Fitter", name := "go", desc := "()LGridRoom$Walk;" } : Jvm.MethodName) ({ cls := "GridRoom$Walk", name := "go", desc := "()LGridRoom$Walk;" } : Jvm.MethodName)) ∈ lw_all := lw_g (lw_at lw_m6 203 rfl) rfl
theorem q2229 : (Jvm.Cond.selects "GridRoom$Fitter" ({ cls := "GridRoom$Walk", name := "sets", desc := "([I[I)Z" } : Jvm.MethodName) ({ cls := "GridRoom$Walk", name := "sets", desc := "([I[I)Z" } : Jvm.MethodName)) ∈ lw_all := lw_g (lw_at lw_m9 224 rfl) rfl
theorem q2235 : (Jvm.Cond.selects "GridRoom$Fitter" ({ cls := "GridRoom$Walk", name := "back", desc := "(I)V" } : Jvm.MethodName) ({ cls := "GridRoom$Walk", name := "back", desc := "(I)V" } : Jvm.MethodName)) ∈ lw_all := lw_g (lw_at lw_m9 230 rfl) rfl
theorem q2264 : (Jvm.Cond.castable "GridRoom$Fitter" "java/lang/Object") ∈ lw_tbl := lw_at lw_m10 19 rfl
theorem in_X22 : ∀ w ∈ wsX220, w ∈ lw_all := lw_in wsX220 [1482, 1483, 1484, 1472, 1474, 1476, 1478, 1480] (by decide +kernel) (by decide +kernel)
def RJ16 : String := "java/lang/Integer"
abbrev cJ16_bitCount : ByteArray := prog_29_method_49_code
def yJ16_bitCount : MethodName := ⟨RJ16, "bitCount", "(I)I"⟩
theorem q125 : (Jvm.Cond.initialized "java/lang/Integer") ∈ lw_all := lw_g (lw_at lw_m1 40 rfl) rfl
theorem q1495 : (Jvm.Cond.static ({ cls := "java/lang/Integer", name := "bitCount", desc := "(I)I" } : Jvm.MethodName)) ∈ lw_all := lw_g (lw_at lw_m6 210 rfl) rfl
theorem q1496 : (Jvm.Cond.code ({ cls := "java/lang/Integer", name := "bitCount", desc := "(I)I" } : Jvm.MethodName) prog_29_method_49_code (1 : Nat) (Option.some Jvm.ClassFile.FieldType.int)) ∈ lw_all := lw_g (lw_at lw_m6 211 rfl) rfl
theorem q1497 : (Jvm.Cond.constant "java/lang/Integer" (265 : Nat) (1431655765 : Int32)) ∈ lw_all := lw_g (lw_at lw_m6 212 rfl) rfl
theorem q1498 : (Jvm.Cond.constant "java/lang/Integer" (266 : Nat) (858993459 : Int32)) ∈ lw_all := lw_g (lw_at lw_m6 213 rfl) rfl
theorem q1499 : (Jvm.Cond.constant "java/lang/Integer" (267 : Nat) (252645135 : Int32)) ∈ lw_all := lw_g (lw_at lw_m6 214 rfl) rfl
def RX23 : String := "GridRoom$Some"
def TX23 : u_T := fun k => match k with
  | 0 => ("GridRoom$Walk", "settings", "I", false)
  | 1 => ("GridRoom$Walk", "signs", "I", false)
  | 2 => ("GridRoom$Walk", "this$0", "LGridRoom;", true)
  | 3 => ("GridRoom$Some", "has", "Z", false)
  | _ => ("GridRoom$Some", "this$0", "LGridRoom;", true)
def tyX23 : Nat → FieldType := fun k => match k with
  | 0 => .int
  | 1 => .int
  | 2 => .object "GridRoom"
  | 3 => .boolean
  | _ => .object "GridRoom"
abbrev wsX230 : List Cond := u_ws RX23 TX23 5
-- two fields of one name: no nmX23
theorem tyX23_ok : ∀ k, k < 5 → parseFieldDescriptor (TX23 k).2.2.1 = some (tyX23 k) := by decide +kernel
abbrev cX23_is : ByteArray := prog_14_method_2_code
def yX23_is : MethodName := ⟨RX23, "is", "()Z"⟩
abbrev cX23_init : ByteArray := prog_14_method_1_code
def yX23_init : MethodName := ⟨RX23, "<init>", "(LGridRoom;I)V"⟩
theorem q126 : (Jvm.Cond.initialized "GridRoom$Some") ∈ lw_all := lw_g (lw_at lw_m1 41 rfl) rfl
theorem q740 : (Jvm.Cond.selects "GridRoom$Some" ({ cls := "java/lang/Object", name := "getClass", desc := "()Ljava/lang/Class;" } : Jvm.MethodName) ({ cls := "java/lang/Object", name := "getClass", desc := "()Ljava/lang/Class;" } : Jvm.MethodName)) ∈ lw_all := lw_g (lw_at lw_m3 175 rfl) rfl
theorem q1254 : (Jvm.Cond.selects "GridRoom$Some" ({ cls := "GridRoom$Walk", name := "adds", desc := "([BII)V" } : Jvm.MethodName) ({ cls := "GridRoom$Walk", name := "adds", desc := "([BII)V" } : Jvm.MethodName)) ∈ lw_all := lw_g (lw_at lw_m5 209 rfl) rfl
theorem q1338 : (Jvm.Cond.selects "GridRoom$Some" ({ cls := "GridRoom$Walk", name := "is", desc := "()Z" } : Jvm.MethodName) ({ cls := "GridRoom$Some", name := "is", desc := "()Z" } : Jvm.MethodName)) ∈ lw_all := lw_g (lw_at lw_m6 53 rfl) rfl
theorem q1339 : (Jvm.Cond.instanceMethod ({ cls := "GridRoom$Some", name := "is", desc := "()Z" } : Jvm.MethodName)) ∈ lw_all := lw_g (lw_at lw_m6 54 rfl) rfl
theorem q1340 : (Jvm.Cond.code ({ cls := "GridRoom$Some", name := "is", desc := "()Z" } : Jvm.MethodName) prog_14_method_2_code (1 : Nat) (Option.some Jvm.ClassFile.FieldType.boolean)) ∈ lw_all := lw_g (lw_at lw_m6 55 rfl) rfl
theorem q1501 : (Jvm.Cond.instantiable "GridRoom$Some" (5 : Nat)) ∈ lw_all := lw_g (lw_at lw_m6 216 rfl) rfl
theorem q1503 : (Jvm.Cond.instanceMethod ({ cls := "GridRoom$Some", name := "<init>", desc := "(LGridRoom;I)V" } : Jvm.MethodName)) ∈ lw_all := lw_g (lw_at lw_m6 218 rfl) rfl
theorem q1504 : (Jvm.Cond.code ({ cls := "GridRoom$Some", name := "<init>", desc := "(LGridRoom;I)V" } : Jvm.MethodName) prog_14_method_1_code (3 : Nat) (Option.none : Option Jvm.ClassFile.FieldType)) ∈ lw_all := lw_g (lw_at lw_m6 219 rfl) rfl
theorem q1505 : (Jvm.Cond.methodLink "GridRoom$Some" (7 : Nat) ({ cls := "GridRoom$Walk", name := "<init>", desc := "(LGridRoom;I)V" } : Jvm.MethodName)) ∈ lw_all := lw_g (lw_at lw_m6 220 rfl) rfl
theorem q1506 : (Jvm.Cond.fieldLink "GridRoom$Some" (13 : Nat) "GridRoom$Some" "has" "Z") ∈ lw_all := lw_g (lw_at lw_m6 221 rfl) rfl
theorem q1508 : (Jvm.Cond.fieldLink "GridRoom$Some" (1 : Nat) "GridRoom$Some" "this$0" "LGridRoom;") ∈ lw_all := lw_g (lw_at lw_m6 223 rfl) rfl
theorem q1509 : (Jvm.Cond.lays "GridRoom$Some" "GridRoom$Some" "has" "Z") ∈ lw_all := lw_g (lw_at lw_m6 224 rfl) rfl
theorem q1510 : (Jvm.Cond.soleField "GridRoom$Some" "has") ∈ lw_all := lw_g (lw_at lw_m6 225 rfl) rfl
theorem q1511 : (Jvm.Cond.laysFinal "GridRoom$Some" "GridRoom$Some" "this$0" "LGridRoom;") ∈ lw_all := lw_g (lw_at lw_m6 226 rfl) rfl
theorem q1512 : (Jvm.Cond.soleField "GridRoom$Some" "this$0") ∈ lw_all := lw_g (lw_at lw_m6 227 rfl) rfl
theorem q1513 : (Jvm.Cond.lays "GridRoom$Some" "GridRoom$Walk" "settings" "I") ∈ lw_all := lw_g (lw_at lw_m6 228 rfl) rfl
theorem q1514 : (Jvm.Cond.lays "GridRoom$Some" "GridRoom$Walk" "signs" "I") ∈ lw_all := lw_g (lw_at lw_m6 229 rfl) rfl
theorem q1515 : (Jvm.Cond.laysFinal "GridRoom$Some" "GridRoom$Walk" "this$0" "LGridRoom;") ∈ lw_all := lw_g (lw_at lw_m6 230 rfl) rfl
theorem q1516 : (Jvm.Cond.superclass "GridRoom$Some" "GridRoom$Walk") ∈ lw_all := lw_g (lw_at lw_m6 231 rfl) rfl
theorem q1518 : (Jvm.Cond.sameMethod "GridRoom$Some" "GridRoom$Walk" "go" "()LGridRoom$Walk;") ∈ lw_all := lw_g (lw_at lw_m6 233 rfl) rfl
theorem q1519 : (Jvm.Cond.selects "GridRoom$Some" ({ cls := "GridRoom$Some", name := "go", desc := "()LGridRoom$Walk;" } : Jvm.MethodName) ({ cls := "GridRoom$Walk", name := "go", desc := "()LGridRoom$Walk;" } : Jvm.MethodName)) ∈ lw_all := lw_g (lw_at lw_m6 234 rfl) rfl
theorem q2231 : (Jvm.Cond.selects "GridRoom$Some" ({ cls := "GridRoom$Walk", name := "sets", desc := "([I[I)Z" } : Jvm.MethodName) ({ cls := "GridRoom$Walk", name := "sets", desc := "([I[I)Z" } : Jvm.MethodName)) ∈ lw_all := lw_g (lw_at lw_m9 226 rfl) rfl
theorem q2237 : (Jvm.Cond.selects "GridRoom$Some" ({ cls := "GridRoom$Walk", name := "back", desc := "(I)V" } : Jvm.MethodName) ({ cls := "GridRoom$Walk", name := "back", desc := "(I)V" } : Jvm.MethodName)) ∈ lw_all := lw_g (lw_at lw_m9 232 rfl) rfl
theorem q2265 : (Jvm.Cond.castable "GridRoom$Some" "java/lang/Object") ∈ lw_tbl := lw_at lw_m10 20 rfl
theorem in_X23 : ∀ w ∈ wsX230, w ∈ lw_all := lw_in wsX230 [1513, 1514, 1515, 1509, 1511] (by decide +kernel) (by decide +kernel)
def RJ17 : String := "java/lang/Object"
abbrev cJ17_init : ByteArray := object_method_1_code
def yJ17_init : MethodName := ⟨RJ17, "<init>", "()V"⟩
theorem q133 : (Jvm.Cond.instanceMethod ({ cls := "java/lang/Object", name := "<init>", desc := "()V" } : Jvm.MethodName)) ∈ lw_all := lw_g (lw_at lw_m1 48 rfl) rfl
theorem q134 : (Jvm.Cond.code ({ cls := "java/lang/Object", name := "<init>", desc := "()V" } : Jvm.MethodName) object_method_1_code (1 : Nat) (Option.none : Option Jvm.ClassFile.FieldType)) ∈ lw_all := lw_g (lw_at lw_m1 49 rfl) rfl
theorem q727 : (Jvm.Cond.instanceMethod ({ cls := "java/lang/Object", name := "getClass", desc := "()Ljava/lang/Class;" } : Jvm.MethodName)) ∈ lw_all := lw_g (lw_at lw_m3 162 rfl) rfl
theorem q728 : (Jvm.Cond.sameMethod "java/lang/Object" "java/lang/Object" "getClass" "()Ljava/lang/Class;") ∈ lw_all := lw_g (lw_at lw_m3 163 rfl) rfl
theorem q750 : (Jvm.Cond.native ({ cls := "java/lang/Object", name := "getClass", desc := "()Ljava/lang/Class;" } : Jvm.MethodName)) ∈ lw_all := lw_g (lw_at lw_m3 185 rfl) rfl
theorem q2271 : (Jvm.Cond.declares ({ cls := "java/lang/Object", name := "getClass", desc := "()Ljava/lang/Class;" } : Jvm.MethodName)) ∈ lw_tbl := lw_at lw_m10 26 rfl
abbrev cL_law : ByteArray := code
theorem q148 : (Jvm.Cond.arrayOver (Jvm.ClassFile.FieldType.object "java/lang/Object")) ∈ lw_tbl := lw_at lw_m1 63 rfl
theorem q189 : (Jvm.Cond.arrayOver (Jvm.ClassFile.FieldType.array Jvm.ClassFile.FieldType.int)) ∈ lw_tbl := lw_at lw_m1 104 rfl
theorem q275 : (Jvm.Cond.arrayClass Jvm.ClassFile.FieldType.int) ∈ lw_all := lw_g (lw_at lw_m1 190 rfl) rfl
theorem q276 : (Jvm.Cond.arrayClass Jvm.ClassFile.FieldType.byte) ∈ lw_all := lw_g (lw_at lw_m1 191 rfl) rfl
theorem q277 : (Jvm.Cond.arrayClass Jvm.ClassFile.FieldType.boolean) ∈ lw_all := lw_g (lw_at lw_m1 192 rfl) rfl
theorem q283 : (Jvm.Cond.arrayOver (Jvm.ClassFile.FieldType.object "GridRoom$Setting")) ∈ lw_tbl := lw_at lw_m1 198 rfl
theorem q2215 : (Jvm.Cond.arrayClass Jvm.ClassFile.FieldType.long) ∈ lw_all := lw_g (lw_at lw_m9 210 rfl) rfl
theorem q105 : (Jvm.Cond.initialized "java/lang/System") ∈ lw_all := lw_g (lw_at lw_m1 20 rfl) rfl
theorem q665 : (Jvm.Cond.static ({ cls := "java/lang/System", name := "arraycopy", desc := "(Ljava/lang/Object;ILjava/lang/Object;II)V" } : Jvm.MethodName)) ∈ lw_all := lw_g (lw_at lw_m3 100 rfl) rfl
theorem q666 : (Jvm.Cond.native ({ cls := "java/lang/System", name := "arraycopy", desc := "(Ljava/lang/Object;ILjava/lang/Object;II)V" } : Jvm.MethodName)) ∈ lw_all := lw_g (lw_at lw_m3 101 rfl) rfl
theorem q2269 : (Jvm.Cond.sameMethod "[Ljava/lang/Object;" "java/lang/Object" "getClass" "()Ljava/lang/Class;") ∈ lw_all := lw_g (lw_at lw_m10 24 rfl) rfl
theorem q2270 : (Jvm.Cond.selects "[Ljava/lang/Object;" ({ cls := "java/lang/Object", name := "getClass", desc := "()Ljava/lang/Class;" } : Jvm.MethodName) ({ cls := "java/lang/Object", name := "getClass", desc := "()Ljava/lang/Class;" } : Jvm.MethodName)) ∈ lw_all := lw_g (lw_at lw_m10 25 rfl) rfl
theorem q2272 : (Jvm.Cond.castable "[Ljava/lang/Object;" "java/lang/Object") ∈ lw_tbl := lw_at lw_m10 27 rfl
theorem q2273 : (Jvm.Cond.castable "[[I" "java/lang/Object") ∈ lw_tbl := lw_at lw_m10 28 rfl
theorem q2274 : (Jvm.Cond.castable "[I" "java/lang/Object") ∈ lw_tbl := lw_at lw_m10 29 rfl
theorem q2275 : (Jvm.Cond.castable "[B" "java/lang/Object") ∈ lw_tbl := lw_at lw_m10 30 rfl
theorem q2276 : (Jvm.Cond.castable "[Z" "java/lang/Object") ∈ lw_tbl := lw_at lw_m10 31 rfl
theorem q2277 : (Jvm.Cond.castable "[LGridRoom$Setting;" "java/lang/Object") ∈ lw_tbl := lw_at lw_m10 32 rfl
theorem q2278 : (Jvm.Cond.castable "[J" "java/lang/Object") ∈ lw_tbl := lw_at lw_m10 33 rfl
